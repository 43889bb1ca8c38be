/-! StenohallLaw -/
set_option maxRecDepth 100000
def RX0 : String := "StenohallLaw"
abbrev cX0_mode : ByteArray := method_3_code
def yX0_mode : MethodName := ⟨RX0, "mode", "(LStenohall;C[J)I"⟩
def dkwX0_mode_1 : List UInt8 := [172, 3, 172]
abbrev dktX0_mode_1 : List UInt8 := dkwX0_mode_1 ++ []
def dkwX0_mode_0 : List UInt8 := [44, 3, 42, 27, 182, 0, 7, 153, 0, 7, 10, 167, 0, 4, 9, 80, 167, 0, 9, 78, 4, 172, 78, 5]
abbrev dktX0_mode_0 : List UInt8 := dkwX0_mode_0 ++ dktX0_mode_1
theorem dksX0_mode_0 : cX0_mode.data.toList.drop 0 = dktX0_mode_0 := by decide +kernel
theorem dksX0_mode_1 : cX0_mode.data.toList.drop 24 = dktX0_mode_1 := dk_seg dksX0_mode_0 24 rfl rfl
theorem dX0_mode_0 : decode cX0_mode 0 = .ok (.aload_n 2, 1) := dk_44 (dk_at dksX0_mode_0 0 rfl rfl)
theorem dX0_mode_1 : decode cX0_mode 1 = .ok (.iconst 0, 1) := dk_3 (dk_at dksX0_mode_0 1 rfl rfl)
theorem dX0_mode_2 : decode cX0_mode 2 = .ok (.aload_n 0, 1) := dk_42 (dk_at dksX0_mode_0 2 rfl rfl)
theorem dX0_mode_3 : decode cX0_mode 3 = .ok (.iload_n 1, 1) := dk_27 (dk_at dksX0_mode_0 3 rfl rfl)
theorem dX0_mode_4 : decode cX0_mode 4 = .ok (.invokevirtual 7, 3) := dk_182 0 7 (dk_at dksX0_mode_0 4 rfl rfl)
theorem dX0_mode_7 : decode cX0_mode 7 = .ok (.ifCond .eq 7, 3) := dk_153 0 7 (dk_at dksX0_mode_0 7 rfl rfl)
theorem dX0_mode_10 : decode cX0_mode 10 = .ok (.lconst 1, 1) := dk_10 (dk_at dksX0_mode_0 10 rfl rfl)
theorem dX0_mode_11 : decode cX0_mode 11 = .ok (.goto 4, 3) := dk_167 0 4 (dk_at dksX0_mode_0 11 rfl rfl)
theorem dX0_mode_14 : decode cX0_mode 14 = .ok (.lconst 0, 1) := dk_9 (dk_at dksX0_mode_0 14 rfl rfl)
theorem dX0_mode_15 : decode cX0_mode 15 = .ok (.lastore, 1) := dk_80 (dk_at dksX0_mode_0 15 rfl rfl)
theorem dX0_mode_16 : decode cX0_mode 16 = .ok (.goto 9, 3) := dk_167 0 9 (dk_at dksX0_mode_0 16 rfl rfl)
theorem dX0_mode_19 : decode cX0_mode 19 = .ok (.astore_n 3, 1) := dk_78 (dk_at dksX0_mode_0 19 rfl rfl)
theorem dX0_mode_20 : decode cX0_mode 20 = .ok (.iconst 1, 1) := dk_4 (dk_at dksX0_mode_0 20 rfl rfl)
theorem dX0_mode_21 : decode cX0_mode 21 = .ok (.ireturn, 1) := dk_172 (dk_at dksX0_mode_0 21 rfl rfl)
theorem dX0_mode_22 : decode cX0_mode 22 = .ok (.astore_n 3, 1) := dk_78 (dk_at dksX0_mode_0 22 rfl rfl)
theorem dX0_mode_23 : decode cX0_mode 23 = .ok (.iconst 2, 1) := dk_5 (dk_at dksX0_mode_0 23 rfl rfl)
theorem dX0_mode_24 : decode cX0_mode 24 = .ok (.ireturn, 1) := dk_172 (dk_at dksX0_mode_1 0 rfl rfl)
theorem dX0_mode_25 : decode cX0_mode 25 = .ok (.iconst 0, 1) := dk_3 (dk_at dksX0_mode_1 1 rfl rfl)
theorem dX0_mode_26 : decode cX0_mode 26 = .ok (.ireturn, 1) := dk_172 (dk_at dksX0_mode_1 2 rfl rfl)
abbrev cX0_down : ByteArray := method_4_code
def yX0_down : MethodName := ⟨RX0, "down", "(LStenohall;I[J)I"⟩
def dkwX0_down_0 : List UInt8 := [44, 3, 42, 27, 182, 0, 17, 133, 80, 167, 0, 9, 78, 4, 172, 78, 5, 172, 3, 172]
abbrev dktX0_down_0 : List UInt8 := dkwX0_down_0 ++ []
theorem dksX0_down_0 : cX0_down.data.toList.drop 0 = dktX0_down_0 := by decide +kernel
theorem dX0_down_0 : decode cX0_down 0 = .ok (.aload_n 2, 1) := dk_44 (dk_at dksX0_down_0 0 rfl rfl)
theorem dX0_down_1 : decode cX0_down 1 = .ok (.iconst 0, 1) := dk_3 (dk_at dksX0_down_0 1 rfl rfl)
theorem dX0_down_2 : decode cX0_down 2 = .ok (.aload_n 0, 1) := dk_42 (dk_at dksX0_down_0 2 rfl rfl)
theorem dX0_down_3 : decode cX0_down 3 = .ok (.iload_n 1, 1) := dk_27 (dk_at dksX0_down_0 3 rfl rfl)
theorem dX0_down_4 : decode cX0_down 4 = .ok (.invokevirtual 17, 3) := dk_182 0 17 (dk_at dksX0_down_0 4 rfl rfl)
theorem dX0_down_7 : decode cX0_down 7 = .ok (.i2l, 1) := dk_133 (dk_at dksX0_down_0 7 rfl rfl)
theorem dX0_down_8 : decode cX0_down 8 = .ok (.lastore, 1) := dk_80 (dk_at dksX0_down_0 8 rfl rfl)
theorem dX0_down_9 : decode cX0_down 9 = .ok (.goto 9, 3) := dk_167 0 9 (dk_at dksX0_down_0 9 rfl rfl)
theorem dX0_down_12 : decode cX0_down 12 = .ok (.astore_n 3, 1) := dk_78 (dk_at dksX0_down_0 12 rfl rfl)
theorem dX0_down_13 : decode cX0_down 13 = .ok (.iconst 1, 1) := dk_4 (dk_at dksX0_down_0 13 rfl rfl)
theorem dX0_down_14 : decode cX0_down 14 = .ok (.ireturn, 1) := dk_172 (dk_at dksX0_down_0 14 rfl rfl)
theorem dX0_down_15 : decode cX0_down 15 = .ok (.astore_n 3, 1) := dk_78 (dk_at dksX0_down_0 15 rfl rfl)
theorem dX0_down_16 : decode cX0_down 16 = .ok (.iconst 2, 1) := dk_5 (dk_at dksX0_down_0 16 rfl rfl)
theorem dX0_down_17 : decode cX0_down 17 = .ok (.ireturn, 1) := dk_172 (dk_at dksX0_down_0 17 rfl rfl)
theorem dX0_down_18 : decode cX0_down 18 = .ok (.iconst 0, 1) := dk_3 (dk_at dksX0_down_0 18 rfl rfl)
theorem dX0_down_19 : decode cX0_down 19 = .ok (.ireturn, 1) := dk_172 (dk_at dksX0_down_0 19 rfl rfl)
abbrev cX0_up : ByteArray := method_5_code
def yX0_up : MethodName := ⟨RX0, "up", "(LStenohall;I[J)I"⟩
def dkwX0_up_0 : List UInt8 := [44, 3, 42, 27, 182, 0, 25, 133, 80, 167, 0, 12, 78, 4, 172, 78, 5, 172, 78, 6, 172, 3, 172]
abbrev dktX0_up_0 : List UInt8 := dkwX0_up_0 ++ []
theorem dksX0_up_0 : cX0_up.data.toList.drop 0 = dktX0_up_0 := by decide +kernel
theorem dX0_up_0 : decode cX0_up 0 = .ok (.aload_n 2, 1) := dk_44 (dk_at dksX0_up_0 0 rfl rfl)
theorem dX0_up_1 : decode cX0_up 1 = .ok (.iconst 0, 1) := dk_3 (dk_at dksX0_up_0 1 rfl rfl)
theorem dX0_up_2 : decode cX0_up 2 = .ok (.aload_n 0, 1) := dk_42 (dk_at dksX0_up_0 2 rfl rfl)
theorem dX0_up_3 : decode cX0_up 3 = .ok (.iload_n 1, 1) := dk_27 (dk_at dksX0_up_0 3 rfl rfl)
theorem dX0_up_4 : decode cX0_up 4 = .ok (.invokevirtual 25, 3) := dk_182 0 25 (dk_at dksX0_up_0 4 rfl rfl)
theorem dX0_up_7 : decode cX0_up 7 = .ok (.i2l, 1) := dk_133 (dk_at dksX0_up_0 7 rfl rfl)
theorem dX0_up_8 : decode cX0_up 8 = .ok (.lastore, 1) := dk_80 (dk_at dksX0_up_0 8 rfl rfl)
theorem dX0_up_9 : decode cX0_up 9 = .ok (.goto 12, 3) := dk_167 0 12 (dk_at dksX0_up_0 9 rfl rfl)
theorem dX0_up_12 : decode cX0_up 12 = .ok (.astore_n 3, 1) := dk_78 (dk_at dksX0_up_0 12 rfl rfl)
theorem dX0_up_13 : decode cX0_up 13 = .ok (.iconst 1, 1) := dk_4 (dk_at dksX0_up_0 13 rfl rfl)
theorem dX0_up_14 : decode cX0_up 14 = .ok (.ireturn, 1) := dk_172 (dk_at dksX0_up_0 14 rfl rfl)
theorem dX0_up_15 : decode cX0_up 15 = .ok (.astore_n 3, 1) := dk_78 (dk_at dksX0_up_0 15 rfl rfl)
theorem dX0_up_16 : decode cX0_up 16 = .ok (.iconst 2, 1) := dk_5 (dk_at dksX0_up_0 16 rfl rfl)
theorem dX0_up_17 : decode cX0_up 17 = .ok (.ireturn, 1) := dk_172 (dk_at dksX0_up_0 17 rfl rfl)
theorem dX0_up_18 : decode cX0_up 18 = .ok (.astore_n 3, 1) := dk_78 (dk_at dksX0_up_0 18 rfl rfl)
theorem dX0_up_19 : decode cX0_up 19 = .ok (.iconst 3, 1) := dk_6 (dk_at dksX0_up_0 19 rfl rfl)
theorem dX0_up_20 : decode cX0_up 20 = .ok (.ireturn, 1) := dk_172 (dk_at dksX0_up_0 20 rfl rfl)
theorem dX0_up_21 : decode cX0_up 21 = .ok (.iconst 0, 1) := dk_3 (dk_at dksX0_up_0 21 rfl rfl)
theorem dX0_up_22 : decode cX0_up 22 = .ok (.ireturn, 1) := dk_172 (dk_at dksX0_up_0 22 rfl rfl)
abbrev cX0_stroke : ByteArray := method_6_code
def yX0_stroke : MethodName := ⟨RX0, "stroke", "(LStenohall;I[J)I"⟩
def dkwX0_stroke_0 : List UInt8 := [44, 3, 42, 27, 182, 0, 28, 133, 80, 167, 0, 9, 78, 4, 172, 78, 5, 172, 3, 172]
abbrev dktX0_stroke_0 : List UInt8 := dkwX0_stroke_0 ++ []
theorem dksX0_stroke_0 : cX0_stroke.data.toList.drop 0 = dktX0_stroke_0 := by decide +kernel
theorem dX0_stroke_0 : decode cX0_stroke 0 = .ok (.aload_n 2, 1) := dk_44 (dk_at dksX0_stroke_0 0 rfl rfl)
theorem dX0_stroke_1 : decode cX0_stroke 1 = .ok (.iconst 0, 1) := dk_3 (dk_at dksX0_stroke_0 1 rfl rfl)
theorem dX0_stroke_2 : decode cX0_stroke 2 = .ok (.aload_n 0, 1) := dk_42 (dk_at dksX0_stroke_0 2 rfl rfl)
theorem dX0_stroke_3 : decode cX0_stroke 3 = .ok (.iload_n 1, 1) := dk_27 (dk_at dksX0_stroke_0 3 rfl rfl)
theorem dX0_stroke_4 : decode cX0_stroke 4 = .ok (.invokevirtual 28, 3) := dk_182 0 28 (dk_at dksX0_stroke_0 4 rfl rfl)
theorem dX0_stroke_7 : decode cX0_stroke 7 = .ok (.i2l, 1) := dk_133 (dk_at dksX0_stroke_0 7 rfl rfl)
theorem dX0_stroke_8 : decode cX0_stroke 8 = .ok (.lastore, 1) := dk_80 (dk_at dksX0_stroke_0 8 rfl rfl)
theorem dX0_stroke_9 : decode cX0_stroke 9 = .ok (.goto 9, 3) := dk_167 0 9 (dk_at dksX0_stroke_0 9 rfl rfl)
theorem dX0_stroke_12 : decode cX0_stroke 12 = .ok (.astore_n 3, 1) := dk_78 (dk_at dksX0_stroke_0 12 rfl rfl)
theorem dX0_stroke_13 : decode cX0_stroke 13 = .ok (.iconst 1, 1) := dk_4 (dk_at dksX0_stroke_0 13 rfl rfl)
theorem dX0_stroke_14 : decode cX0_stroke 14 = .ok (.ireturn, 1) := dk_172 (dk_at dksX0_stroke_0 14 rfl rfl)
theorem dX0_stroke_15 : decode cX0_stroke 15 = .ok (.astore_n 3, 1) := dk_78 (dk_at dksX0_stroke_0 15 rfl rfl)
theorem dX0_stroke_16 : decode cX0_stroke 16 = .ok (.iconst 2, 1) := dk_5 (dk_at dksX0_stroke_0 16 rfl rfl)
theorem dX0_stroke_17 : decode cX0_stroke 17 = .ok (.ireturn, 1) := dk_172 (dk_at dksX0_stroke_0 17 rfl rfl)
theorem dX0_stroke_18 : decode cX0_stroke 18 = .ok (.iconst 0, 1) := dk_3 (dk_at dksX0_stroke_0 18 rfl rfl)
theorem dX0_stroke_19 : decode cX0_stroke 19 = .ok (.ireturn, 1) := dk_172 (dk_at dksX0_stroke_0 19 rfl rfl)
abbrev cX0_undo : ByteArray := method_7_code
def yX0_undo : MethodName := ⟨RX0, "undo", "(LStenohall;[J)I"⟩
def dkwX0_undo_0 : List UInt8 := [43, 3, 42, 182, 0, 31, 133, 80, 167, 0, 6, 77, 4, 172, 3, 172]
abbrev dktX0_undo_0 : List UInt8 := dkwX0_undo_0 ++ []
theorem dksX0_undo_0 : cX0_undo.data.toList.drop 0 = dktX0_undo_0 := by decide +kernel
theorem dX0_undo_0 : decode cX0_undo 0 = .ok (.aload_n 1, 1) := dk_43 (dk_at dksX0_undo_0 0 rfl rfl)
theorem dX0_undo_1 : decode cX0_undo 1 = .ok (.iconst 0, 1) := dk_3 (dk_at dksX0_undo_0 1 rfl rfl)
theorem dX0_undo_2 : decode cX0_undo 2 = .ok (.aload_n 0, 1) := dk_42 (dk_at dksX0_undo_0 2 rfl rfl)
theorem dX0_undo_3 : decode cX0_undo 3 = .ok (.invokevirtual 31, 3) := dk_182 0 31 (dk_at dksX0_undo_0 3 rfl rfl)
theorem dX0_undo_6 : decode cX0_undo 6 = .ok (.i2l, 1) := dk_133 (dk_at dksX0_undo_0 6 rfl rfl)
theorem dX0_undo_7 : decode cX0_undo 7 = .ok (.lastore, 1) := dk_80 (dk_at dksX0_undo_0 7 rfl rfl)
theorem dX0_undo_8 : decode cX0_undo 8 = .ok (.goto 6, 3) := dk_167 0 6 (dk_at dksX0_undo_0 8 rfl rfl)
theorem dX0_undo_11 : decode cX0_undo 11 = .ok (.astore_n 2, 1) := dk_77 (dk_at dksX0_undo_0 11 rfl rfl)
theorem dX0_undo_12 : decode cX0_undo 12 = .ok (.iconst 1, 1) := dk_4 (dk_at dksX0_undo_0 12 rfl rfl)
theorem dX0_undo_13 : decode cX0_undo 13 = .ok (.ireturn, 1) := dk_172 (dk_at dksX0_undo_0 13 rfl rfl)
theorem dX0_undo_14 : decode cX0_undo 14 = .ok (.iconst 0, 1) := dk_3 (dk_at dksX0_undo_0 14 rfl rfl)
theorem dX0_undo_15 : decode cX0_undo 15 = .ok (.ireturn, 1) := dk_172 (dk_at dksX0_undo_0 15 rfl rfl)
abbrev cX0_strokeAt : ByteArray := method_8_code
def yX0_strokeAt : MethodName := ⟨RX0, "strokeAt", "(LStenohall;I[J)I"⟩
def dkwX0_strokeAt_0 : List UInt8 := [44, 3, 42, 27, 182, 0, 37, 133, 80, 167, 0, 6, 78, 4, 172, 3, 172]
abbrev dktX0_strokeAt_0 : List UInt8 := dkwX0_strokeAt_0 ++ []
theorem dksX0_strokeAt_0 : cX0_strokeAt.data.toList.drop 0 = dktX0_strokeAt_0 := by decide +kernel
theorem dX0_strokeAt_0 : decode cX0_strokeAt 0 = .ok (.aload_n 2, 1) := dk_44 (dk_at dksX0_strokeAt_0 0 rfl rfl)
theorem dX0_strokeAt_1 : decode cX0_strokeAt 1 = .ok (.iconst 0, 1) := dk_3 (dk_at dksX0_strokeAt_0 1 rfl rfl)
theorem dX0_strokeAt_2 : decode cX0_strokeAt 2 = .ok (.aload_n 0, 1) := dk_42 (dk_at dksX0_strokeAt_0 2 rfl rfl)
theorem dX0_strokeAt_3 : decode cX0_strokeAt 3 = .ok (.iload_n 1, 1) := dk_27 (dk_at dksX0_strokeAt_0 3 rfl rfl)
theorem dX0_strokeAt_4 : decode cX0_strokeAt 4 = .ok (.invokevirtual 37, 3) := dk_182 0 37 (dk_at dksX0_strokeAt_0 4 rfl rfl)
theorem dX0_strokeAt_7 : decode cX0_strokeAt 7 = .ok (.i2l, 1) := dk_133 (dk_at dksX0_strokeAt_0 7 rfl rfl)
theorem dX0_strokeAt_8 : decode cX0_strokeAt 8 = .ok (.lastore, 1) := dk_80 (dk_at dksX0_strokeAt_0 8 rfl rfl)
theorem dX0_strokeAt_9 : decode cX0_strokeAt 9 = .ok (.goto 6, 3) := dk_167 0 6 (dk_at dksX0_strokeAt_0 9 rfl rfl)
theorem dX0_strokeAt_12 : decode cX0_strokeAt 12 = .ok (.astore_n 3, 1) := dk_78 (dk_at dksX0_strokeAt_0 12 rfl rfl)
theorem dX0_strokeAt_13 : decode cX0_strokeAt 13 = .ok (.iconst 1, 1) := dk_4 (dk_at dksX0_strokeAt_0 13 rfl rfl)
theorem dX0_strokeAt_14 : decode cX0_strokeAt 14 = .ok (.ireturn, 1) := dk_172 (dk_at dksX0_strokeAt_0 14 rfl rfl)
theorem dX0_strokeAt_15 : decode cX0_strokeAt 15 = .ok (.iconst 0, 1) := dk_3 (dk_at dksX0_strokeAt_0 15 rfl rfl)
theorem dX0_strokeAt_16 : decode cX0_strokeAt 16 = .ok (.ireturn, 1) := dk_172 (dk_at dksX0_strokeAt_0 16 rfl rfl)
abbrev cX0_chord : ByteArray := method_9_code
def yX0_chord : MethodName := ⟨RX0, "chord", "(LStenohall;I[J)I"⟩
def dkwX0_chord_0 : List UInt8 := [44, 3, 42, 27, 182, 0, 40, 133, 80, 167, 0, 9, 78, 4, 172, 78, 5, 172, 3, 172]
abbrev dktX0_chord_0 : List UInt8 := dkwX0_chord_0 ++ []
theorem dksX0_chord_0 : cX0_chord.data.toList.drop 0 = dktX0_chord_0 := by decide +kernel
theorem dX0_chord_0 : decode cX0_chord 0 = .ok (.aload_n 2, 1) := dk_44 (dk_at dksX0_chord_0 0 rfl rfl)
theorem dX0_chord_1 : decode cX0_chord 1 = .ok (.iconst 0, 1) := dk_3 (dk_at dksX0_chord_0 1 rfl rfl)
theorem dX0_chord_2 : decode cX0_chord 2 = .ok (.aload_n 0, 1) := dk_42 (dk_at dksX0_chord_0 2 rfl rfl)
theorem dX0_chord_3 : decode cX0_chord 3 = .ok (.iload_n 1, 1) := dk_27 (dk_at dksX0_chord_0 3 rfl rfl)
theorem dX0_chord_4 : decode cX0_chord 4 = .ok (.invokevirtual 40, 3) := dk_182 0 40 (dk_at dksX0_chord_0 4 rfl rfl)
theorem dX0_chord_7 : decode cX0_chord 7 = .ok (.i2l, 1) := dk_133 (dk_at dksX0_chord_0 7 rfl rfl)
theorem dX0_chord_8 : decode cX0_chord 8 = .ok (.lastore, 1) := dk_80 (dk_at dksX0_chord_0 8 rfl rfl)
theorem dX0_chord_9 : decode cX0_chord 9 = .ok (.goto 9, 3) := dk_167 0 9 (dk_at dksX0_chord_0 9 rfl rfl)
theorem dX0_chord_12 : decode cX0_chord 12 = .ok (.astore_n 3, 1) := dk_78 (dk_at dksX0_chord_0 12 rfl rfl)
theorem dX0_chord_13 : decode cX0_chord 13 = .ok (.iconst 1, 1) := dk_4 (dk_at dksX0_chord_0 13 rfl rfl)
theorem dX0_chord_14 : decode cX0_chord 14 = .ok (.ireturn, 1) := dk_172 (dk_at dksX0_chord_0 14 rfl rfl)
theorem dX0_chord_15 : decode cX0_chord 15 = .ok (.astore_n 3, 1) := dk_78 (dk_at dksX0_chord_0 15 rfl rfl)
theorem dX0_chord_16 : decode cX0_chord 16 = .ok (.iconst 2, 1) := dk_5 (dk_at dksX0_chord_0 16 rfl rfl)
theorem dX0_chord_17 : decode cX0_chord 17 = .ok (.ireturn, 1) := dk_172 (dk_at dksX0_chord_0 17 rfl rfl)
theorem dX0_chord_18 : decode cX0_chord 18 = .ok (.iconst 0, 1) := dk_3 (dk_at dksX0_chord_0 18 rfl rfl)
theorem dX0_chord_19 : decode cX0_chord 19 = .ok (.ireturn, 1) := dk_172 (dk_at dksX0_chord_0 19 rfl rfl)
abbrev cX0_sign : ByteArray := method_10_code
def yX0_sign : MethodName := ⟨RX0, "sign", "(LStenohall;C[J)I"⟩
def dkwX0_sign_0 : List UInt8 := [44, 3, 42, 27, 182, 0, 43, 133, 80, 167, 0, 9, 78, 4, 172, 78, 5, 172, 3, 172]
abbrev dktX0_sign_0 : List UInt8 := dkwX0_sign_0 ++ []
theorem dksX0_sign_0 : cX0_sign.data.toList.drop 0 = dktX0_sign_0 := by decide +kernel
theorem dX0_sign_0 : decode cX0_sign 0 = .ok (.aload_n 2, 1) := dk_44 (dk_at dksX0_sign_0 0 rfl rfl)
theorem dX0_sign_1 : decode cX0_sign 1 = .ok (.iconst 0, 1) := dk_3 (dk_at dksX0_sign_0 1 rfl rfl)
theorem dX0_sign_2 : decode cX0_sign 2 = .ok (.aload_n 0, 1) := dk_42 (dk_at dksX0_sign_0 2 rfl rfl)
theorem dX0_sign_3 : decode cX0_sign 3 = .ok (.iload_n 1, 1) := dk_27 (dk_at dksX0_sign_0 3 rfl rfl)
theorem dX0_sign_4 : decode cX0_sign 4 = .ok (.invokevirtual 43, 3) := dk_182 0 43 (dk_at dksX0_sign_0 4 rfl rfl)
theorem dX0_sign_7 : decode cX0_sign 7 = .ok (.i2l, 1) := dk_133 (dk_at dksX0_sign_0 7 rfl rfl)
theorem dX0_sign_8 : decode cX0_sign 8 = .ok (.lastore, 1) := dk_80 (dk_at dksX0_sign_0 8 rfl rfl)
theorem dX0_sign_9 : decode cX0_sign 9 = .ok (.goto 9, 3) := dk_167 0 9 (dk_at dksX0_sign_0 9 rfl rfl)
theorem dX0_sign_12 : decode cX0_sign 12 = .ok (.astore_n 3, 1) := dk_78 (dk_at dksX0_sign_0 12 rfl rfl)
theorem dX0_sign_13 : decode cX0_sign 13 = .ok (.iconst 1, 1) := dk_4 (dk_at dksX0_sign_0 13 rfl rfl)
theorem dX0_sign_14 : decode cX0_sign 14 = .ok (.ireturn, 1) := dk_172 (dk_at dksX0_sign_0 14 rfl rfl)
theorem dX0_sign_15 : decode cX0_sign 15 = .ok (.astore_n 3, 1) := dk_78 (dk_at dksX0_sign_0 15 rfl rfl)
theorem dX0_sign_16 : decode cX0_sign 16 = .ok (.iconst 2, 1) := dk_5 (dk_at dksX0_sign_0 16 rfl rfl)
theorem dX0_sign_17 : decode cX0_sign 17 = .ok (.ireturn, 1) := dk_172 (dk_at dksX0_sign_0 17 rfl rfl)
theorem dX0_sign_18 : decode cX0_sign 18 = .ok (.iconst 0, 1) := dk_3 (dk_at dksX0_sign_0 18 rfl rfl)
theorem dX0_sign_19 : decode cX0_sign 19 = .ok (.ireturn, 1) := dk_172 (dk_at dksX0_sign_0 19 rfl rfl)
abbrev cX0_entry : ByteArray := method_11_code
def yX0_entry : MethodName := ⟨RX0, "entry", "(LStenohall;I[J)I"⟩
def dkwX0_entry_1 : List UInt8 := [172, 78, 6, 172, 3, 172]
abbrev dktX0_entry_1 : List UInt8 := dkwX0_entry_1 ++ []
def dkwX0_entry_0 : List UInt8 := [44, 3, 42, 27, 182, 0, 47, 153, 0, 7, 10, 167, 0, 4, 9, 80, 167, 0, 12, 78, 4, 172, 78, 5]
abbrev dktX0_entry_0 : List UInt8 := dkwX0_entry_0 ++ dktX0_entry_1
theorem dksX0_entry_0 : cX0_entry.data.toList.drop 0 = dktX0_entry_0 := by decide +kernel
theorem dksX0_entry_1 : cX0_entry.data.toList.drop 24 = dktX0_entry_1 := dk_seg dksX0_entry_0 24 rfl rfl
theorem dX0_entry_0 : decode cX0_entry 0 = .ok (.aload_n 2, 1) := dk_44 (dk_at dksX0_entry_0 0 rfl rfl)
theorem dX0_entry_1 : decode cX0_entry 1 = .ok (.iconst 0, 1) := dk_3 (dk_at dksX0_entry_0 1 rfl rfl)
theorem dX0_entry_2 : decode cX0_entry 2 = .ok (.aload_n 0, 1) := dk_42 (dk_at dksX0_entry_0 2 rfl rfl)
theorem dX0_entry_3 : decode cX0_entry 3 = .ok (.iload_n 1, 1) := dk_27 (dk_at dksX0_entry_0 3 rfl rfl)
theorem dX0_entry_4 : decode cX0_entry 4 = .ok (.invokevirtual 47, 3) := dk_182 0 47 (dk_at dksX0_entry_0 4 rfl rfl)
theorem dX0_entry_7 : decode cX0_entry 7 = .ok (.ifCond .eq 7, 3) := dk_153 0 7 (dk_at dksX0_entry_0 7 rfl rfl)
theorem dX0_entry_10 : decode cX0_entry 10 = .ok (.lconst 1, 1) := dk_10 (dk_at dksX0_entry_0 10 rfl rfl)
theorem dX0_entry_11 : decode cX0_entry 11 = .ok (.goto 4, 3) := dk_167 0 4 (dk_at dksX0_entry_0 11 rfl rfl)
theorem dX0_entry_14 : decode cX0_entry 14 = .ok (.lconst 0, 1) := dk_9 (dk_at dksX0_entry_0 14 rfl rfl)
theorem dX0_entry_15 : decode cX0_entry 15 = .ok (.lastore, 1) := dk_80 (dk_at dksX0_entry_0 15 rfl rfl)
theorem dX0_entry_16 : decode cX0_entry 16 = .ok (.goto 12, 3) := dk_167 0 12 (dk_at dksX0_entry_0 16 rfl rfl)
theorem dX0_entry_19 : decode cX0_entry 19 = .ok (.astore_n 3, 1) := dk_78 (dk_at dksX0_entry_0 19 rfl rfl)
theorem dX0_entry_20 : decode cX0_entry 20 = .ok (.iconst 1, 1) := dk_4 (dk_at dksX0_entry_0 20 rfl rfl)
theorem dX0_entry_21 : decode cX0_entry 21 = .ok (.ireturn, 1) := dk_172 (dk_at dksX0_entry_0 21 rfl rfl)
theorem dX0_entry_22 : decode cX0_entry 22 = .ok (.astore_n 3, 1) := dk_78 (dk_at dksX0_entry_0 22 rfl rfl)
theorem dX0_entry_23 : decode cX0_entry 23 = .ok (.iconst 2, 1) := dk_5 (dk_at dksX0_entry_0 23 rfl rfl)
theorem dX0_entry_24 : decode cX0_entry 24 = .ok (.ireturn, 1) := dk_172 (dk_at dksX0_entry_1 0 rfl rfl)
theorem dX0_entry_25 : decode cX0_entry 25 = .ok (.astore_n 3, 1) := dk_78 (dk_at dksX0_entry_1 1 rfl rfl)
theorem dX0_entry_26 : decode cX0_entry 26 = .ok (.iconst 3, 1) := dk_6 (dk_at dksX0_entry_1 2 rfl rfl)
theorem dX0_entry_27 : decode cX0_entry 27 = .ok (.ireturn, 1) := dk_172 (dk_at dksX0_entry_1 3 rfl rfl)
theorem dX0_entry_28 : decode cX0_entry 28 = .ok (.iconst 0, 1) := dk_3 (dk_at dksX0_entry_1 4 rfl rfl)
theorem dX0_entry_29 : decode cX0_entry 29 = .ok (.ireturn, 1) := dk_172 (dk_at dksX0_entry_1 5 rfl rfl)
abbrev cX0_alternative : ByteArray := method_12_code
def yX0_alternative : MethodName := ⟨RX0, "alternative", "(LStenohall;IC[J)I"⟩
def dkwX0_alternative_1 : List UInt8 := [172, 58, 4, 7, 172, 3, 172]
abbrev dktX0_alternative_1 : List UInt8 := dkwX0_alternative_1 ++ []
def dkwX0_alternative_0 : List UInt8 := [45, 3, 42, 27, 28, 182, 0, 51, 133, 80, 167, 0, 19, 58, 4, 4, 172, 58, 4, 5, 172, 58, 4, 6]
abbrev dktX0_alternative_0 : List UInt8 := dkwX0_alternative_0 ++ dktX0_alternative_1
theorem dksX0_alternative_0 : cX0_alternative.data.toList.drop 0 = dktX0_alternative_0 := by decide +kernel
theorem dksX0_alternative_1 : cX0_alternative.data.toList.drop 24 = dktX0_alternative_1 := dk_seg dksX0_alternative_0 24 rfl rfl
theorem dX0_alternative_0 : decode cX0_alternative 0 = .ok (.aload_n 3, 1) := dk_45 (dk_at dksX0_alternative_0 0 rfl rfl)
theorem dX0_alternative_1 : decode cX0_alternative 1 = .ok (.iconst 0, 1) := dk_3 (dk_at dksX0_alternative_0 1 rfl rfl)
theorem dX0_alternative_2 : decode cX0_alternative 2 = .ok (.aload_n 0, 1) := dk_42 (dk_at dksX0_alternative_0 2 rfl rfl)
theorem dX0_alternative_3 : decode cX0_alternative 3 = .ok (.iload_n 1, 1) := dk_27 (dk_at dksX0_alternative_0 3 rfl rfl)
theorem dX0_alternative_4 : decode cX0_alternative 4 = .ok (.iload_n 2, 1) := dk_28 (dk_at dksX0_alternative_0 4 rfl rfl)
theorem dX0_alternative_5 : decode cX0_alternative 5 = .ok (.invokevirtual 51, 3) := dk_182 0 51 (dk_at dksX0_alternative_0 5 rfl rfl)
theorem dX0_alternative_8 : decode cX0_alternative 8 = .ok (.i2l, 1) := dk_133 (dk_at dksX0_alternative_0 8 rfl rfl)
theorem dX0_alternative_9 : decode cX0_alternative 9 = .ok (.lastore, 1) := dk_80 (dk_at dksX0_alternative_0 9 rfl rfl)
theorem dX0_alternative_10 : decode cX0_alternative 10 = .ok (.goto 19, 3) := dk_167 0 19 (dk_at dksX0_alternative_0 10 rfl rfl)
theorem dX0_alternative_13 : decode cX0_alternative 13 = .ok (.astore 4, 2) := dk_58 4 (dk_at dksX0_alternative_0 13 rfl rfl)
theorem dX0_alternative_15 : decode cX0_alternative 15 = .ok (.iconst 1, 1) := dk_4 (dk_at dksX0_alternative_0 15 rfl rfl)
theorem dX0_alternative_16 : decode cX0_alternative 16 = .ok (.ireturn, 1) := dk_172 (dk_at dksX0_alternative_0 16 rfl rfl)
theorem dX0_alternative_17 : decode cX0_alternative 17 = .ok (.astore 4, 2) := dk_58 4 (dk_at dksX0_alternative_0 17 rfl rfl)
theorem dX0_alternative_19 : decode cX0_alternative 19 = .ok (.iconst 2, 1) := dk_5 (dk_at dksX0_alternative_0 19 rfl rfl)
theorem dX0_alternative_20 : decode cX0_alternative 20 = .ok (.ireturn, 1) := dk_172 (dk_at dksX0_alternative_0 20 rfl rfl)
theorem dX0_alternative_21 : decode cX0_alternative 21 = .ok (.astore 4, 2) := dk_58 4 (dk_at dksX0_alternative_0 21 rfl rfl)
theorem dX0_alternative_23 : decode cX0_alternative 23 = .ok (.iconst 3, 1) := dk_6 (dk_at dksX0_alternative_0 23 rfl rfl)
theorem dX0_alternative_24 : decode cX0_alternative 24 = .ok (.ireturn, 1) := dk_172 (dk_at dksX0_alternative_1 0 rfl rfl)
theorem dX0_alternative_25 : decode cX0_alternative 25 = .ok (.astore 4, 2) := dk_58 4 (dk_at dksX0_alternative_1 1 rfl rfl)
theorem dX0_alternative_27 : decode cX0_alternative 27 = .ok (.iconst 4, 1) := dk_7 (dk_at dksX0_alternative_1 3 rfl rfl)
theorem dX0_alternative_28 : decode cX0_alternative 28 = .ok (.ireturn, 1) := dk_172 (dk_at dksX0_alternative_1 4 rfl rfl)
theorem dX0_alternative_29 : decode cX0_alternative 29 = .ok (.iconst 0, 1) := dk_3 (dk_at dksX0_alternative_1 5 rfl rfl)
theorem dX0_alternative_30 : decode cX0_alternative 30 = .ok (.ireturn, 1) := dk_172 (dk_at dksX0_alternative_1 6 rfl rfl)
abbrev cX0_remove : ByteArray := method_13_code
def yX0_remove : MethodName := ⟨RX0, "remove", "(LStenohall;I[J)I"⟩
def dkwX0_remove_0 : List UInt8 := [44, 3, 42, 27, 182, 0, 55, 153, 0, 7, 10, 167, 0, 4, 9, 80, 167, 0, 6, 78, 4, 172, 3, 172]
abbrev dktX0_remove_0 : List UInt8 := dkwX0_remove_0 ++ []
theorem dksX0_remove_0 : cX0_remove.data.toList.drop 0 = dktX0_remove_0 := by decide +kernel
theorem dX0_remove_0 : decode cX0_remove 0 = .ok (.aload_n 2, 1) := dk_44 (dk_at dksX0_remove_0 0 rfl rfl)
theorem dX0_remove_1 : decode cX0_remove 1 = .ok (.iconst 0, 1) := dk_3 (dk_at dksX0_remove_0 1 rfl rfl)
theorem dX0_remove_2 : decode cX0_remove 2 = .ok (.aload_n 0, 1) := dk_42 (dk_at dksX0_remove_0 2 rfl rfl)
theorem dX0_remove_3 : decode cX0_remove 3 = .ok (.iload_n 1, 1) := dk_27 (dk_at dksX0_remove_0 3 rfl rfl)
theorem dX0_remove_4 : decode cX0_remove 4 = .ok (.invokevirtual 55, 3) := dk_182 0 55 (dk_at dksX0_remove_0 4 rfl rfl)
theorem dX0_remove_7 : decode cX0_remove 7 = .ok (.ifCond .eq 7, 3) := dk_153 0 7 (dk_at dksX0_remove_0 7 rfl rfl)
theorem dX0_remove_10 : decode cX0_remove 10 = .ok (.lconst 1, 1) := dk_10 (dk_at dksX0_remove_0 10 rfl rfl)
theorem dX0_remove_11 : decode cX0_remove 11 = .ok (.goto 4, 3) := dk_167 0 4 (dk_at dksX0_remove_0 11 rfl rfl)
theorem dX0_remove_14 : decode cX0_remove 14 = .ok (.lconst 0, 1) := dk_9 (dk_at dksX0_remove_0 14 rfl rfl)
theorem dX0_remove_15 : decode cX0_remove 15 = .ok (.lastore, 1) := dk_80 (dk_at dksX0_remove_0 15 rfl rfl)
theorem dX0_remove_16 : decode cX0_remove 16 = .ok (.goto 6, 3) := dk_167 0 6 (dk_at dksX0_remove_0 16 rfl rfl)
theorem dX0_remove_19 : decode cX0_remove 19 = .ok (.astore_n 3, 1) := dk_78 (dk_at dksX0_remove_0 19 rfl rfl)
theorem dX0_remove_20 : decode cX0_remove 20 = .ok (.iconst 1, 1) := dk_4 (dk_at dksX0_remove_0 20 rfl rfl)
theorem dX0_remove_21 : decode cX0_remove 21 = .ok (.ireturn, 1) := dk_172 (dk_at dksX0_remove_0 21 rfl rfl)
theorem dX0_remove_22 : decode cX0_remove 22 = .ok (.iconst 0, 1) := dk_3 (dk_at dksX0_remove_0 22 rfl rfl)
theorem dX0_remove_23 : decode cX0_remove 23 = .ok (.ireturn, 1) := dk_172 (dk_at dksX0_remove_0 23 rfl rfl)
abbrev cX0_turn : ByteArray := method_14_code
def yX0_turn : MethodName := ⟨RX0, "turn", "(LStenohall;IZ[J)I"⟩
def dkwX0_turn_1 : List UInt8 := [3, 172]
abbrev dktX0_turn_1 : List UInt8 := dkwX0_turn_1 ++ []
def dkwX0_turn_0 : List UInt8 := [45, 3, 42, 27, 28, 182, 0, 58, 153, 0, 7, 10, 167, 0, 4, 9, 80, 167, 0, 7, 58, 4, 4, 172]
abbrev dktX0_turn_0 : List UInt8 := dkwX0_turn_0 ++ dktX0_turn_1
theorem dksX0_turn_0 : cX0_turn.data.toList.drop 0 = dktX0_turn_0 := by decide +kernel
theorem dksX0_turn_1 : cX0_turn.data.toList.drop 24 = dktX0_turn_1 := dk_seg dksX0_turn_0 24 rfl rfl
theorem dX0_turn_0 : decode cX0_turn 0 = .ok (.aload_n 3, 1) := dk_45 (dk_at dksX0_turn_0 0 rfl rfl)
theorem dX0_turn_1 : decode cX0_turn 1 = .ok (.iconst 0, 1) := dk_3 (dk_at dksX0_turn_0 1 rfl rfl)
theorem dX0_turn_2 : decode cX0_turn 2 = .ok (.aload_n 0, 1) := dk_42 (dk_at dksX0_turn_0 2 rfl rfl)
theorem dX0_turn_3 : decode cX0_turn 3 = .ok (.iload_n 1, 1) := dk_27 (dk_at dksX0_turn_0 3 rfl rfl)
theorem dX0_turn_4 : decode cX0_turn 4 = .ok (.iload_n 2, 1) := dk_28 (dk_at dksX0_turn_0 4 rfl rfl)
theorem dX0_turn_5 : decode cX0_turn 5 = .ok (.invokevirtual 58, 3) := dk_182 0 58 (dk_at dksX0_turn_0 5 rfl rfl)
theorem dX0_turn_8 : decode cX0_turn 8 = .ok (.ifCond .eq 7, 3) := dk_153 0 7 (dk_at dksX0_turn_0 8 rfl rfl)
theorem dX0_turn_11 : decode cX0_turn 11 = .ok (.lconst 1, 1) := dk_10 (dk_at dksX0_turn_0 11 rfl rfl)
theorem dX0_turn_12 : decode cX0_turn 12 = .ok (.goto 4, 3) := dk_167 0 4 (dk_at dksX0_turn_0 12 rfl rfl)
theorem dX0_turn_15 : decode cX0_turn 15 = .ok (.lconst 0, 1) := dk_9 (dk_at dksX0_turn_0 15 rfl rfl)
theorem dX0_turn_16 : decode cX0_turn 16 = .ok (.lastore, 1) := dk_80 (dk_at dksX0_turn_0 16 rfl rfl)
theorem dX0_turn_17 : decode cX0_turn 17 = .ok (.goto 7, 3) := dk_167 0 7 (dk_at dksX0_turn_0 17 rfl rfl)
theorem dX0_turn_20 : decode cX0_turn 20 = .ok (.astore 4, 2) := dk_58 4 (dk_at dksX0_turn_0 20 rfl rfl)
theorem dX0_turn_22 : decode cX0_turn 22 = .ok (.iconst 1, 1) := dk_4 (dk_at dksX0_turn_0 22 rfl rfl)
theorem dX0_turn_23 : decode cX0_turn 23 = .ok (.ireturn, 1) := dk_172 (dk_at dksX0_turn_0 23 rfl rfl)
theorem dX0_turn_24 : decode cX0_turn 24 = .ok (.iconst 0, 1) := dk_3 (dk_at dksX0_turn_1 0 rfl rfl)
theorem dX0_turn_25 : decode cX0_turn 25 = .ok (.ireturn, 1) := dk_172 (dk_at dksX0_turn_1 1 rfl rfl)
abbrev cX0_entries : ByteArray := method_15_code
def yX0_entries : MethodName := ⟨RX0, "entries", "(LStenohall;I[J)I"⟩
def dkwX0_entries_0 : List UInt8 := [44, 3, 42, 27, 182, 0, 62, 133, 80, 167, 0, 6, 78, 4, 172, 3, 172]
abbrev dktX0_entries_0 : List UInt8 := dkwX0_entries_0 ++ []
theorem dksX0_entries_0 : cX0_entries.data.toList.drop 0 = dktX0_entries_0 := by decide +kernel
theorem dX0_entries_0 : decode cX0_entries 0 = .ok (.aload_n 2, 1) := dk_44 (dk_at dksX0_entries_0 0 rfl rfl)
theorem dX0_entries_1 : decode cX0_entries 1 = .ok (.iconst 0, 1) := dk_3 (dk_at dksX0_entries_0 1 rfl rfl)
theorem dX0_entries_2 : decode cX0_entries 2 = .ok (.aload_n 0, 1) := dk_42 (dk_at dksX0_entries_0 2 rfl rfl)
theorem dX0_entries_3 : decode cX0_entries 3 = .ok (.iload_n 1, 1) := dk_27 (dk_at dksX0_entries_0 3 rfl rfl)
theorem dX0_entries_4 : decode cX0_entries 4 = .ok (.invokevirtual 62, 3) := dk_182 0 62 (dk_at dksX0_entries_0 4 rfl rfl)
theorem dX0_entries_7 : decode cX0_entries 7 = .ok (.i2l, 1) := dk_133 (dk_at dksX0_entries_0 7 rfl rfl)
theorem dX0_entries_8 : decode cX0_entries 8 = .ok (.lastore, 1) := dk_80 (dk_at dksX0_entries_0 8 rfl rfl)
theorem dX0_entries_9 : decode cX0_entries 9 = .ok (.goto 6, 3) := dk_167 0 6 (dk_at dksX0_entries_0 9 rfl rfl)
theorem dX0_entries_12 : decode cX0_entries 12 = .ok (.astore_n 3, 1) := dk_78 (dk_at dksX0_entries_0 12 rfl rfl)
theorem dX0_entries_13 : decode cX0_entries 13 = .ok (.iconst 1, 1) := dk_4 (dk_at dksX0_entries_0 13 rfl rfl)
theorem dX0_entries_14 : decode cX0_entries 14 = .ok (.ireturn, 1) := dk_172 (dk_at dksX0_entries_0 14 rfl rfl)
theorem dX0_entries_15 : decode cX0_entries 15 = .ok (.iconst 0, 1) := dk_3 (dk_at dksX0_entries_0 15 rfl rfl)
theorem dX0_entries_16 : decode cX0_entries 16 = .ok (.ireturn, 1) := dk_172 (dk_at dksX0_entries_0 16 rfl rfl)
abbrev cX0_word : ByteArray := method_16_code
def yX0_word : MethodName := ⟨RX0, "word", "(LStenohall;[J)I"⟩
def dkwX0_word_0 : List UInt8 := [43, 3, 42, 182, 0, 65, 133, 80, 167, 0, 9, 77, 4, 172, 77, 5, 172, 3, 172]
abbrev dktX0_word_0 : List UInt8 := dkwX0_word_0 ++ []
theorem dksX0_word_0 : cX0_word.data.toList.drop 0 = dktX0_word_0 := by decide +kernel
theorem dX0_word_0 : decode cX0_word 0 = .ok (.aload_n 1, 1) := dk_43 (dk_at dksX0_word_0 0 rfl rfl)
theorem dX0_word_1 : decode cX0_word 1 = .ok (.iconst 0, 1) := dk_3 (dk_at dksX0_word_0 1 rfl rfl)
theorem dX0_word_2 : decode cX0_word 2 = .ok (.aload_n 0, 1) := dk_42 (dk_at dksX0_word_0 2 rfl rfl)
theorem dX0_word_3 : decode cX0_word 3 = .ok (.invokevirtual 65, 3) := dk_182 0 65 (dk_at dksX0_word_0 3 rfl rfl)
theorem dX0_word_6 : decode cX0_word 6 = .ok (.i2l, 1) := dk_133 (dk_at dksX0_word_0 6 rfl rfl)
theorem dX0_word_7 : decode cX0_word 7 = .ok (.lastore, 1) := dk_80 (dk_at dksX0_word_0 7 rfl rfl)
theorem dX0_word_8 : decode cX0_word 8 = .ok (.goto 9, 3) := dk_167 0 9 (dk_at dksX0_word_0 8 rfl rfl)
theorem dX0_word_11 : decode cX0_word 11 = .ok (.astore_n 2, 1) := dk_77 (dk_at dksX0_word_0 11 rfl rfl)
theorem dX0_word_12 : decode cX0_word 12 = .ok (.iconst 1, 1) := dk_4 (dk_at dksX0_word_0 12 rfl rfl)
theorem dX0_word_13 : decode cX0_word 13 = .ok (.ireturn, 1) := dk_172 (dk_at dksX0_word_0 13 rfl rfl)
theorem dX0_word_14 : decode cX0_word 14 = .ok (.astore_n 2, 1) := dk_77 (dk_at dksX0_word_0 14 rfl rfl)
theorem dX0_word_15 : decode cX0_word 15 = .ok (.iconst 2, 1) := dk_5 (dk_at dksX0_word_0 15 rfl rfl)
theorem dX0_word_16 : decode cX0_word 16 = .ok (.ireturn, 1) := dk_172 (dk_at dksX0_word_0 16 rfl rfl)
theorem dX0_word_17 : decode cX0_word 17 = .ok (.iconst 0, 1) := dk_3 (dk_at dksX0_word_0 17 rfl rfl)
theorem dX0_word_18 : decode cX0_word 18 = .ok (.ireturn, 1) := dk_172 (dk_at dksX0_word_0 18 rfl rfl)
abbrev cX0_rule : ByteArray := method_17_code
def yX0_rule : MethodName := ⟨RX0, "rule", "(LStenohall;C[J)I"⟩
def dkwX0_rule_0 : List UInt8 := [44, 3, 42, 27, 182, 0, 68, 133, 80, 167, 0, 9, 78, 4, 172, 78, 5, 172, 3, 172]
abbrev dktX0_rule_0 : List UInt8 := dkwX0_rule_0 ++ []
theorem dksX0_rule_0 : cX0_rule.data.toList.drop 0 = dktX0_rule_0 := by decide +kernel
theorem dX0_rule_0 : decode cX0_rule 0 = .ok (.aload_n 2, 1) := dk_44 (dk_at dksX0_rule_0 0 rfl rfl)
theorem dX0_rule_1 : decode cX0_rule 1 = .ok (.iconst 0, 1) := dk_3 (dk_at dksX0_rule_0 1 rfl rfl)
theorem dX0_rule_2 : decode cX0_rule 2 = .ok (.aload_n 0, 1) := dk_42 (dk_at dksX0_rule_0 2 rfl rfl)
theorem dX0_rule_3 : decode cX0_rule 3 = .ok (.iload_n 1, 1) := dk_27 (dk_at dksX0_rule_0 3 rfl rfl)
theorem dX0_rule_4 : decode cX0_rule 4 = .ok (.invokevirtual 68, 3) := dk_182 0 68 (dk_at dksX0_rule_0 4 rfl rfl)
theorem dX0_rule_7 : decode cX0_rule 7 = .ok (.i2l, 1) := dk_133 (dk_at dksX0_rule_0 7 rfl rfl)
theorem dX0_rule_8 : decode cX0_rule 8 = .ok (.lastore, 1) := dk_80 (dk_at dksX0_rule_0 8 rfl rfl)
theorem dX0_rule_9 : decode cX0_rule 9 = .ok (.goto 9, 3) := dk_167 0 9 (dk_at dksX0_rule_0 9 rfl rfl)
theorem dX0_rule_12 : decode cX0_rule 12 = .ok (.astore_n 3, 1) := dk_78 (dk_at dksX0_rule_0 12 rfl rfl)
theorem dX0_rule_13 : decode cX0_rule 13 = .ok (.iconst 1, 1) := dk_4 (dk_at dksX0_rule_0 13 rfl rfl)
theorem dX0_rule_14 : decode cX0_rule 14 = .ok (.ireturn, 1) := dk_172 (dk_at dksX0_rule_0 14 rfl rfl)
theorem dX0_rule_15 : decode cX0_rule 15 = .ok (.astore_n 3, 1) := dk_78 (dk_at dksX0_rule_0 15 rfl rfl)
theorem dX0_rule_16 : decode cX0_rule 16 = .ok (.iconst 2, 1) := dk_5 (dk_at dksX0_rule_0 16 rfl rfl)
theorem dX0_rule_17 : decode cX0_rule 17 = .ok (.ireturn, 1) := dk_172 (dk_at dksX0_rule_0 17 rfl rfl)
theorem dX0_rule_18 : decode cX0_rule 18 = .ok (.iconst 0, 1) := dk_3 (dk_at dksX0_rule_0 18 rfl rfl)
theorem dX0_rule_19 : decode cX0_rule 19 = .ok (.ireturn, 1) := dk_172 (dk_at dksX0_rule_0 19 rfl rfl)
abbrev cX0_at : ByteArray := method_18_code
def yX0_at : MethodName := ⟨RX0, "at", "(LStenohall;I[J)I"⟩
def dkwX0_at_0 : List UInt8 := [44, 3, 42, 27, 182, 0, 71, 133, 80, 167, 0, 6, 78, 4, 172, 3, 172]
abbrev dktX0_at_0 : List UInt8 := dkwX0_at_0 ++ []
theorem dksX0_at_0 : cX0_at.data.toList.drop 0 = dktX0_at_0 := by decide +kernel
theorem dX0_at_0 : decode cX0_at 0 = .ok (.aload_n 2, 1) := dk_44 (dk_at dksX0_at_0 0 rfl rfl)
theorem dX0_at_1 : decode cX0_at 1 = .ok (.iconst 0, 1) := dk_3 (dk_at dksX0_at_0 1 rfl rfl)
theorem dX0_at_2 : decode cX0_at 2 = .ok (.aload_n 0, 1) := dk_42 (dk_at dksX0_at_0 2 rfl rfl)
theorem dX0_at_3 : decode cX0_at 3 = .ok (.iload_n 1, 1) := dk_27 (dk_at dksX0_at_0 3 rfl rfl)
theorem dX0_at_4 : decode cX0_at 4 = .ok (.invokevirtual 71, 3) := dk_182 0 71 (dk_at dksX0_at_0 4 rfl rfl)
theorem dX0_at_7 : decode cX0_at 7 = .ok (.i2l, 1) := dk_133 (dk_at dksX0_at_0 7 rfl rfl)
theorem dX0_at_8 : decode cX0_at 8 = .ok (.lastore, 1) := dk_80 (dk_at dksX0_at_0 8 rfl rfl)
theorem dX0_at_9 : decode cX0_at 9 = .ok (.goto 6, 3) := dk_167 0 6 (dk_at dksX0_at_0 9 rfl rfl)
theorem dX0_at_12 : decode cX0_at 12 = .ok (.astore_n 3, 1) := dk_78 (dk_at dksX0_at_0 12 rfl rfl)
theorem dX0_at_13 : decode cX0_at 13 = .ok (.iconst 1, 1) := dk_4 (dk_at dksX0_at_0 13 rfl rfl)
theorem dX0_at_14 : decode cX0_at 14 = .ok (.ireturn, 1) := dk_172 (dk_at dksX0_at_0 14 rfl rfl)
theorem dX0_at_15 : decode cX0_at 15 = .ok (.iconst 0, 1) := dk_3 (dk_at dksX0_at_0 15 rfl rfl)
theorem dX0_at_16 : decode cX0_at 16 = .ok (.ireturn, 1) := dk_172 (dk_at dksX0_at_0 16 rfl rfl)
abbrev cX0_time : ByteArray := method_19_code
def yX0_time : MethodName := ⟨RX0, "time", "(LStenohall;I[J)I"⟩
def dkwX0_time_0 : List UInt8 := [44, 3, 42, 27, 182, 0, 75, 133, 80, 167, 0, 6, 78, 4, 172, 3, 172]
abbrev dktX0_time_0 : List UInt8 := dkwX0_time_0 ++ []
theorem dksX0_time_0 : cX0_time.data.toList.drop 0 = dktX0_time_0 := by decide +kernel
theorem dX0_time_0 : decode cX0_time 0 = .ok (.aload_n 2, 1) := dk_44 (dk_at dksX0_time_0 0 rfl rfl)
theorem dX0_time_1 : decode cX0_time 1 = .ok (.iconst 0, 1) := dk_3 (dk_at dksX0_time_0 1 rfl rfl)
theorem dX0_time_2 : decode cX0_time 2 = .ok (.aload_n 0, 1) := dk_42 (dk_at dksX0_time_0 2 rfl rfl)
theorem dX0_time_3 : decode cX0_time 3 = .ok (.iload_n 1, 1) := dk_27 (dk_at dksX0_time_0 3 rfl rfl)
theorem dX0_time_4 : decode cX0_time 4 = .ok (.invokevirtual 75, 3) := dk_182 0 75 (dk_at dksX0_time_0 4 rfl rfl)
theorem dX0_time_7 : decode cX0_time 7 = .ok (.i2l, 1) := dk_133 (dk_at dksX0_time_0 7 rfl rfl)
theorem dX0_time_8 : decode cX0_time 8 = .ok (.lastore, 1) := dk_80 (dk_at dksX0_time_0 8 rfl rfl)
theorem dX0_time_9 : decode cX0_time 9 = .ok (.goto 6, 3) := dk_167 0 6 (dk_at dksX0_time_0 9 rfl rfl)
theorem dX0_time_12 : decode cX0_time 12 = .ok (.astore_n 3, 1) := dk_78 (dk_at dksX0_time_0 12 rfl rfl)
theorem dX0_time_13 : decode cX0_time 13 = .ok (.iconst 1, 1) := dk_4 (dk_at dksX0_time_0 13 rfl rfl)
theorem dX0_time_14 : decode cX0_time 14 = .ok (.ireturn, 1) := dk_172 (dk_at dksX0_time_0 14 rfl rfl)
theorem dX0_time_15 : decode cX0_time 15 = .ok (.iconst 0, 1) := dk_3 (dk_at dksX0_time_0 15 rfl rfl)
theorem dX0_time_16 : decode cX0_time 16 = .ok (.ireturn, 1) := dk_172 (dk_at dksX0_time_0 16 rfl rfl)
abbrev cX0_strokesOf : ByteArray := method_20_code
def yX0_strokesOf : MethodName := ⟨RX0, "strokesOf", "(LStenohall;I[J)I"⟩
def dkwX0_strokesOf_0 : List UInt8 := [44, 3, 42, 27, 182, 0, 78, 133, 80, 167, 0, 6, 78, 4, 172, 3, 172]
abbrev dktX0_strokesOf_0 : List UInt8 := dkwX0_strokesOf_0 ++ []
theorem dksX0_strokesOf_0 : cX0_strokesOf.data.toList.drop 0 = dktX0_strokesOf_0 := by decide +kernel
theorem dX0_strokesOf_0 : decode cX0_strokesOf 0 = .ok (.aload_n 2, 1) := dk_44 (dk_at dksX0_strokesOf_0 0 rfl rfl)
theorem dX0_strokesOf_1 : decode cX0_strokesOf 1 = .ok (.iconst 0, 1) := dk_3 (dk_at dksX0_strokesOf_0 1 rfl rfl)
theorem dX0_strokesOf_2 : decode cX0_strokesOf 2 = .ok (.aload_n 0, 1) := dk_42 (dk_at dksX0_strokesOf_0 2 rfl rfl)
theorem dX0_strokesOf_3 : decode cX0_strokesOf 3 = .ok (.iload_n 1, 1) := dk_27 (dk_at dksX0_strokesOf_0 3 rfl rfl)
theorem dX0_strokesOf_4 : decode cX0_strokesOf 4 = .ok (.invokevirtual 78, 3) := dk_182 0 78 (dk_at dksX0_strokesOf_0 4 rfl rfl)
theorem dX0_strokesOf_7 : decode cX0_strokesOf 7 = .ok (.i2l, 1) := dk_133 (dk_at dksX0_strokesOf_0 7 rfl rfl)
theorem dX0_strokesOf_8 : decode cX0_strokesOf 8 = .ok (.lastore, 1) := dk_80 (dk_at dksX0_strokesOf_0 8 rfl rfl)
theorem dX0_strokesOf_9 : decode cX0_strokesOf 9 = .ok (.goto 6, 3) := dk_167 0 6 (dk_at dksX0_strokesOf_0 9 rfl rfl)
theorem dX0_strokesOf_12 : decode cX0_strokesOf 12 = .ok (.astore_n 3, 1) := dk_78 (dk_at dksX0_strokesOf_0 12 rfl rfl)
theorem dX0_strokesOf_13 : decode cX0_strokesOf 13 = .ok (.iconst 1, 1) := dk_4 (dk_at dksX0_strokesOf_0 13 rfl rfl)
theorem dX0_strokesOf_14 : decode cX0_strokesOf 14 = .ok (.ireturn, 1) := dk_172 (dk_at dksX0_strokesOf_0 14 rfl rfl)
theorem dX0_strokesOf_15 : decode cX0_strokesOf 15 = .ok (.iconst 0, 1) := dk_3 (dk_at dksX0_strokesOf_0 15 rfl rfl)
theorem dX0_strokesOf_16 : decode cX0_strokesOf 16 = .ok (.ireturn, 1) := dk_172 (dk_at dksX0_strokesOf_0 16 rfl rfl)
abbrev cX0_layerOf : ByteArray := method_21_code
def yX0_layerOf : MethodName := ⟨RX0, "layerOf", "(LStenohall;I[J)I"⟩
def dkwX0_layerOf_0 : List UInt8 := [44, 3, 42, 27, 182, 0, 81, 133, 80, 167, 0, 6, 78, 4, 172, 3, 172]
abbrev dktX0_layerOf_0 : List UInt8 := dkwX0_layerOf_0 ++ []
theorem dksX0_layerOf_0 : cX0_layerOf.data.toList.drop 0 = dktX0_layerOf_0 := by decide +kernel
theorem dX0_layerOf_0 : decode cX0_layerOf 0 = .ok (.aload_n 2, 1) := dk_44 (dk_at dksX0_layerOf_0 0 rfl rfl)
theorem dX0_layerOf_1 : decode cX0_layerOf 1 = .ok (.iconst 0, 1) := dk_3 (dk_at dksX0_layerOf_0 1 rfl rfl)
theorem dX0_layerOf_2 : decode cX0_layerOf 2 = .ok (.aload_n 0, 1) := dk_42 (dk_at dksX0_layerOf_0 2 rfl rfl)
theorem dX0_layerOf_3 : decode cX0_layerOf 3 = .ok (.iload_n 1, 1) := dk_27 (dk_at dksX0_layerOf_0 3 rfl rfl)
theorem dX0_layerOf_4 : decode cX0_layerOf 4 = .ok (.invokevirtual 81, 3) := dk_182 0 81 (dk_at dksX0_layerOf_0 4 rfl rfl)
theorem dX0_layerOf_7 : decode cX0_layerOf 7 = .ok (.i2l, 1) := dk_133 (dk_at dksX0_layerOf_0 7 rfl rfl)
theorem dX0_layerOf_8 : decode cX0_layerOf 8 = .ok (.lastore, 1) := dk_80 (dk_at dksX0_layerOf_0 8 rfl rfl)
theorem dX0_layerOf_9 : decode cX0_layerOf 9 = .ok (.goto 6, 3) := dk_167 0 6 (dk_at dksX0_layerOf_0 9 rfl rfl)
theorem dX0_layerOf_12 : decode cX0_layerOf 12 = .ok (.astore_n 3, 1) := dk_78 (dk_at dksX0_layerOf_0 12 rfl rfl)
theorem dX0_layerOf_13 : decode cX0_layerOf 13 = .ok (.iconst 1, 1) := dk_4 (dk_at dksX0_layerOf_0 13 rfl rfl)
theorem dX0_layerOf_14 : decode cX0_layerOf 14 = .ok (.ireturn, 1) := dk_172 (dk_at dksX0_layerOf_0 14 rfl rfl)
theorem dX0_layerOf_15 : decode cX0_layerOf 15 = .ok (.iconst 0, 1) := dk_3 (dk_at dksX0_layerOf_0 15 rfl rfl)
theorem dX0_layerOf_16 : decode cX0_layerOf 16 = .ok (.ireturn, 1) := dk_172 (dk_at dksX0_layerOf_0 16 rfl rfl)
abbrev cX0_chosen : ByteArray := method_22_code
def yX0_chosen : MethodName := ⟨RX0, "chosen", "(LStenohall;I[J)I"⟩
def dkwX0_chosen_0 : List UInt8 := [44, 3, 42, 27, 182, 0, 84, 133, 80, 167, 0, 6, 78, 4, 172, 3, 172]
abbrev dktX0_chosen_0 : List UInt8 := dkwX0_chosen_0 ++ []
theorem dksX0_chosen_0 : cX0_chosen.data.toList.drop 0 = dktX0_chosen_0 := by decide +kernel
theorem dX0_chosen_0 : decode cX0_chosen 0 = .ok (.aload_n 2, 1) := dk_44 (dk_at dksX0_chosen_0 0 rfl rfl)
theorem dX0_chosen_1 : decode cX0_chosen 1 = .ok (.iconst 0, 1) := dk_3 (dk_at dksX0_chosen_0 1 rfl rfl)
theorem dX0_chosen_2 : decode cX0_chosen 2 = .ok (.aload_n 0, 1) := dk_42 (dk_at dksX0_chosen_0 2 rfl rfl)
theorem dX0_chosen_3 : decode cX0_chosen 3 = .ok (.iload_n 1, 1) := dk_27 (dk_at dksX0_chosen_0 3 rfl rfl)
theorem dX0_chosen_4 : decode cX0_chosen 4 = .ok (.invokevirtual 84, 3) := dk_182 0 84 (dk_at dksX0_chosen_0 4 rfl rfl)
theorem dX0_chosen_7 : decode cX0_chosen 7 = .ok (.i2l, 1) := dk_133 (dk_at dksX0_chosen_0 7 rfl rfl)
theorem dX0_chosen_8 : decode cX0_chosen 8 = .ok (.lastore, 1) := dk_80 (dk_at dksX0_chosen_0 8 rfl rfl)
theorem dX0_chosen_9 : decode cX0_chosen 9 = .ok (.goto 6, 3) := dk_167 0 6 (dk_at dksX0_chosen_0 9 rfl rfl)
theorem dX0_chosen_12 : decode cX0_chosen 12 = .ok (.astore_n 3, 1) := dk_78 (dk_at dksX0_chosen_0 12 rfl rfl)
theorem dX0_chosen_13 : decode cX0_chosen 13 = .ok (.iconst 1, 1) := dk_4 (dk_at dksX0_chosen_0 13 rfl rfl)
theorem dX0_chosen_14 : decode cX0_chosen 14 = .ok (.ireturn, 1) := dk_172 (dk_at dksX0_chosen_0 14 rfl rfl)
theorem dX0_chosen_15 : decode cX0_chosen 15 = .ok (.iconst 0, 1) := dk_3 (dk_at dksX0_chosen_0 15 rfl rfl)
theorem dX0_chosen_16 : decode cX0_chosen 16 = .ok (.ireturn, 1) := dk_172 (dk_at dksX0_chosen_0 16 rfl rfl)
abbrev cX0_fromOf : ByteArray := method_23_code
def yX0_fromOf : MethodName := ⟨RX0, "fromOf", "(LStenohall;I[J)I"⟩
def dkwX0_fromOf_0 : List UInt8 := [44, 3, 42, 27, 182, 0, 87, 133, 80, 167, 0, 6, 78, 4, 172, 3, 172]
abbrev dktX0_fromOf_0 : List UInt8 := dkwX0_fromOf_0 ++ []
theorem dksX0_fromOf_0 : cX0_fromOf.data.toList.drop 0 = dktX0_fromOf_0 := by decide +kernel
theorem dX0_fromOf_0 : decode cX0_fromOf 0 = .ok (.aload_n 2, 1) := dk_44 (dk_at dksX0_fromOf_0 0 rfl rfl)
theorem dX0_fromOf_1 : decode cX0_fromOf 1 = .ok (.iconst 0, 1) := dk_3 (dk_at dksX0_fromOf_0 1 rfl rfl)
theorem dX0_fromOf_2 : decode cX0_fromOf 2 = .ok (.aload_n 0, 1) := dk_42 (dk_at dksX0_fromOf_0 2 rfl rfl)
theorem dX0_fromOf_3 : decode cX0_fromOf 3 = .ok (.iload_n 1, 1) := dk_27 (dk_at dksX0_fromOf_0 3 rfl rfl)
theorem dX0_fromOf_4 : decode cX0_fromOf 4 = .ok (.invokevirtual 87, 3) := dk_182 0 87 (dk_at dksX0_fromOf_0 4 rfl rfl)
theorem dX0_fromOf_7 : decode cX0_fromOf 7 = .ok (.i2l, 1) := dk_133 (dk_at dksX0_fromOf_0 7 rfl rfl)
theorem dX0_fromOf_8 : decode cX0_fromOf 8 = .ok (.lastore, 1) := dk_80 (dk_at dksX0_fromOf_0 8 rfl rfl)
theorem dX0_fromOf_9 : decode cX0_fromOf 9 = .ok (.goto 6, 3) := dk_167 0 6 (dk_at dksX0_fromOf_0 9 rfl rfl)
theorem dX0_fromOf_12 : decode cX0_fromOf 12 = .ok (.astore_n 3, 1) := dk_78 (dk_at dksX0_fromOf_0 12 rfl rfl)
theorem dX0_fromOf_13 : decode cX0_fromOf 13 = .ok (.iconst 1, 1) := dk_4 (dk_at dksX0_fromOf_0 13 rfl rfl)
theorem dX0_fromOf_14 : decode cX0_fromOf 14 = .ok (.ireturn, 1) := dk_172 (dk_at dksX0_fromOf_0 14 rfl rfl)
theorem dX0_fromOf_15 : decode cX0_fromOf 15 = .ok (.iconst 0, 1) := dk_3 (dk_at dksX0_fromOf_0 15 rfl rfl)
theorem dX0_fromOf_16 : decode cX0_fromOf 16 = .ok (.ireturn, 1) := dk_172 (dk_at dksX0_fromOf_0 16 rfl rfl)
abbrev cX0_tick : ByteArray := method_24_code
def yX0_tick : MethodName := ⟨RX0, "tick", "(LStenohall;[J)I"⟩
def dkwX0_tick_0 : List UInt8 := [43, 3, 42, 182, 0, 90, 133, 80, 167, 0, 6, 77, 4, 172, 3, 172]
abbrev dktX0_tick_0 : List UInt8 := dkwX0_tick_0 ++ []
theorem dksX0_tick_0 : cX0_tick.data.toList.drop 0 = dktX0_tick_0 := by decide +kernel
theorem dX0_tick_0 : decode cX0_tick 0 = .ok (.aload_n 1, 1) := dk_43 (dk_at dksX0_tick_0 0 rfl rfl)
theorem dX0_tick_1 : decode cX0_tick 1 = .ok (.iconst 0, 1) := dk_3 (dk_at dksX0_tick_0 1 rfl rfl)
theorem dX0_tick_2 : decode cX0_tick 2 = .ok (.aload_n 0, 1) := dk_42 (dk_at dksX0_tick_0 2 rfl rfl)
theorem dX0_tick_3 : decode cX0_tick 3 = .ok (.invokevirtual 90, 3) := dk_182 0 90 (dk_at dksX0_tick_0 3 rfl rfl)
theorem dX0_tick_6 : decode cX0_tick 6 = .ok (.i2l, 1) := dk_133 (dk_at dksX0_tick_0 6 rfl rfl)
theorem dX0_tick_7 : decode cX0_tick 7 = .ok (.lastore, 1) := dk_80 (dk_at dksX0_tick_0 7 rfl rfl)
theorem dX0_tick_8 : decode cX0_tick 8 = .ok (.goto 6, 3) := dk_167 0 6 (dk_at dksX0_tick_0 8 rfl rfl)
theorem dX0_tick_11 : decode cX0_tick 11 = .ok (.astore_n 2, 1) := dk_77 (dk_at dksX0_tick_0 11 rfl rfl)
theorem dX0_tick_12 : decode cX0_tick 12 = .ok (.iconst 1, 1) := dk_4 (dk_at dksX0_tick_0 12 rfl rfl)
theorem dX0_tick_13 : decode cX0_tick 13 = .ok (.ireturn, 1) := dk_172 (dk_at dksX0_tick_0 13 rfl rfl)
theorem dX0_tick_14 : decode cX0_tick 14 = .ok (.iconst 0, 1) := dk_3 (dk_at dksX0_tick_0 14 rfl rfl)
theorem dX0_tick_15 : decode cX0_tick 15 = .ok (.ireturn, 1) := dk_172 (dk_at dksX0_tick_0 15 rfl rfl)
abbrev cX0_sink : ByteArray := method_25_code
def yX0_sink : MethodName := ⟨RX0, "sink", "(LStenohall;I[J)I"⟩
def dkwX0_sink_0 : List UInt8 := [44, 3, 42, 27, 182, 0, 93, 133, 80, 167, 0, 9, 78, 4, 172, 78, 5, 172, 3, 172]
abbrev dktX0_sink_0 : List UInt8 := dkwX0_sink_0 ++ []
theorem dksX0_sink_0 : cX0_sink.data.toList.drop 0 = dktX0_sink_0 := by decide +kernel
theorem dX0_sink_0 : decode cX0_sink 0 = .ok (.aload_n 2, 1) := dk_44 (dk_at dksX0_sink_0 0 rfl rfl)
theorem dX0_sink_1 : decode cX0_sink 1 = .ok (.iconst 0, 1) := dk_3 (dk_at dksX0_sink_0 1 rfl rfl)
theorem dX0_sink_2 : decode cX0_sink 2 = .ok (.aload_n 0, 1) := dk_42 (dk_at dksX0_sink_0 2 rfl rfl)
theorem dX0_sink_3 : decode cX0_sink 3 = .ok (.iload_n 1, 1) := dk_27 (dk_at dksX0_sink_0 3 rfl rfl)
theorem dX0_sink_4 : decode cX0_sink 4 = .ok (.invokevirtual 93, 3) := dk_182 0 93 (dk_at dksX0_sink_0 4 rfl rfl)
theorem dX0_sink_7 : decode cX0_sink 7 = .ok (.i2l, 1) := dk_133 (dk_at dksX0_sink_0 7 rfl rfl)
theorem dX0_sink_8 : decode cX0_sink 8 = .ok (.lastore, 1) := dk_80 (dk_at dksX0_sink_0 8 rfl rfl)
theorem dX0_sink_9 : decode cX0_sink 9 = .ok (.goto 9, 3) := dk_167 0 9 (dk_at dksX0_sink_0 9 rfl rfl)
theorem dX0_sink_12 : decode cX0_sink 12 = .ok (.astore_n 3, 1) := dk_78 (dk_at dksX0_sink_0 12 rfl rfl)
theorem dX0_sink_13 : decode cX0_sink 13 = .ok (.iconst 1, 1) := dk_4 (dk_at dksX0_sink_0 13 rfl rfl)
theorem dX0_sink_14 : decode cX0_sink 14 = .ok (.ireturn, 1) := dk_172 (dk_at dksX0_sink_0 14 rfl rfl)
theorem dX0_sink_15 : decode cX0_sink 15 = .ok (.astore_n 3, 1) := dk_78 (dk_at dksX0_sink_0 15 rfl rfl)
theorem dX0_sink_16 : decode cX0_sink 16 = .ok (.iconst 2, 1) := dk_5 (dk_at dksX0_sink_0 16 rfl rfl)
theorem dX0_sink_17 : decode cX0_sink 17 = .ok (.ireturn, 1) := dk_172 (dk_at dksX0_sink_0 17 rfl rfl)
theorem dX0_sink_18 : decode cX0_sink 18 = .ok (.iconst 0, 1) := dk_3 (dk_at dksX0_sink_0 18 rfl rfl)
theorem dX0_sink_19 : decode cX0_sink 19 = .ok (.ireturn, 1) := dk_172 (dk_at dksX0_sink_0 19 rfl rfl)
abbrev cX0_shown : ByteArray := method_26_code
def yX0_shown : MethodName := ⟨RX0, "shown", "(LStenohall;I[J)I"⟩
def dkwX0_shown_0 : List UInt8 := [44, 3, 42, 27, 182, 0, 96, 133, 80, 167, 0, 6, 78, 4, 172, 3, 172]
abbrev dktX0_shown_0 : List UInt8 := dkwX0_shown_0 ++ []
theorem dksX0_shown_0 : cX0_shown.data.toList.drop 0 = dktX0_shown_0 := by decide +kernel
theorem dX0_shown_0 : decode cX0_shown 0 = .ok (.aload_n 2, 1) := dk_44 (dk_at dksX0_shown_0 0 rfl rfl)
theorem dX0_shown_1 : decode cX0_shown 1 = .ok (.iconst 0, 1) := dk_3 (dk_at dksX0_shown_0 1 rfl rfl)
theorem dX0_shown_2 : decode cX0_shown 2 = .ok (.aload_n 0, 1) := dk_42 (dk_at dksX0_shown_0 2 rfl rfl)
theorem dX0_shown_3 : decode cX0_shown 3 = .ok (.iload_n 1, 1) := dk_27 (dk_at dksX0_shown_0 3 rfl rfl)
theorem dX0_shown_4 : decode cX0_shown 4 = .ok (.invokevirtual 96, 3) := dk_182 0 96 (dk_at dksX0_shown_0 4 rfl rfl)
theorem dX0_shown_7 : decode cX0_shown 7 = .ok (.i2l, 1) := dk_133 (dk_at dksX0_shown_0 7 rfl rfl)
theorem dX0_shown_8 : decode cX0_shown 8 = .ok (.lastore, 1) := dk_80 (dk_at dksX0_shown_0 8 rfl rfl)
theorem dX0_shown_9 : decode cX0_shown 9 = .ok (.goto 6, 3) := dk_167 0 6 (dk_at dksX0_shown_0 9 rfl rfl)
theorem dX0_shown_12 : decode cX0_shown 12 = .ok (.astore_n 3, 1) := dk_78 (dk_at dksX0_shown_0 12 rfl rfl)
theorem dX0_shown_13 : decode cX0_shown 13 = .ok (.iconst 1, 1) := dk_4 (dk_at dksX0_shown_0 13 rfl rfl)
theorem dX0_shown_14 : decode cX0_shown 14 = .ok (.ireturn, 1) := dk_172 (dk_at dksX0_shown_0 14 rfl rfl)
theorem dX0_shown_15 : decode cX0_shown 15 = .ok (.iconst 0, 1) := dk_3 (dk_at dksX0_shown_0 15 rfl rfl)
theorem dX0_shown_16 : decode cX0_shown 16 = .ok (.ireturn, 1) := dk_172 (dk_at dksX0_shown_0 16 rfl rfl)
abbrev cX0_shownAt : ByteArray := method_27_code
def yX0_shownAt : MethodName := ⟨RX0, "shownAt", "(LStenohall;II[J)I"⟩
def dkwX0_shownAt_0 : List UInt8 := [45, 3, 42, 27, 28, 182, 0, 99, 133, 80, 167, 0, 11, 58, 4, 4, 172, 58, 4, 5, 172, 3, 172]
abbrev dktX0_shownAt_0 : List UInt8 := dkwX0_shownAt_0 ++ []
theorem dksX0_shownAt_0 : cX0_shownAt.data.toList.drop 0 = dktX0_shownAt_0 := by decide +kernel
theorem dX0_shownAt_0 : decode cX0_shownAt 0 = .ok (.aload_n 3, 1) := dk_45 (dk_at dksX0_shownAt_0 0 rfl rfl)
theorem dX0_shownAt_1 : decode cX0_shownAt 1 = .ok (.iconst 0, 1) := dk_3 (dk_at dksX0_shownAt_0 1 rfl rfl)
theorem dX0_shownAt_2 : decode cX0_shownAt 2 = .ok (.aload_n 0, 1) := dk_42 (dk_at dksX0_shownAt_0 2 rfl rfl)
theorem dX0_shownAt_3 : decode cX0_shownAt 3 = .ok (.iload_n 1, 1) := dk_27 (dk_at dksX0_shownAt_0 3 rfl rfl)
theorem dX0_shownAt_4 : decode cX0_shownAt 4 = .ok (.iload_n 2, 1) := dk_28 (dk_at dksX0_shownAt_0 4 rfl rfl)
theorem dX0_shownAt_5 : decode cX0_shownAt 5 = .ok (.invokevirtual 99, 3) := dk_182 0 99 (dk_at dksX0_shownAt_0 5 rfl rfl)
theorem dX0_shownAt_8 : decode cX0_shownAt 8 = .ok (.i2l, 1) := dk_133 (dk_at dksX0_shownAt_0 8 rfl rfl)
theorem dX0_shownAt_9 : decode cX0_shownAt 9 = .ok (.lastore, 1) := dk_80 (dk_at dksX0_shownAt_0 9 rfl rfl)
theorem dX0_shownAt_10 : decode cX0_shownAt 10 = .ok (.goto 11, 3) := dk_167 0 11 (dk_at dksX0_shownAt_0 10 rfl rfl)
theorem dX0_shownAt_13 : decode cX0_shownAt 13 = .ok (.astore 4, 2) := dk_58 4 (dk_at dksX0_shownAt_0 13 rfl rfl)
theorem dX0_shownAt_15 : decode cX0_shownAt 15 = .ok (.iconst 1, 1) := dk_4 (dk_at dksX0_shownAt_0 15 rfl rfl)
theorem dX0_shownAt_16 : decode cX0_shownAt 16 = .ok (.ireturn, 1) := dk_172 (dk_at dksX0_shownAt_0 16 rfl rfl)
theorem dX0_shownAt_17 : decode cX0_shownAt 17 = .ok (.astore 4, 2) := dk_58 4 (dk_at dksX0_shownAt_0 17 rfl rfl)
theorem dX0_shownAt_19 : decode cX0_shownAt 19 = .ok (.iconst 2, 1) := dk_5 (dk_at dksX0_shownAt_0 19 rfl rfl)
theorem dX0_shownAt_20 : decode cX0_shownAt 20 = .ok (.ireturn, 1) := dk_172 (dk_at dksX0_shownAt_0 20 rfl rfl)
theorem dX0_shownAt_21 : decode cX0_shownAt 21 = .ok (.iconst 0, 1) := dk_3 (dk_at dksX0_shownAt_0 21 rfl rfl)
theorem dX0_shownAt_22 : decode cX0_shownAt 22 = .ok (.ireturn, 1) := dk_172 (dk_at dksX0_shownAt_0 22 rfl rfl)
abbrev cX0_takenBack : ByteArray := method_28_code
def yX0_takenBack : MethodName := ⟨RX0, "takenBack", "(LStenohall;I[J)I"⟩
def dkwX0_takenBack_0 : List UInt8 := [44, 3, 42, 27, 182, 0, 103, 133, 80, 167, 0, 6, 78, 4, 172, 3, 172]
abbrev dktX0_takenBack_0 : List UInt8 := dkwX0_takenBack_0 ++ []
theorem dksX0_takenBack_0 : cX0_takenBack.data.toList.drop 0 = dktX0_takenBack_0 := by decide +kernel
theorem dX0_takenBack_0 : decode cX0_takenBack 0 = .ok (.aload_n 2, 1) := dk_44 (dk_at dksX0_takenBack_0 0 rfl rfl)
theorem dX0_takenBack_1 : decode cX0_takenBack 1 = .ok (.iconst 0, 1) := dk_3 (dk_at dksX0_takenBack_0 1 rfl rfl)
theorem dX0_takenBack_2 : decode cX0_takenBack 2 = .ok (.aload_n 0, 1) := dk_42 (dk_at dksX0_takenBack_0 2 rfl rfl)
theorem dX0_takenBack_3 : decode cX0_takenBack 3 = .ok (.iload_n 1, 1) := dk_27 (dk_at dksX0_takenBack_0 3 rfl rfl)
theorem dX0_takenBack_4 : decode cX0_takenBack 4 = .ok (.invokevirtual 103, 3) := dk_182 0 103 (dk_at dksX0_takenBack_0 4 rfl rfl)
theorem dX0_takenBack_7 : decode cX0_takenBack 7 = .ok (.i2l, 1) := dk_133 (dk_at dksX0_takenBack_0 7 rfl rfl)
theorem dX0_takenBack_8 : decode cX0_takenBack 8 = .ok (.lastore, 1) := dk_80 (dk_at dksX0_takenBack_0 8 rfl rfl)
theorem dX0_takenBack_9 : decode cX0_takenBack 9 = .ok (.goto 6, 3) := dk_167 0 6 (dk_at dksX0_takenBack_0 9 rfl rfl)
theorem dX0_takenBack_12 : decode cX0_takenBack 12 = .ok (.astore_n 3, 1) := dk_78 (dk_at dksX0_takenBack_0 12 rfl rfl)
theorem dX0_takenBack_13 : decode cX0_takenBack 13 = .ok (.iconst 1, 1) := dk_4 (dk_at dksX0_takenBack_0 13 rfl rfl)
theorem dX0_takenBack_14 : decode cX0_takenBack 14 = .ok (.ireturn, 1) := dk_172 (dk_at dksX0_takenBack_0 14 rfl rfl)
theorem dX0_takenBack_15 : decode cX0_takenBack 15 = .ok (.iconst 0, 1) := dk_3 (dk_at dksX0_takenBack_0 15 rfl rfl)
theorem dX0_takenBack_16 : decode cX0_takenBack 16 = .ok (.ireturn, 1) := dk_172 (dk_at dksX0_takenBack_0 16 rfl rfl)
abbrev cX0_paper : ByteArray := method_29_code
def yX0_paper : MethodName := ⟨RX0, "paper", "(LStenohall;II[J)I"⟩
def dkwX0_paper_0 : List UInt8 := [45, 3, 42, 27, 28, 182, 0, 106, 133, 80, 167, 0, 7, 58, 4, 4, 172, 3, 172]
abbrev dktX0_paper_0 : List UInt8 := dkwX0_paper_0 ++ []
theorem dksX0_paper_0 : cX0_paper.data.toList.drop 0 = dktX0_paper_0 := by decide +kernel
theorem dX0_paper_0 : decode cX0_paper 0 = .ok (.aload_n 3, 1) := dk_45 (dk_at dksX0_paper_0 0 rfl rfl)
theorem dX0_paper_1 : decode cX0_paper 1 = .ok (.iconst 0, 1) := dk_3 (dk_at dksX0_paper_0 1 rfl rfl)
theorem dX0_paper_2 : decode cX0_paper 2 = .ok (.aload_n 0, 1) := dk_42 (dk_at dksX0_paper_0 2 rfl rfl)
theorem dX0_paper_3 : decode cX0_paper 3 = .ok (.iload_n 1, 1) := dk_27 (dk_at dksX0_paper_0 3 rfl rfl)
theorem dX0_paper_4 : decode cX0_paper 4 = .ok (.iload_n 2, 1) := dk_28 (dk_at dksX0_paper_0 4 rfl rfl)
theorem dX0_paper_5 : decode cX0_paper 5 = .ok (.invokevirtual 106, 3) := dk_182 0 106 (dk_at dksX0_paper_0 5 rfl rfl)
theorem dX0_paper_8 : decode cX0_paper 8 = .ok (.i2l, 1) := dk_133 (dk_at dksX0_paper_0 8 rfl rfl)
theorem dX0_paper_9 : decode cX0_paper 9 = .ok (.lastore, 1) := dk_80 (dk_at dksX0_paper_0 9 rfl rfl)
theorem dX0_paper_10 : decode cX0_paper 10 = .ok (.goto 7, 3) := dk_167 0 7 (dk_at dksX0_paper_0 10 rfl rfl)
theorem dX0_paper_13 : decode cX0_paper 13 = .ok (.astore 4, 2) := dk_58 4 (dk_at dksX0_paper_0 13 rfl rfl)
theorem dX0_paper_15 : decode cX0_paper 15 = .ok (.iconst 1, 1) := dk_4 (dk_at dksX0_paper_0 15 rfl rfl)
theorem dX0_paper_16 : decode cX0_paper 16 = .ok (.ireturn, 1) := dk_172 (dk_at dksX0_paper_0 16 rfl rfl)
theorem dX0_paper_17 : decode cX0_paper 17 = .ok (.iconst 0, 1) := dk_3 (dk_at dksX0_paper_0 17 rfl rfl)
theorem dX0_paper_18 : decode cX0_paper 18 = .ok (.ireturn, 1) := dk_172 (dk_at dksX0_paper_0 18 rfl rfl)
abbrev cX0_lineOf : ByteArray := method_30_code
def yX0_lineOf : MethodName := ⟨RX0, "lineOf", "(LStenohall;I[J)I"⟩
def dkwX0_lineOf_0 : List UInt8 := [44, 3, 42, 27, 182, 0, 110, 133, 80, 167, 0, 6, 78, 4, 172, 3, 172]
abbrev dktX0_lineOf_0 : List UInt8 := dkwX0_lineOf_0 ++ []
theorem dksX0_lineOf_0 : cX0_lineOf.data.toList.drop 0 = dktX0_lineOf_0 := by decide +kernel
theorem dX0_lineOf_0 : decode cX0_lineOf 0 = .ok (.aload_n 2, 1) := dk_44 (dk_at dksX0_lineOf_0 0 rfl rfl)
theorem dX0_lineOf_1 : decode cX0_lineOf 1 = .ok (.iconst 0, 1) := dk_3 (dk_at dksX0_lineOf_0 1 rfl rfl)
theorem dX0_lineOf_2 : decode cX0_lineOf 2 = .ok (.aload_n 0, 1) := dk_42 (dk_at dksX0_lineOf_0 2 rfl rfl)
theorem dX0_lineOf_3 : decode cX0_lineOf 3 = .ok (.iload_n 1, 1) := dk_27 (dk_at dksX0_lineOf_0 3 rfl rfl)
theorem dX0_lineOf_4 : decode cX0_lineOf 4 = .ok (.invokevirtual 110, 3) := dk_182 0 110 (dk_at dksX0_lineOf_0 4 rfl rfl)
theorem dX0_lineOf_7 : decode cX0_lineOf 7 = .ok (.i2l, 1) := dk_133 (dk_at dksX0_lineOf_0 7 rfl rfl)
theorem dX0_lineOf_8 : decode cX0_lineOf 8 = .ok (.lastore, 1) := dk_80 (dk_at dksX0_lineOf_0 8 rfl rfl)
theorem dX0_lineOf_9 : decode cX0_lineOf 9 = .ok (.goto 6, 3) := dk_167 0 6 (dk_at dksX0_lineOf_0 9 rfl rfl)
theorem dX0_lineOf_12 : decode cX0_lineOf 12 = .ok (.astore_n 3, 1) := dk_78 (dk_at dksX0_lineOf_0 12 rfl rfl)
theorem dX0_lineOf_13 : decode cX0_lineOf 13 = .ok (.iconst 1, 1) := dk_4 (dk_at dksX0_lineOf_0 13 rfl rfl)
theorem dX0_lineOf_14 : decode cX0_lineOf 14 = .ok (.ireturn, 1) := dk_172 (dk_at dksX0_lineOf_0 14 rfl rfl)
theorem dX0_lineOf_15 : decode cX0_lineOf 15 = .ok (.iconst 0, 1) := dk_3 (dk_at dksX0_lineOf_0 15 rfl rfl)
theorem dX0_lineOf_16 : decode cX0_lineOf 16 = .ok (.ireturn, 1) := dk_172 (dk_at dksX0_lineOf_0 16 rfl rfl)
abbrev cX0_pageOf : ByteArray := method_31_code
def yX0_pageOf : MethodName := ⟨RX0, "pageOf", "(LStenohall;I[J)I"⟩
def dkwX0_pageOf_0 : List UInt8 := [44, 3, 42, 27, 182, 0, 113, 133, 80, 167, 0, 6, 78, 4, 172, 3, 172]
abbrev dktX0_pageOf_0 : List UInt8 := dkwX0_pageOf_0 ++ []
theorem dksX0_pageOf_0 : cX0_pageOf.data.toList.drop 0 = dktX0_pageOf_0 := by decide +kernel
theorem dX0_pageOf_0 : decode cX0_pageOf 0 = .ok (.aload_n 2, 1) := dk_44 (dk_at dksX0_pageOf_0 0 rfl rfl)
theorem dX0_pageOf_1 : decode cX0_pageOf 1 = .ok (.iconst 0, 1) := dk_3 (dk_at dksX0_pageOf_0 1 rfl rfl)
theorem dX0_pageOf_2 : decode cX0_pageOf 2 = .ok (.aload_n 0, 1) := dk_42 (dk_at dksX0_pageOf_0 2 rfl rfl)
theorem dX0_pageOf_3 : decode cX0_pageOf 3 = .ok (.iload_n 1, 1) := dk_27 (dk_at dksX0_pageOf_0 3 rfl rfl)
theorem dX0_pageOf_4 : decode cX0_pageOf 4 = .ok (.invokevirtual 113, 3) := dk_182 0 113 (dk_at dksX0_pageOf_0 4 rfl rfl)
theorem dX0_pageOf_7 : decode cX0_pageOf 7 = .ok (.i2l, 1) := dk_133 (dk_at dksX0_pageOf_0 7 rfl rfl)
theorem dX0_pageOf_8 : decode cX0_pageOf 8 = .ok (.lastore, 1) := dk_80 (dk_at dksX0_pageOf_0 8 rfl rfl)
theorem dX0_pageOf_9 : decode cX0_pageOf 9 = .ok (.goto 6, 3) := dk_167 0 6 (dk_at dksX0_pageOf_0 9 rfl rfl)
theorem dX0_pageOf_12 : decode cX0_pageOf 12 = .ok (.astore_n 3, 1) := dk_78 (dk_at dksX0_pageOf_0 12 rfl rfl)
theorem dX0_pageOf_13 : decode cX0_pageOf 13 = .ok (.iconst 1, 1) := dk_4 (dk_at dksX0_pageOf_0 13 rfl rfl)
theorem dX0_pageOf_14 : decode cX0_pageOf 14 = .ok (.ireturn, 1) := dk_172 (dk_at dksX0_pageOf_0 14 rfl rfl)
theorem dX0_pageOf_15 : decode cX0_pageOf 15 = .ok (.iconst 0, 1) := dk_3 (dk_at dksX0_pageOf_0 15 rfl rfl)
theorem dX0_pageOf_16 : decode cX0_pageOf 16 = .ok (.ireturn, 1) := dk_172 (dk_at dksX0_pageOf_0 16 rfl rfl)
abbrev cX0_contract : ByteArray := method_32_code
def yX0_contract : MethodName := ⟨RX0, "contract", "(LStenohall;I[J)I"⟩
def dkwX0_contract_0 : List UInt8 := [44, 3, 42, 27, 182, 0, 116, 133, 80, 167, 0, 12, 78, 4, 172, 78, 5, 172, 78, 6, 172, 3, 172]
abbrev dktX0_contract_0 : List UInt8 := dkwX0_contract_0 ++ []
theorem dksX0_contract_0 : cX0_contract.data.toList.drop 0 = dktX0_contract_0 := by decide +kernel
theorem dX0_contract_0 : decode cX0_contract 0 = .ok (.aload_n 2, 1) := dk_44 (dk_at dksX0_contract_0 0 rfl rfl)
theorem dX0_contract_1 : decode cX0_contract 1 = .ok (.iconst 0, 1) := dk_3 (dk_at dksX0_contract_0 1 rfl rfl)
theorem dX0_contract_2 : decode cX0_contract 2 = .ok (.aload_n 0, 1) := dk_42 (dk_at dksX0_contract_0 2 rfl rfl)
theorem dX0_contract_3 : decode cX0_contract 3 = .ok (.iload_n 1, 1) := dk_27 (dk_at dksX0_contract_0 3 rfl rfl)
theorem dX0_contract_4 : decode cX0_contract 4 = .ok (.invokevirtual 116, 3) := dk_182 0 116 (dk_at dksX0_contract_0 4 rfl rfl)
theorem dX0_contract_7 : decode cX0_contract 7 = .ok (.i2l, 1) := dk_133 (dk_at dksX0_contract_0 7 rfl rfl)
theorem dX0_contract_8 : decode cX0_contract 8 = .ok (.lastore, 1) := dk_80 (dk_at dksX0_contract_0 8 rfl rfl)
theorem dX0_contract_9 : decode cX0_contract 9 = .ok (.goto 12, 3) := dk_167 0 12 (dk_at dksX0_contract_0 9 rfl rfl)
theorem dX0_contract_12 : decode cX0_contract 12 = .ok (.astore_n 3, 1) := dk_78 (dk_at dksX0_contract_0 12 rfl rfl)
theorem dX0_contract_13 : decode cX0_contract 13 = .ok (.iconst 1, 1) := dk_4 (dk_at dksX0_contract_0 13 rfl rfl)
theorem dX0_contract_14 : decode cX0_contract 14 = .ok (.ireturn, 1) := dk_172 (dk_at dksX0_contract_0 14 rfl rfl)
theorem dX0_contract_15 : decode cX0_contract 15 = .ok (.astore_n 3, 1) := dk_78 (dk_at dksX0_contract_0 15 rfl rfl)
theorem dX0_contract_16 : decode cX0_contract 16 = .ok (.iconst 2, 1) := dk_5 (dk_at dksX0_contract_0 16 rfl rfl)
theorem dX0_contract_17 : decode cX0_contract 17 = .ok (.ireturn, 1) := dk_172 (dk_at dksX0_contract_0 17 rfl rfl)
theorem dX0_contract_18 : decode cX0_contract 18 = .ok (.astore_n 3, 1) := dk_78 (dk_at dksX0_contract_0 18 rfl rfl)
theorem dX0_contract_19 : decode cX0_contract 19 = .ok (.iconst 3, 1) := dk_6 (dk_at dksX0_contract_0 19 rfl rfl)
theorem dX0_contract_20 : decode cX0_contract 20 = .ok (.ireturn, 1) := dk_172 (dk_at dksX0_contract_0 20 rfl rfl)
theorem dX0_contract_21 : decode cX0_contract 21 = .ok (.iconst 0, 1) := dk_3 (dk_at dksX0_contract_0 21 rfl rfl)
theorem dX0_contract_22 : decode cX0_contract 22 = .ok (.ireturn, 1) := dk_172 (dk_at dksX0_contract_0 22 rfl rfl)
abbrev cX0_cellAt : ByteArray := method_33_code
def yX0_cellAt : MethodName := ⟨RX0, "cellAt", "(LStenohall;I[J)I"⟩
def dkwX0_cellAt_0 : List UInt8 := [44, 3, 42, 27, 182, 0, 119, 133, 80, 167, 0, 6, 78, 4, 172, 3, 172]
abbrev dktX0_cellAt_0 : List UInt8 := dkwX0_cellAt_0 ++ []
theorem dksX0_cellAt_0 : cX0_cellAt.data.toList.drop 0 = dktX0_cellAt_0 := by decide +kernel
theorem dX0_cellAt_0 : decode cX0_cellAt 0 = .ok (.aload_n 2, 1) := dk_44 (dk_at dksX0_cellAt_0 0 rfl rfl)
theorem dX0_cellAt_1 : decode cX0_cellAt 1 = .ok (.iconst 0, 1) := dk_3 (dk_at dksX0_cellAt_0 1 rfl rfl)
theorem dX0_cellAt_2 : decode cX0_cellAt 2 = .ok (.aload_n 0, 1) := dk_42 (dk_at dksX0_cellAt_0 2 rfl rfl)
theorem dX0_cellAt_3 : decode cX0_cellAt 3 = .ok (.iload_n 1, 1) := dk_27 (dk_at dksX0_cellAt_0 3 rfl rfl)
theorem dX0_cellAt_4 : decode cX0_cellAt 4 = .ok (.invokevirtual 119, 3) := dk_182 0 119 (dk_at dksX0_cellAt_0 4 rfl rfl)
theorem dX0_cellAt_7 : decode cX0_cellAt 7 = .ok (.i2l, 1) := dk_133 (dk_at dksX0_cellAt_0 7 rfl rfl)
theorem dX0_cellAt_8 : decode cX0_cellAt 8 = .ok (.lastore, 1) := dk_80 (dk_at dksX0_cellAt_0 8 rfl rfl)
theorem dX0_cellAt_9 : decode cX0_cellAt 9 = .ok (.goto 6, 3) := dk_167 0 6 (dk_at dksX0_cellAt_0 9 rfl rfl)
theorem dX0_cellAt_12 : decode cX0_cellAt 12 = .ok (.astore_n 3, 1) := dk_78 (dk_at dksX0_cellAt_0 12 rfl rfl)
theorem dX0_cellAt_13 : decode cX0_cellAt 13 = .ok (.iconst 1, 1) := dk_4 (dk_at dksX0_cellAt_0 13 rfl rfl)
theorem dX0_cellAt_14 : decode cX0_cellAt 14 = .ok (.ireturn, 1) := dk_172 (dk_at dksX0_cellAt_0 14 rfl rfl)
theorem dX0_cellAt_15 : decode cX0_cellAt 15 = .ok (.iconst 0, 1) := dk_3 (dk_at dksX0_cellAt_0 15 rfl rfl)
theorem dX0_cellAt_16 : decode cX0_cellAt 16 = .ok (.ireturn, 1) := dk_172 (dk_at dksX0_cellAt_0 16 rfl rfl)
abbrev cX0_nearest : ByteArray := method_34_code
def yX0_nearest : MethodName := ⟨RX0, "nearest", "(LStenohall;I[J)I"⟩
def dkwX0_nearest_0 : List UInt8 := [44, 3, 42, 27, 182, 0, 122, 133, 80, 167, 0, 9, 78, 4, 172, 78, 5, 172, 3, 172]
abbrev dktX0_nearest_0 : List UInt8 := dkwX0_nearest_0 ++ []
theorem dksX0_nearest_0 : cX0_nearest.data.toList.drop 0 = dktX0_nearest_0 := by decide +kernel
theorem dX0_nearest_0 : decode cX0_nearest 0 = .ok (.aload_n 2, 1) := dk_44 (dk_at dksX0_nearest_0 0 rfl rfl)
theorem dX0_nearest_1 : decode cX0_nearest 1 = .ok (.iconst 0, 1) := dk_3 (dk_at dksX0_nearest_0 1 rfl rfl)
theorem dX0_nearest_2 : decode cX0_nearest 2 = .ok (.aload_n 0, 1) := dk_42 (dk_at dksX0_nearest_0 2 rfl rfl)
theorem dX0_nearest_3 : decode cX0_nearest 3 = .ok (.iload_n 1, 1) := dk_27 (dk_at dksX0_nearest_0 3 rfl rfl)
theorem dX0_nearest_4 : decode cX0_nearest 4 = .ok (.invokevirtual 122, 3) := dk_182 0 122 (dk_at dksX0_nearest_0 4 rfl rfl)
theorem dX0_nearest_7 : decode cX0_nearest 7 = .ok (.i2l, 1) := dk_133 (dk_at dksX0_nearest_0 7 rfl rfl)
theorem dX0_nearest_8 : decode cX0_nearest 8 = .ok (.lastore, 1) := dk_80 (dk_at dksX0_nearest_0 8 rfl rfl)
theorem dX0_nearest_9 : decode cX0_nearest 9 = .ok (.goto 9, 3) := dk_167 0 9 (dk_at dksX0_nearest_0 9 rfl rfl)
theorem dX0_nearest_12 : decode cX0_nearest 12 = .ok (.astore_n 3, 1) := dk_78 (dk_at dksX0_nearest_0 12 rfl rfl)
theorem dX0_nearest_13 : decode cX0_nearest 13 = .ok (.iconst 1, 1) := dk_4 (dk_at dksX0_nearest_0 13 rfl rfl)
theorem dX0_nearest_14 : decode cX0_nearest 14 = .ok (.ireturn, 1) := dk_172 (dk_at dksX0_nearest_0 14 rfl rfl)
theorem dX0_nearest_15 : decode cX0_nearest 15 = .ok (.astore_n 3, 1) := dk_78 (dk_at dksX0_nearest_0 15 rfl rfl)
theorem dX0_nearest_16 : decode cX0_nearest 16 = .ok (.iconst 2, 1) := dk_5 (dk_at dksX0_nearest_0 16 rfl rfl)
theorem dX0_nearest_17 : decode cX0_nearest 17 = .ok (.ireturn, 1) := dk_172 (dk_at dksX0_nearest_0 17 rfl rfl)
theorem dX0_nearest_18 : decode cX0_nearest 18 = .ok (.iconst 0, 1) := dk_3 (dk_at dksX0_nearest_0 18 rfl rfl)
theorem dX0_nearest_19 : decode cX0_nearest 19 = .ok (.ireturn, 1) := dk_172 (dk_at dksX0_nearest_0 19 rfl rfl)
abbrev cX0_brief : ByteArray := method_35_code
def yX0_brief : MethodName := ⟨RX0, "brief", "(LStenohall;[D)I"⟩
def dkwX0_brief_0 : List UInt8 := [43, 3, 42, 182, 0, 125, 141, 82, 167, 0, 6, 77, 4, 172, 3, 172]
abbrev dktX0_brief_0 : List UInt8 := dkwX0_brief_0 ++ []
theorem dksX0_brief_0 : cX0_brief.data.toList.drop 0 = dktX0_brief_0 := by decide +kernel
theorem dX0_brief_0 : decode cX0_brief 0 = .ok (.aload_n 1, 1) := dk_43 (dk_at dksX0_brief_0 0 rfl rfl)
theorem dX0_brief_1 : decode cX0_brief 1 = .ok (.iconst 0, 1) := dk_3 (dk_at dksX0_brief_0 1 rfl rfl)
theorem dX0_brief_2 : decode cX0_brief 2 = .ok (.aload_n 0, 1) := dk_42 (dk_at dksX0_brief_0 2 rfl rfl)
theorem dX0_brief_3 : decode cX0_brief 3 = .ok (.invokevirtual 125, 3) := dk_182 0 125 (dk_at dksX0_brief_0 3 rfl rfl)
theorem dX0_brief_6 : decode cX0_brief 6 = .ok (.f2d, 1) := dk_141 (dk_at dksX0_brief_0 6 rfl rfl)
theorem dX0_brief_7 : decode cX0_brief 7 = .ok (.dastore, 1) := dk_82 (dk_at dksX0_brief_0 7 rfl rfl)
theorem dX0_brief_8 : decode cX0_brief 8 = .ok (.goto 6, 3) := dk_167 0 6 (dk_at dksX0_brief_0 8 rfl rfl)
theorem dX0_brief_11 : decode cX0_brief 11 = .ok (.astore_n 2, 1) := dk_77 (dk_at dksX0_brief_0 11 rfl rfl)
theorem dX0_brief_12 : decode cX0_brief 12 = .ok (.iconst 1, 1) := dk_4 (dk_at dksX0_brief_0 12 rfl rfl)
theorem dX0_brief_13 : decode cX0_brief 13 = .ok (.ireturn, 1) := dk_172 (dk_at dksX0_brief_0 13 rfl rfl)
theorem dX0_brief_14 : decode cX0_brief 14 = .ok (.iconst 0, 1) := dk_3 (dk_at dksX0_brief_0 14 rfl rfl)
theorem dX0_brief_15 : decode cX0_brief 15 = .ok (.ireturn, 1) := dk_172 (dk_at dksX0_brief_0 15 rfl rfl)
abbrev cX0_delay : ByteArray := method_36_code
def yX0_delay : MethodName := ⟨RX0, "delay", "(LStenohall;[D)I"⟩
def dkwX0_delay_0 : List UInt8 := [43, 3, 42, 182, 0, 131, 82, 167, 0, 6, 77, 4, 172, 3, 172]
abbrev dktX0_delay_0 : List UInt8 := dkwX0_delay_0 ++ []
theorem dksX0_delay_0 : cX0_delay.data.toList.drop 0 = dktX0_delay_0 := by decide +kernel
theorem dX0_delay_0 : decode cX0_delay 0 = .ok (.aload_n 1, 1) := dk_43 (dk_at dksX0_delay_0 0 rfl rfl)
theorem dX0_delay_1 : decode cX0_delay 1 = .ok (.iconst 0, 1) := dk_3 (dk_at dksX0_delay_0 1 rfl rfl)
theorem dX0_delay_2 : decode cX0_delay 2 = .ok (.aload_n 0, 1) := dk_42 (dk_at dksX0_delay_0 2 rfl rfl)
theorem dX0_delay_3 : decode cX0_delay 3 = .ok (.invokevirtual 131, 3) := dk_182 0 131 (dk_at dksX0_delay_0 3 rfl rfl)
theorem dX0_delay_6 : decode cX0_delay 6 = .ok (.dastore, 1) := dk_82 (dk_at dksX0_delay_0 6 rfl rfl)
theorem dX0_delay_7 : decode cX0_delay 7 = .ok (.goto 6, 3) := dk_167 0 6 (dk_at dksX0_delay_0 7 rfl rfl)
theorem dX0_delay_10 : decode cX0_delay 10 = .ok (.astore_n 2, 1) := dk_77 (dk_at dksX0_delay_0 10 rfl rfl)
theorem dX0_delay_11 : decode cX0_delay 11 = .ok (.iconst 1, 1) := dk_4 (dk_at dksX0_delay_0 11 rfl rfl)
theorem dX0_delay_12 : decode cX0_delay 12 = .ok (.ireturn, 1) := dk_172 (dk_at dksX0_delay_0 12 rfl rfl)
theorem dX0_delay_13 : decode cX0_delay 13 = .ok (.iconst 0, 1) := dk_3 (dk_at dksX0_delay_0 13 rfl rfl)
theorem dX0_delay_14 : decode cX0_delay 14 = .ok (.ireturn, 1) := dk_172 (dk_at dksX0_delay_0 14 rfl rfl)
theorem q74 : (Jvm.Cond.initialized "StenohallLaw") ∈ lw_all := lw_g (lw_at lw_m1 0 rfl) rfl
theorem q155 : (Jvm.Cond.classLink "StenohallLaw" (8 : Nat) "Stenohall") ∈ lw_all := lw_g (lw_at lw_m1 81 rfl) rfl
theorem q157 : (Jvm.Cond.methodLink "StenohallLaw" (135 : Nat) ({ cls := "Stenohall", name := "<init>", desc := "()V" } : Jvm.MethodName)) ∈ lw_all := lw_g (lw_at lw_m1 83 rfl) rfl
theorem q817 : (Jvm.Cond.methodLink "StenohallLaw" (162 : Nat) ({ cls := "Stenohall", name := "strokes", desc := "()I" } : Jvm.MethodName)) ∈ lw_all := lw_g (lw_at lw_m4 23 rfl) rfl
theorem q822 : (Jvm.Cond.methodLink "StenohallLaw" (175 : Nat) ({ cls := "Stenohall", name := "wipe", desc := "()I" } : Jvm.MethodName)) ∈ lw_all := lw_g (lw_at lw_m4 28 rfl) rfl
theorem q900 : (Jvm.Cond.methodLink "StenohallLaw" (199 : Nat) ({ cls := "Stenohall", name := "isWord", desc := "()Z" } : Jvm.MethodName)) ∈ lw_all := lw_g (lw_at lw_m4 106 rfl) rfl
theorem q989 : (Jvm.Cond.methodLink "StenohallLaw" (207 : Nat) ({ cls := "Stenohall", name := "forget", desc := "()I" } : Jvm.MethodName)) ∈ lw_all := lw_g (lw_at lw_m4 195 rfl) rfl
theorem q2391 : (Jvm.Cond.methodLink "StenohallLaw" (211 : Nat) ({ cls := "Stenohall", name := "length", desc := "()I" } : Jvm.MethodName)) ∈ lw_all := lw_g (lw_at lw_m10 157 rfl) rfl
theorem q2395 : (Jvm.Cond.methodLink "StenohallLaw" (221 : Nat) ({ cls := "Stenohall", name := "words", desc := "()I" } : Jvm.MethodName)) ∈ lw_all := lw_g (lw_at lw_m10 161 rfl) rfl
theorem q2403 : (Jvm.Cond.methodLink "StenohallLaw" (225 : Nat) ({ cls := "Stenohall", name := "translations", desc := "()I" } : Jvm.MethodName)) ∈ lw_all := lw_g (lw_at lw_m10 169 rfl) rfl
theorem q2407 : (Jvm.Cond.methodLink "StenohallLaw" (244 : Nat) ({ cls := "Stenohall", name := "now", desc := "()I" } : Jvm.MethodName)) ∈ lw_all := lw_g (lw_at lw_m10 173 rfl) rfl
theorem q2411 : (Jvm.Cond.methodLink "StenohallLaw" (264 : Nat) ({ cls := "Stenohall", name := "lines", desc := "()I" } : Jvm.MethodName)) ∈ lw_all := lw_g (lw_at lw_m10 177 rfl) rfl
theorem q2424 : (Jvm.Cond.methodLink "StenohallLaw" (277 : Nat) ({ cls := "Stenohall", name := "brailleLength", desc := "()I" } : Jvm.MethodName)) ∈ lw_all := lw_g (lw_at lw_m10 190 rfl) rfl
theorem q2448 : (Jvm.Cond.methodLink "StenohallLaw" (284 : Nat) ({ cls := "Stenohall", name := "misses", desc := "()I" } : Jvm.MethodName)) ∈ lw_all := lw_g (lw_at lw_m10 214 rfl) rfl
theorem q2452 : (Jvm.Cond.methodLink "StenohallLaw" (291 : Nat) ({ cls := "Stenohall", name := "saving", desc := "()I" } : Jvm.MethodName)) ∈ lw_all := lw_g (lw_at lw_m10 218 rfl) rfl
theorem q2459 : (Jvm.Cond.methodLink "StenohallLaw" (302 : Nat) ({ cls := "Stenohall", name := "checksum", desc := "()J" } : Jvm.MethodName)) ∈ lw_all := lw_g (lw_at lw_m10 225 rfl) rfl
theorem q2465 : (Jvm.Cond.methodLink "StenohallLaw" (307 : Nat) ({ cls := "Stenohall", name := "isSound", desc := "()Z" } : Jvm.MethodName)) ∈ lw_all := lw_g (lw_at lw_m10 231 rfl) rfl
theorem q2651 : (Jvm.Cond.methodLink "StenohallLaw" (139 : Nat) ({ cls := "StenohallLaw", name := "mode", desc := "(LStenohall;C[J)I" } : Jvm.MethodName)) ∈ lw_all := lw_g (lw_at lw_m11 177 rfl) rfl
theorem q2652 : (Jvm.Cond.static ({ cls := "StenohallLaw", name := "mode", desc := "(LStenohall;C[J)I" } : Jvm.MethodName)) ∈ lw_all := lw_g (lw_at lw_m11 178 rfl) rfl
theorem q2653 : (Jvm.Cond.codeWith ({ cls := "StenohallLaw", name := "mode", desc := "(LStenohall;C[J)I" } : Jvm.MethodName) method_3_code (4 : Nat) (Option.some Jvm.ClassFile.FieldType.int) [((0 : Nat), (16 : Nat), (19 : Nat), (13 : Nat)), ((0 : Nat), (16 : Nat), (22 : Nat), (15 : Nat))]) ∈ lw_all := lw_g (lw_at lw_m11 179 rfl) rfl
theorem q2654 : (Jvm.Cond.classLink "StenohallLaw" (13 : Nat) "java/lang/IllegalArgumentException") ∈ lw_all := lw_g (lw_at lw_m11 180 rfl) rfl
theorem q2655 : (Jvm.Cond.classLink "StenohallLaw" (15 : Nat) "java/lang/IllegalStateException") ∈ lw_all := lw_g (lw_at lw_m11 181 rfl) rfl
theorem q2656 : (Jvm.Cond.methodLink "StenohallLaw" (7 : Nat) ({ cls := "Stenohall", name := "mode", desc := "(C)Z" } : Jvm.MethodName)) ∈ lw_all := lw_g (lw_at lw_m11 182 rfl) rfl
theorem q2686 : (Jvm.Cond.methodLink "StenohallLaw" (148 : Nat) ({ cls := "StenohallLaw", name := "down", desc := "(LStenohall;I[J)I" } : Jvm.MethodName)) ∈ lw_all := lw_g (lw_at lw_m11 212 rfl) rfl
theorem q2687 : (Jvm.Cond.static ({ cls := "StenohallLaw", name := "down", desc := "(LStenohall;I[J)I" } : Jvm.MethodName)) ∈ lw_all := lw_g (lw_at lw_m11 213 rfl) rfl
theorem q2688 : (Jvm.Cond.codeWith ({ cls := "StenohallLaw", name := "down", desc := "(LStenohall;I[J)I" } : Jvm.MethodName) method_4_code (4 : Nat) (Option.some Jvm.ClassFile.FieldType.int) [((0 : Nat), (9 : Nat), (12 : Nat), (21 : Nat)), ((0 : Nat), (9 : Nat), (15 : Nat), (23 : Nat))]) ∈ lw_all := lw_g (lw_at lw_m11 214 rfl) rfl
theorem q2689 : (Jvm.Cond.classLink "StenohallLaw" (21 : Nat) "java/lang/IndexOutOfBoundsException") ∈ lw_all := lw_g (lw_at lw_m11 215 rfl) rfl
theorem q2692 : (Jvm.Cond.classLink "StenohallLaw" (23 : Nat) "java/lang/UnsupportedOperationException") ∈ lw_all := lw_g (lw_at lw_m11 218 rfl) rfl
theorem q2693 : (Jvm.Cond.methodLink "StenohallLaw" (17 : Nat) ({ cls := "Stenohall", name := "down", desc := "(I)I" } : Jvm.MethodName)) ∈ lw_all := lw_g (lw_at lw_m11 219 rfl) rfl
theorem q2723 : (Jvm.Cond.methodLink "StenohallLaw" (152 : Nat) ({ cls := "StenohallLaw", name := "up", desc := "(LStenohall;I[J)I" } : Jvm.MethodName)) ∈ lw_all := lw_g (lw_at lw_m12 9 rfl) rfl
theorem q2724 : (Jvm.Cond.static ({ cls := "StenohallLaw", name := "up", desc := "(LStenohall;I[J)I" } : Jvm.MethodName)) ∈ lw_all := lw_g (lw_at lw_m12 10 rfl) rfl
theorem q2725 : (Jvm.Cond.codeWith ({ cls := "StenohallLaw", name := "up", desc := "(LStenohall;I[J)I" } : Jvm.MethodName) method_5_code (4 : Nat) (Option.some Jvm.ClassFile.FieldType.int) [((0 : Nat), (9 : Nat), (12 : Nat), (21 : Nat)), ((0 : Nat), (9 : Nat), (15 : Nat), (23 : Nat)), ((0 : Nat), (9 : Nat), (18 : Nat), (15 : Nat))]) ∈ lw_all := lw_g (lw_at lw_m12 11 rfl) rfl
theorem q2726 : (Jvm.Cond.methodLink "StenohallLaw" (25 : Nat) ({ cls := "Stenohall", name := "up", desc := "(I)I" } : Jvm.MethodName)) ∈ lw_all := lw_g (lw_at lw_m12 12 rfl) rfl
theorem q2746 : (Jvm.Cond.methodLink "StenohallLaw" (155 : Nat) ({ cls := "StenohallLaw", name := "stroke", desc := "(LStenohall;I[J)I" } : Jvm.MethodName)) ∈ lw_all := lw_g (lw_at lw_m12 32 rfl) rfl
theorem q2747 : (Jvm.Cond.static ({ cls := "StenohallLaw", name := "stroke", desc := "(LStenohall;I[J)I" } : Jvm.MethodName)) ∈ lw_all := lw_g (lw_at lw_m12 33 rfl) rfl
theorem q2748 : (Jvm.Cond.codeWith ({ cls := "StenohallLaw", name := "stroke", desc := "(LStenohall;I[J)I" } : Jvm.MethodName) method_6_code (4 : Nat) (Option.some Jvm.ClassFile.FieldType.int) [((0 : Nat), (9 : Nat), (12 : Nat), (13 : Nat)), ((0 : Nat), (9 : Nat), (15 : Nat), (15 : Nat))]) ∈ lw_all := lw_g (lw_at lw_m12 34 rfl) rfl
theorem q2749 : (Jvm.Cond.methodLink "StenohallLaw" (28 : Nat) ({ cls := "Stenohall", name := "stroke", desc := "(I)I" } : Jvm.MethodName)) ∈ lw_all := lw_g (lw_at lw_m12 35 rfl) rfl
theorem q2754 : (Jvm.Cond.methodLink "StenohallLaw" (158 : Nat) ({ cls := "StenohallLaw", name := "undo", desc := "(LStenohall;[J)I" } : Jvm.MethodName)) ∈ lw_all := lw_g (lw_at lw_m12 40 rfl) rfl
theorem q2755 : (Jvm.Cond.static ({ cls := "StenohallLaw", name := "undo", desc := "(LStenohall;[J)I" } : Jvm.MethodName)) ∈ lw_all := lw_g (lw_at lw_m12 41 rfl) rfl
theorem q2756 : (Jvm.Cond.codeWith ({ cls := "StenohallLaw", name := "undo", desc := "(LStenohall;[J)I" } : Jvm.MethodName) method_7_code (3 : Nat) (Option.some Jvm.ClassFile.FieldType.int) [((0 : Nat), (8 : Nat), (11 : Nat), (35 : Nat))]) ∈ lw_all := lw_g (lw_at lw_m12 42 rfl) rfl
theorem q2757 : (Jvm.Cond.classLink "StenohallLaw" (35 : Nat) "java/util/NoSuchElementException") ∈ lw_all := lw_g (lw_at lw_m12 43 rfl) rfl
theorem q2758 : (Jvm.Cond.methodLink "StenohallLaw" (31 : Nat) ({ cls := "Stenohall", name := "undo", desc := "()I" } : Jvm.MethodName)) ∈ lw_all := lw_g (lw_at lw_m12 44 rfl) rfl
theorem q2764 : (Jvm.Cond.methodLink "StenohallLaw" (166 : Nat) ({ cls := "StenohallLaw", name := "strokeAt", desc := "(LStenohall;I[J)I" } : Jvm.MethodName)) ∈ lw_all := lw_g (lw_at lw_m12 50 rfl) rfl
theorem q2765 : (Jvm.Cond.static ({ cls := "StenohallLaw", name := "strokeAt", desc := "(LStenohall;I[J)I" } : Jvm.MethodName)) ∈ lw_all := lw_g (lw_at lw_m12 51 rfl) rfl
theorem q2766 : (Jvm.Cond.codeWith ({ cls := "StenohallLaw", name := "strokeAt", desc := "(LStenohall;I[J)I" } : Jvm.MethodName) method_8_code (4 : Nat) (Option.some Jvm.ClassFile.FieldType.int) [((0 : Nat), (9 : Nat), (12 : Nat), (21 : Nat))]) ∈ lw_all := lw_g (lw_at lw_m12 52 rfl) rfl
theorem q2767 : (Jvm.Cond.methodLink "StenohallLaw" (37 : Nat) ({ cls := "Stenohall", name := "strokeAt", desc := "(I)I" } : Jvm.MethodName)) ∈ lw_all := lw_g (lw_at lw_m12 53 rfl) rfl
theorem q2771 : (Jvm.Cond.methodLink "StenohallLaw" (169 : Nat) ({ cls := "StenohallLaw", name := "chord", desc := "(LStenohall;I[J)I" } : Jvm.MethodName)) ∈ lw_all := lw_g (lw_at lw_m12 57 rfl) rfl
theorem q2772 : (Jvm.Cond.static ({ cls := "StenohallLaw", name := "chord", desc := "(LStenohall;I[J)I" } : Jvm.MethodName)) ∈ lw_all := lw_g (lw_at lw_m12 58 rfl) rfl
theorem q2773 : (Jvm.Cond.codeWith ({ cls := "StenohallLaw", name := "chord", desc := "(LStenohall;I[J)I" } : Jvm.MethodName) method_9_code (4 : Nat) (Option.some Jvm.ClassFile.FieldType.int) [((0 : Nat), (9 : Nat), (12 : Nat), (13 : Nat)), ((0 : Nat), (9 : Nat), (15 : Nat), (15 : Nat))]) ∈ lw_all := lw_g (lw_at lw_m12 59 rfl) rfl
theorem q2774 : (Jvm.Cond.methodLink "StenohallLaw" (40 : Nat) ({ cls := "Stenohall", name := "chord", desc := "(I)I" } : Jvm.MethodName)) ∈ lw_all := lw_g (lw_at lw_m12 60 rfl) rfl
theorem q2778 : (Jvm.Cond.methodLink "StenohallLaw" (172 : Nat) ({ cls := "StenohallLaw", name := "sign", desc := "(LStenohall;C[J)I" } : Jvm.MethodName)) ∈ lw_all := lw_g (lw_at lw_m12 64 rfl) rfl
theorem q2779 : (Jvm.Cond.static ({ cls := "StenohallLaw", name := "sign", desc := "(LStenohall;C[J)I" } : Jvm.MethodName)) ∈ lw_all := lw_g (lw_at lw_m12 65 rfl) rfl
theorem q2780 : (Jvm.Cond.codeWith ({ cls := "StenohallLaw", name := "sign", desc := "(LStenohall;C[J)I" } : Jvm.MethodName) method_10_code (4 : Nat) (Option.some Jvm.ClassFile.FieldType.int) [((0 : Nat), (9 : Nat), (12 : Nat), (13 : Nat)), ((0 : Nat), (9 : Nat), (15 : Nat), (15 : Nat))]) ∈ lw_all := lw_g (lw_at lw_m12 66 rfl) rfl
theorem q2781 : (Jvm.Cond.methodLink "StenohallLaw" (43 : Nat) ({ cls := "Stenohall", name := "sign", desc := "(C)I" } : Jvm.MethodName)) ∈ lw_all := lw_g (lw_at lw_m12 67 rfl) rfl
theorem q2786 : (Jvm.Cond.methodLink "StenohallLaw" (179 : Nat) ({ cls := "StenohallLaw", name := "entry", desc := "(LStenohall;I[J)I" } : Jvm.MethodName)) ∈ lw_all := lw_g (lw_at lw_m12 72 rfl) rfl
theorem q2787 : (Jvm.Cond.static ({ cls := "StenohallLaw", name := "entry", desc := "(LStenohall;I[J)I" } : Jvm.MethodName)) ∈ lw_all := lw_g (lw_at lw_m12 73 rfl) rfl
theorem q2788 : (Jvm.Cond.codeWith ({ cls := "StenohallLaw", name := "entry", desc := "(LStenohall;I[J)I" } : Jvm.MethodName) method_11_code (4 : Nat) (Option.some Jvm.ClassFile.FieldType.int) [((0 : Nat), (16 : Nat), (19 : Nat), (21 : Nat)), ((0 : Nat), (16 : Nat), (22 : Nat), (23 : Nat)), ((0 : Nat), (16 : Nat), (25 : Nat), (15 : Nat))]) ∈ lw_all := lw_g (lw_at lw_m12 74 rfl) rfl
theorem q2789 : (Jvm.Cond.methodLink "StenohallLaw" (47 : Nat) ({ cls := "Stenohall", name := "entry", desc := "(I)Z" } : Jvm.MethodName)) ∈ lw_all := lw_g (lw_at lw_m12 75 rfl) rfl
theorem q2957 : (Jvm.Cond.methodLink "StenohallLaw" (182 : Nat) ({ cls := "StenohallLaw", name := "alternative", desc := "(LStenohall;IC[J)I" } : Jvm.MethodName)) ∈ lw_all := lw_g (lw_at lw_m13 3 rfl) rfl
theorem q2958 : (Jvm.Cond.static ({ cls := "StenohallLaw", name := "alternative", desc := "(LStenohall;IC[J)I" } : Jvm.MethodName)) ∈ lw_all := lw_g (lw_at lw_m13 4 rfl) rfl
theorem q2959 : (Jvm.Cond.codeWith ({ cls := "StenohallLaw", name := "alternative", desc := "(LStenohall;IC[J)I" } : Jvm.MethodName) method_12_code (5 : Nat) (Option.some Jvm.ClassFile.FieldType.int) [((0 : Nat), (10 : Nat), (13 : Nat), (21 : Nat)), ((0 : Nat), (10 : Nat), (17 : Nat), (13 : Nat)), ((0 : Nat), (10 : Nat), (21 : Nat), (23 : Nat)), ((0 : Nat), (10 : Nat), (25 : Nat), (15 : Nat))]) ∈ lw_all := lw_g (lw_at lw_m13 5 rfl) rfl
theorem q2960 : (Jvm.Cond.methodLink "StenohallLaw" (51 : Nat) ({ cls := "Stenohall", name := "alternative", desc := "(IC)I" } : Jvm.MethodName)) ∈ lw_all := lw_g (lw_at lw_m13 6 rfl) rfl
theorem q2976 : (Jvm.Cond.methodLink "StenohallLaw" (186 : Nat) ({ cls := "StenohallLaw", name := "remove", desc := "(LStenohall;I[J)I" } : Jvm.MethodName)) ∈ lw_all := lw_g (lw_at lw_m13 22 rfl) rfl
theorem q2977 : (Jvm.Cond.static ({ cls := "StenohallLaw", name := "remove", desc := "(LStenohall;I[J)I" } : Jvm.MethodName)) ∈ lw_all := lw_g (lw_at lw_m13 23 rfl) rfl
theorem q2978 : (Jvm.Cond.codeWith ({ cls := "StenohallLaw", name := "remove", desc := "(LStenohall;I[J)I" } : Jvm.MethodName) method_13_code (4 : Nat) (Option.some Jvm.ClassFile.FieldType.int) [((0 : Nat), (16 : Nat), (19 : Nat), (21 : Nat))]) ∈ lw_all := lw_g (lw_at lw_m13 24 rfl) rfl
theorem q2979 : (Jvm.Cond.methodLink "StenohallLaw" (55 : Nat) ({ cls := "Stenohall", name := "remove", desc := "(I)Z" } : Jvm.MethodName)) ∈ lw_all := lw_g (lw_at lw_m13 25 rfl) rfl
theorem q2983 : (Jvm.Cond.methodLink "StenohallLaw" (189 : Nat) ({ cls := "StenohallLaw", name := "turn", desc := "(LStenohall;IZ[J)I" } : Jvm.MethodName)) ∈ lw_all := lw_g (lw_at lw_m13 29 rfl) rfl
theorem q2984 : (Jvm.Cond.static ({ cls := "StenohallLaw", name := "turn", desc := "(LStenohall;IZ[J)I" } : Jvm.MethodName)) ∈ lw_all := lw_g (lw_at lw_m13 30 rfl) rfl
theorem q2985 : (Jvm.Cond.codeWith ({ cls := "StenohallLaw", name := "turn", desc := "(LStenohall;IZ[J)I" } : Jvm.MethodName) method_14_code (5 : Nat) (Option.some Jvm.ClassFile.FieldType.int) [((0 : Nat), (17 : Nat), (20 : Nat), (21 : Nat))]) ∈ lw_all := lw_g (lw_at lw_m13 31 rfl) rfl
theorem q2986 : (Jvm.Cond.methodLink "StenohallLaw" (58 : Nat) ({ cls := "Stenohall", name := "turn", desc := "(IZ)Z" } : Jvm.MethodName)) ∈ lw_all := lw_g (lw_at lw_m13 32 rfl) rfl
theorem q2990 : (Jvm.Cond.methodLink "StenohallLaw" (193 : Nat) ({ cls := "StenohallLaw", name := "entries", desc := "(LStenohall;I[J)I" } : Jvm.MethodName)) ∈ lw_all := lw_g (lw_at lw_m13 36 rfl) rfl
theorem q2991 : (Jvm.Cond.static ({ cls := "StenohallLaw", name := "entries", desc := "(LStenohall;I[J)I" } : Jvm.MethodName)) ∈ lw_all := lw_g (lw_at lw_m13 37 rfl) rfl
theorem q2992 : (Jvm.Cond.codeWith ({ cls := "StenohallLaw", name := "entries", desc := "(LStenohall;I[J)I" } : Jvm.MethodName) method_15_code (4 : Nat) (Option.some Jvm.ClassFile.FieldType.int) [((0 : Nat), (9 : Nat), (12 : Nat), (21 : Nat))]) ∈ lw_all := lw_g (lw_at lw_m13 38 rfl) rfl
theorem q2993 : (Jvm.Cond.methodLink "StenohallLaw" (62 : Nat) ({ cls := "Stenohall", name := "entries", desc := "(I)I" } : Jvm.MethodName)) ∈ lw_all := lw_g (lw_at lw_m13 39 rfl) rfl
theorem q2997 : (Jvm.Cond.methodLink "StenohallLaw" (196 : Nat) ({ cls := "StenohallLaw", name := "word", desc := "(LStenohall;[J)I" } : Jvm.MethodName)) ∈ lw_all := lw_g (lw_at lw_m13 43 rfl) rfl
theorem q2998 : (Jvm.Cond.static ({ cls := "StenohallLaw", name := "word", desc := "(LStenohall;[J)I" } : Jvm.MethodName)) ∈ lw_all := lw_g (lw_at lw_m13 44 rfl) rfl
theorem q2999 : (Jvm.Cond.codeWith ({ cls := "StenohallLaw", name := "word", desc := "(LStenohall;[J)I" } : Jvm.MethodName) method_16_code (3 : Nat) (Option.some Jvm.ClassFile.FieldType.int) [((0 : Nat), (8 : Nat), (11 : Nat), (23 : Nat)), ((0 : Nat), (8 : Nat), (14 : Nat), (15 : Nat))]) ∈ lw_all := lw_g (lw_at lw_m13 45 rfl) rfl
theorem q3000 : (Jvm.Cond.methodLink "StenohallLaw" (65 : Nat) ({ cls := "Stenohall", name := "word", desc := "()I" } : Jvm.MethodName)) ∈ lw_all := lw_g (lw_at lw_m13 46 rfl) rfl
theorem q3009 : (Jvm.Cond.methodLink "StenohallLaw" (204 : Nat) ({ cls := "StenohallLaw", name := "rule", desc := "(LStenohall;C[J)I" } : Jvm.MethodName)) ∈ lw_all := lw_g (lw_at lw_m13 55 rfl) rfl
theorem q3010 : (Jvm.Cond.static ({ cls := "StenohallLaw", name := "rule", desc := "(LStenohall;C[J)I" } : Jvm.MethodName)) ∈ lw_all := lw_g (lw_at lw_m13 56 rfl) rfl
theorem q3011 : (Jvm.Cond.codeWith ({ cls := "StenohallLaw", name := "rule", desc := "(LStenohall;C[J)I" } : Jvm.MethodName) method_17_code (4 : Nat) (Option.some Jvm.ClassFile.FieldType.int) [((0 : Nat), (9 : Nat), (12 : Nat), (13 : Nat)), ((0 : Nat), (9 : Nat), (15 : Nat), (23 : Nat))]) ∈ lw_all := lw_g (lw_at lw_m13 57 rfl) rfl
theorem q3012 : (Jvm.Cond.methodLink "StenohallLaw" (68 : Nat) ({ cls := "Stenohall", name := "rule", desc := "(C)I" } : Jvm.MethodName)) ∈ lw_all := lw_g (lw_at lw_m13 58 rfl) rfl
theorem q3067 : (Jvm.Cond.methodLink "StenohallLaw" (215 : Nat) ({ cls := "StenohallLaw", name := "at", desc := "(LStenohall;I[J)I" } : Jvm.MethodName)) ∈ lw_all := lw_g (lw_at lw_m13 113 rfl) rfl
theorem q3068 : (Jvm.Cond.static ({ cls := "StenohallLaw", name := "at", desc := "(LStenohall;I[J)I" } : Jvm.MethodName)) ∈ lw_all := lw_g (lw_at lw_m13 114 rfl) rfl
theorem q3069 : (Jvm.Cond.codeWith ({ cls := "StenohallLaw", name := "at", desc := "(LStenohall;I[J)I" } : Jvm.MethodName) method_18_code (4 : Nat) (Option.some Jvm.ClassFile.FieldType.int) [((0 : Nat), (9 : Nat), (12 : Nat), (21 : Nat))]) ∈ lw_all := lw_g (lw_at lw_m13 115 rfl) rfl
theorem q3070 : (Jvm.Cond.methodLink "StenohallLaw" (71 : Nat) ({ cls := "Stenohall", name := "at", desc := "(I)C" } : Jvm.MethodName)) ∈ lw_all := lw_g (lw_at lw_m13 116 rfl) rfl
theorem q3078 : (Jvm.Cond.methodLink "StenohallLaw" (218 : Nat) ({ cls := "StenohallLaw", name := "time", desc := "(LStenohall;I[J)I" } : Jvm.MethodName)) ∈ lw_all := lw_g (lw_at lw_m13 124 rfl) rfl
theorem q3079 : (Jvm.Cond.static ({ cls := "StenohallLaw", name := "time", desc := "(LStenohall;I[J)I" } : Jvm.MethodName)) ∈ lw_all := lw_g (lw_at lw_m13 125 rfl) rfl
theorem q3080 : (Jvm.Cond.codeWith ({ cls := "StenohallLaw", name := "time", desc := "(LStenohall;I[J)I" } : Jvm.MethodName) method_19_code (4 : Nat) (Option.some Jvm.ClassFile.FieldType.int) [((0 : Nat), (9 : Nat), (12 : Nat), (21 : Nat))]) ∈ lw_all := lw_g (lw_at lw_m13 126 rfl) rfl
theorem q3081 : (Jvm.Cond.methodLink "StenohallLaw" (75 : Nat) ({ cls := "Stenohall", name := "time", desc := "(I)I" } : Jvm.MethodName)) ∈ lw_all := lw_g (lw_at lw_m13 127 rfl) rfl
theorem q3085 : (Jvm.Cond.methodLink "StenohallLaw" (229 : Nat) ({ cls := "StenohallLaw", name := "strokesOf", desc := "(LStenohall;I[J)I" } : Jvm.MethodName)) ∈ lw_all := lw_g (lw_at lw_m13 131 rfl) rfl
theorem q3086 : (Jvm.Cond.static ({ cls := "StenohallLaw", name := "strokesOf", desc := "(LStenohall;I[J)I" } : Jvm.MethodName)) ∈ lw_all := lw_g (lw_at lw_m13 132 rfl) rfl
theorem q3087 : (Jvm.Cond.codeWith ({ cls := "StenohallLaw", name := "strokesOf", desc := "(LStenohall;I[J)I" } : Jvm.MethodName) method_20_code (4 : Nat) (Option.some Jvm.ClassFile.FieldType.int) [((0 : Nat), (9 : Nat), (12 : Nat), (21 : Nat))]) ∈ lw_all := lw_g (lw_at lw_m13 133 rfl) rfl
theorem q3088 : (Jvm.Cond.methodLink "StenohallLaw" (78 : Nat) ({ cls := "Stenohall", name := "strokesOf", desc := "(I)I" } : Jvm.MethodName)) ∈ lw_all := lw_g (lw_at lw_m13 134 rfl) rfl
theorem q3096 : (Jvm.Cond.methodLink "StenohallLaw" (232 : Nat) ({ cls := "StenohallLaw", name := "layerOf", desc := "(LStenohall;I[J)I" } : Jvm.MethodName)) ∈ lw_all := lw_g (lw_at lw_m13 142 rfl) rfl
theorem q3097 : (Jvm.Cond.static ({ cls := "StenohallLaw", name := "layerOf", desc := "(LStenohall;I[J)I" } : Jvm.MethodName)) ∈ lw_all := lw_g (lw_at lw_m13 143 rfl) rfl
theorem q3098 : (Jvm.Cond.codeWith ({ cls := "StenohallLaw", name := "layerOf", desc := "(LStenohall;I[J)I" } : Jvm.MethodName) method_21_code (4 : Nat) (Option.some Jvm.ClassFile.FieldType.int) [((0 : Nat), (9 : Nat), (12 : Nat), (21 : Nat))]) ∈ lw_all := lw_g (lw_at lw_m13 144 rfl) rfl
theorem q3099 : (Jvm.Cond.methodLink "StenohallLaw" (81 : Nat) ({ cls := "Stenohall", name := "layerOf", desc := "(I)I" } : Jvm.MethodName)) ∈ lw_all := lw_g (lw_at lw_m13 145 rfl) rfl
theorem q3107 : (Jvm.Cond.methodLink "StenohallLaw" (235 : Nat) ({ cls := "StenohallLaw", name := "chosen", desc := "(LStenohall;I[J)I" } : Jvm.MethodName)) ∈ lw_all := lw_g (lw_at lw_m13 153 rfl) rfl
theorem q3108 : (Jvm.Cond.static ({ cls := "StenohallLaw", name := "chosen", desc := "(LStenohall;I[J)I" } : Jvm.MethodName)) ∈ lw_all := lw_g (lw_at lw_m13 154 rfl) rfl
theorem q3109 : (Jvm.Cond.codeWith ({ cls := "StenohallLaw", name := "chosen", desc := "(LStenohall;I[J)I" } : Jvm.MethodName) method_22_code (4 : Nat) (Option.some Jvm.ClassFile.FieldType.int) [((0 : Nat), (9 : Nat), (12 : Nat), (21 : Nat))]) ∈ lw_all := lw_g (lw_at lw_m13 155 rfl) rfl
theorem q3110 : (Jvm.Cond.methodLink "StenohallLaw" (84 : Nat) ({ cls := "Stenohall", name := "chosen", desc := "(I)I" } : Jvm.MethodName)) ∈ lw_all := lw_g (lw_at lw_m13 156 rfl) rfl
theorem q3114 : (Jvm.Cond.methodLink "StenohallLaw" (238 : Nat) ({ cls := "StenohallLaw", name := "fromOf", desc := "(LStenohall;I[J)I" } : Jvm.MethodName)) ∈ lw_all := lw_g (lw_at lw_m13 160 rfl) rfl
theorem q3115 : (Jvm.Cond.static ({ cls := "StenohallLaw", name := "fromOf", desc := "(LStenohall;I[J)I" } : Jvm.MethodName)) ∈ lw_all := lw_g (lw_at lw_m13 161 rfl) rfl
theorem q3116 : (Jvm.Cond.codeWith ({ cls := "StenohallLaw", name := "fromOf", desc := "(LStenohall;I[J)I" } : Jvm.MethodName) method_23_code (4 : Nat) (Option.some Jvm.ClassFile.FieldType.int) [((0 : Nat), (9 : Nat), (12 : Nat), (21 : Nat))]) ∈ lw_all := lw_g (lw_at lw_m13 162 rfl) rfl
theorem q3117 : (Jvm.Cond.methodLink "StenohallLaw" (87 : Nat) ({ cls := "Stenohall", name := "fromOf", desc := "(I)I" } : Jvm.MethodName)) ∈ lw_all := lw_g (lw_at lw_m13 163 rfl) rfl
theorem q3125 : (Jvm.Cond.methodLink "StenohallLaw" (241 : Nat) ({ cls := "StenohallLaw", name := "tick", desc := "(LStenohall;[J)I" } : Jvm.MethodName)) ∈ lw_all := lw_g (lw_at lw_m13 171 rfl) rfl
theorem q3126 : (Jvm.Cond.static ({ cls := "StenohallLaw", name := "tick", desc := "(LStenohall;[J)I" } : Jvm.MethodName)) ∈ lw_all := lw_g (lw_at lw_m13 172 rfl) rfl
theorem q3127 : (Jvm.Cond.codeWith ({ cls := "StenohallLaw", name := "tick", desc := "(LStenohall;[J)I" } : Jvm.MethodName) method_24_code (3 : Nat) (Option.some Jvm.ClassFile.FieldType.int) [((0 : Nat), (8 : Nat), (11 : Nat), (15 : Nat))]) ∈ lw_all := lw_g (lw_at lw_m13 173 rfl) rfl
theorem q3128 : (Jvm.Cond.methodLink "StenohallLaw" (90 : Nat) ({ cls := "Stenohall", name := "tick", desc := "()I" } : Jvm.MethodName)) ∈ lw_all := lw_g (lw_at lw_m13 174 rfl) rfl
theorem q3141 : (Jvm.Cond.methodLink "StenohallLaw" (248 : Nat) ({ cls := "StenohallLaw", name := "sink", desc := "(LStenohall;I[J)I" } : Jvm.MethodName)) ∈ lw_all := lw_g (lw_at lw_m13 187 rfl) rfl
theorem q3142 : (Jvm.Cond.static ({ cls := "StenohallLaw", name := "sink", desc := "(LStenohall;I[J)I" } : Jvm.MethodName)) ∈ lw_all := lw_g (lw_at lw_m13 188 rfl) rfl
theorem q3143 : (Jvm.Cond.codeWith ({ cls := "StenohallLaw", name := "sink", desc := "(LStenohall;I[J)I" } : Jvm.MethodName) method_25_code (4 : Nat) (Option.some Jvm.ClassFile.FieldType.int) [((0 : Nat), (9 : Nat), (12 : Nat), (13 : Nat)), ((0 : Nat), (9 : Nat), (15 : Nat), (15 : Nat))]) ∈ lw_all := lw_g (lw_at lw_m13 189 rfl) rfl
theorem q3144 : (Jvm.Cond.methodLink "StenohallLaw" (93 : Nat) ({ cls := "Stenohall", name := "sink", desc := "(I)I" } : Jvm.MethodName)) ∈ lw_all := lw_g (lw_at lw_m13 190 rfl) rfl
theorem q3168 : (Jvm.Cond.methodLink "StenohallLaw" (251 : Nat) ({ cls := "StenohallLaw", name := "shown", desc := "(LStenohall;I[J)I" } : Jvm.MethodName)) ∈ lw_all := lw_g (lw_at lw_m13 214 rfl) rfl
theorem q3169 : (Jvm.Cond.static ({ cls := "StenohallLaw", name := "shown", desc := "(LStenohall;I[J)I" } : Jvm.MethodName)) ∈ lw_all := lw_g (lw_at lw_m13 215 rfl) rfl
theorem q3170 : (Jvm.Cond.codeWith ({ cls := "StenohallLaw", name := "shown", desc := "(LStenohall;I[J)I" } : Jvm.MethodName) method_26_code (4 : Nat) (Option.some Jvm.ClassFile.FieldType.int) [((0 : Nat), (9 : Nat), (12 : Nat), (21 : Nat))]) ∈ lw_all := lw_g (lw_at lw_m13 216 rfl) rfl
theorem q3171 : (Jvm.Cond.methodLink "StenohallLaw" (96 : Nat) ({ cls := "Stenohall", name := "shown", desc := "(I)I" } : Jvm.MethodName)) ∈ lw_all := lw_g (lw_at lw_m13 217 rfl) rfl
theorem q3179 : (Jvm.Cond.methodLink "StenohallLaw" (254 : Nat) ({ cls := "StenohallLaw", name := "shownAt", desc := "(LStenohall;II[J)I" } : Jvm.MethodName)) ∈ lw_all := lw_g (lw_at lw_m13 225 rfl) rfl
theorem q3180 : (Jvm.Cond.static ({ cls := "StenohallLaw", name := "shownAt", desc := "(LStenohall;II[J)I" } : Jvm.MethodName)) ∈ lw_all := lw_g (lw_at lw_m13 226 rfl) rfl
theorem q3181 : (Jvm.Cond.codeWith ({ cls := "StenohallLaw", name := "shownAt", desc := "(LStenohall;II[J)I" } : Jvm.MethodName) method_27_code (5 : Nat) (Option.some Jvm.ClassFile.FieldType.int) [((0 : Nat), (10 : Nat), (13 : Nat), (21 : Nat)), ((0 : Nat), (10 : Nat), (17 : Nat), (35 : Nat))]) ∈ lw_all := lw_g (lw_at lw_m13 227 rfl) rfl
theorem q3182 : (Jvm.Cond.methodLink "StenohallLaw" (99 : Nat) ({ cls := "Stenohall", name := "shownAt", desc := "(II)C" } : Jvm.MethodName)) ∈ lw_all := lw_g (lw_at lw_m13 228 rfl) rfl
theorem q3186 : (Jvm.Cond.methodLink "StenohallLaw" (258 : Nat) ({ cls := "StenohallLaw", name := "takenBack", desc := "(LStenohall;I[J)I" } : Jvm.MethodName)) ∈ lw_all := lw_g (lw_at lw_m13 232 rfl) rfl
theorem q3187 : (Jvm.Cond.static ({ cls := "StenohallLaw", name := "takenBack", desc := "(LStenohall;I[J)I" } : Jvm.MethodName)) ∈ lw_all := lw_g (lw_at lw_m13 233 rfl) rfl
theorem q3188 : (Jvm.Cond.codeWith ({ cls := "StenohallLaw", name := "takenBack", desc := "(LStenohall;I[J)I" } : Jvm.MethodName) method_28_code (4 : Nat) (Option.some Jvm.ClassFile.FieldType.int) [((0 : Nat), (9 : Nat), (12 : Nat), (21 : Nat))]) ∈ lw_all := lw_g (lw_at lw_m13 234 rfl) rfl
theorem q3189 : (Jvm.Cond.methodLink "StenohallLaw" (103 : Nat) ({ cls := "Stenohall", name := "takenBack", desc := "(I)I" } : Jvm.MethodName)) ∈ lw_all := lw_g (lw_at lw_m13 235 rfl) rfl
theorem q3193 : (Jvm.Cond.methodLink "StenohallLaw" (261 : Nat) ({ cls := "StenohallLaw", name := "paper", desc := "(LStenohall;II[J)I" } : Jvm.MethodName)) ∈ lw_all := lw_g (lw_at lw_m13 239 rfl) rfl
theorem q3194 : (Jvm.Cond.static ({ cls := "StenohallLaw", name := "paper", desc := "(LStenohall;II[J)I" } : Jvm.MethodName)) ∈ lw_all := lw_g (lw_at lw_m14 0 rfl) rfl
theorem q3195 : (Jvm.Cond.codeWith ({ cls := "StenohallLaw", name := "paper", desc := "(LStenohall;II[J)I" } : Jvm.MethodName) method_29_code (5 : Nat) (Option.some Jvm.ClassFile.FieldType.int) [((0 : Nat), (10 : Nat), (13 : Nat), (13 : Nat))]) ∈ lw_all := lw_g (lw_at lw_m14 1 rfl) rfl
theorem q3196 : (Jvm.Cond.methodLink "StenohallLaw" (106 : Nat) ({ cls := "Stenohall", name := "paper", desc := "(II)I" } : Jvm.MethodName)) ∈ lw_all := lw_g (lw_at lw_m14 2 rfl) rfl
theorem q3204 : (Jvm.Cond.methodLink "StenohallLaw" (268 : Nat) ({ cls := "StenohallLaw", name := "lineOf", desc := "(LStenohall;I[J)I" } : Jvm.MethodName)) ∈ lw_all := lw_g (lw_at lw_m14 10 rfl) rfl
theorem q3205 : (Jvm.Cond.static ({ cls := "StenohallLaw", name := "lineOf", desc := "(LStenohall;I[J)I" } : Jvm.MethodName)) ∈ lw_all := lw_g (lw_at lw_m14 11 rfl) rfl
theorem q3206 : (Jvm.Cond.codeWith ({ cls := "StenohallLaw", name := "lineOf", desc := "(LStenohall;I[J)I" } : Jvm.MethodName) method_30_code (4 : Nat) (Option.some Jvm.ClassFile.FieldType.int) [((0 : Nat), (9 : Nat), (12 : Nat), (21 : Nat))]) ∈ lw_all := lw_g (lw_at lw_m14 12 rfl) rfl
theorem q3207 : (Jvm.Cond.methodLink "StenohallLaw" (110 : Nat) ({ cls := "Stenohall", name := "lineOf", desc := "(I)I" } : Jvm.MethodName)) ∈ lw_all := lw_g (lw_at lw_m14 13 rfl) rfl
theorem q3211 : (Jvm.Cond.methodLink "StenohallLaw" (271 : Nat) ({ cls := "StenohallLaw", name := "pageOf", desc := "(LStenohall;I[J)I" } : Jvm.MethodName)) ∈ lw_all := lw_g (lw_at lw_m14 17 rfl) rfl
theorem q3212 : (Jvm.Cond.static ({ cls := "StenohallLaw", name := "pageOf", desc := "(LStenohall;I[J)I" } : Jvm.MethodName)) ∈ lw_all := lw_g (lw_at lw_m14 18 rfl) rfl
theorem q3213 : (Jvm.Cond.codeWith ({ cls := "StenohallLaw", name := "pageOf", desc := "(LStenohall;I[J)I" } : Jvm.MethodName) method_31_code (4 : Nat) (Option.some Jvm.ClassFile.FieldType.int) [((0 : Nat), (9 : Nat), (12 : Nat), (21 : Nat))]) ∈ lw_all := lw_g (lw_at lw_m14 19 rfl) rfl
theorem q3214 : (Jvm.Cond.methodLink "StenohallLaw" (113 : Nat) ({ cls := "Stenohall", name := "pageOf", desc := "(I)I" } : Jvm.MethodName)) ∈ lw_all := lw_g (lw_at lw_m14 20 rfl) rfl
theorem q3219 : (Jvm.Cond.methodLink "StenohallLaw" (274 : Nat) ({ cls := "StenohallLaw", name := "contract", desc := "(LStenohall;I[J)I" } : Jvm.MethodName)) ∈ lw_all := lw_g (lw_at lw_m14 25 rfl) rfl
theorem q3220 : (Jvm.Cond.static ({ cls := "StenohallLaw", name := "contract", desc := "(LStenohall;I[J)I" } : Jvm.MethodName)) ∈ lw_all := lw_g (lw_at lw_m14 26 rfl) rfl
theorem q3221 : (Jvm.Cond.codeWith ({ cls := "StenohallLaw", name := "contract", desc := "(LStenohall;I[J)I" } : Jvm.MethodName) method_32_code (4 : Nat) (Option.some Jvm.ClassFile.FieldType.int) [((0 : Nat), (9 : Nat), (12 : Nat), (13 : Nat)), ((0 : Nat), (9 : Nat), (15 : Nat), (23 : Nat)), ((0 : Nat), (9 : Nat), (18 : Nat), (15 : Nat))]) ∈ lw_all := lw_g (lw_at lw_m14 27 rfl) rfl
theorem q3222 : (Jvm.Cond.methodLink "StenohallLaw" (116 : Nat) ({ cls := "Stenohall", name := "contract", desc := "(I)I" } : Jvm.MethodName)) ∈ lw_all := lw_g (lw_at lw_m14 28 rfl) rfl
theorem q3241 : (Jvm.Cond.methodLink "StenohallLaw" (281 : Nat) ({ cls := "StenohallLaw", name := "cellAt", desc := "(LStenohall;I[J)I" } : Jvm.MethodName)) ∈ lw_all := lw_g (lw_at lw_m14 47 rfl) rfl
theorem q3242 : (Jvm.Cond.static ({ cls := "StenohallLaw", name := "cellAt", desc := "(LStenohall;I[J)I" } : Jvm.MethodName)) ∈ lw_all := lw_g (lw_at lw_m14 48 rfl) rfl
theorem q3243 : (Jvm.Cond.codeWith ({ cls := "StenohallLaw", name := "cellAt", desc := "(LStenohall;I[J)I" } : Jvm.MethodName) method_33_code (4 : Nat) (Option.some Jvm.ClassFile.FieldType.int) [((0 : Nat), (9 : Nat), (12 : Nat), (21 : Nat))]) ∈ lw_all := lw_g (lw_at lw_m14 49 rfl) rfl
theorem q3244 : (Jvm.Cond.methodLink "StenohallLaw" (119 : Nat) ({ cls := "Stenohall", name := "cellAt", desc := "(I)I" } : Jvm.MethodName)) ∈ lw_all := lw_g (lw_at lw_m14 50 rfl) rfl
theorem q3248 : (Jvm.Cond.methodLink "StenohallLaw" (288 : Nat) ({ cls := "StenohallLaw", name := "nearest", desc := "(LStenohall;I[J)I" } : Jvm.MethodName)) ∈ lw_all := lw_g (lw_at lw_m14 54 rfl) rfl
theorem q3249 : (Jvm.Cond.static ({ cls := "StenohallLaw", name := "nearest", desc := "(LStenohall;I[J)I" } : Jvm.MethodName)) ∈ lw_all := lw_g (lw_at lw_m14 55 rfl) rfl
theorem q3250 : (Jvm.Cond.codeWith ({ cls := "StenohallLaw", name := "nearest", desc := "(LStenohall;I[J)I" } : Jvm.MethodName) method_34_code (4 : Nat) (Option.some Jvm.ClassFile.FieldType.int) [((0 : Nat), (9 : Nat), (12 : Nat), (13 : Nat)), ((0 : Nat), (9 : Nat), (15 : Nat), (35 : Nat))]) ∈ lw_all := lw_g (lw_at lw_m14 56 rfl) rfl
theorem q3251 : (Jvm.Cond.methodLink "StenohallLaw" (122 : Nat) ({ cls := "Stenohall", name := "nearest", desc := "(I)I" } : Jvm.MethodName)) ∈ lw_all := lw_g (lw_at lw_m14 57 rfl) rfl
theorem q3255 : (Jvm.Cond.methodLink "StenohallLaw" (295 : Nat) ({ cls := "StenohallLaw", name := "brief", desc := "(LStenohall;[D)I" } : Jvm.MethodName)) ∈ lw_all := lw_g (lw_at lw_m14 61 rfl) rfl
theorem q3256 : (Jvm.Cond.static ({ cls := "StenohallLaw", name := "brief", desc := "(LStenohall;[D)I" } : Jvm.MethodName)) ∈ lw_all := lw_g (lw_at lw_m14 62 rfl) rfl
theorem q3257 : (Jvm.Cond.codeWith ({ cls := "StenohallLaw", name := "brief", desc := "(LStenohall;[D)I" } : Jvm.MethodName) method_35_code (3 : Nat) (Option.some Jvm.ClassFile.FieldType.int) [((0 : Nat), (8 : Nat), (11 : Nat), (129 : Nat))]) ∈ lw_all := lw_g (lw_at lw_m14 63 rfl) rfl
theorem q3258 : (Jvm.Cond.classLink "StenohallLaw" (129 : Nat) "java/lang/ArithmeticException") ∈ lw_all := lw_g (lw_at lw_m14 64 rfl) rfl
theorem q3272 : (Jvm.Cond.methodLink "StenohallLaw" (125 : Nat) ({ cls := "Stenohall", name := "brief", desc := "()F" } : Jvm.MethodName)) ∈ lw_all := lw_g (lw_at lw_m14 78 rfl) rfl
theorem q3285 : (Jvm.Cond.methodLink "StenohallLaw" (299 : Nat) ({ cls := "StenohallLaw", name := "delay", desc := "(LStenohall;[D)I" } : Jvm.MethodName)) ∈ lw_all := lw_g (lw_at lw_m14 91 rfl) rfl
theorem q3286 : (Jvm.Cond.static ({ cls := "StenohallLaw", name := "delay", desc := "(LStenohall;[D)I" } : Jvm.MethodName)) ∈ lw_all := lw_g (lw_at lw_m14 92 rfl) rfl
theorem q3287 : (Jvm.Cond.codeWith ({ cls := "StenohallLaw", name := "delay", desc := "(LStenohall;[D)I" } : Jvm.MethodName) method_36_code (3 : Nat) (Option.some Jvm.ClassFile.FieldType.int) [((0 : Nat), (7 : Nat), (10 : Nat), (129 : Nat))]) ∈ lw_all := lw_g (lw_at lw_m14 93 rfl) rfl
theorem q3288 : (Jvm.Cond.methodLink "StenohallLaw" (131 : Nat) ({ cls := "Stenohall", name := "delay", desc := "()D" } : Jvm.MethodName)) ∈ lw_all := lw_g (lw_at lw_m14 94 rfl) rfl
theorem q3292 : (Jvm.Cond.classLink "StenohallLaw" (136 : Nat) "StenohallModel") ∈ lw_all := lw_g (lw_at lw_m14 98 rfl) rfl
theorem q3294 : (Jvm.Cond.methodLink "StenohallLaw" (138 : Nat) ({ cls := "StenohallModel", name := "<init>", desc := "()V" } : Jvm.MethodName)) ∈ lw_all := lw_g (lw_at lw_m14 100 rfl) rfl
theorem q3424 : (Jvm.Cond.methodLink "StenohallLaw" (145 : Nat) ({ cls := "StenohallModel", name := "thrown", desc := "()I" } : Jvm.MethodName)) ∈ lw_all := lw_g (lw_at lw_m14 230 rfl) rfl
theorem q3428 : (Jvm.Cond.methodLink "StenohallLaw" (144 : Nat) ({ cls := "StenohallModel", name := "mode", desc := "(C)Z" } : Jvm.MethodName)) ∈ lw_all := lw_g (lw_at lw_m14 234 rfl) rfl
theorem q3432 : (Jvm.Cond.methodLink "StenohallLaw" (151 : Nat) ({ cls := "StenohallModel", name := "down", desc := "(I)I" } : Jvm.MethodName)) ∈ lw_all := lw_g (lw_at lw_m14 238 rfl) rfl
theorem q3440 : (Jvm.Cond.methodLink "StenohallLaw" (154 : Nat) ({ cls := "StenohallModel", name := "up", desc := "(I)I" } : Jvm.MethodName)) ∈ lw_all := lw_g (lw_at lw_m15 6 rfl) rfl
theorem q3722 : (Jvm.Cond.methodLink "StenohallLaw" (157 : Nat) ({ cls := "StenohallModel", name := "stroke", desc := "(I)I" } : Jvm.MethodName)) ∈ lw_all := lw_g (lw_at lw_m16 48 rfl) rfl
theorem q3727 : (Jvm.Cond.methodLink "StenohallLaw" (161 : Nat) ({ cls := "StenohallModel", name := "undo", desc := "()I" } : Jvm.MethodName)) ∈ lw_all := lw_g (lw_at lw_m16 53 rfl) rfl
theorem q3732 : (Jvm.Cond.methodLink "StenohallLaw" (165 : Nat) ({ cls := "StenohallModel", name := "strokes", desc := "()I" } : Jvm.MethodName)) ∈ lw_all := lw_g (lw_at lw_m16 58 rfl) rfl
theorem q3736 : (Jvm.Cond.methodLink "StenohallLaw" (168 : Nat) ({ cls := "StenohallModel", name := "strokeAt", desc := "(I)I" } : Jvm.MethodName)) ∈ lw_all := lw_g (lw_at lw_m16 62 rfl) rfl
theorem q3740 : (Jvm.Cond.methodLink "StenohallLaw" (171 : Nat) ({ cls := "StenohallModel", name := "chord", desc := "(I)I" } : Jvm.MethodName)) ∈ lw_all := lw_g (lw_at lw_m16 66 rfl) rfl
theorem q3745 : (Jvm.Cond.methodLink "StenohallLaw" (174 : Nat) ({ cls := "StenohallModel", name := "sign", desc := "(C)I" } : Jvm.MethodName)) ∈ lw_all := lw_g (lw_at lw_m16 71 rfl) rfl
theorem q3756 : (Jvm.Cond.methodLink "StenohallLaw" (178 : Nat) ({ cls := "StenohallModel", name := "wipe", desc := "()I" } : Jvm.MethodName)) ∈ lw_all := lw_g (lw_at lw_m16 82 rfl) rfl
theorem q3761 : (Jvm.Cond.methodLink "StenohallLaw" (181 : Nat) ({ cls := "StenohallModel", name := "entry", desc := "(I)Z" } : Jvm.MethodName)) ∈ lw_all := lw_g (lw_at lw_m16 87 rfl) rfl
theorem q3869 : (Jvm.Cond.methodLink "StenohallLaw" (185 : Nat) ({ cls := "StenohallModel", name := "alternative", desc := "(IC)I" } : Jvm.MethodName)) ∈ lw_all := lw_g (lw_at lw_m16 195 rfl) rfl
theorem q3874 : (Jvm.Cond.methodLink "StenohallLaw" (188 : Nat) ({ cls := "StenohallModel", name := "remove", desc := "(I)Z" } : Jvm.MethodName)) ∈ lw_all := lw_g (lw_at lw_m16 200 rfl) rfl
theorem q3883 : (Jvm.Cond.methodLink "StenohallLaw" (192 : Nat) ({ cls := "StenohallModel", name := "turn", desc := "(IZ)Z" } : Jvm.MethodName)) ∈ lw_all := lw_g (lw_at lw_m16 209 rfl) rfl
theorem q3887 : (Jvm.Cond.methodLink "StenohallLaw" (195 : Nat) ({ cls := "StenohallModel", name := "entries", desc := "(I)I" } : Jvm.MethodName)) ∈ lw_all := lw_g (lw_at lw_m16 213 rfl) rfl
theorem q3891 : (Jvm.Cond.methodLink "StenohallLaw" (198 : Nat) ({ cls := "StenohallModel", name := "word", desc := "()I" } : Jvm.MethodName)) ∈ lw_all := lw_g (lw_at lw_m16 217 rfl) rfl
theorem q3912 : (Jvm.Cond.methodLink "StenohallLaw" (203 : Nat) ({ cls := "StenohallModel", name := "isWord", desc := "()Z" } : Jvm.MethodName)) ∈ lw_all := lw_g (lw_at lw_m16 238 rfl) rfl
theorem q3926 : (Jvm.Cond.methodLink "StenohallLaw" (206 : Nat) ({ cls := "StenohallModel", name := "rule", desc := "(C)I" } : Jvm.MethodName)) ∈ lw_all := lw_g (lw_at lw_m17 12 rfl) rfl
theorem q3931 : (Jvm.Cond.methodLink "StenohallLaw" (210 : Nat) ({ cls := "StenohallModel", name := "forget", desc := "()I" } : Jvm.MethodName)) ∈ lw_all := lw_g (lw_at lw_m17 17 rfl) rfl
theorem q3935 : (Jvm.Cond.methodLink "StenohallLaw" (214 : Nat) ({ cls := "StenohallModel", name := "length", desc := "()I" } : Jvm.MethodName)) ∈ lw_all := lw_g (lw_at lw_m17 21 rfl) rfl
theorem q4103 : (Jvm.Cond.methodLink "StenohallLaw" (217 : Nat) ({ cls := "StenohallModel", name := "at", desc := "(I)C" } : Jvm.MethodName)) ∈ lw_all := lw_g (lw_at lw_m17 189 rfl) rfl
theorem q4108 : (Jvm.Cond.methodLink "StenohallLaw" (220 : Nat) ({ cls := "StenohallModel", name := "time", desc := "(I)I" } : Jvm.MethodName)) ∈ lw_all := lw_g (lw_at lw_m17 194 rfl) rfl
theorem q4112 : (Jvm.Cond.methodLink "StenohallLaw" (224 : Nat) ({ cls := "StenohallModel", name := "words", desc := "()I" } : Jvm.MethodName)) ∈ lw_all := lw_g (lw_at lw_m17 198 rfl) rfl
theorem q4120 : (Jvm.Cond.methodLink "StenohallLaw" (228 : Nat) ({ cls := "StenohallModel", name := "translations", desc := "()I" } : Jvm.MethodName)) ∈ lw_all := lw_g (lw_at lw_m17 206 rfl) rfl
theorem q4124 : (Jvm.Cond.methodLink "StenohallLaw" (231 : Nat) ({ cls := "StenohallModel", name := "strokesOf", desc := "(I)I" } : Jvm.MethodName)) ∈ lw_all := lw_g (lw_at lw_m17 210 rfl) rfl
theorem q4132 : (Jvm.Cond.methodLink "StenohallLaw" (234 : Nat) ({ cls := "StenohallModel", name := "layerOf", desc := "(I)I" } : Jvm.MethodName)) ∈ lw_all := lw_g (lw_at lw_m17 218 rfl) rfl
theorem q4136 : (Jvm.Cond.methodLink "StenohallLaw" (237 : Nat) ({ cls := "StenohallModel", name := "chosen", desc := "(I)I" } : Jvm.MethodName)) ∈ lw_all := lw_g (lw_at lw_m17 222 rfl) rfl
theorem q4140 : (Jvm.Cond.methodLink "StenohallLaw" (240 : Nat) ({ cls := "StenohallModel", name := "fromOf", desc := "(I)I" } : Jvm.MethodName)) ∈ lw_all := lw_g (lw_at lw_m17 226 rfl) rfl
theorem q4144 : (Jvm.Cond.methodLink "StenohallLaw" (243 : Nat) ({ cls := "StenohallModel", name := "tick", desc := "()I" } : Jvm.MethodName)) ∈ lw_all := lw_g (lw_at lw_m17 230 rfl) rfl
theorem q4150 : (Jvm.Cond.methodLink "StenohallLaw" (247 : Nat) ({ cls := "StenohallModel", name := "now", desc := "()I" } : Jvm.MethodName)) ∈ lw_all := lw_g (lw_at lw_m17 236 rfl) rfl
theorem q4154 : (Jvm.Cond.methodLink "StenohallLaw" (250 : Nat) ({ cls := "StenohallModel", name := "sink", desc := "(I)I" } : Jvm.MethodName)) ∈ lw_all := lw_g (lw_at lw_m18 0 rfl) rfl
theorem q4176 : (Jvm.Cond.methodLink "StenohallLaw" (253 : Nat) ({ cls := "StenohallModel", name := "shown", desc := "(I)I" } : Jvm.MethodName)) ∈ lw_all := lw_g (lw_at lw_m18 22 rfl) rfl
theorem q4184 : (Jvm.Cond.methodLink "StenohallLaw" (257 : Nat) ({ cls := "StenohallModel", name := "shownAt", desc := "(II)C" } : Jvm.MethodName)) ∈ lw_all := lw_g (lw_at lw_m18 30 rfl) rfl
theorem q4188 : (Jvm.Cond.methodLink "StenohallLaw" (260 : Nat) ({ cls := "StenohallModel", name := "takenBack", desc := "(I)I" } : Jvm.MethodName)) ∈ lw_all := lw_g (lw_at lw_m18 34 rfl) rfl
theorem q4192 : (Jvm.Cond.methodLink "StenohallLaw" (263 : Nat) ({ cls := "StenohallModel", name := "paper", desc := "(II)I" } : Jvm.MethodName)) ∈ lw_all := lw_g (lw_at lw_m18 38 rfl) rfl
theorem q4196 : (Jvm.Cond.methodLink "StenohallLaw" (267 : Nat) ({ cls := "StenohallModel", name := "lines", desc := "()I" } : Jvm.MethodName)) ∈ lw_all := lw_g (lw_at lw_m18 42 rfl) rfl
theorem q4204 : (Jvm.Cond.methodLink "StenohallLaw" (270 : Nat) ({ cls := "StenohallModel", name := "lineOf", desc := "(I)I" } : Jvm.MethodName)) ∈ lw_all := lw_g (lw_at lw_m18 50 rfl) rfl
theorem q4208 : (Jvm.Cond.methodLink "StenohallLaw" (273 : Nat) ({ cls := "StenohallModel", name := "pageOf", desc := "(I)I" } : Jvm.MethodName)) ∈ lw_all := lw_g (lw_at lw_m18 54 rfl) rfl
theorem q4213 : (Jvm.Cond.methodLink "StenohallLaw" (276 : Nat) ({ cls := "StenohallModel", name := "contract", desc := "(I)I" } : Jvm.MethodName)) ∈ lw_all := lw_g (lw_at lw_m18 59 rfl) rfl
theorem q4225 : (Jvm.Cond.methodLink "StenohallLaw" (280 : Nat) ({ cls := "StenohallModel", name := "brailleLength", desc := "()I" } : Jvm.MethodName)) ∈ lw_all := lw_g (lw_at lw_m18 71 rfl) rfl
theorem q4234 : (Jvm.Cond.methodLink "StenohallLaw" (283 : Nat) ({ cls := "StenohallModel", name := "cellAt", desc := "(I)I" } : Jvm.MethodName)) ∈ lw_all := lw_g (lw_at lw_m18 80 rfl) rfl
theorem q4238 : (Jvm.Cond.methodLink "StenohallLaw" (287 : Nat) ({ cls := "StenohallModel", name := "misses", desc := "()I" } : Jvm.MethodName)) ∈ lw_all := lw_g (lw_at lw_m18 84 rfl) rfl
theorem q4242 : (Jvm.Cond.methodLink "StenohallLaw" (290 : Nat) ({ cls := "StenohallModel", name := "nearest", desc := "(I)I" } : Jvm.MethodName)) ∈ lw_all := lw_g (lw_at lw_m18 88 rfl) rfl
theorem q4263 : (Jvm.Cond.methodLink "StenohallLaw" (294 : Nat) ({ cls := "StenohallModel", name := "saving", desc := "()I" } : Jvm.MethodName)) ∈ lw_all := lw_g (lw_at lw_m18 109 rfl) rfl
theorem q4267 : (Jvm.Cond.methodLink "StenohallLaw" (298 : Nat) ({ cls := "StenohallModel", name := "brief", desc := "()F" } : Jvm.MethodName)) ∈ lw_all := lw_g (lw_at lw_m18 113 rfl) rfl
theorem q4271 : (Jvm.Cond.methodLink "StenohallLaw" (301 : Nat) ({ cls := "StenohallModel", name := "delay", desc := "()D" } : Jvm.MethodName)) ∈ lw_all := lw_g (lw_at lw_m18 117 rfl) rfl
theorem q4275 : (Jvm.Cond.methodLink "StenohallLaw" (306 : Nat) ({ cls := "StenohallModel", name := "checksum", desc := "()J" } : Jvm.MethodName)) ∈ lw_all := lw_g (lw_at lw_m18 121 rfl) rfl
theorem q4281 : (Jvm.Cond.methodLink "StenohallLaw" (310 : Nat) ({ cls := "StenohallModel", name := "isSound", desc := "()Z" } : Jvm.MethodName)) ∈ lw_all := lw_g (lw_at lw_m18 127 rfl) rfl
/-! Stenohall -/
set_option maxRecDepth 100000
def RX1 : String := "Stenohall"
def TX1 : u_T := fun k => match k with
  | 0 => ("Stenohall", "strokes", "Ljava/util/ArrayList;", true)
  | 1 => ("Stenohall", "layers", "Ljava/util/List;", true)
  | 2 => ("Stenohall", "isOn", "[Z", true)
  | 3 => ("Stenohall", "chords", "Ljava/util/ArrayList;", true)
  | 4 => ("Stenohall", "signs", "Ljava/lang/StringBuilder;", true)
  | 5 => ("Stenohall", "words", "Ljava/util/ArrayList;", true)
  | 6 => ("Stenohall", "rules", "Ljava/lang/StringBuilder;", true)
  | 7 => ("Stenohall", "translations", "Ljava/util/ArrayList;", false)
  | 8 => ("Stenohall", "choices", "Ljava/util/ArrayList;", false)
  | 9 => ("Stenohall", "written", "LStenohall$Writer;", false)
  | 10 => ("Stenohall", "sinks", "Ljava/util/ArrayList;", true)
  | 11 => ("Stenohall", "kept", "Ljava/util/ArrayList;", true)
  | 12 => ("Stenohall", "contractions", "Ljava/util/ArrayList;", true)
  | 13 => ("Stenohall", "tick", "I", false)
  | 14 => ("Stenohall", "mode", "C", false)
  | 15 => ("Stenohall", "held", "I", false)
  | 16 => ("Stenohall", "went", "I", false)
  | 17 => ("Stenohall", "width", "I", false)
  | _ => ("Stenohall", "linesOfPage", "I", false)
def tyX1 : Nat → FieldType := fun k => match k with
  | 0 => .object "java/util/ArrayList"
  | 1 => .object "java/util/List"
  | 2 => .array .boolean
  | 3 => .object "java/util/ArrayList"
  | 4 => .object "java/lang/StringBuilder"
  | 5 => .object "java/util/ArrayList"
  | 6 => .object "java/lang/StringBuilder"
  | 7 => .object "java/util/ArrayList"
  | 8 => .object "java/util/ArrayList"
  | 9 => .object "Stenohall$Writer"
  | 10 => .object "java/util/ArrayList"
  | 11 => .object "java/util/ArrayList"
  | 12 => .object "java/util/ArrayList"
  | 13 => .int
  | 14 => .char
  | 15 => .int
  | 16 => .int
  | 17 => .int
  | _ => .int
abbrev wsX10 : List Cond := u_ws RX1 TX1 19
set_option maxRecDepth 100000 in
theorem nmX1 : ∀ a, a < 19 → ∀ b, b < 19 → a ≠ b → (TX1 a).2.1 ≠ (TX1 b).2.1 := by decide +kernel
set_option maxRecDepth 100000 in
theorem tyX1_ok : ∀ k, k < 19 → parseFieldDescriptor (TX1 k).2.2.1 = some (tyX1 k) := by decide +kernel
abbrev cX1_init : ByteArray := prog_1_method_16_code
def yX1_init : MethodName := ⟨RX1, "<init>", "()V"⟩
def dkwX1_init_9 : List UInt8 := [167, 255, 231, 177]
abbrev dktX1_init_9 : List UInt8 := dkwX1_init_9 ++ []
def dkwX1_init_8 : List UInt8 := [7, 162, 0, 26, 42, 180, 0, 75, 187, 0, 69, 89, 183, 0, 71, 185, 0, 134, 2, 0, 87, 132, 1, 1]
abbrev dktX1_init_8 : List UInt8 := dkwX1_init_8 ++ dktX1_init_9
def dkwX1_init_7 : List UInt8 := [181, 0, 120, 42, 16, 108, 181, 0, 123, 42, 16, 40, 181, 0, 127, 42, 16, 10, 181, 0, 131, 3, 60, 27]
abbrev dktX1_init_7 : List UInt8 := dkwX1_init_7 ++ dktX1_init_8
def dkwX1_init_6 : List UInt8 := [181, 0, 114, 42, 187, 0, 69, 89, 183, 0, 71, 181, 0, 117, 42, 187, 0, 69, 89, 183, 0, 71]
abbrev dktX1_init_6 : List UInt8 := dkwX1_init_6 ++ dktX1_init_7
def dkwX1_init_5 : List UInt8 := [181, 0, 102, 42, 187, 0, 105, 89, 42, 183, 0, 107, 181, 0, 110, 42, 187, 0, 69, 89, 183, 0, 71]
abbrev dktX1_init_5 : List UInt8 := dkwX1_init_5 ++ dktX1_init_6
def dkwX1_init_4 : List UInt8 := [181, 0, 96, 42, 187, 0, 69, 89, 183, 0, 71, 181, 0, 99, 42, 187, 0, 69, 89, 183, 0, 71]
abbrev dktX1_init_4 : List UInt8 := dkwX1_init_4 ++ dktX1_init_5
def dkwX1_init_3 : List UInt8 := [181, 0, 89, 42, 187, 0, 69, 89, 183, 0, 71, 181, 0, 93, 42, 187, 0, 86, 89, 183, 0, 88]
abbrev dktX1_init_3 : List UInt8 := dkwX1_init_3 ++ dktX1_init_4
def dkwX1_init_2 : List UInt8 := [181, 0, 79, 42, 187, 0, 69, 89, 183, 0, 71, 181, 0, 83, 42, 187, 0, 86, 89, 183, 0, 88]
abbrev dktX1_init_2 : List UInt8 := dkwX1_init_2 ++ dktX1_init_3
def dkwX1_init_1 : List UInt8 := [181, 0, 75, 42, 7, 188, 4, 89, 3, 4, 84, 89, 4, 4, 84, 89, 5, 4, 84, 89, 6, 4, 84]
abbrev dktX1_init_1 : List UInt8 := dkwX1_init_1 ++ dktX1_init_2
def dkwX1_init_0 : List UInt8 := [42, 183, 0, 66, 42, 187, 0, 69, 89, 183, 0, 71, 181, 0, 72, 42, 187, 0, 69, 89, 183, 0, 71]
abbrev dktX1_init_0 : List UInt8 := dkwX1_init_0 ++ dktX1_init_1
theorem dksX1_init_0 : cX1_init.data.toList.drop 0 = dktX1_init_0 := by decide +kernel
theorem dksX1_init_1 : cX1_init.data.toList.drop 23 = dktX1_init_1 := dk_seg dksX1_init_0 23 rfl rfl
theorem dksX1_init_2 : cX1_init.data.toList.drop 46 = dktX1_init_2 := dk_seg dksX1_init_1 23 rfl rfl
theorem dksX1_init_3 : cX1_init.data.toList.drop 68 = dktX1_init_3 := dk_seg dksX1_init_2 22 rfl rfl
theorem dksX1_init_4 : cX1_init.data.toList.drop 90 = dktX1_init_4 := dk_seg dksX1_init_3 22 rfl rfl
theorem dksX1_init_5 : cX1_init.data.toList.drop 112 = dktX1_init_5 := dk_seg dksX1_init_4 22 rfl rfl
theorem dksX1_init_6 : cX1_init.data.toList.drop 135 = dktX1_init_6 := dk_seg dksX1_init_5 23 rfl rfl
theorem dksX1_init_7 : cX1_init.data.toList.drop 157 = dktX1_init_7 := dk_seg dksX1_init_6 22 rfl rfl
theorem dksX1_init_8 : cX1_init.data.toList.drop 181 = dktX1_init_8 := dk_seg dksX1_init_7 24 rfl rfl
theorem dksX1_init_9 : cX1_init.data.toList.drop 205 = dktX1_init_9 := dk_seg dksX1_init_8 24 rfl rfl
theorem dX1_init_0 : decode cX1_init 0 = .ok (.aload_n 0, 1) := dk_42 (dk_at dksX1_init_0 0 rfl rfl)
theorem dX1_init_1 : decode cX1_init 1 = .ok (.invokespecial 66, 3) := dk_183 0 66 (dk_at dksX1_init_0 1 rfl rfl)
theorem dX1_init_4 : decode cX1_init 4 = .ok (.aload_n 0, 1) := dk_42 (dk_at dksX1_init_0 4 rfl rfl)
theorem dX1_init_5 : decode cX1_init 5 = .ok (.new 69, 3) := dk_187 0 69 (dk_at dksX1_init_0 5 rfl rfl)
theorem dX1_init_8 : decode cX1_init 8 = .ok (.dup, 1) := dk_89 (dk_at dksX1_init_0 8 rfl rfl)
theorem dX1_init_9 : decode cX1_init 9 = .ok (.invokespecial 71, 3) := dk_183 0 71 (dk_at dksX1_init_0 9 rfl rfl)
theorem dX1_init_12 : decode cX1_init 12 = .ok (.putfield 72, 3) := dk_181 0 72 (dk_at dksX1_init_0 12 rfl rfl)
theorem dX1_init_15 : decode cX1_init 15 = .ok (.aload_n 0, 1) := dk_42 (dk_at dksX1_init_0 15 rfl rfl)
theorem dX1_init_16 : decode cX1_init 16 = .ok (.new 69, 3) := dk_187 0 69 (dk_at dksX1_init_0 16 rfl rfl)
theorem dX1_init_19 : decode cX1_init 19 = .ok (.dup, 1) := dk_89 (dk_at dksX1_init_0 19 rfl rfl)
theorem dX1_init_20 : decode cX1_init 20 = .ok (.invokespecial 71, 3) := dk_183 0 71 (dk_at dksX1_init_0 20 rfl rfl)
theorem dX1_init_23 : decode cX1_init 23 = .ok (.putfield 75, 3) := dk_181 0 75 (dk_at dksX1_init_1 0 rfl rfl)
theorem dX1_init_26 : decode cX1_init 26 = .ok (.aload_n 0, 1) := dk_42 (dk_at dksX1_init_1 3 rfl rfl)
theorem dX1_init_27 : decode cX1_init 27 = .ok (.iconst 4, 1) := dk_7 (dk_at dksX1_init_1 4 rfl rfl)
theorem dX1_init_28 : decode cX1_init 28 = .ok (.newarray .boolean, 2) := dk_188_4 (dk_at dksX1_init_1 5 rfl rfl)
theorem dX1_init_30 : decode cX1_init 30 = .ok (.dup, 1) := dk_89 (dk_at dksX1_init_1 7 rfl rfl)
theorem dX1_init_31 : decode cX1_init 31 = .ok (.iconst 0, 1) := dk_3 (dk_at dksX1_init_1 8 rfl rfl)
theorem dX1_init_32 : decode cX1_init 32 = .ok (.iconst 1, 1) := dk_4 (dk_at dksX1_init_1 9 rfl rfl)
theorem dX1_init_33 : decode cX1_init 33 = .ok (.bastore, 1) := dk_84 (dk_at dksX1_init_1 10 rfl rfl)
theorem dX1_init_34 : decode cX1_init 34 = .ok (.dup, 1) := dk_89 (dk_at dksX1_init_1 11 rfl rfl)
theorem dX1_init_35 : decode cX1_init 35 = .ok (.iconst 1, 1) := dk_4 (dk_at dksX1_init_1 12 rfl rfl)
theorem dX1_init_36 : decode cX1_init 36 = .ok (.iconst 1, 1) := dk_4 (dk_at dksX1_init_1 13 rfl rfl)
theorem dX1_init_37 : decode cX1_init 37 = .ok (.bastore, 1) := dk_84 (dk_at dksX1_init_1 14 rfl rfl)
theorem dX1_init_38 : decode cX1_init 38 = .ok (.dup, 1) := dk_89 (dk_at dksX1_init_1 15 rfl rfl)
theorem dX1_init_39 : decode cX1_init 39 = .ok (.iconst 2, 1) := dk_5 (dk_at dksX1_init_1 16 rfl rfl)
theorem dX1_init_40 : decode cX1_init 40 = .ok (.iconst 1, 1) := dk_4 (dk_at dksX1_init_1 17 rfl rfl)
theorem dX1_init_41 : decode cX1_init 41 = .ok (.bastore, 1) := dk_84 (dk_at dksX1_init_1 18 rfl rfl)
theorem dX1_init_42 : decode cX1_init 42 = .ok (.dup, 1) := dk_89 (dk_at dksX1_init_1 19 rfl rfl)
theorem dX1_init_43 : decode cX1_init 43 = .ok (.iconst 3, 1) := dk_6 (dk_at dksX1_init_1 20 rfl rfl)
theorem dX1_init_44 : decode cX1_init 44 = .ok (.iconst 1, 1) := dk_4 (dk_at dksX1_init_1 21 rfl rfl)
theorem dX1_init_45 : decode cX1_init 45 = .ok (.bastore, 1) := dk_84 (dk_at dksX1_init_1 22 rfl rfl)
theorem dX1_init_46 : decode cX1_init 46 = .ok (.putfield 79, 3) := dk_181 0 79 (dk_at dksX1_init_2 0 rfl rfl)
theorem dX1_init_49 : decode cX1_init 49 = .ok (.aload_n 0, 1) := dk_42 (dk_at dksX1_init_2 3 rfl rfl)
theorem dX1_init_50 : decode cX1_init 50 = .ok (.new 69, 3) := dk_187 0 69 (dk_at dksX1_init_2 4 rfl rfl)
theorem dX1_init_53 : decode cX1_init 53 = .ok (.dup, 1) := dk_89 (dk_at dksX1_init_2 7 rfl rfl)
theorem dX1_init_54 : decode cX1_init 54 = .ok (.invokespecial 71, 3) := dk_183 0 71 (dk_at dksX1_init_2 8 rfl rfl)
theorem dX1_init_57 : decode cX1_init 57 = .ok (.putfield 83, 3) := dk_181 0 83 (dk_at dksX1_init_2 11 rfl rfl)
theorem dX1_init_60 : decode cX1_init 60 = .ok (.aload_n 0, 1) := dk_42 (dk_at dksX1_init_2 14 rfl rfl)
theorem dX1_init_61 : decode cX1_init 61 = .ok (.new 86, 3) := dk_187 0 86 (dk_at dksX1_init_2 15 rfl rfl)
theorem dX1_init_64 : decode cX1_init 64 = .ok (.dup, 1) := dk_89 (dk_at dksX1_init_2 18 rfl rfl)
theorem dX1_init_65 : decode cX1_init 65 = .ok (.invokespecial 88, 3) := dk_183 0 88 (dk_at dksX1_init_2 19 rfl rfl)
theorem dX1_init_68 : decode cX1_init 68 = .ok (.putfield 89, 3) := dk_181 0 89 (dk_at dksX1_init_3 0 rfl rfl)
theorem dX1_init_71 : decode cX1_init 71 = .ok (.aload_n 0, 1) := dk_42 (dk_at dksX1_init_3 3 rfl rfl)
theorem dX1_init_72 : decode cX1_init 72 = .ok (.new 69, 3) := dk_187 0 69 (dk_at dksX1_init_3 4 rfl rfl)
theorem dX1_init_75 : decode cX1_init 75 = .ok (.dup, 1) := dk_89 (dk_at dksX1_init_3 7 rfl rfl)
theorem dX1_init_76 : decode cX1_init 76 = .ok (.invokespecial 71, 3) := dk_183 0 71 (dk_at dksX1_init_3 8 rfl rfl)
theorem dX1_init_79 : decode cX1_init 79 = .ok (.putfield 93, 3) := dk_181 0 93 (dk_at dksX1_init_3 11 rfl rfl)
theorem dX1_init_82 : decode cX1_init 82 = .ok (.aload_n 0, 1) := dk_42 (dk_at dksX1_init_3 14 rfl rfl)
theorem dX1_init_83 : decode cX1_init 83 = .ok (.new 86, 3) := dk_187 0 86 (dk_at dksX1_init_3 15 rfl rfl)
theorem dX1_init_86 : decode cX1_init 86 = .ok (.dup, 1) := dk_89 (dk_at dksX1_init_3 18 rfl rfl)
theorem dX1_init_87 : decode cX1_init 87 = .ok (.invokespecial 88, 3) := dk_183 0 88 (dk_at dksX1_init_3 19 rfl rfl)
theorem dX1_init_90 : decode cX1_init 90 = .ok (.putfield 96, 3) := dk_181 0 96 (dk_at dksX1_init_4 0 rfl rfl)
theorem dX1_init_93 : decode cX1_init 93 = .ok (.aload_n 0, 1) := dk_42 (dk_at dksX1_init_4 3 rfl rfl)
theorem dX1_init_94 : decode cX1_init 94 = .ok (.new 69, 3) := dk_187 0 69 (dk_at dksX1_init_4 4 rfl rfl)
theorem dX1_init_97 : decode cX1_init 97 = .ok (.dup, 1) := dk_89 (dk_at dksX1_init_4 7 rfl rfl)
theorem dX1_init_98 : decode cX1_init 98 = .ok (.invokespecial 71, 3) := dk_183 0 71 (dk_at dksX1_init_4 8 rfl rfl)
theorem dX1_init_101 : decode cX1_init 101 = .ok (.putfield 99, 3) := dk_181 0 99 (dk_at dksX1_init_4 11 rfl rfl)
theorem dX1_init_104 : decode cX1_init 104 = .ok (.aload_n 0, 1) := dk_42 (dk_at dksX1_init_4 14 rfl rfl)
theorem dX1_init_105 : decode cX1_init 105 = .ok (.new 69, 3) := dk_187 0 69 (dk_at dksX1_init_4 15 rfl rfl)
theorem dX1_init_108 : decode cX1_init 108 = .ok (.dup, 1) := dk_89 (dk_at dksX1_init_4 18 rfl rfl)
theorem dX1_init_109 : decode cX1_init 109 = .ok (.invokespecial 71, 3) := dk_183 0 71 (dk_at dksX1_init_4 19 rfl rfl)
theorem dX1_init_112 : decode cX1_init 112 = .ok (.putfield 102, 3) := dk_181 0 102 (dk_at dksX1_init_5 0 rfl rfl)
theorem dX1_init_115 : decode cX1_init 115 = .ok (.aload_n 0, 1) := dk_42 (dk_at dksX1_init_5 3 rfl rfl)
theorem dX1_init_116 : decode cX1_init 116 = .ok (.new 105, 3) := dk_187 0 105 (dk_at dksX1_init_5 4 rfl rfl)
theorem dX1_init_119 : decode cX1_init 119 = .ok (.dup, 1) := dk_89 (dk_at dksX1_init_5 7 rfl rfl)
theorem dX1_init_120 : decode cX1_init 120 = .ok (.aload_n 0, 1) := dk_42 (dk_at dksX1_init_5 8 rfl rfl)
theorem dX1_init_121 : decode cX1_init 121 = .ok (.invokespecial 107, 3) := dk_183 0 107 (dk_at dksX1_init_5 9 rfl rfl)
theorem dX1_init_124 : decode cX1_init 124 = .ok (.putfield 110, 3) := dk_181 0 110 (dk_at dksX1_init_5 12 rfl rfl)
theorem dX1_init_127 : decode cX1_init 127 = .ok (.aload_n 0, 1) := dk_42 (dk_at dksX1_init_5 15 rfl rfl)
theorem dX1_init_128 : decode cX1_init 128 = .ok (.new 69, 3) := dk_187 0 69 (dk_at dksX1_init_5 16 rfl rfl)
theorem dX1_init_131 : decode cX1_init 131 = .ok (.dup, 1) := dk_89 (dk_at dksX1_init_5 19 rfl rfl)
theorem dX1_init_132 : decode cX1_init 132 = .ok (.invokespecial 71, 3) := dk_183 0 71 (dk_at dksX1_init_5 20 rfl rfl)
theorem dX1_init_135 : decode cX1_init 135 = .ok (.putfield 114, 3) := dk_181 0 114 (dk_at dksX1_init_6 0 rfl rfl)
theorem dX1_init_138 : decode cX1_init 138 = .ok (.aload_n 0, 1) := dk_42 (dk_at dksX1_init_6 3 rfl rfl)
theorem dX1_init_139 : decode cX1_init 139 = .ok (.new 69, 3) := dk_187 0 69 (dk_at dksX1_init_6 4 rfl rfl)
theorem dX1_init_142 : decode cX1_init 142 = .ok (.dup, 1) := dk_89 (dk_at dksX1_init_6 7 rfl rfl)
theorem dX1_init_143 : decode cX1_init 143 = .ok (.invokespecial 71, 3) := dk_183 0 71 (dk_at dksX1_init_6 8 rfl rfl)
theorem dX1_init_146 : decode cX1_init 146 = .ok (.putfield 117, 3) := dk_181 0 117 (dk_at dksX1_init_6 11 rfl rfl)
theorem dX1_init_149 : decode cX1_init 149 = .ok (.aload_n 0, 1) := dk_42 (dk_at dksX1_init_6 14 rfl rfl)
theorem dX1_init_150 : decode cX1_init 150 = .ok (.new 69, 3) := dk_187 0 69 (dk_at dksX1_init_6 15 rfl rfl)
theorem dX1_init_153 : decode cX1_init 153 = .ok (.dup, 1) := dk_89 (dk_at dksX1_init_6 18 rfl rfl)
theorem dX1_init_154 : decode cX1_init 154 = .ok (.invokespecial 71, 3) := dk_183 0 71 (dk_at dksX1_init_6 19 rfl rfl)
theorem dX1_init_157 : decode cX1_init 157 = .ok (.putfield 120, 3) := dk_181 0 120 (dk_at dksX1_init_7 0 rfl rfl)
theorem dX1_init_160 : decode cX1_init 160 = .ok (.aload_n 0, 1) := dk_42 (dk_at dksX1_init_7 3 rfl rfl)
theorem dX1_init_161 : decode cX1_init 161 = .ok (.bipush 108, 2) := dk_16 108 (dk_at dksX1_init_7 4 rfl rfl)
theorem dX1_init_163 : decode cX1_init 163 = .ok (.putfield 123, 3) := dk_181 0 123 (dk_at dksX1_init_7 6 rfl rfl)
theorem dX1_init_166 : decode cX1_init 166 = .ok (.aload_n 0, 1) := dk_42 (dk_at dksX1_init_7 9 rfl rfl)
theorem dX1_init_167 : decode cX1_init 167 = .ok (.bipush 40, 2) := dk_16 40 (dk_at dksX1_init_7 10 rfl rfl)
theorem dX1_init_169 : decode cX1_init 169 = .ok (.putfield 127, 3) := dk_181 0 127 (dk_at dksX1_init_7 12 rfl rfl)
theorem dX1_init_172 : decode cX1_init 172 = .ok (.aload_n 0, 1) := dk_42 (dk_at dksX1_init_7 15 rfl rfl)
theorem dX1_init_173 : decode cX1_init 173 = .ok (.bipush 10, 2) := dk_16 10 (dk_at dksX1_init_7 16 rfl rfl)
theorem dX1_init_175 : decode cX1_init 175 = .ok (.putfield 131, 3) := dk_181 0 131 (dk_at dksX1_init_7 18 rfl rfl)
theorem dX1_init_178 : decode cX1_init 178 = .ok (.iconst 0, 1) := dk_3 (dk_at dksX1_init_7 21 rfl rfl)
theorem dX1_init_179 : decode cX1_init 179 = .ok (.istore_n 1, 1) := dk_60 (dk_at dksX1_init_7 22 rfl rfl)
theorem dX1_init_180 : decode cX1_init 180 = .ok (.iload_n 1, 1) := dk_27 (dk_at dksX1_init_7 23 rfl rfl)
theorem dX1_init_181 : decode cX1_init 181 = .ok (.iconst 4, 1) := dk_7 (dk_at dksX1_init_8 0 rfl rfl)
theorem dX1_init_182 : decode cX1_init 182 = .ok (.if_icmp .ge 26, 3) := dk_162 0 26 (dk_at dksX1_init_8 1 rfl rfl)
theorem dX1_init_185 : decode cX1_init 185 = .ok (.aload_n 0, 1) := dk_42 (dk_at dksX1_init_8 4 rfl rfl)
theorem dX1_init_186 : decode cX1_init 186 = .ok (.getfield 75, 3) := dk_180 0 75 (dk_at dksX1_init_8 5 rfl rfl)
theorem dX1_init_189 : decode cX1_init 189 = .ok (.new 69, 3) := dk_187 0 69 (dk_at dksX1_init_8 8 rfl rfl)
theorem dX1_init_192 : decode cX1_init 192 = .ok (.dup, 1) := dk_89 (dk_at dksX1_init_8 11 rfl rfl)
theorem dX1_init_193 : decode cX1_init 193 = .ok (.invokespecial 71, 3) := dk_183 0 71 (dk_at dksX1_init_8 12 rfl rfl)
theorem dX1_init_196 : decode cX1_init 196 = .ok (.invokeinterface 134 2, 5) := by decide +kernel
theorem dX1_init_201 : decode cX1_init 201 = .ok (.pop, 1) := dk_87 (dk_at dksX1_init_8 20 rfl rfl)
theorem dX1_init_202 : decode cX1_init 202 = .ok (.iinc 1 1, 3) := dk_132 1 1 (dk_at dksX1_init_8 21 rfl rfl)
theorem dX1_init_205 : decode cX1_init 205 = .ok (.goto (-25), 3) := dk_167 255 231 (dk_at dksX1_init_9 0 rfl rfl)
theorem dX1_init_208 : decode cX1_init 208 = .ok (.return_, 1) := dk_177 (dk_at dksX1_init_9 3 rfl rfl)
abbrev cX1_strokes : ByteArray := prog_1_method_24_code
def yX1_strokes : MethodName := ⟨RX1, "strokes", "()I"⟩
def dkwX1_strokes_0 : List UInt8 := [42, 180, 0, 72, 182, 0, 172, 172]
abbrev dktX1_strokes_0 : List UInt8 := dkwX1_strokes_0 ++ []
theorem dksX1_strokes_0 : cX1_strokes.data.toList.drop 0 = dktX1_strokes_0 := by decide +kernel
theorem dX1_strokes_0 : decode cX1_strokes 0 = .ok (.aload_n 0, 1) := dk_42 (dk_at dksX1_strokes_0 0 rfl rfl)
theorem dX1_strokes_1 : decode cX1_strokes 1 = .ok (.getfield 72, 3) := dk_180 0 72 (dk_at dksX1_strokes_0 1 rfl rfl)
theorem dX1_strokes_4 : decode cX1_strokes 4 = .ok (.invokevirtual 172, 3) := dk_182 0 172 (dk_at dksX1_strokes_0 4 rfl rfl)
theorem dX1_strokes_7 : decode cX1_strokes 7 = .ok (.ireturn, 1) := dk_172 (dk_at dksX1_strokes_0 7 rfl rfl)
abbrev cX1_wipe : ByteArray := prog_1_method_28_code
def yX1_wipe : MethodName := ⟨RX1, "wipe", "()I"⟩
def dkwX1_wipe_0 : List UInt8 := [42, 180, 0, 83, 182, 0, 172, 42, 180, 0, 89, 182, 0, 207, 96, 60, 42, 182, 0, 214, 27, 172]
abbrev dktX1_wipe_0 : List UInt8 := dkwX1_wipe_0 ++ []
theorem dksX1_wipe_0 : cX1_wipe.data.toList.drop 0 = dktX1_wipe_0 := by decide +kernel
theorem dX1_wipe_0 : decode cX1_wipe 0 = .ok (.aload_n 0, 1) := dk_42 (dk_at dksX1_wipe_0 0 rfl rfl)
theorem dX1_wipe_1 : decode cX1_wipe 1 = .ok (.getfield 83, 3) := dk_180 0 83 (dk_at dksX1_wipe_0 1 rfl rfl)
theorem dX1_wipe_4 : decode cX1_wipe 4 = .ok (.invokevirtual 172, 3) := dk_182 0 172 (dk_at dksX1_wipe_0 4 rfl rfl)
theorem dX1_wipe_7 : decode cX1_wipe 7 = .ok (.aload_n 0, 1) := dk_42 (dk_at dksX1_wipe_0 7 rfl rfl)
theorem dX1_wipe_8 : decode cX1_wipe 8 = .ok (.getfield 89, 3) := dk_180 0 89 (dk_at dksX1_wipe_0 8 rfl rfl)
theorem dX1_wipe_11 : decode cX1_wipe 11 = .ok (.invokevirtual 207, 3) := dk_182 0 207 (dk_at dksX1_wipe_0 11 rfl rfl)
theorem dX1_wipe_14 : decode cX1_wipe 14 = .ok (.iadd, 1) := dk_96 (dk_at dksX1_wipe_0 14 rfl rfl)
theorem dX1_wipe_15 : decode cX1_wipe 15 = .ok (.istore_n 1, 1) := dk_60 (dk_at dksX1_wipe_0 15 rfl rfl)
theorem dX1_wipe_16 : decode cX1_wipe 16 = .ok (.aload_n 0, 1) := dk_42 (dk_at dksX1_wipe_0 16 rfl rfl)
theorem dX1_wipe_17 : decode cX1_wipe 17 = .ok (.invokevirtual 214, 3) := dk_182 0 214 (dk_at dksX1_wipe_0 17 rfl rfl)
theorem dX1_wipe_20 : decode cX1_wipe 20 = .ok (.iload_n 1, 1) := dk_27 (dk_at dksX1_wipe_0 20 rfl rfl)
theorem dX1_wipe_21 : decode cX1_wipe 21 = .ok (.ireturn, 1) := dk_172 (dk_at dksX1_wipe_0 21 rfl rfl)
abbrev cX1_forgetsTyped : ByteArray := prog_1_method_29_code
def yX1_forgetsTyped : MethodName := ⟨RX1, "forgetsTyped", "()V"⟩
def dkwX1_forgetsTyped_0 : List UInt8 := [42, 180, 0, 83, 182, 0, 217, 42, 180, 0, 89, 3, 182, 0, 220, 177]
abbrev dktX1_forgetsTyped_0 : List UInt8 := dkwX1_forgetsTyped_0 ++ []
theorem dksX1_forgetsTyped_0 : cX1_forgetsTyped.data.toList.drop 0 = dktX1_forgetsTyped_0 := by decide +kernel
theorem dX1_forgetsTyped_0 : decode cX1_forgetsTyped 0 = .ok (.aload_n 0, 1) := dk_42 (dk_at dksX1_forgetsTyped_0 0 rfl rfl)
theorem dX1_forgetsTyped_1 : decode cX1_forgetsTyped 1 = .ok (.getfield 83, 3) := dk_180 0 83 (dk_at dksX1_forgetsTyped_0 1 rfl rfl)
theorem dX1_forgetsTyped_4 : decode cX1_forgetsTyped 4 = .ok (.invokevirtual 217, 3) := dk_182 0 217 (dk_at dksX1_forgetsTyped_0 4 rfl rfl)
theorem dX1_forgetsTyped_7 : decode cX1_forgetsTyped 7 = .ok (.aload_n 0, 1) := dk_42 (dk_at dksX1_forgetsTyped_0 7 rfl rfl)
theorem dX1_forgetsTyped_8 : decode cX1_forgetsTyped 8 = .ok (.getfield 89, 3) := dk_180 0 89 (dk_at dksX1_forgetsTyped_0 8 rfl rfl)
theorem dX1_forgetsTyped_11 : decode cX1_forgetsTyped 11 = .ok (.iconst 0, 1) := dk_3 (dk_at dksX1_forgetsTyped_0 11 rfl rfl)
theorem dX1_forgetsTyped_12 : decode cX1_forgetsTyped 12 = .ok (.invokevirtual 220, 3) := dk_182 0 220 (dk_at dksX1_forgetsTyped_0 12 rfl rfl)
theorem dX1_forgetsTyped_15 : decode cX1_forgetsTyped 15 = .ok (.return_, 1) := dk_177 (dk_at dksX1_forgetsTyped_0 15 rfl rfl)
abbrev cX1_isWord : ByteArray := prog_1_method_39_code
def yX1_isWord : MethodName := ⟨RX1, "isWord", "()Z"⟩
def dkwX1_isWord_0 : List UInt8 := [42, 180, 0, 93, 42, 180, 0, 89, 182, 1, 4, 182, 1, 26, 172]
abbrev dktX1_isWord_0 : List UInt8 := dkwX1_isWord_0 ++ []
theorem dksX1_isWord_0 : cX1_isWord.data.toList.drop 0 = dktX1_isWord_0 := by decide +kernel
theorem dX1_isWord_0 : decode cX1_isWord 0 = .ok (.aload_n 0, 1) := dk_42 (dk_at dksX1_isWord_0 0 rfl rfl)
theorem dX1_isWord_1 : decode cX1_isWord 1 = .ok (.getfield 93, 3) := dk_180 0 93 (dk_at dksX1_isWord_0 1 rfl rfl)
theorem dX1_isWord_4 : decode cX1_isWord 4 = .ok (.aload_n 0, 1) := dk_42 (dk_at dksX1_isWord_0 4 rfl rfl)
theorem dX1_isWord_5 : decode cX1_isWord 5 = .ok (.getfield 89, 3) := dk_180 0 89 (dk_at dksX1_isWord_0 5 rfl rfl)
theorem dX1_isWord_8 : decode cX1_isWord 8 = .ok (.invokevirtual 260, 3) := dk_182 1 4 (dk_at dksX1_isWord_0 8 rfl rfl)
theorem dX1_isWord_11 : decode cX1_isWord 11 = .ok (.invokevirtual 282, 3) := dk_182 1 26 (dk_at dksX1_isWord_0 11 rfl rfl)
theorem dX1_isWord_14 : decode cX1_isWord 14 = .ok (.ireturn, 1) := dk_172 (dk_at dksX1_isWord_0 14 rfl rfl)
abbrev cX1_forget : ByteArray := prog_1_method_41_code
def yX1_forget : MethodName := ⟨RX1, "forget", "()I"⟩
def dkwX1_forget_0 : List UInt8 := [42, 180, 0, 96, 182, 0, 207, 60, 42, 180, 0, 96, 3, 182, 0, 220, 42, 182, 0, 182, 27, 172]
abbrev dktX1_forget_0 : List UInt8 := dkwX1_forget_0 ++ []
theorem dksX1_forget_0 : cX1_forget.data.toList.drop 0 = dktX1_forget_0 := by decide +kernel
theorem dX1_forget_0 : decode cX1_forget 0 = .ok (.aload_n 0, 1) := dk_42 (dk_at dksX1_forget_0 0 rfl rfl)
theorem dX1_forget_1 : decode cX1_forget 1 = .ok (.getfield 96, 3) := dk_180 0 96 (dk_at dksX1_forget_0 1 rfl rfl)
theorem dX1_forget_4 : decode cX1_forget 4 = .ok (.invokevirtual 207, 3) := dk_182 0 207 (dk_at dksX1_forget_0 4 rfl rfl)
theorem dX1_forget_7 : decode cX1_forget 7 = .ok (.istore_n 1, 1) := dk_60 (dk_at dksX1_forget_0 7 rfl rfl)
theorem dX1_forget_8 : decode cX1_forget 8 = .ok (.aload_n 0, 1) := dk_42 (dk_at dksX1_forget_0 8 rfl rfl)
theorem dX1_forget_9 : decode cX1_forget 9 = .ok (.getfield 96, 3) := dk_180 0 96 (dk_at dksX1_forget_0 9 rfl rfl)
theorem dX1_forget_12 : decode cX1_forget 12 = .ok (.iconst 0, 1) := dk_3 (dk_at dksX1_forget_0 12 rfl rfl)
theorem dX1_forget_13 : decode cX1_forget 13 = .ok (.invokevirtual 220, 3) := dk_182 0 220 (dk_at dksX1_forget_0 13 rfl rfl)
theorem dX1_forget_16 : decode cX1_forget 16 = .ok (.aload_n 0, 1) := dk_42 (dk_at dksX1_forget_0 16 rfl rfl)
theorem dX1_forget_17 : decode cX1_forget 17 = .ok (.invokevirtual 182, 3) := dk_182 0 182 (dk_at dksX1_forget_0 17 rfl rfl)
theorem dX1_forget_20 : decode cX1_forget 20 = .ok (.iload_n 1, 1) := dk_27 (dk_at dksX1_forget_0 20 rfl rfl)
theorem dX1_forget_21 : decode cX1_forget 21 = .ok (.ireturn, 1) := dk_172 (dk_at dksX1_forget_0 21 rfl rfl)
abbrev cX1_translatesAll : ByteArray := prog_1_method_42_code
def yX1_translatesAll : MethodName := ⟨RX1, "translatesAll", "()V"⟩
def dkwX1_translatesAll_2 : List UInt8 := [89, 42, 183, 0, 107, 181, 0, 110, 42, 180, 0, 110, 182, 1, 52, 177]
abbrev dktX1_translatesAll_2 : List UInt8 := dkwX1_translatesAll_2 ++ []
def dkwX1_translatesAll_1 : List UInt8 := [76, 42, 43, 182, 1, 43, 167, 255, 226, 42, 42, 180, 0, 99, 184, 1, 49, 181, 0, 102, 42, 187, 0, 105]
abbrev dktX1_translatesAll_1 : List UInt8 := dkwX1_translatesAll_1 ++ dktX1_translatesAll_2
def dkwX1_translatesAll_0 : List UInt8 := [42, 42, 42, 180, 0, 72, 182, 1, 37, 181, 0, 99, 167, 0, 21, 76, 42, 43, 182, 1, 43, 167, 255, 235]
abbrev dktX1_translatesAll_0 : List UInt8 := dkwX1_translatesAll_0 ++ dktX1_translatesAll_1
theorem dksX1_translatesAll_0 : cX1_translatesAll.data.toList.drop 0 = dktX1_translatesAll_0 := by decide +kernel
theorem dksX1_translatesAll_1 : cX1_translatesAll.data.toList.drop 24 = dktX1_translatesAll_1 := dk_seg dksX1_translatesAll_0 24 rfl rfl
theorem dksX1_translatesAll_2 : cX1_translatesAll.data.toList.drop 48 = dktX1_translatesAll_2 := dk_seg dksX1_translatesAll_1 24 rfl rfl
theorem dX1_translatesAll_0 : decode cX1_translatesAll 0 = .ok (.aload_n 0, 1) := dk_42 (dk_at dksX1_translatesAll_0 0 rfl rfl)
theorem dX1_translatesAll_1 : decode cX1_translatesAll 1 = .ok (.aload_n 0, 1) := dk_42 (dk_at dksX1_translatesAll_0 1 rfl rfl)
theorem dX1_translatesAll_2 : decode cX1_translatesAll 2 = .ok (.aload_n 0, 1) := dk_42 (dk_at dksX1_translatesAll_0 2 rfl rfl)
theorem dX1_translatesAll_3 : decode cX1_translatesAll 3 = .ok (.getfield 72, 3) := dk_180 0 72 (dk_at dksX1_translatesAll_0 3 rfl rfl)
theorem dX1_translatesAll_6 : decode cX1_translatesAll 6 = .ok (.invokevirtual 293, 3) := dk_182 1 37 (dk_at dksX1_translatesAll_0 6 rfl rfl)
theorem dX1_translatesAll_9 : decode cX1_translatesAll 9 = .ok (.putfield 99, 3) := dk_181 0 99 (dk_at dksX1_translatesAll_0 9 rfl rfl)
theorem dX1_translatesAll_12 : decode cX1_translatesAll 12 = .ok (.goto 21, 3) := dk_167 0 21 (dk_at dksX1_translatesAll_0 12 rfl rfl)
theorem dX1_translatesAll_15 : decode cX1_translatesAll 15 = .ok (.astore_n 1, 1) := dk_76 (dk_at dksX1_translatesAll_0 15 rfl rfl)
theorem dX1_translatesAll_16 : decode cX1_translatesAll 16 = .ok (.aload_n 0, 1) := dk_42 (dk_at dksX1_translatesAll_0 16 rfl rfl)
theorem dX1_translatesAll_17 : decode cX1_translatesAll 17 = .ok (.aload_n 1, 1) := dk_43 (dk_at dksX1_translatesAll_0 17 rfl rfl)
theorem dX1_translatesAll_18 : decode cX1_translatesAll 18 = .ok (.invokevirtual 299, 3) := dk_182 1 43 (dk_at dksX1_translatesAll_0 18 rfl rfl)
theorem dX1_translatesAll_21 : decode cX1_translatesAll 21 = .ok (.goto (-21), 3) := dk_167 255 235 (dk_at dksX1_translatesAll_0 21 rfl rfl)
theorem dX1_translatesAll_24 : decode cX1_translatesAll 24 = .ok (.astore_n 1, 1) := dk_76 (dk_at dksX1_translatesAll_1 0 rfl rfl)
theorem dX1_translatesAll_25 : decode cX1_translatesAll 25 = .ok (.aload_n 0, 1) := dk_42 (dk_at dksX1_translatesAll_1 1 rfl rfl)
theorem dX1_translatesAll_26 : decode cX1_translatesAll 26 = .ok (.aload_n 1, 1) := dk_43 (dk_at dksX1_translatesAll_1 2 rfl rfl)
theorem dX1_translatesAll_27 : decode cX1_translatesAll 27 = .ok (.invokevirtual 299, 3) := dk_182 1 43 (dk_at dksX1_translatesAll_1 3 rfl rfl)
theorem dX1_translatesAll_30 : decode cX1_translatesAll 30 = .ok (.goto (-30), 3) := dk_167 255 226 (dk_at dksX1_translatesAll_1 6 rfl rfl)
theorem dX1_translatesAll_33 : decode cX1_translatesAll 33 = .ok (.aload_n 0, 1) := dk_42 (dk_at dksX1_translatesAll_1 9 rfl rfl)
theorem dX1_translatesAll_34 : decode cX1_translatesAll 34 = .ok (.aload_n 0, 1) := dk_42 (dk_at dksX1_translatesAll_1 10 rfl rfl)
theorem dX1_translatesAll_35 : decode cX1_translatesAll 35 = .ok (.getfield 99, 3) := dk_180 0 99 (dk_at dksX1_translatesAll_1 11 rfl rfl)
theorem dX1_translatesAll_38 : decode cX1_translatesAll 38 = .ok (.invokestatic 305, 3) := dk_184 1 49 (dk_at dksX1_translatesAll_1 14 rfl rfl)
theorem dX1_translatesAll_41 : decode cX1_translatesAll 41 = .ok (.putfield 102, 3) := dk_181 0 102 (dk_at dksX1_translatesAll_1 17 rfl rfl)
theorem dX1_translatesAll_44 : decode cX1_translatesAll 44 = .ok (.aload_n 0, 1) := dk_42 (dk_at dksX1_translatesAll_1 20 rfl rfl)
theorem dX1_translatesAll_45 : decode cX1_translatesAll 45 = .ok (.new 105, 3) := dk_187 0 105 (dk_at dksX1_translatesAll_1 21 rfl rfl)
theorem dX1_translatesAll_48 : decode cX1_translatesAll 48 = .ok (.dup, 1) := dk_89 (dk_at dksX1_translatesAll_2 0 rfl rfl)
theorem dX1_translatesAll_49 : decode cX1_translatesAll 49 = .ok (.aload_n 0, 1) := dk_42 (dk_at dksX1_translatesAll_2 1 rfl rfl)
theorem dX1_translatesAll_50 : decode cX1_translatesAll 50 = .ok (.invokespecial 107, 3) := dk_183 0 107 (dk_at dksX1_translatesAll_2 2 rfl rfl)
theorem dX1_translatesAll_53 : decode cX1_translatesAll 53 = .ok (.putfield 110, 3) := dk_181 0 110 (dk_at dksX1_translatesAll_2 5 rfl rfl)
theorem dX1_translatesAll_56 : decode cX1_translatesAll 56 = .ok (.aload_n 0, 1) := dk_42 (dk_at dksX1_translatesAll_2 8 rfl rfl)
theorem dX1_translatesAll_57 : decode cX1_translatesAll 57 = .ok (.getfield 110, 3) := dk_180 0 110 (dk_at dksX1_translatesAll_2 9 rfl rfl)
theorem dX1_translatesAll_60 : decode cX1_translatesAll 60 = .ok (.invokevirtual 308, 3) := dk_182 1 52 (dk_at dksX1_translatesAll_2 12 rfl rfl)
theorem dX1_translatesAll_63 : decode cX1_translatesAll 63 = .ok (.return_, 1) := dk_177 (dk_at dksX1_translatesAll_2 15 rfl rfl)
abbrev cX1_translated : ByteArray := prog_1_method_45_code
def yX1_translated : MethodName := ⟨RX1, "translated", "(Ljava/util/List;)Ljava/util/ArrayList;"⟩
def dkwX1_translated_2 : List UInt8 := [162, 0, 12, 187, 1, 41, 89, 45, 183, 1, 68, 191, 45, 191, 44, 176]
abbrev dktX1_translated_2 : List UInt8 := dkwX1_translated_2 ++ []
def dkwX1_translated_1 : List UInt8 := [182, 1, 64, 132, 3, 1, 167, 255, 236, 167, 0, 28, 78, 45, 180, 1, 55, 43, 185, 0, 45, 1, 0]
abbrev dktX1_translated_1 : List UInt8 := dkwX1_translated_1 ++ dktX1_translated_2
def dkwX1_translated_0 : List UInt8 := [187, 0, 69, 89, 183, 0, 71, 77, 3, 62, 29, 43, 185, 0, 45, 1, 0, 162, 0, 16, 42, 44, 43, 29]
abbrev dktX1_translated_0 : List UInt8 := dkwX1_translated_0 ++ dktX1_translated_1
theorem dksX1_translated_0 : cX1_translated.data.toList.drop 0 = dktX1_translated_0 := by decide +kernel
theorem dksX1_translated_1 : cX1_translated.data.toList.drop 24 = dktX1_translated_1 := dk_seg dksX1_translated_0 24 rfl rfl
theorem dksX1_translated_2 : cX1_translated.data.toList.drop 47 = dktX1_translated_2 := dk_seg dksX1_translated_1 23 rfl rfl
theorem dX1_translated_0 : decode cX1_translated 0 = .ok (.new 69, 3) := dk_187 0 69 (dk_at dksX1_translated_0 0 rfl rfl)
theorem dX1_translated_3 : decode cX1_translated 3 = .ok (.dup, 1) := dk_89 (dk_at dksX1_translated_0 3 rfl rfl)
theorem dX1_translated_4 : decode cX1_translated 4 = .ok (.invokespecial 71, 3) := dk_183 0 71 (dk_at dksX1_translated_0 4 rfl rfl)
theorem dX1_translated_7 : decode cX1_translated 7 = .ok (.astore_n 2, 1) := dk_77 (dk_at dksX1_translated_0 7 rfl rfl)
theorem dX1_translated_8 : decode cX1_translated 8 = .ok (.iconst 0, 1) := dk_3 (dk_at dksX1_translated_0 8 rfl rfl)
theorem dX1_translated_9 : decode cX1_translated 9 = .ok (.istore_n 3, 1) := dk_62 (dk_at dksX1_translated_0 9 rfl rfl)
theorem dX1_translated_10 : decode cX1_translated 10 = .ok (.iload_n 3, 1) := dk_29 (dk_at dksX1_translated_0 10 rfl rfl)
theorem dX1_translated_11 : decode cX1_translated 11 = .ok (.aload_n 1, 1) := dk_43 (dk_at dksX1_translated_0 11 rfl rfl)
theorem dX1_translated_12 : decode cX1_translated 12 = .ok (.invokeinterface 45 1, 5) := by decide +kernel
theorem dX1_translated_17 : decode cX1_translated 17 = .ok (.if_icmp .ge 16, 3) := dk_162 0 16 (dk_at dksX1_translated_0 17 rfl rfl)
theorem dX1_translated_20 : decode cX1_translated 20 = .ok (.aload_n 0, 1) := dk_42 (dk_at dksX1_translated_0 20 rfl rfl)
theorem dX1_translated_21 : decode cX1_translated 21 = .ok (.aload_n 2, 1) := dk_44 (dk_at dksX1_translated_0 21 rfl rfl)
theorem dX1_translated_22 : decode cX1_translated 22 = .ok (.aload_n 1, 1) := dk_43 (dk_at dksX1_translated_0 22 rfl rfl)
theorem dX1_translated_23 : decode cX1_translated 23 = .ok (.iload_n 3, 1) := dk_29 (dk_at dksX1_translated_0 23 rfl rfl)
theorem dX1_translated_24 : decode cX1_translated 24 = .ok (.invokevirtual 320, 3) := dk_182 1 64 (dk_at dksX1_translated_1 0 rfl rfl)
theorem dX1_translated_27 : decode cX1_translated 27 = .ok (.iinc 3 1, 3) := dk_132 3 1 (dk_at dksX1_translated_1 3 rfl rfl)
theorem dX1_translated_30 : decode cX1_translated 30 = .ok (.goto (-20), 3) := dk_167 255 236 (dk_at dksX1_translated_1 6 rfl rfl)
theorem dX1_translated_33 : decode cX1_translated 33 = .ok (.goto 28, 3) := dk_167 0 28 (dk_at dksX1_translated_1 9 rfl rfl)
theorem dX1_translated_36 : decode cX1_translated 36 = .ok (.astore_n 3, 1) := dk_78 (dk_at dksX1_translated_1 12 rfl rfl)
theorem dX1_translated_37 : decode cX1_translated 37 = .ok (.aload_n 3, 1) := dk_45 (dk_at dksX1_translated_1 13 rfl rfl)
theorem dX1_translated_38 : decode cX1_translated 38 = .ok (.getfield 311, 3) := dk_180 1 55 (dk_at dksX1_translated_1 14 rfl rfl)
theorem dX1_translated_41 : decode cX1_translated 41 = .ok (.aload_n 1, 1) := dk_43 (dk_at dksX1_translated_1 17 rfl rfl)
theorem dX1_translated_42 : decode cX1_translated 42 = .ok (.invokeinterface 45 1, 5) := by decide +kernel
theorem dX1_translated_47 : decode cX1_translated 47 = .ok (.if_icmp .ge 12, 3) := dk_162 0 12 (dk_at dksX1_translated_2 0 rfl rfl)
theorem dX1_translated_50 : decode cX1_translated 50 = .ok (.new 297, 3) := dk_187 1 41 (dk_at dksX1_translated_2 3 rfl rfl)
theorem dX1_translated_53 : decode cX1_translated 53 = .ok (.dup, 1) := dk_89 (dk_at dksX1_translated_2 6 rfl rfl)
theorem dX1_translated_54 : decode cX1_translated 54 = .ok (.aload_n 3, 1) := dk_45 (dk_at dksX1_translated_2 7 rfl rfl)
theorem dX1_translated_55 : decode cX1_translated 55 = .ok (.invokespecial 324, 3) := dk_183 1 68 (dk_at dksX1_translated_2 8 rfl rfl)
theorem dX1_translated_58 : decode cX1_translated 58 = .ok (.athrow, 1) := dk_191 (dk_at dksX1_translated_2 11 rfl rfl)
theorem dX1_translated_59 : decode cX1_translated 59 = .ok (.aload_n 3, 1) := dk_45 (dk_at dksX1_translated_2 12 rfl rfl)
theorem dX1_translated_60 : decode cX1_translated 60 = .ok (.athrow, 1) := dk_191 (dk_at dksX1_translated_2 13 rfl rfl)
theorem dX1_translated_61 : decode cX1_translated 61 = .ok (.aload_n 2, 1) := dk_44 (dk_at dksX1_translated_2 14 rfl rfl)
theorem dX1_translated_62 : decode cX1_translated 62 = .ok (.areturn, 1) := dk_176 (dk_at dksX1_translated_2 15 rfl rfl)
abbrev cX1_translates : ByteArray := prog_1_method_46_code
def yX1_translates : MethodName := ⟨RX1, "translates", "(Ljava/util/ArrayList;Ljava/util/List;I)V"⟩
def dkwX1_translates_9 : List UInt8 := [184, 1, 94, 29, 4, 96, 1, 183, 1, 100, 191, 43, 25, 4, 182, 0, 181, 87, 177]
abbrev dktX1_translates_9 : List UInt8 := dkwX1_translates_9 ++ []
def dkwX1_translates_8 : List UInt8 := [96, 25, 4, 182, 0, 41, 185, 0, 45, 1, 0, 100, 54, 7, 187, 1, 47, 89, 3, 21, 7, 4, 100]
abbrev dktX1_translates_8 : List UInt8 := dkwX1_translates_8 ++ dktX1_translates_9
def dkwX1_translates_7 : List UInt8 := [192, 0, 55, 183, 1, 84, 182, 0, 181, 87, 177, 25, 4, 182, 1, 87, 182, 1, 91, 153, 0, 39, 29, 4]
abbrev dktX1_translates_7 : List UInt8 := dkwX1_translates_7 ++ dktX1_translates_8
def dkwX1_translates_6 : List UInt8 := [132, 7, 1, 167, 255, 235, 25, 4, 199, 0, 26, 43, 187, 0, 60, 89, 44, 29, 185, 0, 51, 2, 0]
abbrev dktX1_translates_6 : List UInt8 := dkwX1_translates_6 ++ dktX1_translates_7
def dkwX1_translates_5 : List UInt8 := [167, 255, 169, 3, 54, 7, 21, 7, 21, 5, 162, 0, 20, 43, 43, 182, 0, 172, 4, 100, 182, 0, 194, 87]
abbrev dktX1_translates_5 : List UInt8 := dkwX1_translates_5 ++ dktX1_translates_6
def dkwX1_translates_4 : List UInt8 := [167, 0, 4, 1, 58, 8, 25, 8, 198, 0, 11, 25, 8, 58, 4, 21, 7, 54, 5, 132, 7, 1]
abbrev dktX1_translates_4 : List UInt8 := dkwX1_translates_4 ++ dktX1_translates_5
def dkwX1_translates_3 : List UInt8 := [42, 44, 29, 4, 96, 21, 6, 100, 29, 4, 96, 185, 1, 70, 3, 0, 184, 1, 0, 182, 1, 74]
abbrev dktX1_translates_3 : List UInt8 := dkwX1_translates_3 ++ dktX1_translates_4
def dkwX1_translates_2 : List UInt8 := [182, 0, 172, 21, 7, 100, 182, 0, 200, 192, 1, 78, 184, 1, 80, 96, 54, 6, 21, 6, 7, 163, 0, 28]
abbrev dktX1_translates_2 : List UInt8 := dkwX1_translates_2 ++ dktX1_translates_3
def dkwX1_translates_1 : List UInt8 := [54, 6, 4, 54, 7, 21, 7, 43, 182, 0, 172, 163, 0, 84, 21, 6, 7, 162, 0, 78, 21, 6, 43, 43]
abbrev dktX1_translates_1 : List UInt8 := dkwX1_translates_1 ++ dktX1_translates_2
def dkwX1_translates_0 : List UInt8 := [42, 44, 29, 29, 4, 96, 185, 1, 70, 3, 0, 184, 1, 0, 182, 1, 74, 58, 4, 3, 54, 5, 4]
abbrev dktX1_translates_0 : List UInt8 := dkwX1_translates_0 ++ dktX1_translates_1
theorem dksX1_translates_0 : cX1_translates.data.toList.drop 0 = dktX1_translates_0 := by decide +kernel
theorem dksX1_translates_1 : cX1_translates.data.toList.drop 23 = dktX1_translates_1 := dk_seg dksX1_translates_0 23 rfl rfl
theorem dksX1_translates_2 : cX1_translates.data.toList.drop 47 = dktX1_translates_2 := dk_seg dksX1_translates_1 24 rfl rfl
theorem dksX1_translates_3 : cX1_translates.data.toList.drop 71 = dktX1_translates_3 := dk_seg dksX1_translates_2 24 rfl rfl
theorem dksX1_translates_4 : cX1_translates.data.toList.drop 93 = dktX1_translates_4 := dk_seg dksX1_translates_3 22 rfl rfl
theorem dksX1_translates_5 : cX1_translates.data.toList.drop 115 = dktX1_translates_5 := dk_seg dksX1_translates_4 22 rfl rfl
theorem dksX1_translates_6 : cX1_translates.data.toList.drop 139 = dktX1_translates_6 := dk_seg dksX1_translates_5 24 rfl rfl
theorem dksX1_translates_7 : cX1_translates.data.toList.drop 162 = dktX1_translates_7 := dk_seg dksX1_translates_6 23 rfl rfl
theorem dksX1_translates_8 : cX1_translates.data.toList.drop 186 = dktX1_translates_8 := dk_seg dksX1_translates_7 24 rfl rfl
theorem dksX1_translates_9 : cX1_translates.data.toList.drop 209 = dktX1_translates_9 := dk_seg dksX1_translates_8 23 rfl rfl
theorem dX1_translates_0 : decode cX1_translates 0 = .ok (.aload_n 0, 1) := dk_42 (dk_at dksX1_translates_0 0 rfl rfl)
theorem dX1_translates_1 : decode cX1_translates 1 = .ok (.aload_n 2, 1) := dk_44 (dk_at dksX1_translates_0 1 rfl rfl)
theorem dX1_translates_2 : decode cX1_translates 2 = .ok (.iload_n 3, 1) := dk_29 (dk_at dksX1_translates_0 2 rfl rfl)
theorem dX1_translates_3 : decode cX1_translates 3 = .ok (.iload_n 3, 1) := dk_29 (dk_at dksX1_translates_0 3 rfl rfl)
theorem dX1_translates_4 : decode cX1_translates 4 = .ok (.iconst 1, 1) := dk_4 (dk_at dksX1_translates_0 4 rfl rfl)
theorem dX1_translates_5 : decode cX1_translates 5 = .ok (.iadd, 1) := dk_96 (dk_at dksX1_translates_0 5 rfl rfl)
theorem dX1_translates_6 : decode cX1_translates 6 = .ok (.invokeinterface 326 3, 5) := by decide +kernel
theorem dX1_translates_11 : decode cX1_translates 11 = .ok (.invokestatic 256, 3) := dk_184 1 0 (dk_at dksX1_translates_0 11 rfl rfl)
theorem dX1_translates_14 : decode cX1_translates 14 = .ok (.invokevirtual 330, 3) := dk_182 1 74 (dk_at dksX1_translates_0 14 rfl rfl)
theorem dX1_translates_17 : decode cX1_translates 17 = .ok (.astore 4, 2) := dk_58 4 (dk_at dksX1_translates_0 17 rfl rfl)
theorem dX1_translates_19 : decode cX1_translates 19 = .ok (.iconst 0, 1) := dk_3 (dk_at dksX1_translates_0 19 rfl rfl)
theorem dX1_translates_20 : decode cX1_translates 20 = .ok (.istore 5, 2) := dk_54 5 (dk_at dksX1_translates_0 20 rfl rfl)
theorem dX1_translates_22 : decode cX1_translates 22 = .ok (.iconst 1, 1) := dk_4 (dk_at dksX1_translates_0 22 rfl rfl)
theorem dX1_translates_23 : decode cX1_translates 23 = .ok (.istore 6, 2) := dk_54 6 (dk_at dksX1_translates_1 0 rfl rfl)
theorem dX1_translates_25 : decode cX1_translates 25 = .ok (.iconst 1, 1) := dk_4 (dk_at dksX1_translates_1 2 rfl rfl)
theorem dX1_translates_26 : decode cX1_translates 26 = .ok (.istore 7, 2) := dk_54 7 (dk_at dksX1_translates_1 3 rfl rfl)
theorem dX1_translates_28 : decode cX1_translates 28 = .ok (.iload 7, 2) := dk_21 7 (dk_at dksX1_translates_1 5 rfl rfl)
theorem dX1_translates_30 : decode cX1_translates 30 = .ok (.aload_n 1, 1) := dk_43 (dk_at dksX1_translates_1 7 rfl rfl)
theorem dX1_translates_31 : decode cX1_translates 31 = .ok (.invokevirtual 172, 3) := dk_182 0 172 (dk_at dksX1_translates_1 8 rfl rfl)
theorem dX1_translates_34 : decode cX1_translates 34 = .ok (.if_icmp .gt 84, 3) := dk_163 0 84 (dk_at dksX1_translates_1 11 rfl rfl)
theorem dX1_translates_37 : decode cX1_translates 37 = .ok (.iload 6, 2) := dk_21 6 (dk_at dksX1_translates_1 14 rfl rfl)
theorem dX1_translates_39 : decode cX1_translates 39 = .ok (.iconst 4, 1) := dk_7 (dk_at dksX1_translates_1 16 rfl rfl)
theorem dX1_translates_40 : decode cX1_translates 40 = .ok (.if_icmp .ge 78, 3) := dk_162 0 78 (dk_at dksX1_translates_1 17 rfl rfl)
theorem dX1_translates_43 : decode cX1_translates 43 = .ok (.iload 6, 2) := dk_21 6 (dk_at dksX1_translates_1 20 rfl rfl)
theorem dX1_translates_45 : decode cX1_translates 45 = .ok (.aload_n 1, 1) := dk_43 (dk_at dksX1_translates_1 22 rfl rfl)
theorem dX1_translates_46 : decode cX1_translates 46 = .ok (.aload_n 1, 1) := dk_43 (dk_at dksX1_translates_1 23 rfl rfl)
theorem dX1_translates_47 : decode cX1_translates 47 = .ok (.invokevirtual 172, 3) := dk_182 0 172 (dk_at dksX1_translates_2 0 rfl rfl)
theorem dX1_translates_50 : decode cX1_translates 50 = .ok (.iload 7, 2) := dk_21 7 (dk_at dksX1_translates_2 3 rfl rfl)
theorem dX1_translates_52 : decode cX1_translates 52 = .ok (.isub, 1) := dk_100 (dk_at dksX1_translates_2 5 rfl rfl)
theorem dX1_translates_53 : decode cX1_translates 53 = .ok (.invokevirtual 200, 3) := dk_182 0 200 (dk_at dksX1_translates_2 6 rfl rfl)
theorem dX1_translates_56 : decode cX1_translates 56 = .ok (.checkcast 334, 3) := dk_192 1 78 (dk_at dksX1_translates_2 9 rfl rfl)
theorem dX1_translates_59 : decode cX1_translates 59 = .ok (.invokestatic 336, 3) := dk_184 1 80 (dk_at dksX1_translates_2 12 rfl rfl)
theorem dX1_translates_62 : decode cX1_translates 62 = .ok (.iadd, 1) := dk_96 (dk_at dksX1_translates_2 15 rfl rfl)
theorem dX1_translates_63 : decode cX1_translates 63 = .ok (.istore 6, 2) := dk_54 6 (dk_at dksX1_translates_2 16 rfl rfl)
theorem dX1_translates_65 : decode cX1_translates 65 = .ok (.iload 6, 2) := dk_21 6 (dk_at dksX1_translates_2 18 rfl rfl)
theorem dX1_translates_67 : decode cX1_translates 67 = .ok (.iconst 4, 1) := dk_7 (dk_at dksX1_translates_2 20 rfl rfl)
theorem dX1_translates_68 : decode cX1_translates 68 = .ok (.if_icmp .gt 28, 3) := dk_163 0 28 (dk_at dksX1_translates_2 21 rfl rfl)
theorem dX1_translates_71 : decode cX1_translates 71 = .ok (.aload_n 0, 1) := dk_42 (dk_at dksX1_translates_3 0 rfl rfl)
theorem dX1_translates_72 : decode cX1_translates 72 = .ok (.aload_n 2, 1) := dk_44 (dk_at dksX1_translates_3 1 rfl rfl)
theorem dX1_translates_73 : decode cX1_translates 73 = .ok (.iload_n 3, 1) := dk_29 (dk_at dksX1_translates_3 2 rfl rfl)
theorem dX1_translates_74 : decode cX1_translates 74 = .ok (.iconst 1, 1) := dk_4 (dk_at dksX1_translates_3 3 rfl rfl)
theorem dX1_translates_75 : decode cX1_translates 75 = .ok (.iadd, 1) := dk_96 (dk_at dksX1_translates_3 4 rfl rfl)
theorem dX1_translates_76 : decode cX1_translates 76 = .ok (.iload 6, 2) := dk_21 6 (dk_at dksX1_translates_3 5 rfl rfl)
theorem dX1_translates_78 : decode cX1_translates 78 = .ok (.isub, 1) := dk_100 (dk_at dksX1_translates_3 7 rfl rfl)
theorem dX1_translates_79 : decode cX1_translates 79 = .ok (.iload_n 3, 1) := dk_29 (dk_at dksX1_translates_3 8 rfl rfl)
theorem dX1_translates_80 : decode cX1_translates 80 = .ok (.iconst 1, 1) := dk_4 (dk_at dksX1_translates_3 9 rfl rfl)
theorem dX1_translates_81 : decode cX1_translates 81 = .ok (.iadd, 1) := dk_96 (dk_at dksX1_translates_3 10 rfl rfl)
theorem dX1_translates_82 : decode cX1_translates 82 = .ok (.invokeinterface 326 3, 5) := by decide +kernel
theorem dX1_translates_87 : decode cX1_translates 87 = .ok (.invokestatic 256, 3) := dk_184 1 0 (dk_at dksX1_translates_3 16 rfl rfl)
theorem dX1_translates_90 : decode cX1_translates 90 = .ok (.invokevirtual 330, 3) := dk_182 1 74 (dk_at dksX1_translates_3 19 rfl rfl)
theorem dX1_translates_93 : decode cX1_translates 93 = .ok (.goto 4, 3) := dk_167 0 4 (dk_at dksX1_translates_4 0 rfl rfl)
theorem dX1_translates_96 : decode cX1_translates 96 = .ok (.aconst_null, 1) := dk_1 (dk_at dksX1_translates_4 3 rfl rfl)
theorem dX1_translates_97 : decode cX1_translates 97 = .ok (.astore 8, 2) := dk_58 8 (dk_at dksX1_translates_4 4 rfl rfl)
theorem dX1_translates_99 : decode cX1_translates 99 = .ok (.aload 8, 2) := dk_25 8 (dk_at dksX1_translates_4 6 rfl rfl)
theorem dX1_translates_101 : decode cX1_translates 101 = .ok (.ifnull 11, 3) := dk_198 0 11 (dk_at dksX1_translates_4 8 rfl rfl)
theorem dX1_translates_104 : decode cX1_translates 104 = .ok (.aload 8, 2) := dk_25 8 (dk_at dksX1_translates_4 11 rfl rfl)
theorem dX1_translates_106 : decode cX1_translates 106 = .ok (.astore 4, 2) := dk_58 4 (dk_at dksX1_translates_4 13 rfl rfl)
theorem dX1_translates_108 : decode cX1_translates 108 = .ok (.iload 7, 2) := dk_21 7 (dk_at dksX1_translates_4 15 rfl rfl)
theorem dX1_translates_110 : decode cX1_translates 110 = .ok (.istore 5, 2) := dk_54 5 (dk_at dksX1_translates_4 17 rfl rfl)
theorem dX1_translates_112 : decode cX1_translates 112 = .ok (.iinc 7 1, 3) := dk_132 7 1 (dk_at dksX1_translates_4 19 rfl rfl)
theorem dX1_translates_115 : decode cX1_translates 115 = .ok (.goto (-87), 3) := dk_167 255 169 (dk_at dksX1_translates_5 0 rfl rfl)
theorem dX1_translates_118 : decode cX1_translates 118 = .ok (.iconst 0, 1) := dk_3 (dk_at dksX1_translates_5 3 rfl rfl)
theorem dX1_translates_119 : decode cX1_translates 119 = .ok (.istore 7, 2) := dk_54 7 (dk_at dksX1_translates_5 4 rfl rfl)
theorem dX1_translates_121 : decode cX1_translates 121 = .ok (.iload 7, 2) := dk_21 7 (dk_at dksX1_translates_5 6 rfl rfl)
theorem dX1_translates_123 : decode cX1_translates 123 = .ok (.iload 5, 2) := dk_21 5 (dk_at dksX1_translates_5 8 rfl rfl)
theorem dX1_translates_125 : decode cX1_translates 125 = .ok (.if_icmp .ge 20, 3) := dk_162 0 20 (dk_at dksX1_translates_5 10 rfl rfl)
theorem dX1_translates_128 : decode cX1_translates 128 = .ok (.aload_n 1, 1) := dk_43 (dk_at dksX1_translates_5 13 rfl rfl)
theorem dX1_translates_129 : decode cX1_translates 129 = .ok (.aload_n 1, 1) := dk_43 (dk_at dksX1_translates_5 14 rfl rfl)
theorem dX1_translates_130 : decode cX1_translates 130 = .ok (.invokevirtual 172, 3) := dk_182 0 172 (dk_at dksX1_translates_5 15 rfl rfl)
theorem dX1_translates_133 : decode cX1_translates 133 = .ok (.iconst 1, 1) := dk_4 (dk_at dksX1_translates_5 18 rfl rfl)
theorem dX1_translates_134 : decode cX1_translates 134 = .ok (.isub, 1) := dk_100 (dk_at dksX1_translates_5 19 rfl rfl)
theorem dX1_translates_135 : decode cX1_translates 135 = .ok (.invokevirtual 194, 3) := dk_182 0 194 (dk_at dksX1_translates_5 20 rfl rfl)
theorem dX1_translates_138 : decode cX1_translates 138 = .ok (.pop, 1) := dk_87 (dk_at dksX1_translates_5 23 rfl rfl)
theorem dX1_translates_139 : decode cX1_translates 139 = .ok (.iinc 7 1, 3) := dk_132 7 1 (dk_at dksX1_translates_6 0 rfl rfl)
theorem dX1_translates_142 : decode cX1_translates 142 = .ok (.goto (-21), 3) := dk_167 255 235 (dk_at dksX1_translates_6 3 rfl rfl)
theorem dX1_translates_145 : decode cX1_translates 145 = .ok (.aload 4, 2) := dk_25 4 (dk_at dksX1_translates_6 6 rfl rfl)
theorem dX1_translates_147 : decode cX1_translates 147 = .ok (.ifnonnull 26, 3) := dk_199 0 26 (dk_at dksX1_translates_6 8 rfl rfl)
theorem dX1_translates_150 : decode cX1_translates 150 = .ok (.aload_n 1, 1) := dk_43 (dk_at dksX1_translates_6 11 rfl rfl)
theorem dX1_translates_151 : decode cX1_translates 151 = .ok (.new 60, 3) := dk_187 0 60 (dk_at dksX1_translates_6 12 rfl rfl)
theorem dX1_translates_154 : decode cX1_translates 154 = .ok (.dup, 1) := dk_89 (dk_at dksX1_translates_6 15 rfl rfl)
theorem dX1_translates_155 : decode cX1_translates 155 = .ok (.aload_n 2, 1) := dk_44 (dk_at dksX1_translates_6 16 rfl rfl)
theorem dX1_translates_156 : decode cX1_translates 156 = .ok (.iload_n 3, 1) := dk_29 (dk_at dksX1_translates_6 17 rfl rfl)
theorem dX1_translates_157 : decode cX1_translates 157 = .ok (.invokeinterface 51 2, 5) := by decide +kernel
theorem dX1_translates_162 : decode cX1_translates 162 = .ok (.checkcast 55, 3) := dk_192 0 55 (dk_at dksX1_translates_7 0 rfl rfl)
theorem dX1_translates_165 : decode cX1_translates 165 = .ok (.invokespecial 340, 3) := dk_183 1 84 (dk_at dksX1_translates_7 3 rfl rfl)
theorem dX1_translates_168 : decode cX1_translates 168 = .ok (.invokevirtual 181, 3) := dk_182 0 181 (dk_at dksX1_translates_7 6 rfl rfl)
theorem dX1_translates_171 : decode cX1_translates 171 = .ok (.pop, 1) := dk_87 (dk_at dksX1_translates_7 9 rfl rfl)
theorem dX1_translates_172 : decode cX1_translates 172 = .ok (.return_, 1) := dk_177 (dk_at dksX1_translates_7 10 rfl rfl)
theorem dX1_translates_173 : decode cX1_translates 173 = .ok (.aload 4, 2) := dk_25 4 (dk_at dksX1_translates_7 11 rfl rfl)
theorem dX1_translates_175 : decode cX1_translates 175 = .ok (.invokevirtual 343, 3) := dk_182 1 87 (dk_at dksX1_translates_7 13 rfl rfl)
theorem dX1_translates_178 : decode cX1_translates 178 = .ok (.invokevirtual 347, 3) := dk_182 1 91 (dk_at dksX1_translates_7 16 rfl rfl)
theorem dX1_translates_181 : decode cX1_translates 181 = .ok (.ifCond .eq 39, 3) := dk_153 0 39 (dk_at dksX1_translates_7 19 rfl rfl)
theorem dX1_translates_184 : decode cX1_translates 184 = .ok (.iload_n 3, 1) := dk_29 (dk_at dksX1_translates_7 22 rfl rfl)
theorem dX1_translates_185 : decode cX1_translates 185 = .ok (.iconst 1, 1) := dk_4 (dk_at dksX1_translates_7 23 rfl rfl)
theorem dX1_translates_186 : decode cX1_translates 186 = .ok (.iadd, 1) := dk_96 (dk_at dksX1_translates_8 0 rfl rfl)
theorem dX1_translates_187 : decode cX1_translates 187 = .ok (.aload 4, 2) := dk_25 4 (dk_at dksX1_translates_8 1 rfl rfl)
theorem dX1_translates_189 : decode cX1_translates 189 = .ok (.invokevirtual 41, 3) := dk_182 0 41 (dk_at dksX1_translates_8 3 rfl rfl)
theorem dX1_translates_192 : decode cX1_translates 192 = .ok (.invokeinterface 45 1, 5) := by decide +kernel
theorem dX1_translates_197 : decode cX1_translates 197 = .ok (.isub, 1) := dk_100 (dk_at dksX1_translates_8 11 rfl rfl)
theorem dX1_translates_198 : decode cX1_translates 198 = .ok (.istore 7, 2) := dk_54 7 (dk_at dksX1_translates_8 12 rfl rfl)
theorem dX1_translates_200 : decode cX1_translates 200 = .ok (.new 303, 3) := dk_187 1 47 (dk_at dksX1_translates_8 14 rfl rfl)
theorem dX1_translates_203 : decode cX1_translates 203 = .ok (.dup, 1) := dk_89 (dk_at dksX1_translates_8 17 rfl rfl)
theorem dX1_translates_204 : decode cX1_translates 204 = .ok (.iconst 0, 1) := dk_3 (dk_at dksX1_translates_8 18 rfl rfl)
theorem dX1_translates_205 : decode cX1_translates 205 = .ok (.iload 7, 2) := dk_21 7 (dk_at dksX1_translates_8 19 rfl rfl)
theorem dX1_translates_207 : decode cX1_translates 207 = .ok (.iconst 1, 1) := dk_4 (dk_at dksX1_translates_8 21 rfl rfl)
theorem dX1_translates_208 : decode cX1_translates 208 = .ok (.isub, 1) := dk_100 (dk_at dksX1_translates_8 22 rfl rfl)
theorem dX1_translates_209 : decode cX1_translates 209 = .ok (.invokestatic 350, 3) := dk_184 1 94 (dk_at dksX1_translates_9 0 rfl rfl)
theorem dX1_translates_212 : decode cX1_translates 212 = .ok (.iload_n 3, 1) := dk_29 (dk_at dksX1_translates_9 3 rfl rfl)
theorem dX1_translates_213 : decode cX1_translates 213 = .ok (.iconst 1, 1) := dk_4 (dk_at dksX1_translates_9 4 rfl rfl)
theorem dX1_translates_214 : decode cX1_translates 214 = .ok (.iadd, 1) := dk_96 (dk_at dksX1_translates_9 5 rfl rfl)
theorem dX1_translates_215 : decode cX1_translates 215 = .ok (.aconst_null, 1) := dk_1 (dk_at dksX1_translates_9 6 rfl rfl)
theorem dX1_translates_216 : decode cX1_translates 216 = .ok (.invokespecial 356, 3) := dk_183 1 100 (dk_at dksX1_translates_9 7 rfl rfl)
theorem dX1_translates_219 : decode cX1_translates 219 = .ok (.athrow, 1) := dk_191 (dk_at dksX1_translates_9 10 rfl rfl)
theorem dX1_translates_220 : decode cX1_translates 220 = .ok (.aload_n 1, 1) := dk_43 (dk_at dksX1_translates_9 11 rfl rfl)
theorem dX1_translates_221 : decode cX1_translates 221 = .ok (.aload 4, 2) := dk_25 4 (dk_at dksX1_translates_9 12 rfl rfl)
theorem dX1_translates_223 : decode cX1_translates 223 = .ok (.invokevirtual 181, 3) := dk_182 0 181 (dk_at dksX1_translates_9 14 rfl rfl)
theorem dX1_translates_226 : decode cX1_translates 226 = .ok (.pop, 1) := dk_87 (dk_at dksX1_translates_9 17 rfl rfl)
theorem dX1_translates_227 : decode cX1_translates 227 = .ok (.return_, 1) := dk_177 (dk_at dksX1_translates_9 18 rfl rfl)
abbrev cX1_isSmall : ByteArray := prog_1_method_8_code
def yX1_isSmall : MethodName := ⟨RX1, "isSmall", "(C)Z"⟩
def dkwX1_isSmall_0 : List UInt8 := [26, 16, 97, 161, 0, 13, 26, 16, 122, 163, 0, 7, 4, 167, 0, 4, 3, 172]
abbrev dktX1_isSmall_0 : List UInt8 := dkwX1_isSmall_0 ++ []
theorem dksX1_isSmall_0 : cX1_isSmall.data.toList.drop 0 = dktX1_isSmall_0 := by decide +kernel
theorem dX1_isSmall_0 : decode cX1_isSmall 0 = .ok (.iload_n 0, 1) := dk_26 (dk_at dksX1_isSmall_0 0 rfl rfl)
theorem dX1_isSmall_1 : decode cX1_isSmall 1 = .ok (.bipush 97, 2) := dk_16 97 (dk_at dksX1_isSmall_0 1 rfl rfl)
theorem dX1_isSmall_3 : decode cX1_isSmall 3 = .ok (.if_icmp .lt 13, 3) := dk_161 0 13 (dk_at dksX1_isSmall_0 3 rfl rfl)
theorem dX1_isSmall_6 : decode cX1_isSmall 6 = .ok (.iload_n 0, 1) := dk_26 (dk_at dksX1_isSmall_0 6 rfl rfl)
theorem dX1_isSmall_7 : decode cX1_isSmall 7 = .ok (.bipush 122, 2) := dk_16 122 (dk_at dksX1_isSmall_0 7 rfl rfl)
theorem dX1_isSmall_9 : decode cX1_isSmall 9 = .ok (.if_icmp .gt 7, 3) := dk_163 0 7 (dk_at dksX1_isSmall_0 9 rfl rfl)
theorem dX1_isSmall_12 : decode cX1_isSmall 12 = .ok (.iconst 1, 1) := dk_4 (dk_at dksX1_isSmall_0 12 rfl rfl)
theorem dX1_isSmall_13 : decode cX1_isSmall 13 = .ok (.goto 4, 3) := dk_167 0 4 (dk_at dksX1_isSmall_0 13 rfl rfl)
theorem dX1_isSmall_16 : decode cX1_isSmall 16 = .ok (.iconst 0, 1) := dk_3 (dk_at dksX1_isSmall_0 16 rfl rfl)
theorem dX1_isSmall_17 : decode cX1_isSmall 17 = .ok (.ireturn, 1) := dk_172 (dk_at dksX1_isSmall_0 17 rfl rfl)
abbrev cX1_requireThere : ByteArray := prog_1_method_5_code
def yX1_requireThere : MethodName := ⟨RX1, "requireThere", "(Z)V"⟩
def dkwX1_requireThere_0 : List UInt8 := [26, 154, 0, 11, 187, 0, 13, 89, 183, 0, 15, 191, 177]
abbrev dktX1_requireThere_0 : List UInt8 := dkwX1_requireThere_0 ++ []
theorem dksX1_requireThere_0 : cX1_requireThere.data.toList.drop 0 = dktX1_requireThere_0 := by decide +kernel
theorem dX1_requireThere_0 : decode cX1_requireThere 0 = .ok (.iload_n 0, 1) := dk_26 (dk_at dksX1_requireThere_0 0 rfl rfl)
theorem dX1_requireThere_1 : decode cX1_requireThere 1 = .ok (.ifCond .ne 11, 3) := dk_154 0 11 (dk_at dksX1_requireThere_0 1 rfl rfl)
theorem dX1_requireThere_4 : decode cX1_requireThere 4 = .ok (.new 13, 3) := dk_187 0 13 (dk_at dksX1_requireThere_0 4 rfl rfl)
theorem dX1_requireThere_7 : decode cX1_requireThere 7 = .ok (.dup, 1) := dk_89 (dk_at dksX1_requireThere_0 7 rfl rfl)
theorem dX1_requireThere_8 : decode cX1_requireThere 8 = .ok (.invokespecial 15, 3) := dk_183 0 15 (dk_at dksX1_requireThere_0 8 rfl rfl)
theorem dX1_requireThere_11 : decode cX1_requireThere 11 = .ok (.athrow, 1) := dk_191 (dk_at dksX1_requireThere_0 11 rfl rfl)
theorem dX1_requireThere_12 : decode cX1_requireThere 12 = .ok (.return_, 1) := dk_177 (dk_at dksX1_requireThere_0 12 rfl rfl)
abbrev cX1_found : ByteArray := prog_1_method_44_code
def yX1_found : MethodName := ⟨RX1, "found", "(Ljava/util/List;)LStenohall$Found;"⟩
def dkwX1_found_4 : List UInt8 := [187, 0, 39, 89, 25, 4, 29, 43, 183, 1, 61, 176, 132, 3, 255, 167, 255, 200, 1, 176]
abbrev dktX1_found_4 : List UInt8 := dkwX1_found_4 ++ []
def dkwX1_found_3 : List UInt8 := [185, 0, 51, 2, 0, 192, 0, 46, 44, 184, 0, 250, 167, 0, 4, 1, 58, 4, 25, 4, 198, 0, 15]
abbrev dktX1_found_3 : List UInt8 := dkwX1_found_3 ++ dktX1_found_4
def dkwX1_found_2 : List UInt8 := [167, 255, 223, 6, 62, 29, 155, 0, 58, 42, 180, 0, 79, 29, 51, 153, 0, 23, 42, 180, 0, 75, 29]
abbrev dktX1_found_2 : List UInt8 := dkwX1_found_2 ++ dktX1_found_3
def dkwX1_found_1 : List UInt8 := [45, 185, 0, 234, 1, 0, 192, 0, 55, 58, 4, 44, 25, 4, 182, 0, 197, 184, 0, 201, 182, 0, 181, 87]
abbrev dktX1_found_1 : List UInt8 := dkwX1_found_1 ++ dktX1_found_2
def dkwX1_found_0 : List UInt8 := [187, 0, 69, 89, 183, 0, 71, 77, 43, 185, 0, 225, 1, 0, 78, 45, 185, 0, 229, 1, 0, 153, 0, 30]
abbrev dktX1_found_0 : List UInt8 := dkwX1_found_0 ++ dktX1_found_1
theorem dksX1_found_0 : cX1_found.data.toList.drop 0 = dktX1_found_0 := by decide +kernel
theorem dksX1_found_1 : cX1_found.data.toList.drop 24 = dktX1_found_1 := dk_seg dksX1_found_0 24 rfl rfl
theorem dksX1_found_2 : cX1_found.data.toList.drop 48 = dktX1_found_2 := dk_seg dksX1_found_1 24 rfl rfl
theorem dksX1_found_3 : cX1_found.data.toList.drop 71 = dktX1_found_3 := dk_seg dksX1_found_2 23 rfl rfl
theorem dksX1_found_4 : cX1_found.data.toList.drop 94 = dktX1_found_4 := dk_seg dksX1_found_3 23 rfl rfl
theorem dX1_found_0 : decode cX1_found 0 = .ok (.new 69, 3) := dk_187 0 69 (dk_at dksX1_found_0 0 rfl rfl)
theorem dX1_found_3 : decode cX1_found 3 = .ok (.dup, 1) := dk_89 (dk_at dksX1_found_0 3 rfl rfl)
theorem dX1_found_4 : decode cX1_found 4 = .ok (.invokespecial 71, 3) := dk_183 0 71 (dk_at dksX1_found_0 4 rfl rfl)
theorem dX1_found_7 : decode cX1_found 7 = .ok (.astore_n 2, 1) := dk_77 (dk_at dksX1_found_0 7 rfl rfl)
theorem dX1_found_8 : decode cX1_found 8 = .ok (.aload_n 1, 1) := dk_43 (dk_at dksX1_found_0 8 rfl rfl)
theorem dX1_found_9 : decode cX1_found 9 = .ok (.invokeinterface 225 1, 5) := by decide +kernel
theorem dX1_found_14 : decode cX1_found 14 = .ok (.astore_n 3, 1) := dk_78 (dk_at dksX1_found_0 14 rfl rfl)
theorem dX1_found_15 : decode cX1_found 15 = .ok (.aload_n 3, 1) := dk_45 (dk_at dksX1_found_0 15 rfl rfl)
theorem dX1_found_16 : decode cX1_found 16 = .ok (.invokeinterface 229 1, 5) := by decide +kernel
theorem dX1_found_21 : decode cX1_found 21 = .ok (.ifCond .eq 30, 3) := dk_153 0 30 (dk_at dksX1_found_0 21 rfl rfl)
theorem dX1_found_24 : decode cX1_found 24 = .ok (.aload_n 3, 1) := dk_45 (dk_at dksX1_found_1 0 rfl rfl)
theorem dX1_found_25 : decode cX1_found 25 = .ok (.invokeinterface 234 1, 5) := by decide +kernel
theorem dX1_found_30 : decode cX1_found 30 = .ok (.checkcast 55, 3) := dk_192 0 55 (dk_at dksX1_found_1 6 rfl rfl)
theorem dX1_found_33 : decode cX1_found 33 = .ok (.astore 4, 2) := dk_58 4 (dk_at dksX1_found_1 9 rfl rfl)
theorem dX1_found_35 : decode cX1_found 35 = .ok (.aload_n 2, 1) := dk_44 (dk_at dksX1_found_1 11 rfl rfl)
theorem dX1_found_36 : decode cX1_found 36 = .ok (.aload 4, 2) := dk_25 4 (dk_at dksX1_found_1 12 rfl rfl)
theorem dX1_found_38 : decode cX1_found 38 = .ok (.invokevirtual 197, 3) := dk_182 0 197 (dk_at dksX1_found_1 14 rfl rfl)
theorem dX1_found_41 : decode cX1_found 41 = .ok (.invokestatic 201, 3) := dk_184 0 201 (dk_at dksX1_found_1 17 rfl rfl)
theorem dX1_found_44 : decode cX1_found 44 = .ok (.invokevirtual 181, 3) := dk_182 0 181 (dk_at dksX1_found_1 20 rfl rfl)
theorem dX1_found_47 : decode cX1_found 47 = .ok (.pop, 1) := dk_87 (dk_at dksX1_found_1 23 rfl rfl)
theorem dX1_found_48 : decode cX1_found 48 = .ok (.goto (-33), 3) := dk_167 255 223 (dk_at dksX1_found_2 0 rfl rfl)
theorem dX1_found_51 : decode cX1_found 51 = .ok (.iconst 3, 1) := dk_6 (dk_at dksX1_found_2 3 rfl rfl)
theorem dX1_found_52 : decode cX1_found 52 = .ok (.istore_n 3, 1) := dk_62 (dk_at dksX1_found_2 4 rfl rfl)
theorem dX1_found_53 : decode cX1_found 53 = .ok (.iload_n 3, 1) := dk_29 (dk_at dksX1_found_2 5 rfl rfl)
theorem dX1_found_54 : decode cX1_found 54 = .ok (.ifCond .lt 58, 3) := dk_155 0 58 (dk_at dksX1_found_2 6 rfl rfl)
theorem dX1_found_57 : decode cX1_found 57 = .ok (.aload_n 0, 1) := dk_42 (dk_at dksX1_found_2 9 rfl rfl)
theorem dX1_found_58 : decode cX1_found 58 = .ok (.getfield 79, 3) := dk_180 0 79 (dk_at dksX1_found_2 10 rfl rfl)
theorem dX1_found_61 : decode cX1_found 61 = .ok (.iload_n 3, 1) := dk_29 (dk_at dksX1_found_2 13 rfl rfl)
theorem dX1_found_62 : decode cX1_found 62 = .ok (.baload, 1) := dk_51 (dk_at dksX1_found_2 14 rfl rfl)
theorem dX1_found_63 : decode cX1_found 63 = .ok (.ifCond .eq 23, 3) := dk_153 0 23 (dk_at dksX1_found_2 15 rfl rfl)
theorem dX1_found_66 : decode cX1_found 66 = .ok (.aload_n 0, 1) := dk_42 (dk_at dksX1_found_2 18 rfl rfl)
theorem dX1_found_67 : decode cX1_found 67 = .ok (.getfield 75, 3) := dk_180 0 75 (dk_at dksX1_found_2 19 rfl rfl)
theorem dX1_found_70 : decode cX1_found 70 = .ok (.iload_n 3, 1) := dk_29 (dk_at dksX1_found_2 22 rfl rfl)
theorem dX1_found_71 : decode cX1_found 71 = .ok (.invokeinterface 51 2, 5) := by decide +kernel
theorem dX1_found_76 : decode cX1_found 76 = .ok (.checkcast 46, 3) := dk_192 0 46 (dk_at dksX1_found_3 5 rfl rfl)
theorem dX1_found_79 : decode cX1_found 79 = .ok (.aload_n 2, 1) := dk_44 (dk_at dksX1_found_3 8 rfl rfl)
theorem dX1_found_80 : decode cX1_found 80 = .ok (.invokestatic 250, 3) := dk_184 0 250 (dk_at dksX1_found_3 9 rfl rfl)
theorem dX1_found_83 : decode cX1_found 83 = .ok (.goto 4, 3) := dk_167 0 4 (dk_at dksX1_found_3 12 rfl rfl)
theorem dX1_found_86 : decode cX1_found 86 = .ok (.aconst_null, 1) := dk_1 (dk_at dksX1_found_3 15 rfl rfl)
theorem dX1_found_87 : decode cX1_found 87 = .ok (.astore 4, 2) := dk_58 4 (dk_at dksX1_found_3 16 rfl rfl)
theorem dX1_found_89 : decode cX1_found 89 = .ok (.aload 4, 2) := dk_25 4 (dk_at dksX1_found_3 18 rfl rfl)
theorem dX1_found_91 : decode cX1_found 91 = .ok (.ifnull 15, 3) := dk_198 0 15 (dk_at dksX1_found_3 20 rfl rfl)
theorem dX1_found_94 : decode cX1_found 94 = .ok (.new 39, 3) := dk_187 0 39 (dk_at dksX1_found_4 0 rfl rfl)
theorem dX1_found_97 : decode cX1_found 97 = .ok (.dup, 1) := dk_89 (dk_at dksX1_found_4 3 rfl rfl)
theorem dX1_found_98 : decode cX1_found 98 = .ok (.aload 4, 2) := dk_25 4 (dk_at dksX1_found_4 4 rfl rfl)
theorem dX1_found_100 : decode cX1_found 100 = .ok (.iload_n 3, 1) := dk_29 (dk_at dksX1_found_4 6 rfl rfl)
theorem dX1_found_101 : decode cX1_found 101 = .ok (.aload_n 1, 1) := dk_43 (dk_at dksX1_found_4 7 rfl rfl)
theorem dX1_found_102 : decode cX1_found 102 = .ok (.invokespecial 317, 3) := dk_183 1 61 (dk_at dksX1_found_4 8 rfl rfl)
theorem dX1_found_105 : decode cX1_found 105 = .ok (.areturn, 1) := dk_176 (dk_at dksX1_found_4 11 rfl rfl)
theorem dX1_found_106 : decode cX1_found 106 = .ok (.iinc 3 (-1), 3) := dk_132 3 255 (dk_at dksX1_found_4 12 rfl rfl)
theorem dX1_found_109 : decode cX1_found 109 = .ok (.goto (-56), 3) := dk_167 255 200 (dk_at dksX1_found_4 15 rfl rfl)
theorem dX1_found_112 : decode cX1_found 112 = .ok (.aconst_null, 1) := dk_1 (dk_at dksX1_found_4 18 rfl rfl)
theorem dX1_found_113 : decode cX1_found 113 = .ok (.areturn, 1) := dk_176 (dk_at dksX1_found_4 19 rfl rfl)
abbrev cX1_find : ByteArray := prog_1_method_31_code
def yX1_find : MethodName := ⟨RX1, "find", "(Ljava/util/List;Ljava/util/List;)LStenohall$Entry;"⟩
def dkwX1_find_1 : List UInt8 := [192, 0, 238, 78, 45, 180, 0, 240, 43, 185, 0, 243, 2, 0, 153, 0, 5, 45, 176, 167, 255, 222, 1, 176]
abbrev dktX1_find_1 : List UInt8 := dkwX1_find_1 ++ []
def dkwX1_find_0 : List UInt8 := [42, 185, 0, 225, 1, 0, 77, 44, 185, 0, 229, 1, 0, 153, 0, 31, 44, 185, 0, 234, 1, 0]
abbrev dktX1_find_0 : List UInt8 := dkwX1_find_0 ++ dktX1_find_1
theorem dksX1_find_0 : cX1_find.data.toList.drop 0 = dktX1_find_0 := by decide +kernel
theorem dksX1_find_1 : cX1_find.data.toList.drop 22 = dktX1_find_1 := dk_seg dksX1_find_0 22 rfl rfl
theorem dX1_find_0 : decode cX1_find 0 = .ok (.aload_n 0, 1) := dk_42 (dk_at dksX1_find_0 0 rfl rfl)
theorem dX1_find_1 : decode cX1_find 1 = .ok (.invokeinterface 225 1, 5) := by decide +kernel
theorem dX1_find_6 : decode cX1_find 6 = .ok (.astore_n 2, 1) := dk_77 (dk_at dksX1_find_0 6 rfl rfl)
theorem dX1_find_7 : decode cX1_find 7 = .ok (.aload_n 2, 1) := dk_44 (dk_at dksX1_find_0 7 rfl rfl)
theorem dX1_find_8 : decode cX1_find 8 = .ok (.invokeinterface 229 1, 5) := by decide +kernel
theorem dX1_find_13 : decode cX1_find 13 = .ok (.ifCond .eq 31, 3) := dk_153 0 31 (dk_at dksX1_find_0 13 rfl rfl)
theorem dX1_find_16 : decode cX1_find 16 = .ok (.aload_n 2, 1) := dk_44 (dk_at dksX1_find_0 16 rfl rfl)
theorem dX1_find_17 : decode cX1_find 17 = .ok (.invokeinterface 234 1, 5) := by decide +kernel
theorem dX1_find_22 : decode cX1_find 22 = .ok (.checkcast 238, 3) := dk_192 0 238 (dk_at dksX1_find_1 0 rfl rfl)
theorem dX1_find_25 : decode cX1_find 25 = .ok (.astore_n 3, 1) := dk_78 (dk_at dksX1_find_1 3 rfl rfl)
theorem dX1_find_26 : decode cX1_find 26 = .ok (.aload_n 3, 1) := dk_45 (dk_at dksX1_find_1 4 rfl rfl)
theorem dX1_find_27 : decode cX1_find 27 = .ok (.getfield 240, 3) := dk_180 0 240 (dk_at dksX1_find_1 5 rfl rfl)
theorem dX1_find_30 : decode cX1_find 30 = .ok (.aload_n 1, 1) := dk_43 (dk_at dksX1_find_1 8 rfl rfl)
theorem dX1_find_31 : decode cX1_find 31 = .ok (.invokeinterface 243 2, 5) := by decide +kernel
theorem dX1_find_36 : decode cX1_find 36 = .ok (.ifCond .eq 5, 3) := dk_153 0 5 (dk_at dksX1_find_1 14 rfl rfl)
theorem dX1_find_39 : decode cX1_find 39 = .ok (.aload_n 3, 1) := dk_45 (dk_at dksX1_find_1 17 rfl rfl)
theorem dX1_find_40 : decode cX1_find 40 = .ok (.areturn, 1) := dk_176 (dk_at dksX1_find_1 18 rfl rfl)
theorem dX1_find_41 : decode cX1_find 41 = .ok (.goto (-34), 3) := dk_167 255 222 (dk_at dksX1_find_1 19 rfl rfl)
theorem dX1_find_44 : decode cX1_find 44 = .ok (.aconst_null, 1) := dk_1 (dk_at dksX1_find_1 22 rfl rfl)
theorem dX1_find_45 : decode cX1_find 45 = .ok (.areturn, 1) := dk_176 (dk_at dksX1_find_1 23 rfl rfl)
abbrev cX1_sizeOf : ByteArray := prog_1_method_14_code
def yX1_sizeOf : MethodName := ⟨RX1, "sizeOf", "(LStenohall$Translation;)I"⟩
def dkwX1_sizeOf_1 : List UInt8 := [4, 172]
abbrev dktX1_sizeOf_1 : List UInt8 := dkwX1_sizeOf_1 ++ []
def dkwX1_sizeOf_0 : List UInt8 := [42, 193, 0, 39, 153, 0, 20, 42, 192, 0, 39, 76, 43, 182, 0, 41, 185, 0, 45, 1, 0, 167, 0, 4]
abbrev dktX1_sizeOf_0 : List UInt8 := dkwX1_sizeOf_0 ++ dktX1_sizeOf_1
theorem dksX1_sizeOf_0 : cX1_sizeOf.data.toList.drop 0 = dktX1_sizeOf_0 := by decide +kernel
theorem dksX1_sizeOf_1 : cX1_sizeOf.data.toList.drop 24 = dktX1_sizeOf_1 := dk_seg dksX1_sizeOf_0 24 rfl rfl
theorem dX1_sizeOf_0 : decode cX1_sizeOf 0 = .ok (.aload_n 0, 1) := dk_42 (dk_at dksX1_sizeOf_0 0 rfl rfl)
theorem dX1_sizeOf_1 : decode cX1_sizeOf 1 = .ok (.instanceof 39, 3) := dk_193 0 39 (dk_at dksX1_sizeOf_0 1 rfl rfl)
theorem dX1_sizeOf_4 : decode cX1_sizeOf 4 = .ok (.ifCond .eq 20, 3) := dk_153 0 20 (dk_at dksX1_sizeOf_0 4 rfl rfl)
theorem dX1_sizeOf_7 : decode cX1_sizeOf 7 = .ok (.aload_n 0, 1) := dk_42 (dk_at dksX1_sizeOf_0 7 rfl rfl)
theorem dX1_sizeOf_8 : decode cX1_sizeOf 8 = .ok (.checkcast 39, 3) := dk_192 0 39 (dk_at dksX1_sizeOf_0 8 rfl rfl)
theorem dX1_sizeOf_11 : decode cX1_sizeOf 11 = .ok (.astore_n 1, 1) := dk_76 (dk_at dksX1_sizeOf_0 11 rfl rfl)
theorem dX1_sizeOf_12 : decode cX1_sizeOf 12 = .ok (.aload_n 1, 1) := dk_43 (dk_at dksX1_sizeOf_0 12 rfl rfl)
theorem dX1_sizeOf_13 : decode cX1_sizeOf 13 = .ok (.invokevirtual 41, 3) := dk_182 0 41 (dk_at dksX1_sizeOf_0 13 rfl rfl)
theorem dX1_sizeOf_16 : decode cX1_sizeOf 16 = .ok (.invokeinterface 45 1, 5) := by decide +kernel
theorem dX1_sizeOf_21 : decode cX1_sizeOf 21 = .ok (.goto 4, 3) := dk_167 0 4 (dk_at dksX1_sizeOf_0 21 rfl rfl)
theorem dX1_sizeOf_24 : decode cX1_sizeOf 24 = .ok (.iconst 1, 1) := dk_4 (dk_at dksX1_sizeOf_1 0 rfl rfl)
theorem dX1_sizeOf_25 : decode cX1_sizeOf 25 = .ok (.ireturn, 1) := dk_172 (dk_at dksX1_sizeOf_1 1 rfl rfl)
abbrev cX1_loses : ByteArray := prog_1_method_43_code
def yX1_loses : MethodName := ⟨RX1, "loses", "(LStenohall$Undone;)V"⟩
def dkwX1_loses_1 : List UInt8 := [132, 2, 255, 167, 255, 234, 177]
abbrev dktX1_loses_1 : List UInt8 := dkwX1_loses_1 ++ []
def dkwX1_loses_0 : List UInt8 := [43, 180, 1, 55, 61, 28, 43, 180, 1, 58, 164, 0, 20, 42, 180, 0, 72, 28, 4, 100, 182, 0, 194, 87]
abbrev dktX1_loses_0 : List UInt8 := dkwX1_loses_0 ++ dktX1_loses_1
theorem dksX1_loses_0 : cX1_loses.data.toList.drop 0 = dktX1_loses_0 := by decide +kernel
theorem dksX1_loses_1 : cX1_loses.data.toList.drop 24 = dktX1_loses_1 := dk_seg dksX1_loses_0 24 rfl rfl
theorem dX1_loses_0 : decode cX1_loses 0 = .ok (.aload_n 1, 1) := dk_43 (dk_at dksX1_loses_0 0 rfl rfl)
theorem dX1_loses_1 : decode cX1_loses 1 = .ok (.getfield 311, 3) := dk_180 1 55 (dk_at dksX1_loses_0 1 rfl rfl)
theorem dX1_loses_4 : decode cX1_loses 4 = .ok (.istore_n 2, 1) := dk_61 (dk_at dksX1_loses_0 4 rfl rfl)
theorem dX1_loses_5 : decode cX1_loses 5 = .ok (.iload_n 2, 1) := dk_28 (dk_at dksX1_loses_0 5 rfl rfl)
theorem dX1_loses_6 : decode cX1_loses 6 = .ok (.aload_n 1, 1) := dk_43 (dk_at dksX1_loses_0 6 rfl rfl)
theorem dX1_loses_7 : decode cX1_loses 7 = .ok (.getfield 314, 3) := dk_180 1 58 (dk_at dksX1_loses_0 7 rfl rfl)
theorem dX1_loses_10 : decode cX1_loses 10 = .ok (.if_icmp .le 20, 3) := dk_164 0 20 (dk_at dksX1_loses_0 10 rfl rfl)
theorem dX1_loses_13 : decode cX1_loses 13 = .ok (.aload_n 0, 1) := dk_42 (dk_at dksX1_loses_0 13 rfl rfl)
theorem dX1_loses_14 : decode cX1_loses 14 = .ok (.getfield 72, 3) := dk_180 0 72 (dk_at dksX1_loses_0 14 rfl rfl)
theorem dX1_loses_17 : decode cX1_loses 17 = .ok (.iload_n 2, 1) := dk_28 (dk_at dksX1_loses_0 17 rfl rfl)
theorem dX1_loses_18 : decode cX1_loses 18 = .ok (.iconst 1, 1) := dk_4 (dk_at dksX1_loses_0 18 rfl rfl)
theorem dX1_loses_19 : decode cX1_loses 19 = .ok (.isub, 1) := dk_100 (dk_at dksX1_loses_0 19 rfl rfl)
theorem dX1_loses_20 : decode cX1_loses 20 = .ok (.invokevirtual 194, 3) := dk_182 0 194 (dk_at dksX1_loses_0 20 rfl rfl)
theorem dX1_loses_23 : decode cX1_loses 23 = .ok (.pop, 1) := dk_87 (dk_at dksX1_loses_0 23 rfl rfl)
theorem dX1_loses_24 : decode cX1_loses 24 = .ok (.iinc 2 (-1), 3) := dk_132 2 255 (dk_at dksX1_loses_1 0 rfl rfl)
theorem dX1_loses_27 : decode cX1_loses 27 = .ok (.goto (-22), 3) := dk_167 255 234 (dk_at dksX1_loses_1 3 rfl rfl)
theorem dX1_loses_30 : decode cX1_loses 30 = .ok (.return_, 1) := dk_177 (dk_at dksX1_loses_1 6 rfl rfl)
abbrev cX1_chosen : ByteArray := prog_1_method_47_code
def yX1_chosen : MethodName := ⟨RX1, "chosen", "(Ljava/util/List;)Ljava/util/ArrayList;"⟩
def dkwX1_chosen_7 : List UInt8 := [132, 2, 1, 167, 255, 101, 43, 176]
abbrev dktX1_chosen_7 : List UInt8 := dkwX1_chosen_7 ++ []
def dkwX1_chosen_6 : List UInt8 := [4, 96, 167, 0, 4, 29, 62, 132, 7, 255, 167, 255, 215, 43, 29, 184, 0, 201, 182, 0, 181, 87]
abbrev dktX1_chosen_6 : List UInt8 := dkwX1_chosen_6 ++ dktX1_chosen_7
def dkwX1_chosen_5 : List UInt8 := [182, 1, 87, 180, 1, 11, 21, 7, 182, 0, 200, 192, 1, 14, 182, 1, 107, 21, 6, 160, 0, 10, 21, 7]
abbrev dktX1_chosen_5 : List UInt8 := dkwX1_chosen_5 ++ dktX1_chosen_6
def dkwX1_chosen_4 : List UInt8 := [25, 4, 182, 1, 87, 180, 1, 11, 182, 0, 172, 4, 100, 54, 7, 21, 7, 155, 0, 42, 25, 4]
abbrev dktX1_chosen_4 : List UInt8 := dkwX1_chosen_4 ++ dktX1_chosen_5
def dkwX1_chosen_3 : List UInt8 := [193, 0, 39, 153, 0, 79, 25, 6, 192, 0, 39, 58, 5, 25, 5, 182, 1, 87, 182, 1, 103, 54, 6]
abbrev dktX1_chosen_3 : List UInt8 := dkwX1_chosen_3 ++ dktX1_chosen_4
def dkwX1_chosen_2 : List UInt8 := [96, 42, 185, 0, 45, 1, 0, 162, 0, 98, 42, 28, 4, 96, 185, 0, 51, 2, 0, 58, 6, 25, 6]
abbrev dktX1_chosen_2 : List UInt8 := dkwX1_chosen_2 ++ dktX1_chosen_3
def dkwX1_chosen_1 : List UInt8 := [185, 0, 51, 2, 0, 58, 6, 25, 6, 193, 0, 39, 153, 0, 117, 25, 6, 192, 0, 39, 58, 4, 28, 4]
abbrev dktX1_chosen_1 : List UInt8 := dkwX1_chosen_1 ++ dktX1_chosen_2
def dkwX1_chosen_0 : List UInt8 := [187, 0, 69, 89, 183, 0, 71, 76, 3, 61, 28, 42, 185, 0, 45, 1, 0, 162, 0, 151, 3, 62, 42, 28]
abbrev dktX1_chosen_0 : List UInt8 := dkwX1_chosen_0 ++ dktX1_chosen_1
theorem dksX1_chosen_0 : cX1_chosen.data.toList.drop 0 = dktX1_chosen_0 := by decide +kernel
theorem dksX1_chosen_1 : cX1_chosen.data.toList.drop 24 = dktX1_chosen_1 := dk_seg dksX1_chosen_0 24 rfl rfl
theorem dksX1_chosen_2 : cX1_chosen.data.toList.drop 48 = dktX1_chosen_2 := dk_seg dksX1_chosen_1 24 rfl rfl
theorem dksX1_chosen_3 : cX1_chosen.data.toList.drop 71 = dktX1_chosen_3 := dk_seg dksX1_chosen_2 23 rfl rfl
theorem dksX1_chosen_4 : cX1_chosen.data.toList.drop 94 = dktX1_chosen_4 := dk_seg dksX1_chosen_3 23 rfl rfl
theorem dksX1_chosen_5 : cX1_chosen.data.toList.drop 116 = dktX1_chosen_5 := dk_seg dksX1_chosen_4 22 rfl rfl
theorem dksX1_chosen_6 : cX1_chosen.data.toList.drop 140 = dktX1_chosen_6 := dk_seg dksX1_chosen_5 24 rfl rfl
theorem dksX1_chosen_7 : cX1_chosen.data.toList.drop 162 = dktX1_chosen_7 := dk_seg dksX1_chosen_6 22 rfl rfl
theorem dX1_chosen_0 : decode cX1_chosen 0 = .ok (.new 69, 3) := dk_187 0 69 (dk_at dksX1_chosen_0 0 rfl rfl)
theorem dX1_chosen_3 : decode cX1_chosen 3 = .ok (.dup, 1) := dk_89 (dk_at dksX1_chosen_0 3 rfl rfl)
theorem dX1_chosen_4 : decode cX1_chosen 4 = .ok (.invokespecial 71, 3) := dk_183 0 71 (dk_at dksX1_chosen_0 4 rfl rfl)
theorem dX1_chosen_7 : decode cX1_chosen 7 = .ok (.astore_n 1, 1) := dk_76 (dk_at dksX1_chosen_0 7 rfl rfl)
theorem dX1_chosen_8 : decode cX1_chosen 8 = .ok (.iconst 0, 1) := dk_3 (dk_at dksX1_chosen_0 8 rfl rfl)
theorem dX1_chosen_9 : decode cX1_chosen 9 = .ok (.istore_n 2, 1) := dk_61 (dk_at dksX1_chosen_0 9 rfl rfl)
theorem dX1_chosen_10 : decode cX1_chosen 10 = .ok (.iload_n 2, 1) := dk_28 (dk_at dksX1_chosen_0 10 rfl rfl)
theorem dX1_chosen_11 : decode cX1_chosen 11 = .ok (.aload_n 0, 1) := dk_42 (dk_at dksX1_chosen_0 11 rfl rfl)
theorem dX1_chosen_12 : decode cX1_chosen 12 = .ok (.invokeinterface 45 1, 5) := by decide +kernel
theorem dX1_chosen_17 : decode cX1_chosen 17 = .ok (.if_icmp .ge 151, 3) := dk_162 0 151 (dk_at dksX1_chosen_0 17 rfl rfl)
theorem dX1_chosen_20 : decode cX1_chosen 20 = .ok (.iconst 0, 1) := dk_3 (dk_at dksX1_chosen_0 20 rfl rfl)
theorem dX1_chosen_21 : decode cX1_chosen 21 = .ok (.istore_n 3, 1) := dk_62 (dk_at dksX1_chosen_0 21 rfl rfl)
theorem dX1_chosen_22 : decode cX1_chosen 22 = .ok (.aload_n 0, 1) := dk_42 (dk_at dksX1_chosen_0 22 rfl rfl)
theorem dX1_chosen_23 : decode cX1_chosen 23 = .ok (.iload_n 2, 1) := dk_28 (dk_at dksX1_chosen_0 23 rfl rfl)
theorem dX1_chosen_24 : decode cX1_chosen 24 = .ok (.invokeinterface 51 2, 5) := by decide +kernel
theorem dX1_chosen_29 : decode cX1_chosen 29 = .ok (.astore 6, 2) := dk_58 6 (dk_at dksX1_chosen_1 5 rfl rfl)
theorem dX1_chosen_31 : decode cX1_chosen 31 = .ok (.aload 6, 2) := dk_25 6 (dk_at dksX1_chosen_1 7 rfl rfl)
theorem dX1_chosen_33 : decode cX1_chosen 33 = .ok (.instanceof 39, 3) := dk_193 0 39 (dk_at dksX1_chosen_1 9 rfl rfl)
theorem dX1_chosen_36 : decode cX1_chosen 36 = .ok (.ifCond .eq 117, 3) := dk_153 0 117 (dk_at dksX1_chosen_1 12 rfl rfl)
theorem dX1_chosen_39 : decode cX1_chosen 39 = .ok (.aload 6, 2) := dk_25 6 (dk_at dksX1_chosen_1 15 rfl rfl)
theorem dX1_chosen_41 : decode cX1_chosen 41 = .ok (.checkcast 39, 3) := dk_192 0 39 (dk_at dksX1_chosen_1 17 rfl rfl)
theorem dX1_chosen_44 : decode cX1_chosen 44 = .ok (.astore 4, 2) := dk_58 4 (dk_at dksX1_chosen_1 20 rfl rfl)
theorem dX1_chosen_46 : decode cX1_chosen 46 = .ok (.iload_n 2, 1) := dk_28 (dk_at dksX1_chosen_1 22 rfl rfl)
theorem dX1_chosen_47 : decode cX1_chosen 47 = .ok (.iconst 1, 1) := dk_4 (dk_at dksX1_chosen_1 23 rfl rfl)
theorem dX1_chosen_48 : decode cX1_chosen 48 = .ok (.iadd, 1) := dk_96 (dk_at dksX1_chosen_2 0 rfl rfl)
theorem dX1_chosen_49 : decode cX1_chosen 49 = .ok (.aload_n 0, 1) := dk_42 (dk_at dksX1_chosen_2 1 rfl rfl)
theorem dX1_chosen_50 : decode cX1_chosen 50 = .ok (.invokeinterface 45 1, 5) := by decide +kernel
theorem dX1_chosen_55 : decode cX1_chosen 55 = .ok (.if_icmp .ge 98, 3) := dk_162 0 98 (dk_at dksX1_chosen_2 7 rfl rfl)
theorem dX1_chosen_58 : decode cX1_chosen 58 = .ok (.aload_n 0, 1) := dk_42 (dk_at dksX1_chosen_2 10 rfl rfl)
theorem dX1_chosen_59 : decode cX1_chosen 59 = .ok (.iload_n 2, 1) := dk_28 (dk_at dksX1_chosen_2 11 rfl rfl)
theorem dX1_chosen_60 : decode cX1_chosen 60 = .ok (.iconst 1, 1) := dk_4 (dk_at dksX1_chosen_2 12 rfl rfl)
theorem dX1_chosen_61 : decode cX1_chosen 61 = .ok (.iadd, 1) := dk_96 (dk_at dksX1_chosen_2 13 rfl rfl)
theorem dX1_chosen_62 : decode cX1_chosen 62 = .ok (.invokeinterface 51 2, 5) := by decide +kernel
theorem dX1_chosen_67 : decode cX1_chosen 67 = .ok (.astore 6, 2) := dk_58 6 (dk_at dksX1_chosen_2 19 rfl rfl)
theorem dX1_chosen_69 : decode cX1_chosen 69 = .ok (.aload 6, 2) := dk_25 6 (dk_at dksX1_chosen_2 21 rfl rfl)
theorem dX1_chosen_71 : decode cX1_chosen 71 = .ok (.instanceof 39, 3) := dk_193 0 39 (dk_at dksX1_chosen_3 0 rfl rfl)
theorem dX1_chosen_74 : decode cX1_chosen 74 = .ok (.ifCond .eq 79, 3) := dk_153 0 79 (dk_at dksX1_chosen_3 3 rfl rfl)
theorem dX1_chosen_77 : decode cX1_chosen 77 = .ok (.aload 6, 2) := dk_25 6 (dk_at dksX1_chosen_3 6 rfl rfl)
theorem dX1_chosen_79 : decode cX1_chosen 79 = .ok (.checkcast 39, 3) := dk_192 0 39 (dk_at dksX1_chosen_3 8 rfl rfl)
theorem dX1_chosen_82 : decode cX1_chosen 82 = .ok (.astore 5, 2) := dk_58 5 (dk_at dksX1_chosen_3 11 rfl rfl)
theorem dX1_chosen_84 : decode cX1_chosen 84 = .ok (.aload 5, 2) := dk_25 5 (dk_at dksX1_chosen_3 13 rfl rfl)
theorem dX1_chosen_86 : decode cX1_chosen 86 = .ok (.invokevirtual 343, 3) := dk_182 1 87 (dk_at dksX1_chosen_3 15 rfl rfl)
theorem dX1_chosen_89 : decode cX1_chosen 89 = .ok (.invokevirtual 359, 3) := dk_182 1 103 (dk_at dksX1_chosen_3 18 rfl rfl)
theorem dX1_chosen_92 : decode cX1_chosen 92 = .ok (.istore 6, 2) := dk_54 6 (dk_at dksX1_chosen_3 21 rfl rfl)
theorem dX1_chosen_94 : decode cX1_chosen 94 = .ok (.aload 4, 2) := dk_25 4 (dk_at dksX1_chosen_4 0 rfl rfl)
theorem dX1_chosen_96 : decode cX1_chosen 96 = .ok (.invokevirtual 343, 3) := dk_182 1 87 (dk_at dksX1_chosen_4 2 rfl rfl)
theorem dX1_chosen_99 : decode cX1_chosen 99 = .ok (.getfield 267, 3) := dk_180 1 11 (dk_at dksX1_chosen_4 5 rfl rfl)
theorem dX1_chosen_102 : decode cX1_chosen 102 = .ok (.invokevirtual 172, 3) := dk_182 0 172 (dk_at dksX1_chosen_4 8 rfl rfl)
theorem dX1_chosen_105 : decode cX1_chosen 105 = .ok (.iconst 1, 1) := dk_4 (dk_at dksX1_chosen_4 11 rfl rfl)
theorem dX1_chosen_106 : decode cX1_chosen 106 = .ok (.isub, 1) := dk_100 (dk_at dksX1_chosen_4 12 rfl rfl)
theorem dX1_chosen_107 : decode cX1_chosen 107 = .ok (.istore 7, 2) := dk_54 7 (dk_at dksX1_chosen_4 13 rfl rfl)
theorem dX1_chosen_109 : decode cX1_chosen 109 = .ok (.iload 7, 2) := dk_21 7 (dk_at dksX1_chosen_4 15 rfl rfl)
theorem dX1_chosen_111 : decode cX1_chosen 111 = .ok (.ifCond .lt 42, 3) := dk_155 0 42 (dk_at dksX1_chosen_4 17 rfl rfl)
theorem dX1_chosen_114 : decode cX1_chosen 114 = .ok (.aload 4, 2) := dk_25 4 (dk_at dksX1_chosen_4 20 rfl rfl)
theorem dX1_chosen_116 : decode cX1_chosen 116 = .ok (.invokevirtual 343, 3) := dk_182 1 87 (dk_at dksX1_chosen_5 0 rfl rfl)
theorem dX1_chosen_119 : decode cX1_chosen 119 = .ok (.getfield 267, 3) := dk_180 1 11 (dk_at dksX1_chosen_5 3 rfl rfl)
theorem dX1_chosen_122 : decode cX1_chosen 122 = .ok (.iload 7, 2) := dk_21 7 (dk_at dksX1_chosen_5 6 rfl rfl)
theorem dX1_chosen_124 : decode cX1_chosen 124 = .ok (.invokevirtual 200, 3) := dk_182 0 200 (dk_at dksX1_chosen_5 8 rfl rfl)
theorem dX1_chosen_127 : decode cX1_chosen 127 = .ok (.checkcast 270, 3) := dk_192 1 14 (dk_at dksX1_chosen_5 11 rfl rfl)
theorem dX1_chosen_130 : decode cX1_chosen 130 = .ok (.invokevirtual 363, 3) := dk_182 1 107 (dk_at dksX1_chosen_5 14 rfl rfl)
theorem dX1_chosen_133 : decode cX1_chosen 133 = .ok (.iload 6, 2) := dk_21 6 (dk_at dksX1_chosen_5 17 rfl rfl)
theorem dX1_chosen_135 : decode cX1_chosen 135 = .ok (.if_icmp .ne 10, 3) := dk_160 0 10 (dk_at dksX1_chosen_5 19 rfl rfl)
theorem dX1_chosen_138 : decode cX1_chosen 138 = .ok (.iload 7, 2) := dk_21 7 (dk_at dksX1_chosen_5 22 rfl rfl)
theorem dX1_chosen_140 : decode cX1_chosen 140 = .ok (.iconst 1, 1) := dk_4 (dk_at dksX1_chosen_6 0 rfl rfl)
theorem dX1_chosen_141 : decode cX1_chosen 141 = .ok (.iadd, 1) := dk_96 (dk_at dksX1_chosen_6 1 rfl rfl)
theorem dX1_chosen_142 : decode cX1_chosen 142 = .ok (.goto 4, 3) := dk_167 0 4 (dk_at dksX1_chosen_6 2 rfl rfl)
theorem dX1_chosen_145 : decode cX1_chosen 145 = .ok (.iload_n 3, 1) := dk_29 (dk_at dksX1_chosen_6 5 rfl rfl)
theorem dX1_chosen_146 : decode cX1_chosen 146 = .ok (.istore_n 3, 1) := dk_62 (dk_at dksX1_chosen_6 6 rfl rfl)
theorem dX1_chosen_147 : decode cX1_chosen 147 = .ok (.iinc 7 (-1), 3) := dk_132 7 255 (dk_at dksX1_chosen_6 7 rfl rfl)
theorem dX1_chosen_150 : decode cX1_chosen 150 = .ok (.goto (-41), 3) := dk_167 255 215 (dk_at dksX1_chosen_6 10 rfl rfl)
theorem dX1_chosen_153 : decode cX1_chosen 153 = .ok (.aload_n 1, 1) := dk_43 (dk_at dksX1_chosen_6 13 rfl rfl)
theorem dX1_chosen_154 : decode cX1_chosen 154 = .ok (.iload_n 3, 1) := dk_29 (dk_at dksX1_chosen_6 14 rfl rfl)
theorem dX1_chosen_155 : decode cX1_chosen 155 = .ok (.invokestatic 201, 3) := dk_184 0 201 (dk_at dksX1_chosen_6 15 rfl rfl)
theorem dX1_chosen_158 : decode cX1_chosen 158 = .ok (.invokevirtual 181, 3) := dk_182 0 181 (dk_at dksX1_chosen_6 18 rfl rfl)
theorem dX1_chosen_161 : decode cX1_chosen 161 = .ok (.pop, 1) := dk_87 (dk_at dksX1_chosen_6 21 rfl rfl)
theorem dX1_chosen_162 : decode cX1_chosen 162 = .ok (.iinc 2 1, 3) := dk_132 2 1 (dk_at dksX1_chosen_7 0 rfl rfl)
theorem dX1_chosen_165 : decode cX1_chosen 165 = .ok (.goto (-155), 3) := dk_167 255 101 (dk_at dksX1_chosen_7 3 rfl rfl)
theorem dX1_chosen_168 : decode cX1_chosen 168 = .ok (.aload_n 1, 1) := dk_43 (dk_at dksX1_chosen_7 6 rfl rfl)
theorem dX1_chosen_169 : decode cX1_chosen 169 = .ok (.areturn, 1) := dk_176 (dk_at dksX1_chosen_7 7 rfl rfl)
abbrev cX1_contentOf : ByteArray := prog_1_method_48_code
def yX1_contentOf : MethodName := ⟨RX1, "contentOf", "(LStenohall$Translation;I)Ljava/lang/String;"⟩
def dkwX1_contentOf_2 : List UInt8 := [19, 1, 116, 176]
abbrev dktX1_contentOf_2 : List UInt8 := dkwX1_contentOf_2 ++ []
def dkwX1_contentOf_1 : List UInt8 := [167, 0, 22, 44, 182, 1, 87, 180, 1, 11, 27, 4, 100, 182, 0, 200, 192, 1, 14, 182, 1, 114, 176]
abbrev dktX1_contentOf_1 : List UInt8 := dkwX1_contentOf_1 ++ dktX1_contentOf_2
def dkwX1_contentOf_0 : List UInt8 := [42, 193, 0, 39, 153, 0, 42, 42, 192, 0, 39, 77, 27, 154, 0, 13, 44, 182, 1, 87, 180, 1, 110]
abbrev dktX1_contentOf_0 : List UInt8 := dkwX1_contentOf_0 ++ dktX1_contentOf_1
theorem dksX1_contentOf_0 : cX1_contentOf.data.toList.drop 0 = dktX1_contentOf_0 := by decide +kernel
theorem dksX1_contentOf_1 : cX1_contentOf.data.toList.drop 23 = dktX1_contentOf_1 := dk_seg dksX1_contentOf_0 23 rfl rfl
theorem dksX1_contentOf_2 : cX1_contentOf.data.toList.drop 46 = dktX1_contentOf_2 := dk_seg dksX1_contentOf_1 23 rfl rfl
theorem dX1_contentOf_0 : decode cX1_contentOf 0 = .ok (.aload_n 0, 1) := dk_42 (dk_at dksX1_contentOf_0 0 rfl rfl)
theorem dX1_contentOf_1 : decode cX1_contentOf 1 = .ok (.instanceof 39, 3) := dk_193 0 39 (dk_at dksX1_contentOf_0 1 rfl rfl)
theorem dX1_contentOf_4 : decode cX1_contentOf 4 = .ok (.ifCond .eq 42, 3) := dk_153 0 42 (dk_at dksX1_contentOf_0 4 rfl rfl)
theorem dX1_contentOf_7 : decode cX1_contentOf 7 = .ok (.aload_n 0, 1) := dk_42 (dk_at dksX1_contentOf_0 7 rfl rfl)
theorem dX1_contentOf_8 : decode cX1_contentOf 8 = .ok (.checkcast 39, 3) := dk_192 0 39 (dk_at dksX1_contentOf_0 8 rfl rfl)
theorem dX1_contentOf_11 : decode cX1_contentOf 11 = .ok (.astore_n 2, 1) := dk_77 (dk_at dksX1_contentOf_0 11 rfl rfl)
theorem dX1_contentOf_12 : decode cX1_contentOf 12 = .ok (.iload_n 1, 1) := dk_27 (dk_at dksX1_contentOf_0 12 rfl rfl)
theorem dX1_contentOf_13 : decode cX1_contentOf 13 = .ok (.ifCond .ne 13, 3) := dk_154 0 13 (dk_at dksX1_contentOf_0 13 rfl rfl)
theorem dX1_contentOf_16 : decode cX1_contentOf 16 = .ok (.aload_n 2, 1) := dk_44 (dk_at dksX1_contentOf_0 16 rfl rfl)
theorem dX1_contentOf_17 : decode cX1_contentOf 17 = .ok (.invokevirtual 343, 3) := dk_182 1 87 (dk_at dksX1_contentOf_0 17 rfl rfl)
theorem dX1_contentOf_20 : decode cX1_contentOf 20 = .ok (.getfield 366, 3) := dk_180 1 110 (dk_at dksX1_contentOf_0 20 rfl rfl)
theorem dX1_contentOf_23 : decode cX1_contentOf 23 = .ok (.goto 22, 3) := dk_167 0 22 (dk_at dksX1_contentOf_1 0 rfl rfl)
theorem dX1_contentOf_26 : decode cX1_contentOf 26 = .ok (.aload_n 2, 1) := dk_44 (dk_at dksX1_contentOf_1 3 rfl rfl)
theorem dX1_contentOf_27 : decode cX1_contentOf 27 = .ok (.invokevirtual 343, 3) := dk_182 1 87 (dk_at dksX1_contentOf_1 4 rfl rfl)
theorem dX1_contentOf_30 : decode cX1_contentOf 30 = .ok (.getfield 267, 3) := dk_180 1 11 (dk_at dksX1_contentOf_1 7 rfl rfl)
theorem dX1_contentOf_33 : decode cX1_contentOf 33 = .ok (.iload_n 1, 1) := dk_27 (dk_at dksX1_contentOf_1 10 rfl rfl)
theorem dX1_contentOf_34 : decode cX1_contentOf 34 = .ok (.iconst 1, 1) := dk_4 (dk_at dksX1_contentOf_1 11 rfl rfl)
theorem dX1_contentOf_35 : decode cX1_contentOf 35 = .ok (.isub, 1) := dk_100 (dk_at dksX1_contentOf_1 12 rfl rfl)
theorem dX1_contentOf_36 : decode cX1_contentOf 36 = .ok (.invokevirtual 200, 3) := dk_182 0 200 (dk_at dksX1_contentOf_1 13 rfl rfl)
theorem dX1_contentOf_39 : decode cX1_contentOf 39 = .ok (.checkcast 270, 3) := dk_192 1 14 (dk_at dksX1_contentOf_1 16 rfl rfl)
theorem dX1_contentOf_42 : decode cX1_contentOf 42 = .ok (.invokevirtual 370, 3) := dk_182 1 114 (dk_at dksX1_contentOf_1 19 rfl rfl)
theorem dX1_contentOf_45 : decode cX1_contentOf 45 = .ok (.areturn, 1) := dk_176 (dk_at dksX1_contentOf_1 22 rfl rfl)
theorem dX1_contentOf_46 : decode cX1_contentOf 46 = .ok (.ldc_w 372, 3) := dk_19 1 116 (dk_at dksX1_contentOf_2 0 rfl rfl)
theorem dX1_contentOf_49 : decode cX1_contentOf 49 = .ok (.areturn, 1) := dk_176 (dk_at dksX1_contentOf_2 3 rfl rfl)
abbrev cX1_tickOf : ByteArray := prog_1_method_15_code
def yX1_tickOf : MethodName := ⟨RX1, "tickOf", "(LStenohall$Translation;)I"⟩
def dkwX1_tickOf_2 : List UInt8 := [153, 0, 18, 42, 192, 0, 60, 76, 43, 182, 0, 62, 182, 0, 57, 167, 0, 4, 2, 172]
abbrev dktX1_tickOf_2 : List UInt8 := dkwX1_tickOf_2 ++ []
def dkwX1_tickOf_1 : List UInt8 := [185, 0, 45, 1, 0, 4, 100, 185, 0, 51, 2, 0, 192, 0, 55, 182, 0, 57, 172, 42, 193, 0, 60]
abbrev dktX1_tickOf_1 : List UInt8 := dkwX1_tickOf_1 ++ dktX1_tickOf_2
def dkwX1_tickOf_0 : List UInt8 := [42, 193, 0, 39, 153, 0, 35, 42, 192, 0, 39, 76, 43, 182, 0, 41, 43, 182, 0, 41]
abbrev dktX1_tickOf_0 : List UInt8 := dkwX1_tickOf_0 ++ dktX1_tickOf_1
theorem dksX1_tickOf_0 : cX1_tickOf.data.toList.drop 0 = dktX1_tickOf_0 := by decide +kernel
theorem dksX1_tickOf_1 : cX1_tickOf.data.toList.drop 20 = dktX1_tickOf_1 := dk_seg dksX1_tickOf_0 20 rfl rfl
theorem dksX1_tickOf_2 : cX1_tickOf.data.toList.drop 43 = dktX1_tickOf_2 := dk_seg dksX1_tickOf_1 23 rfl rfl
theorem dX1_tickOf_0 : decode cX1_tickOf 0 = .ok (.aload_n 0, 1) := dk_42 (dk_at dksX1_tickOf_0 0 rfl rfl)
theorem dX1_tickOf_1 : decode cX1_tickOf 1 = .ok (.instanceof 39, 3) := dk_193 0 39 (dk_at dksX1_tickOf_0 1 rfl rfl)
theorem dX1_tickOf_4 : decode cX1_tickOf 4 = .ok (.ifCond .eq 35, 3) := dk_153 0 35 (dk_at dksX1_tickOf_0 4 rfl rfl)
theorem dX1_tickOf_7 : decode cX1_tickOf 7 = .ok (.aload_n 0, 1) := dk_42 (dk_at dksX1_tickOf_0 7 rfl rfl)
theorem dX1_tickOf_8 : decode cX1_tickOf 8 = .ok (.checkcast 39, 3) := dk_192 0 39 (dk_at dksX1_tickOf_0 8 rfl rfl)
theorem dX1_tickOf_11 : decode cX1_tickOf 11 = .ok (.astore_n 1, 1) := dk_76 (dk_at dksX1_tickOf_0 11 rfl rfl)
theorem dX1_tickOf_12 : decode cX1_tickOf 12 = .ok (.aload_n 1, 1) := dk_43 (dk_at dksX1_tickOf_0 12 rfl rfl)
theorem dX1_tickOf_13 : decode cX1_tickOf 13 = .ok (.invokevirtual 41, 3) := dk_182 0 41 (dk_at dksX1_tickOf_0 13 rfl rfl)
theorem dX1_tickOf_16 : decode cX1_tickOf 16 = .ok (.aload_n 1, 1) := dk_43 (dk_at dksX1_tickOf_0 16 rfl rfl)
theorem dX1_tickOf_17 : decode cX1_tickOf 17 = .ok (.invokevirtual 41, 3) := dk_182 0 41 (dk_at dksX1_tickOf_0 17 rfl rfl)
theorem dX1_tickOf_20 : decode cX1_tickOf 20 = .ok (.invokeinterface 45 1, 5) := by decide +kernel
theorem dX1_tickOf_25 : decode cX1_tickOf 25 = .ok (.iconst 1, 1) := dk_4 (dk_at dksX1_tickOf_1 5 rfl rfl)
theorem dX1_tickOf_26 : decode cX1_tickOf 26 = .ok (.isub, 1) := dk_100 (dk_at dksX1_tickOf_1 6 rfl rfl)
theorem dX1_tickOf_27 : decode cX1_tickOf 27 = .ok (.invokeinterface 51 2, 5) := by decide +kernel
theorem dX1_tickOf_32 : decode cX1_tickOf 32 = .ok (.checkcast 55, 3) := dk_192 0 55 (dk_at dksX1_tickOf_1 12 rfl rfl)
theorem dX1_tickOf_35 : decode cX1_tickOf 35 = .ok (.invokevirtual 57, 3) := dk_182 0 57 (dk_at dksX1_tickOf_1 15 rfl rfl)
theorem dX1_tickOf_38 : decode cX1_tickOf 38 = .ok (.ireturn, 1) := dk_172 (dk_at dksX1_tickOf_1 18 rfl rfl)
theorem dX1_tickOf_39 : decode cX1_tickOf 39 = .ok (.aload_n 0, 1) := dk_42 (dk_at dksX1_tickOf_1 19 rfl rfl)
theorem dX1_tickOf_40 : decode cX1_tickOf 40 = .ok (.instanceof 60, 3) := dk_193 0 60 (dk_at dksX1_tickOf_1 20 rfl rfl)
theorem dX1_tickOf_43 : decode cX1_tickOf 43 = .ok (.ifCond .eq 18, 3) := dk_153 0 18 (dk_at dksX1_tickOf_2 0 rfl rfl)
theorem dX1_tickOf_46 : decode cX1_tickOf 46 = .ok (.aload_n 0, 1) := dk_42 (dk_at dksX1_tickOf_2 3 rfl rfl)
theorem dX1_tickOf_47 : decode cX1_tickOf 47 = .ok (.checkcast 60, 3) := dk_192 0 60 (dk_at dksX1_tickOf_2 4 rfl rfl)
theorem dX1_tickOf_50 : decode cX1_tickOf 50 = .ok (.astore_n 1, 1) := dk_76 (dk_at dksX1_tickOf_2 7 rfl rfl)
theorem dX1_tickOf_51 : decode cX1_tickOf 51 = .ok (.aload_n 1, 1) := dk_43 (dk_at dksX1_tickOf_2 8 rfl rfl)
theorem dX1_tickOf_52 : decode cX1_tickOf 52 = .ok (.invokevirtual 62, 3) := dk_182 0 62 (dk_at dksX1_tickOf_2 9 rfl rfl)
theorem dX1_tickOf_55 : decode cX1_tickOf 55 = .ok (.invokevirtual 57, 3) := dk_182 0 57 (dk_at dksX1_tickOf_2 12 rfl rfl)
theorem dX1_tickOf_58 : decode cX1_tickOf 58 = .ok (.goto 4, 3) := dk_167 0 4 (dk_at dksX1_tickOf_2 15 rfl rfl)
theorem dX1_tickOf_61 : decode cX1_tickOf 61 = .ok (.iconst (-1), 1) := dk_2 (dk_at dksX1_tickOf_2 18 rfl rfl)
theorem dX1_tickOf_62 : decode cX1_tickOf 62 = .ok (.ireturn, 1) := dk_172 (dk_at dksX1_tickOf_2 19 rfl rfl)
abbrev cX1_capital : ByteArray := prog_1_method_12_code
def yX1_capital : MethodName := ⟨RX1, "capital", "(C)C"⟩
def dkwX1_capital_0 : List UInt8 := [26, 184, 0, 22, 153, 0, 11, 26, 16, 32, 100, 146, 167, 0, 4, 26, 172]
abbrev dktX1_capital_0 : List UInt8 := dkwX1_capital_0 ++ []
theorem dksX1_capital_0 : cX1_capital.data.toList.drop 0 = dktX1_capital_0 := by decide +kernel
theorem dX1_capital_0 : decode cX1_capital 0 = .ok (.iload_n 0, 1) := dk_26 (dk_at dksX1_capital_0 0 rfl rfl)
theorem dX1_capital_1 : decode cX1_capital 1 = .ok (.invokestatic 22, 3) := dk_184 0 22 (dk_at dksX1_capital_0 1 rfl rfl)
theorem dX1_capital_4 : decode cX1_capital 4 = .ok (.ifCond .eq 11, 3) := dk_153 0 11 (dk_at dksX1_capital_0 4 rfl rfl)
theorem dX1_capital_7 : decode cX1_capital 7 = .ok (.iload_n 0, 1) := dk_26 (dk_at dksX1_capital_0 7 rfl rfl)
theorem dX1_capital_8 : decode cX1_capital 8 = .ok (.bipush 32, 2) := dk_16 32 (dk_at dksX1_capital_0 8 rfl rfl)
theorem dX1_capital_10 : decode cX1_capital 10 = .ok (.isub, 1) := dk_100 (dk_at dksX1_capital_0 10 rfl rfl)
theorem dX1_capital_11 : decode cX1_capital 11 = .ok (.i2c, 1) := dk_146 (dk_at dksX1_capital_0 11 rfl rfl)
theorem dX1_capital_12 : decode cX1_capital 12 = .ok (.goto 4, 3) := dk_167 0 4 (dk_at dksX1_capital_0 12 rfl rfl)
theorem dX1_capital_15 : decode cX1_capital 15 = .ok (.iload_n 0, 1) := dk_26 (dk_at dksX1_capital_0 15 rfl rfl)
theorem dX1_capital_16 : decode cX1_capital 16 = .ok (.ireturn, 1) := dk_172 (dk_at dksX1_capital_0 16 rfl rfl)
abbrev cX1_isLetter : ByteArray := prog_1_method_10_code
def yX1_isLetter : MethodName := ⟨RX1, "isLetter", "(C)Z"⟩
def dkwX1_isLetter_0 : List UInt8 := [26, 184, 0, 22, 154, 0, 10, 26, 184, 0, 28, 153, 0, 7, 4, 167, 0, 4, 3, 172]
abbrev dktX1_isLetter_0 : List UInt8 := dkwX1_isLetter_0 ++ []
theorem dksX1_isLetter_0 : cX1_isLetter.data.toList.drop 0 = dktX1_isLetter_0 := by decide +kernel
theorem dX1_isLetter_0 : decode cX1_isLetter 0 = .ok (.iload_n 0, 1) := dk_26 (dk_at dksX1_isLetter_0 0 rfl rfl)
theorem dX1_isLetter_1 : decode cX1_isLetter 1 = .ok (.invokestatic 22, 3) := dk_184 0 22 (dk_at dksX1_isLetter_0 1 rfl rfl)
theorem dX1_isLetter_4 : decode cX1_isLetter 4 = .ok (.ifCond .ne 10, 3) := dk_154 0 10 (dk_at dksX1_isLetter_0 4 rfl rfl)
theorem dX1_isLetter_7 : decode cX1_isLetter 7 = .ok (.iload_n 0, 1) := dk_26 (dk_at dksX1_isLetter_0 7 rfl rfl)
theorem dX1_isLetter_8 : decode cX1_isLetter 8 = .ok (.invokestatic 28, 3) := dk_184 0 28 (dk_at dksX1_isLetter_0 8 rfl rfl)
theorem dX1_isLetter_11 : decode cX1_isLetter 11 = .ok (.ifCond .eq 7, 3) := dk_153 0 7 (dk_at dksX1_isLetter_0 11 rfl rfl)
theorem dX1_isLetter_14 : decode cX1_isLetter 14 = .ok (.iconst 1, 1) := dk_4 (dk_at dksX1_isLetter_0 14 rfl rfl)
theorem dX1_isLetter_15 : decode cX1_isLetter 15 = .ok (.goto 4, 3) := dk_167 0 4 (dk_at dksX1_isLetter_0 15 rfl rfl)
theorem dX1_isLetter_18 : decode cX1_isLetter 18 = .ok (.iconst 0, 1) := dk_3 (dk_at dksX1_isLetter_0 18 rfl rfl)
theorem dX1_isLetter_19 : decode cX1_isLetter 19 = .ok (.ireturn, 1) := dk_172 (dk_at dksX1_isLetter_0 19 rfl rfl)
abbrev cX1_isCapital : ByteArray := prog_1_method_9_code
def yX1_isCapital : MethodName := ⟨RX1, "isCapital", "(C)Z"⟩
def dkwX1_isCapital_0 : List UInt8 := [26, 16, 65, 161, 0, 13, 26, 16, 90, 163, 0, 7, 4, 167, 0, 4, 3, 172]
abbrev dktX1_isCapital_0 : List UInt8 := dkwX1_isCapital_0 ++ []
theorem dksX1_isCapital_0 : cX1_isCapital.data.toList.drop 0 = dktX1_isCapital_0 := by decide +kernel
theorem dX1_isCapital_0 : decode cX1_isCapital 0 = .ok (.iload_n 0, 1) := dk_26 (dk_at dksX1_isCapital_0 0 rfl rfl)
theorem dX1_isCapital_1 : decode cX1_isCapital 1 = .ok (.bipush 65, 2) := dk_16 65 (dk_at dksX1_isCapital_0 1 rfl rfl)
theorem dX1_isCapital_3 : decode cX1_isCapital 3 = .ok (.if_icmp .lt 13, 3) := dk_161 0 13 (dk_at dksX1_isCapital_0 3 rfl rfl)
theorem dX1_isCapital_6 : decode cX1_isCapital 6 = .ok (.iload_n 0, 1) := dk_26 (dk_at dksX1_isCapital_0 6 rfl rfl)
theorem dX1_isCapital_7 : decode cX1_isCapital 7 = .ok (.bipush 90, 2) := dk_16 90 (dk_at dksX1_isCapital_0 7 rfl rfl)
theorem dX1_isCapital_9 : decode cX1_isCapital 9 = .ok (.if_icmp .gt 7, 3) := dk_163 0 7 (dk_at dksX1_isCapital_0 9 rfl rfl)
theorem dX1_isCapital_12 : decode cX1_isCapital 12 = .ok (.iconst 1, 1) := dk_4 (dk_at dksX1_isCapital_0 12 rfl rfl)
theorem dX1_isCapital_13 : decode cX1_isCapital 13 = .ok (.goto 4, 3) := dk_167 0 4 (dk_at dksX1_isCapital_0 13 rfl rfl)
theorem dX1_isCapital_16 : decode cX1_isCapital 16 = .ok (.iconst 0, 1) := dk_3 (dk_at dksX1_isCapital_0 16 rfl rfl)
theorem dX1_isCapital_17 : decode cX1_isCapital 17 = .ok (.ireturn, 1) := dk_172 (dk_at dksX1_isCapital_0 17 rfl rfl)
abbrev cX1_small : ByteArray := prog_1_method_11_code
def yX1_small : MethodName := ⟨RX1, "small", "(C)C"⟩
def dkwX1_small_0 : List UInt8 := [26, 184, 0, 28, 153, 0, 11, 26, 16, 32, 96, 146, 167, 0, 4, 26, 172]
abbrev dktX1_small_0 : List UInt8 := dkwX1_small_0 ++ []
theorem dksX1_small_0 : cX1_small.data.toList.drop 0 = dktX1_small_0 := by decide +kernel
theorem dX1_small_0 : decode cX1_small 0 = .ok (.iload_n 0, 1) := dk_26 (dk_at dksX1_small_0 0 rfl rfl)
theorem dX1_small_1 : decode cX1_small 1 = .ok (.invokestatic 28, 3) := dk_184 0 28 (dk_at dksX1_small_0 1 rfl rfl)
theorem dX1_small_4 : decode cX1_small 4 = .ok (.ifCond .eq 11, 3) := dk_153 0 11 (dk_at dksX1_small_0 4 rfl rfl)
theorem dX1_small_7 : decode cX1_small 7 = .ok (.iload_n 0, 1) := dk_26 (dk_at dksX1_small_0 7 rfl rfl)
theorem dX1_small_8 : decode cX1_small 8 = .ok (.bipush 32, 2) := dk_16 32 (dk_at dksX1_small_0 8 rfl rfl)
theorem dX1_small_10 : decode cX1_small 10 = .ok (.iadd, 1) := dk_96 (dk_at dksX1_small_0 10 rfl rfl)
theorem dX1_small_11 : decode cX1_small 11 = .ok (.i2c, 1) := dk_146 (dk_at dksX1_small_0 11 rfl rfl)
theorem dX1_small_12 : decode cX1_small 12 = .ok (.goto 4, 3) := dk_167 0 4 (dk_at dksX1_small_0 12 rfl rfl)
theorem dX1_small_15 : decode cX1_small 15 = .ok (.iload_n 0, 1) := dk_26 (dk_at dksX1_small_0 15 rfl rfl)
theorem dX1_small_16 : decode cX1_small 16 = .ok (.ireturn, 1) := dk_172 (dk_at dksX1_small_0 16 rfl rfl)
abbrev cX1_ruled : ByteArray := prog_1_method_49_code
def yX1_ruled : MethodName := ⟨RX1, "ruled", "(CLjava/lang/String;Ljava/lang/String;)Ljava/lang/String;"⟩
def dkwX1_ruled_15 : List UInt8 := [182, 0, 210, 182, 1, 4, 167, 0, 4, 1, 176]
abbrev dktX1_ruled_15 : List UInt8 := dkwX1_ruled_15 ++ []
def dkwX1_ruled_14 : List UInt8 := [182, 1, 134, 153, 0, 30, 21, 10, 153, 0, 25, 187, 0, 86, 89, 183, 0, 88, 43, 182, 1, 127, 16, 101]
abbrev dktX1_ruled_14 : List UInt8 := dkwX1_ruled_14 ++ dktX1_ruled_15
def dkwX1_ruled_13 : List UInt8 := [16, 99, 159, 0, 10, 21, 5, 16, 115, 160, 0, 7, 4, 167, 0, 4, 3, 54, 10, 44, 19, 1, 132]
abbrev dktX1_ruled_13 : List UInt8 := dkwX1_ruled_13 ++ dktX1_ruled_14
def dkwX1_ruled_12 : List UInt8 := [21, 4, 16, 120, 159, 0, 31, 21, 4, 16, 122, 159, 0, 24, 21, 4, 16, 104, 160, 0, 21, 21, 5]
abbrev dktX1_ruled_12 : List UInt8 := dkwX1_ruled_12 ++ dktX1_ruled_13
def dkwX1_ruled_11 : List UInt8 := [182, 1, 127, 21, 4, 182, 0, 210, 182, 1, 4, 167, 0, 4, 1, 176, 21, 4, 16, 115, 159, 0, 38]
abbrev dktX1_ruled_11 : List UInt8 := dkwX1_ruled_11 ++ dktX1_ruled_12
def dkwX1_ruled_10 : List UInt8 := [167, 0, 4, 3, 54, 9, 21, 9, 153, 0, 30, 21, 7, 153, 0, 25, 187, 0, 86, 89, 183, 0, 88, 43]
abbrev dktX1_ruled_10 : List UInt8 := dkwX1_ruled_10 ++ dktX1_ruled_11
def dkwX1_ruled_9 : List UInt8 := [21, 5, 184, 1, 120, 153, 0, 22, 21, 6, 16, 32, 159, 0, 15, 21, 6, 184, 1, 120, 154, 0, 7, 4]
abbrev dktX1_ruled_9 : List UInt8 := dkwX1_ruled_9 ++ dktX1_ruled_10
def dkwX1_ruled_8 : List UInt8 := [167, 0, 4, 1, 176, 21, 4, 184, 1, 120, 154, 0, 41, 19, 1, 130, 21, 4, 182, 0, 33, 156, 0, 30]
abbrev dktX1_ruled_8 : List UInt8 := dkwX1_ruled_8 ++ dktX1_ruled_9
def dkwX1_ruled_7 : List UInt8 := [89, 183, 0, 88, 43, 3, 29, 4, 100, 182, 1, 123, 182, 1, 127, 16, 105, 182, 0, 210, 182, 1, 4]
abbrev dktX1_ruled_7 : List UInt8 := dkwX1_ruled_7 ++ dktX1_ruled_8
def dkwX1_ruled_6 : List UInt8 := [3, 182, 1, 119, 16, 105, 159, 0, 7, 4, 167, 0, 4, 3, 54, 8, 21, 8, 153, 0, 32, 187, 0, 86]
abbrev dktX1_ruled_6 : List UInt8 := dkwX1_ruled_6 ++ dktX1_ruled_7
def dkwX1_ruled_5 : List UInt8 := [176, 21, 4, 16, 121, 160, 0, 32, 21, 5, 16, 32, 159, 0, 25, 21, 5, 184, 1, 120, 154, 0, 17, 44]
abbrev dktX1_ruled_5 : List UInt8 := dkwX1_ruled_5 ++ dktX1_ruled_6
def dkwX1_ruled_4 : List UInt8 := [21, 4, 16, 101, 160, 0, 19, 21, 7, 153, 0, 14, 43, 3, 29, 4, 100, 182, 1, 123, 167, 0, 4, 1]
abbrev dktX1_ruled_4 : List UInt8 := dkwX1_ruled_4 ++ dktX1_ruled_5
def dkwX1_ruled_3 : List UInt8 := [171, 0, 0, 0, 216, 0, 0, 0, 3, 0, 0, 0, 100, 0, 0, 0, 133, 0, 0, 0, 101, 0, 0, 0, 33, 0, 0, 0, 121, 0, 0, 0, 58]
abbrev dktX1_ruled_3 : List UInt8 := dkwX1_ruled_3 ++ dktX1_ruled_4
def dkwX1_ruled_2 : List UInt8 := [167, 0, 5, 16, 32, 54, 6, 44, 3, 182, 1, 119, 184, 1, 120, 54, 7, 26]
abbrev dktX1_ruled_2 : List UInt8 := dkwX1_ruled_2 ++ dktX1_ruled_3
def dkwX1_ruled_1 : List UInt8 := [182, 1, 119, 167, 0, 5, 16, 32, 54, 5, 29, 5, 164, 0, 13, 43, 29, 6, 100, 182, 1, 119]
abbrev dktX1_ruled_1 : List UInt8 := dkwX1_ruled_1 ++ dktX1_ruled_2
def dkwX1_ruled_0 : List UInt8 := [43, 182, 1, 118, 62, 43, 29, 4, 100, 182, 1, 119, 54, 4, 29, 4, 164, 0, 13, 43, 29, 5, 100]
abbrev dktX1_ruled_0 : List UInt8 := dkwX1_ruled_0 ++ dktX1_ruled_1
theorem dksX1_ruled_0 : cX1_ruled.data.toList.drop 0 = dktX1_ruled_0 := by decide +kernel
theorem dksX1_ruled_1 : cX1_ruled.data.toList.drop 23 = dktX1_ruled_1 := dk_seg dksX1_ruled_0 23 rfl rfl
theorem dksX1_ruled_2 : cX1_ruled.data.toList.drop 45 = dktX1_ruled_2 := dk_seg dksX1_ruled_1 22 rfl rfl
theorem dksX1_ruled_3 : cX1_ruled.data.toList.drop 63 = dktX1_ruled_3 := dk_seg dksX1_ruled_2 18 rfl rfl
theorem dksX1_ruled_4 : cX1_ruled.data.toList.drop 96 = dktX1_ruled_4 := dk_seg dksX1_ruled_3 33 rfl rfl
theorem dksX1_ruled_5 : cX1_ruled.data.toList.drop 120 = dktX1_ruled_5 := dk_seg dksX1_ruled_4 24 rfl rfl
theorem dksX1_ruled_6 : cX1_ruled.data.toList.drop 144 = dktX1_ruled_6 := dk_seg dksX1_ruled_5 24 rfl rfl
theorem dksX1_ruled_7 : cX1_ruled.data.toList.drop 168 = dktX1_ruled_7 := dk_seg dksX1_ruled_6 24 rfl rfl
theorem dksX1_ruled_8 : cX1_ruled.data.toList.drop 191 = dktX1_ruled_8 := dk_seg dksX1_ruled_7 23 rfl rfl
theorem dksX1_ruled_9 : cX1_ruled.data.toList.drop 215 = dktX1_ruled_9 := dk_seg dksX1_ruled_8 24 rfl rfl
theorem dksX1_ruled_10 : cX1_ruled.data.toList.drop 239 = dktX1_ruled_10 := dk_seg dksX1_ruled_9 24 rfl rfl
theorem dksX1_ruled_11 : cX1_ruled.data.toList.drop 263 = dktX1_ruled_11 := dk_seg dksX1_ruled_10 24 rfl rfl
theorem dksX1_ruled_12 : cX1_ruled.data.toList.drop 286 = dktX1_ruled_12 := dk_seg dksX1_ruled_11 23 rfl rfl
theorem dksX1_ruled_13 : cX1_ruled.data.toList.drop 309 = dktX1_ruled_13 := dk_seg dksX1_ruled_12 23 rfl rfl
theorem dksX1_ruled_14 : cX1_ruled.data.toList.drop 332 = dktX1_ruled_14 := dk_seg dksX1_ruled_13 23 rfl rfl
theorem dksX1_ruled_15 : cX1_ruled.data.toList.drop 356 = dktX1_ruled_15 := dk_seg dksX1_ruled_14 24 rfl rfl
theorem dX1_ruled_0 : decode cX1_ruled 0 = .ok (.aload_n 1, 1) := dk_43 (dk_at dksX1_ruled_0 0 rfl rfl)
theorem dX1_ruled_1 : decode cX1_ruled 1 = .ok (.invokevirtual 374, 3) := dk_182 1 118 (dk_at dksX1_ruled_0 1 rfl rfl)
theorem dX1_ruled_4 : decode cX1_ruled 4 = .ok (.istore_n 3, 1) := dk_62 (dk_at dksX1_ruled_0 4 rfl rfl)
theorem dX1_ruled_5 : decode cX1_ruled 5 = .ok (.aload_n 1, 1) := dk_43 (dk_at dksX1_ruled_0 5 rfl rfl)
theorem dX1_ruled_6 : decode cX1_ruled 6 = .ok (.iload_n 3, 1) := dk_29 (dk_at dksX1_ruled_0 6 rfl rfl)
theorem dX1_ruled_7 : decode cX1_ruled 7 = .ok (.iconst 1, 1) := dk_4 (dk_at dksX1_ruled_0 7 rfl rfl)
theorem dX1_ruled_8 : decode cX1_ruled 8 = .ok (.isub, 1) := dk_100 (dk_at dksX1_ruled_0 8 rfl rfl)
theorem dX1_ruled_9 : decode cX1_ruled 9 = .ok (.invokevirtual 375, 3) := dk_182 1 119 (dk_at dksX1_ruled_0 9 rfl rfl)
theorem dX1_ruled_12 : decode cX1_ruled 12 = .ok (.istore 4, 2) := dk_54 4 (dk_at dksX1_ruled_0 12 rfl rfl)
theorem dX1_ruled_14 : decode cX1_ruled 14 = .ok (.iload_n 3, 1) := dk_29 (dk_at dksX1_ruled_0 14 rfl rfl)
theorem dX1_ruled_15 : decode cX1_ruled 15 = .ok (.iconst 1, 1) := dk_4 (dk_at dksX1_ruled_0 15 rfl rfl)
theorem dX1_ruled_16 : decode cX1_ruled 16 = .ok (.if_icmp .le 13, 3) := dk_164 0 13 (dk_at dksX1_ruled_0 16 rfl rfl)
theorem dX1_ruled_19 : decode cX1_ruled 19 = .ok (.aload_n 1, 1) := dk_43 (dk_at dksX1_ruled_0 19 rfl rfl)
theorem dX1_ruled_20 : decode cX1_ruled 20 = .ok (.iload_n 3, 1) := dk_29 (dk_at dksX1_ruled_0 20 rfl rfl)
theorem dX1_ruled_21 : decode cX1_ruled 21 = .ok (.iconst 2, 1) := dk_5 (dk_at dksX1_ruled_0 21 rfl rfl)
theorem dX1_ruled_22 : decode cX1_ruled 22 = .ok (.isub, 1) := dk_100 (dk_at dksX1_ruled_0 22 rfl rfl)
theorem dX1_ruled_23 : decode cX1_ruled 23 = .ok (.invokevirtual 375, 3) := dk_182 1 119 (dk_at dksX1_ruled_1 0 rfl rfl)
theorem dX1_ruled_26 : decode cX1_ruled 26 = .ok (.goto 5, 3) := dk_167 0 5 (dk_at dksX1_ruled_1 3 rfl rfl)
theorem dX1_ruled_29 : decode cX1_ruled 29 = .ok (.bipush 32, 2) := dk_16 32 (dk_at dksX1_ruled_1 6 rfl rfl)
theorem dX1_ruled_31 : decode cX1_ruled 31 = .ok (.istore 5, 2) := dk_54 5 (dk_at dksX1_ruled_1 8 rfl rfl)
theorem dX1_ruled_33 : decode cX1_ruled 33 = .ok (.iload_n 3, 1) := dk_29 (dk_at dksX1_ruled_1 10 rfl rfl)
theorem dX1_ruled_34 : decode cX1_ruled 34 = .ok (.iconst 2, 1) := dk_5 (dk_at dksX1_ruled_1 11 rfl rfl)
theorem dX1_ruled_35 : decode cX1_ruled 35 = .ok (.if_icmp .le 13, 3) := dk_164 0 13 (dk_at dksX1_ruled_1 12 rfl rfl)
theorem dX1_ruled_38 : decode cX1_ruled 38 = .ok (.aload_n 1, 1) := dk_43 (dk_at dksX1_ruled_1 15 rfl rfl)
theorem dX1_ruled_39 : decode cX1_ruled 39 = .ok (.iload_n 3, 1) := dk_29 (dk_at dksX1_ruled_1 16 rfl rfl)
theorem dX1_ruled_40 : decode cX1_ruled 40 = .ok (.iconst 3, 1) := dk_6 (dk_at dksX1_ruled_1 17 rfl rfl)
theorem dX1_ruled_41 : decode cX1_ruled 41 = .ok (.isub, 1) := dk_100 (dk_at dksX1_ruled_1 18 rfl rfl)
theorem dX1_ruled_42 : decode cX1_ruled 42 = .ok (.invokevirtual 375, 3) := dk_182 1 119 (dk_at dksX1_ruled_1 19 rfl rfl)
theorem dX1_ruled_45 : decode cX1_ruled 45 = .ok (.goto 5, 3) := dk_167 0 5 (dk_at dksX1_ruled_2 0 rfl rfl)
theorem dX1_ruled_48 : decode cX1_ruled 48 = .ok (.bipush 32, 2) := dk_16 32 (dk_at dksX1_ruled_2 3 rfl rfl)
theorem dX1_ruled_50 : decode cX1_ruled 50 = .ok (.istore 6, 2) := dk_54 6 (dk_at dksX1_ruled_2 5 rfl rfl)
theorem dX1_ruled_52 : decode cX1_ruled 52 = .ok (.aload_n 2, 1) := dk_44 (dk_at dksX1_ruled_2 7 rfl rfl)
theorem dX1_ruled_53 : decode cX1_ruled 53 = .ok (.iconst 0, 1) := dk_3 (dk_at dksX1_ruled_2 8 rfl rfl)
theorem dX1_ruled_54 : decode cX1_ruled 54 = .ok (.invokevirtual 375, 3) := dk_182 1 119 (dk_at dksX1_ruled_2 9 rfl rfl)
theorem dX1_ruled_57 : decode cX1_ruled 57 = .ok (.invokestatic 376, 3) := dk_184 1 120 (dk_at dksX1_ruled_2 12 rfl rfl)
theorem dX1_ruled_60 : decode cX1_ruled 60 = .ok (.istore 7, 2) := dk_54 7 (dk_at dksX1_ruled_2 15 rfl rfl)
theorem dX1_ruled_62 : decode cX1_ruled 62 = .ok (.iload_n 0, 1) := dk_26 (dk_at dksX1_ruled_2 17 rfl rfl)
theorem dX1_ruled_63 : decode cX1_ruled 63 = .ok (.lookupswitch 216 #[(100, 133), (101, 33), (121, 58)], 33) := by decide +kernel
theorem dX1_ruled_96 : decode cX1_ruled 96 = .ok (.iload 4, 2) := dk_21 4 (dk_at dksX1_ruled_4 0 rfl rfl)
theorem dX1_ruled_98 : decode cX1_ruled 98 = .ok (.bipush 101, 2) := dk_16 101 (dk_at dksX1_ruled_4 2 rfl rfl)
theorem dX1_ruled_100 : decode cX1_ruled 100 = .ok (.if_icmp .ne 19, 3) := dk_160 0 19 (dk_at dksX1_ruled_4 4 rfl rfl)
theorem dX1_ruled_103 : decode cX1_ruled 103 = .ok (.iload 7, 2) := dk_21 7 (dk_at dksX1_ruled_4 7 rfl rfl)
theorem dX1_ruled_105 : decode cX1_ruled 105 = .ok (.ifCond .eq 14, 3) := dk_153 0 14 (dk_at dksX1_ruled_4 9 rfl rfl)
theorem dX1_ruled_108 : decode cX1_ruled 108 = .ok (.aload_n 1, 1) := dk_43 (dk_at dksX1_ruled_4 12 rfl rfl)
theorem dX1_ruled_109 : decode cX1_ruled 109 = .ok (.iconst 0, 1) := dk_3 (dk_at dksX1_ruled_4 13 rfl rfl)
theorem dX1_ruled_110 : decode cX1_ruled 110 = .ok (.iload_n 3, 1) := dk_29 (dk_at dksX1_ruled_4 14 rfl rfl)
theorem dX1_ruled_111 : decode cX1_ruled 111 = .ok (.iconst 1, 1) := dk_4 (dk_at dksX1_ruled_4 15 rfl rfl)
theorem dX1_ruled_112 : decode cX1_ruled 112 = .ok (.isub, 1) := dk_100 (dk_at dksX1_ruled_4 16 rfl rfl)
theorem dX1_ruled_113 : decode cX1_ruled 113 = .ok (.invokevirtual 379, 3) := dk_182 1 123 (dk_at dksX1_ruled_4 17 rfl rfl)
theorem dX1_ruled_116 : decode cX1_ruled 116 = .ok (.goto 4, 3) := dk_167 0 4 (dk_at dksX1_ruled_4 20 rfl rfl)
theorem dX1_ruled_119 : decode cX1_ruled 119 = .ok (.aconst_null, 1) := dk_1 (dk_at dksX1_ruled_4 23 rfl rfl)
theorem dX1_ruled_120 : decode cX1_ruled 120 = .ok (.areturn, 1) := dk_176 (dk_at dksX1_ruled_5 0 rfl rfl)
theorem dX1_ruled_121 : decode cX1_ruled 121 = .ok (.iload 4, 2) := dk_21 4 (dk_at dksX1_ruled_5 1 rfl rfl)
theorem dX1_ruled_123 : decode cX1_ruled 123 = .ok (.bipush 121, 2) := dk_16 121 (dk_at dksX1_ruled_5 3 rfl rfl)
theorem dX1_ruled_125 : decode cX1_ruled 125 = .ok (.if_icmp .ne 32, 3) := dk_160 0 32 (dk_at dksX1_ruled_5 5 rfl rfl)
theorem dX1_ruled_128 : decode cX1_ruled 128 = .ok (.iload 5, 2) := dk_21 5 (dk_at dksX1_ruled_5 8 rfl rfl)
theorem dX1_ruled_130 : decode cX1_ruled 130 = .ok (.bipush 32, 2) := dk_16 32 (dk_at dksX1_ruled_5 10 rfl rfl)
theorem dX1_ruled_132 : decode cX1_ruled 132 = .ok (.if_icmp .eq 25, 3) := dk_159 0 25 (dk_at dksX1_ruled_5 12 rfl rfl)
theorem dX1_ruled_135 : decode cX1_ruled 135 = .ok (.iload 5, 2) := dk_21 5 (dk_at dksX1_ruled_5 15 rfl rfl)
theorem dX1_ruled_137 : decode cX1_ruled 137 = .ok (.invokestatic 376, 3) := dk_184 1 120 (dk_at dksX1_ruled_5 17 rfl rfl)
theorem dX1_ruled_140 : decode cX1_ruled 140 = .ok (.ifCond .ne 17, 3) := dk_154 0 17 (dk_at dksX1_ruled_5 20 rfl rfl)
theorem dX1_ruled_143 : decode cX1_ruled 143 = .ok (.aload_n 2, 1) := dk_44 (dk_at dksX1_ruled_5 23 rfl rfl)
theorem dX1_ruled_144 : decode cX1_ruled 144 = .ok (.iconst 0, 1) := dk_3 (dk_at dksX1_ruled_6 0 rfl rfl)
theorem dX1_ruled_145 : decode cX1_ruled 145 = .ok (.invokevirtual 375, 3) := dk_182 1 119 (dk_at dksX1_ruled_6 1 rfl rfl)
theorem dX1_ruled_148 : decode cX1_ruled 148 = .ok (.bipush 105, 2) := dk_16 105 (dk_at dksX1_ruled_6 4 rfl rfl)
theorem dX1_ruled_150 : decode cX1_ruled 150 = .ok (.if_icmp .eq 7, 3) := dk_159 0 7 (dk_at dksX1_ruled_6 6 rfl rfl)
theorem dX1_ruled_153 : decode cX1_ruled 153 = .ok (.iconst 1, 1) := dk_4 (dk_at dksX1_ruled_6 9 rfl rfl)
theorem dX1_ruled_154 : decode cX1_ruled 154 = .ok (.goto 4, 3) := dk_167 0 4 (dk_at dksX1_ruled_6 10 rfl rfl)
theorem dX1_ruled_157 : decode cX1_ruled 157 = .ok (.iconst 0, 1) := dk_3 (dk_at dksX1_ruled_6 13 rfl rfl)
theorem dX1_ruled_158 : decode cX1_ruled 158 = .ok (.istore 8, 2) := dk_54 8 (dk_at dksX1_ruled_6 14 rfl rfl)
theorem dX1_ruled_160 : decode cX1_ruled 160 = .ok (.iload 8, 2) := dk_21 8 (dk_at dksX1_ruled_6 16 rfl rfl)
theorem dX1_ruled_162 : decode cX1_ruled 162 = .ok (.ifCond .eq 32, 3) := dk_153 0 32 (dk_at dksX1_ruled_6 18 rfl rfl)
theorem dX1_ruled_165 : decode cX1_ruled 165 = .ok (.new 86, 3) := dk_187 0 86 (dk_at dksX1_ruled_6 21 rfl rfl)
theorem dX1_ruled_168 : decode cX1_ruled 168 = .ok (.dup, 1) := dk_89 (dk_at dksX1_ruled_7 0 rfl rfl)
theorem dX1_ruled_169 : decode cX1_ruled 169 = .ok (.invokespecial 88, 3) := dk_183 0 88 (dk_at dksX1_ruled_7 1 rfl rfl)
theorem dX1_ruled_172 : decode cX1_ruled 172 = .ok (.aload_n 1, 1) := dk_43 (dk_at dksX1_ruled_7 4 rfl rfl)
theorem dX1_ruled_173 : decode cX1_ruled 173 = .ok (.iconst 0, 1) := dk_3 (dk_at dksX1_ruled_7 5 rfl rfl)
theorem dX1_ruled_174 : decode cX1_ruled 174 = .ok (.iload_n 3, 1) := dk_29 (dk_at dksX1_ruled_7 6 rfl rfl)
theorem dX1_ruled_175 : decode cX1_ruled 175 = .ok (.iconst 1, 1) := dk_4 (dk_at dksX1_ruled_7 7 rfl rfl)
theorem dX1_ruled_176 : decode cX1_ruled 176 = .ok (.isub, 1) := dk_100 (dk_at dksX1_ruled_7 8 rfl rfl)
theorem dX1_ruled_177 : decode cX1_ruled 177 = .ok (.invokevirtual 379, 3) := dk_182 1 123 (dk_at dksX1_ruled_7 9 rfl rfl)
theorem dX1_ruled_180 : decode cX1_ruled 180 = .ok (.invokevirtual 383, 3) := dk_182 1 127 (dk_at dksX1_ruled_7 12 rfl rfl)
theorem dX1_ruled_183 : decode cX1_ruled 183 = .ok (.bipush 105, 2) := dk_16 105 (dk_at dksX1_ruled_7 15 rfl rfl)
theorem dX1_ruled_185 : decode cX1_ruled 185 = .ok (.invokevirtual 210, 3) := dk_182 0 210 (dk_at dksX1_ruled_7 17 rfl rfl)
theorem dX1_ruled_188 : decode cX1_ruled 188 = .ok (.invokevirtual 260, 3) := dk_182 1 4 (dk_at dksX1_ruled_7 20 rfl rfl)
theorem dX1_ruled_191 : decode cX1_ruled 191 = .ok (.goto 4, 3) := dk_167 0 4 (dk_at dksX1_ruled_8 0 rfl rfl)
theorem dX1_ruled_194 : decode cX1_ruled 194 = .ok (.aconst_null, 1) := dk_1 (dk_at dksX1_ruled_8 3 rfl rfl)
theorem dX1_ruled_195 : decode cX1_ruled 195 = .ok (.areturn, 1) := dk_176 (dk_at dksX1_ruled_8 4 rfl rfl)
theorem dX1_ruled_196 : decode cX1_ruled 196 = .ok (.iload 4, 2) := dk_21 4 (dk_at dksX1_ruled_8 5 rfl rfl)
theorem dX1_ruled_198 : decode cX1_ruled 198 = .ok (.invokestatic 376, 3) := dk_184 1 120 (dk_at dksX1_ruled_8 7 rfl rfl)
theorem dX1_ruled_201 : decode cX1_ruled 201 = .ok (.ifCond .ne 41, 3) := dk_154 0 41 (dk_at dksX1_ruled_8 10 rfl rfl)
theorem dX1_ruled_204 : decode cX1_ruled 204 = .ok (.ldc_w 386, 3) := dk_19 1 130 (dk_at dksX1_ruled_8 13 rfl rfl)
theorem dX1_ruled_207 : decode cX1_ruled 207 = .ok (.iload 4, 2) := dk_21 4 (dk_at dksX1_ruled_8 16 rfl rfl)
theorem dX1_ruled_209 : decode cX1_ruled 209 = .ok (.invokevirtual 33, 3) := dk_182 0 33 (dk_at dksX1_ruled_8 18 rfl rfl)
theorem dX1_ruled_212 : decode cX1_ruled 212 = .ok (.ifCond .ge 30, 3) := dk_156 0 30 (dk_at dksX1_ruled_8 21 rfl rfl)
theorem dX1_ruled_215 : decode cX1_ruled 215 = .ok (.iload 5, 2) := dk_21 5 (dk_at dksX1_ruled_9 0 rfl rfl)
theorem dX1_ruled_217 : decode cX1_ruled 217 = .ok (.invokestatic 376, 3) := dk_184 1 120 (dk_at dksX1_ruled_9 2 rfl rfl)
theorem dX1_ruled_220 : decode cX1_ruled 220 = .ok (.ifCond .eq 22, 3) := dk_153 0 22 (dk_at dksX1_ruled_9 5 rfl rfl)
theorem dX1_ruled_223 : decode cX1_ruled 223 = .ok (.iload 6, 2) := dk_21 6 (dk_at dksX1_ruled_9 8 rfl rfl)
theorem dX1_ruled_225 : decode cX1_ruled 225 = .ok (.bipush 32, 2) := dk_16 32 (dk_at dksX1_ruled_9 10 rfl rfl)
theorem dX1_ruled_227 : decode cX1_ruled 227 = .ok (.if_icmp .eq 15, 3) := dk_159 0 15 (dk_at dksX1_ruled_9 12 rfl rfl)
theorem dX1_ruled_230 : decode cX1_ruled 230 = .ok (.iload 6, 2) := dk_21 6 (dk_at dksX1_ruled_9 15 rfl rfl)
theorem dX1_ruled_232 : decode cX1_ruled 232 = .ok (.invokestatic 376, 3) := dk_184 1 120 (dk_at dksX1_ruled_9 17 rfl rfl)
theorem dX1_ruled_235 : decode cX1_ruled 235 = .ok (.ifCond .ne 7, 3) := dk_154 0 7 (dk_at dksX1_ruled_9 20 rfl rfl)
theorem dX1_ruled_238 : decode cX1_ruled 238 = .ok (.iconst 1, 1) := dk_4 (dk_at dksX1_ruled_9 23 rfl rfl)
theorem dX1_ruled_239 : decode cX1_ruled 239 = .ok (.goto 4, 3) := dk_167 0 4 (dk_at dksX1_ruled_10 0 rfl rfl)
theorem dX1_ruled_242 : decode cX1_ruled 242 = .ok (.iconst 0, 1) := dk_3 (dk_at dksX1_ruled_10 3 rfl rfl)
theorem dX1_ruled_243 : decode cX1_ruled 243 = .ok (.istore 9, 2) := dk_54 9 (dk_at dksX1_ruled_10 4 rfl rfl)
theorem dX1_ruled_245 : decode cX1_ruled 245 = .ok (.iload 9, 2) := dk_21 9 (dk_at dksX1_ruled_10 6 rfl rfl)
theorem dX1_ruled_247 : decode cX1_ruled 247 = .ok (.ifCond .eq 30, 3) := dk_153 0 30 (dk_at dksX1_ruled_10 8 rfl rfl)
theorem dX1_ruled_250 : decode cX1_ruled 250 = .ok (.iload 7, 2) := dk_21 7 (dk_at dksX1_ruled_10 11 rfl rfl)
theorem dX1_ruled_252 : decode cX1_ruled 252 = .ok (.ifCond .eq 25, 3) := dk_153 0 25 (dk_at dksX1_ruled_10 13 rfl rfl)
theorem dX1_ruled_255 : decode cX1_ruled 255 = .ok (.new 86, 3) := dk_187 0 86 (dk_at dksX1_ruled_10 16 rfl rfl)
theorem dX1_ruled_258 : decode cX1_ruled 258 = .ok (.dup, 1) := dk_89 (dk_at dksX1_ruled_10 19 rfl rfl)
theorem dX1_ruled_259 : decode cX1_ruled 259 = .ok (.invokespecial 88, 3) := dk_183 0 88 (dk_at dksX1_ruled_10 20 rfl rfl)
theorem dX1_ruled_262 : decode cX1_ruled 262 = .ok (.aload_n 1, 1) := dk_43 (dk_at dksX1_ruled_10 23 rfl rfl)
theorem dX1_ruled_263 : decode cX1_ruled 263 = .ok (.invokevirtual 383, 3) := dk_182 1 127 (dk_at dksX1_ruled_11 0 rfl rfl)
theorem dX1_ruled_266 : decode cX1_ruled 266 = .ok (.iload 4, 2) := dk_21 4 (dk_at dksX1_ruled_11 3 rfl rfl)
theorem dX1_ruled_268 : decode cX1_ruled 268 = .ok (.invokevirtual 210, 3) := dk_182 0 210 (dk_at dksX1_ruled_11 5 rfl rfl)
theorem dX1_ruled_271 : decode cX1_ruled 271 = .ok (.invokevirtual 260, 3) := dk_182 1 4 (dk_at dksX1_ruled_11 8 rfl rfl)
theorem dX1_ruled_274 : decode cX1_ruled 274 = .ok (.goto 4, 3) := dk_167 0 4 (dk_at dksX1_ruled_11 11 rfl rfl)
theorem dX1_ruled_277 : decode cX1_ruled 277 = .ok (.aconst_null, 1) := dk_1 (dk_at dksX1_ruled_11 14 rfl rfl)
theorem dX1_ruled_278 : decode cX1_ruled 278 = .ok (.areturn, 1) := dk_176 (dk_at dksX1_ruled_11 15 rfl rfl)
theorem dX1_ruled_279 : decode cX1_ruled 279 = .ok (.iload 4, 2) := dk_21 4 (dk_at dksX1_ruled_11 16 rfl rfl)
theorem dX1_ruled_281 : decode cX1_ruled 281 = .ok (.bipush 115, 2) := dk_16 115 (dk_at dksX1_ruled_11 18 rfl rfl)
theorem dX1_ruled_283 : decode cX1_ruled 283 = .ok (.if_icmp .eq 38, 3) := dk_159 0 38 (dk_at dksX1_ruled_11 20 rfl rfl)
theorem dX1_ruled_286 : decode cX1_ruled 286 = .ok (.iload 4, 2) := dk_21 4 (dk_at dksX1_ruled_12 0 rfl rfl)
theorem dX1_ruled_288 : decode cX1_ruled 288 = .ok (.bipush 120, 2) := dk_16 120 (dk_at dksX1_ruled_12 2 rfl rfl)
theorem dX1_ruled_290 : decode cX1_ruled 290 = .ok (.if_icmp .eq 31, 3) := dk_159 0 31 (dk_at dksX1_ruled_12 4 rfl rfl)
theorem dX1_ruled_293 : decode cX1_ruled 293 = .ok (.iload 4, 2) := dk_21 4 (dk_at dksX1_ruled_12 7 rfl rfl)
theorem dX1_ruled_295 : decode cX1_ruled 295 = .ok (.bipush 122, 2) := dk_16 122 (dk_at dksX1_ruled_12 9 rfl rfl)
theorem dX1_ruled_297 : decode cX1_ruled 297 = .ok (.if_icmp .eq 24, 3) := dk_159 0 24 (dk_at dksX1_ruled_12 11 rfl rfl)
theorem dX1_ruled_300 : decode cX1_ruled 300 = .ok (.iload 4, 2) := dk_21 4 (dk_at dksX1_ruled_12 14 rfl rfl)
theorem dX1_ruled_302 : decode cX1_ruled 302 = .ok (.bipush 104, 2) := dk_16 104 (dk_at dksX1_ruled_12 16 rfl rfl)
theorem dX1_ruled_304 : decode cX1_ruled 304 = .ok (.if_icmp .ne 21, 3) := dk_160 0 21 (dk_at dksX1_ruled_12 18 rfl rfl)
theorem dX1_ruled_307 : decode cX1_ruled 307 = .ok (.iload 5, 2) := dk_21 5 (dk_at dksX1_ruled_12 21 rfl rfl)
theorem dX1_ruled_309 : decode cX1_ruled 309 = .ok (.bipush 99, 2) := dk_16 99 (dk_at dksX1_ruled_13 0 rfl rfl)
theorem dX1_ruled_311 : decode cX1_ruled 311 = .ok (.if_icmp .eq 10, 3) := dk_159 0 10 (dk_at dksX1_ruled_13 2 rfl rfl)
theorem dX1_ruled_314 : decode cX1_ruled 314 = .ok (.iload 5, 2) := dk_21 5 (dk_at dksX1_ruled_13 5 rfl rfl)
theorem dX1_ruled_316 : decode cX1_ruled 316 = .ok (.bipush 115, 2) := dk_16 115 (dk_at dksX1_ruled_13 7 rfl rfl)
theorem dX1_ruled_318 : decode cX1_ruled 318 = .ok (.if_icmp .ne 7, 3) := dk_160 0 7 (dk_at dksX1_ruled_13 9 rfl rfl)
theorem dX1_ruled_321 : decode cX1_ruled 321 = .ok (.iconst 1, 1) := dk_4 (dk_at dksX1_ruled_13 12 rfl rfl)
theorem dX1_ruled_322 : decode cX1_ruled 322 = .ok (.goto 4, 3) := dk_167 0 4 (dk_at dksX1_ruled_13 13 rfl rfl)
theorem dX1_ruled_325 : decode cX1_ruled 325 = .ok (.iconst 0, 1) := dk_3 (dk_at dksX1_ruled_13 16 rfl rfl)
theorem dX1_ruled_326 : decode cX1_ruled 326 = .ok (.istore 10, 2) := dk_54 10 (dk_at dksX1_ruled_13 17 rfl rfl)
theorem dX1_ruled_328 : decode cX1_ruled 328 = .ok (.aload_n 2, 1) := dk_44 (dk_at dksX1_ruled_13 19 rfl rfl)
theorem dX1_ruled_329 : decode cX1_ruled 329 = .ok (.ldc_w 388, 3) := dk_19 1 132 (dk_at dksX1_ruled_13 20 rfl rfl)
theorem dX1_ruled_332 : decode cX1_ruled 332 = .ok (.invokevirtual 390, 3) := dk_182 1 134 (dk_at dksX1_ruled_14 0 rfl rfl)
theorem dX1_ruled_335 : decode cX1_ruled 335 = .ok (.ifCond .eq 30, 3) := dk_153 0 30 (dk_at dksX1_ruled_14 3 rfl rfl)
theorem dX1_ruled_338 : decode cX1_ruled 338 = .ok (.iload 10, 2) := dk_21 10 (dk_at dksX1_ruled_14 6 rfl rfl)
theorem dX1_ruled_340 : decode cX1_ruled 340 = .ok (.ifCond .eq 25, 3) := dk_153 0 25 (dk_at dksX1_ruled_14 8 rfl rfl)
theorem dX1_ruled_343 : decode cX1_ruled 343 = .ok (.new 86, 3) := dk_187 0 86 (dk_at dksX1_ruled_14 11 rfl rfl)
theorem dX1_ruled_346 : decode cX1_ruled 346 = .ok (.dup, 1) := dk_89 (dk_at dksX1_ruled_14 14 rfl rfl)
theorem dX1_ruled_347 : decode cX1_ruled 347 = .ok (.invokespecial 88, 3) := dk_183 0 88 (dk_at dksX1_ruled_14 15 rfl rfl)
theorem dX1_ruled_350 : decode cX1_ruled 350 = .ok (.aload_n 1, 1) := dk_43 (dk_at dksX1_ruled_14 18 rfl rfl)
theorem dX1_ruled_351 : decode cX1_ruled 351 = .ok (.invokevirtual 383, 3) := dk_182 1 127 (dk_at dksX1_ruled_14 19 rfl rfl)
theorem dX1_ruled_354 : decode cX1_ruled 354 = .ok (.bipush 101, 2) := dk_16 101 (dk_at dksX1_ruled_14 22 rfl rfl)
theorem dX1_ruled_356 : decode cX1_ruled 356 = .ok (.invokevirtual 210, 3) := dk_182 0 210 (dk_at dksX1_ruled_15 0 rfl rfl)
theorem dX1_ruled_359 : decode cX1_ruled 359 = .ok (.invokevirtual 260, 3) := dk_182 1 4 (dk_at dksX1_ruled_15 3 rfl rfl)
theorem dX1_ruled_362 : decode cX1_ruled 362 = .ok (.goto 4, 3) := dk_167 0 4 (dk_at dksX1_ruled_15 6 rfl rfl)
theorem dX1_ruled_365 : decode cX1_ruled 365 = .ok (.aconst_null, 1) := dk_1 (dk_at dksX1_ruled_15 9 rfl rfl)
theorem dX1_ruled_366 : decode cX1_ruled 366 = .ok (.areturn, 1) := dk_176 (dk_at dksX1_ruled_15 10 rfl rfl)
abbrev cX1_isVowel : ByteArray := prog_1_method_13_code
def yX1_isVowel : MethodName := ⟨RX1, "isVowel", "(C)Z"⟩
def dkwX1_isVowel_0 : List UInt8 := [18, 31, 26, 182, 0, 33, 155, 0, 7, 4, 167, 0, 4, 3, 172]
abbrev dktX1_isVowel_0 : List UInt8 := dkwX1_isVowel_0 ++ []
theorem dksX1_isVowel_0 : cX1_isVowel.data.toList.drop 0 = dktX1_isVowel_0 := by decide +kernel
theorem dX1_isVowel_0 : decode cX1_isVowel 0 = .ok (.ldc 31, 2) := dk_18 31 (dk_at dksX1_isVowel_0 0 rfl rfl)
theorem dX1_isVowel_2 : decode cX1_isVowel 2 = .ok (.iload_n 0, 1) := dk_26 (dk_at dksX1_isVowel_0 2 rfl rfl)
theorem dX1_isVowel_3 : decode cX1_isVowel 3 = .ok (.invokevirtual 33, 3) := dk_182 0 33 (dk_at dksX1_isVowel_0 3 rfl rfl)
theorem dX1_isVowel_6 : decode cX1_isVowel 6 = .ok (.ifCond .lt 7, 3) := dk_155 0 7 (dk_at dksX1_isVowel_0 6 rfl rfl)
theorem dX1_isVowel_9 : decode cX1_isVowel 9 = .ok (.iconst 1, 1) := dk_4 (dk_at dksX1_isVowel_0 9 rfl rfl)
theorem dX1_isVowel_10 : decode cX1_isVowel 10 = .ok (.goto 4, 3) := dk_167 0 4 (dk_at dksX1_isVowel_0 10 rfl rfl)
theorem dX1_isVowel_13 : decode cX1_isVowel 13 = .ok (.iconst 0, 1) := dk_3 (dk_at dksX1_isVowel_0 13 rfl rfl)
theorem dX1_isVowel_14 : decode cX1_isVowel 14 = .ok (.ireturn, 1) := dk_172 (dk_at dksX1_isVowel_0 14 rfl rfl)
abbrev cX1_length : ByteArray := prog_1_method_51_code
def yX1_length : MethodName := ⟨RX1, "length", "()I"⟩
def dkwX1_length_0 : List UInt8 := [42, 180, 0, 110, 180, 1, 135, 182, 0, 172, 172]
abbrev dktX1_length_0 : List UInt8 := dkwX1_length_0 ++ []
theorem dksX1_length_0 : cX1_length.data.toList.drop 0 = dktX1_length_0 := by decide +kernel
theorem dX1_length_0 : decode cX1_length 0 = .ok (.aload_n 0, 1) := dk_42 (dk_at dksX1_length_0 0 rfl rfl)
theorem dX1_length_1 : decode cX1_length 1 = .ok (.getfield 110, 3) := dk_180 0 110 (dk_at dksX1_length_0 1 rfl rfl)
theorem dX1_length_4 : decode cX1_length 4 = .ok (.getfield 391, 3) := dk_180 1 135 (dk_at dksX1_length_0 4 rfl rfl)
theorem dX1_length_7 : decode cX1_length 7 = .ok (.invokevirtual 172, 3) := dk_182 0 172 (dk_at dksX1_length_0 7 rfl rfl)
theorem dX1_length_10 : decode cX1_length 10 = .ok (.ireturn, 1) := dk_172 (dk_at dksX1_length_0 10 rfl rfl)
abbrev cX1_words : ByteArray := prog_1_method_55_code
def yX1_words : MethodName := ⟨RX1, "words", "()I"⟩
def dkwX1_words_2 : List UInt8 := [153, 0, 11, 28, 154, 0, 7, 4, 167, 0, 4, 3, 96, 60, 21, 5, 61, 167, 255, 206, 27, 172]
abbrev dktX1_words_2 : List UInt8 := dkwX1_words_2 ++ []
def dkwX1_words_1 : List UInt8 := [45, 185, 0, 234, 1, 0, 192, 1, 137, 58, 4, 25, 4, 182, 1, 143, 184, 1, 150, 54, 5, 27, 21, 5]
abbrev dktX1_words_1 : List UInt8 := dkwX1_words_1 ++ dktX1_words_2
def dkwX1_words_0 : List UInt8 := [3, 60, 3, 61, 42, 180, 0, 110, 180, 1, 135, 182, 1, 149, 78, 45, 185, 0, 229, 1, 0, 153, 0, 47]
abbrev dktX1_words_0 : List UInt8 := dkwX1_words_0 ++ dktX1_words_1
theorem dksX1_words_0 : cX1_words.data.toList.drop 0 = dktX1_words_0 := by decide +kernel
theorem dksX1_words_1 : cX1_words.data.toList.drop 24 = dktX1_words_1 := dk_seg dksX1_words_0 24 rfl rfl
theorem dksX1_words_2 : cX1_words.data.toList.drop 48 = dktX1_words_2 := dk_seg dksX1_words_1 24 rfl rfl
theorem dX1_words_0 : decode cX1_words 0 = .ok (.iconst 0, 1) := dk_3 (dk_at dksX1_words_0 0 rfl rfl)
theorem dX1_words_1 : decode cX1_words 1 = .ok (.istore_n 1, 1) := dk_60 (dk_at dksX1_words_0 1 rfl rfl)
theorem dX1_words_2 : decode cX1_words 2 = .ok (.iconst 0, 1) := dk_3 (dk_at dksX1_words_0 2 rfl rfl)
theorem dX1_words_3 : decode cX1_words 3 = .ok (.istore_n 2, 1) := dk_61 (dk_at dksX1_words_0 3 rfl rfl)
theorem dX1_words_4 : decode cX1_words 4 = .ok (.aload_n 0, 1) := dk_42 (dk_at dksX1_words_0 4 rfl rfl)
theorem dX1_words_5 : decode cX1_words 5 = .ok (.getfield 110, 3) := dk_180 0 110 (dk_at dksX1_words_0 5 rfl rfl)
theorem dX1_words_8 : decode cX1_words 8 = .ok (.getfield 391, 3) := dk_180 1 135 (dk_at dksX1_words_0 8 rfl rfl)
theorem dX1_words_11 : decode cX1_words 11 = .ok (.invokevirtual 405, 3) := dk_182 1 149 (dk_at dksX1_words_0 11 rfl rfl)
theorem dX1_words_14 : decode cX1_words 14 = .ok (.astore_n 3, 1) := dk_78 (dk_at dksX1_words_0 14 rfl rfl)
theorem dX1_words_15 : decode cX1_words 15 = .ok (.aload_n 3, 1) := dk_45 (dk_at dksX1_words_0 15 rfl rfl)
theorem dX1_words_16 : decode cX1_words 16 = .ok (.invokeinterface 229 1, 5) := by decide +kernel
theorem dX1_words_21 : decode cX1_words 21 = .ok (.ifCond .eq 47, 3) := dk_153 0 47 (dk_at dksX1_words_0 21 rfl rfl)
theorem dX1_words_24 : decode cX1_words 24 = .ok (.aload_n 3, 1) := dk_45 (dk_at dksX1_words_1 0 rfl rfl)
theorem dX1_words_25 : decode cX1_words 25 = .ok (.invokeinterface 234 1, 5) := by decide +kernel
theorem dX1_words_30 : decode cX1_words 30 = .ok (.checkcast 393, 3) := dk_192 1 137 (dk_at dksX1_words_1 6 rfl rfl)
theorem dX1_words_33 : decode cX1_words 33 = .ok (.astore 4, 2) := dk_58 4 (dk_at dksX1_words_1 9 rfl rfl)
theorem dX1_words_35 : decode cX1_words 35 = .ok (.aload 4, 2) := dk_25 4 (dk_at dksX1_words_1 11 rfl rfl)
theorem dX1_words_37 : decode cX1_words 37 = .ok (.invokevirtual 399, 3) := dk_182 1 143 (dk_at dksX1_words_1 13 rfl rfl)
theorem dX1_words_40 : decode cX1_words 40 = .ok (.invokestatic 406, 3) := dk_184 1 150 (dk_at dksX1_words_1 16 rfl rfl)
theorem dX1_words_43 : decode cX1_words 43 = .ok (.istore 5, 2) := dk_54 5 (dk_at dksX1_words_1 19 rfl rfl)
theorem dX1_words_45 : decode cX1_words 45 = .ok (.iload_n 1, 1) := dk_27 (dk_at dksX1_words_1 21 rfl rfl)
theorem dX1_words_46 : decode cX1_words 46 = .ok (.iload 5, 2) := dk_21 5 (dk_at dksX1_words_1 22 rfl rfl)
theorem dX1_words_48 : decode cX1_words 48 = .ok (.ifCond .eq 11, 3) := dk_153 0 11 (dk_at dksX1_words_2 0 rfl rfl)
theorem dX1_words_51 : decode cX1_words 51 = .ok (.iload_n 2, 1) := dk_28 (dk_at dksX1_words_2 3 rfl rfl)
theorem dX1_words_52 : decode cX1_words 52 = .ok (.ifCond .ne 7, 3) := dk_154 0 7 (dk_at dksX1_words_2 4 rfl rfl)
theorem dX1_words_55 : decode cX1_words 55 = .ok (.iconst 1, 1) := dk_4 (dk_at dksX1_words_2 7 rfl rfl)
theorem dX1_words_56 : decode cX1_words 56 = .ok (.goto 4, 3) := dk_167 0 4 (dk_at dksX1_words_2 8 rfl rfl)
theorem dX1_words_59 : decode cX1_words 59 = .ok (.iconst 0, 1) := dk_3 (dk_at dksX1_words_2 11 rfl rfl)
theorem dX1_words_60 : decode cX1_words 60 = .ok (.iadd, 1) := dk_96 (dk_at dksX1_words_2 12 rfl rfl)
theorem dX1_words_61 : decode cX1_words 61 = .ok (.istore_n 1, 1) := dk_60 (dk_at dksX1_words_2 13 rfl rfl)
theorem dX1_words_62 : decode cX1_words 62 = .ok (.iload 5, 2) := dk_21 5 (dk_at dksX1_words_2 14 rfl rfl)
theorem dX1_words_64 : decode cX1_words 64 = .ok (.istore_n 2, 1) := dk_61 (dk_at dksX1_words_2 16 rfl rfl)
theorem dX1_words_65 : decode cX1_words 65 = .ok (.goto (-50), 3) := dk_167 255 206 (dk_at dksX1_words_2 17 rfl rfl)
theorem dX1_words_68 : decode cX1_words 68 = .ok (.iload_n 1, 1) := dk_27 (dk_at dksX1_words_2 20 rfl rfl)
theorem dX1_words_69 : decode cX1_words 69 = .ok (.ireturn, 1) := dk_172 (dk_at dksX1_words_2 21 rfl rfl)
abbrev cX1_translations : ByteArray := prog_1_method_56_code
def yX1_translations : MethodName := ⟨RX1, "translations", "()I"⟩
def dkwX1_translations_0 : List UInt8 := [42, 180, 0, 99, 182, 0, 172, 172]
abbrev dktX1_translations_0 : List UInt8 := dkwX1_translations_0 ++ []
theorem dksX1_translations_0 : cX1_translations.data.toList.drop 0 = dktX1_translations_0 := by decide +kernel
theorem dX1_translations_0 : decode cX1_translations 0 = .ok (.aload_n 0, 1) := dk_42 (dk_at dksX1_translations_0 0 rfl rfl)
theorem dX1_translations_1 : decode cX1_translations 1 = .ok (.getfield 99, 3) := dk_180 0 99 (dk_at dksX1_translations_0 1 rfl rfl)
theorem dX1_translations_4 : decode cX1_translations 4 = .ok (.invokevirtual 172, 3) := dk_182 0 172 (dk_at dksX1_translations_0 4 rfl rfl)
theorem dX1_translations_7 : decode cX1_translations 7 = .ok (.ireturn, 1) := dk_172 (dk_at dksX1_translations_0 7 rfl rfl)
abbrev cX1_now : ByteArray := prog_1_method_63_code
def yX1_now : MethodName := ⟨RX1, "now", "()I"⟩
theorem dX1_now_0 : decode cX1_now 0 = .ok (.aload_n 0, 1) := by decide +kernel
theorem dX1_now_1 : decode cX1_now 1 = .ok (.getfield 176, 3) := by decide +kernel
theorem dX1_now_4 : decode cX1_now 4 = .ok (.ireturn, 1) := by decide +kernel
abbrev cX1_lines : ByteArray := prog_1_method_71_code
def yX1_lines : MethodName := ⟨RX1, "lines", "()I"⟩
def dkwX1_lines_0 : List UInt8 := [42, 182, 1, 202, 76, 43, 190, 154, 0, 7, 3, 167, 0, 11, 43, 43, 190, 4, 100, 46, 4, 96, 172]
abbrev dktX1_lines_0 : List UInt8 := dkwX1_lines_0 ++ []
theorem dksX1_lines_0 : cX1_lines.data.toList.drop 0 = dktX1_lines_0 := by decide +kernel
theorem dX1_lines_0 : decode cX1_lines 0 = .ok (.aload_n 0, 1) := dk_42 (dk_at dksX1_lines_0 0 rfl rfl)
theorem dX1_lines_1 : decode cX1_lines 1 = .ok (.invokevirtual 458, 3) := dk_182 1 202 (dk_at dksX1_lines_0 1 rfl rfl)
theorem dX1_lines_4 : decode cX1_lines 4 = .ok (.astore_n 1, 1) := dk_76 (dk_at dksX1_lines_0 4 rfl rfl)
theorem dX1_lines_5 : decode cX1_lines 5 = .ok (.aload_n 1, 1) := dk_43 (dk_at dksX1_lines_0 5 rfl rfl)
theorem dX1_lines_6 : decode cX1_lines 6 = .ok (.arraylength, 1) := dk_190 (dk_at dksX1_lines_0 6 rfl rfl)
theorem dX1_lines_7 : decode cX1_lines 7 = .ok (.ifCond .ne 7, 3) := dk_154 0 7 (dk_at dksX1_lines_0 7 rfl rfl)
theorem dX1_lines_10 : decode cX1_lines 10 = .ok (.iconst 0, 1) := dk_3 (dk_at dksX1_lines_0 10 rfl rfl)
theorem dX1_lines_11 : decode cX1_lines 11 = .ok (.goto 11, 3) := dk_167 0 11 (dk_at dksX1_lines_0 11 rfl rfl)
theorem dX1_lines_14 : decode cX1_lines 14 = .ok (.aload_n 1, 1) := dk_43 (dk_at dksX1_lines_0 14 rfl rfl)
theorem dX1_lines_15 : decode cX1_lines 15 = .ok (.aload_n 1, 1) := dk_43 (dk_at dksX1_lines_0 15 rfl rfl)
theorem dX1_lines_16 : decode cX1_lines 16 = .ok (.arraylength, 1) := dk_190 (dk_at dksX1_lines_0 16 rfl rfl)
theorem dX1_lines_17 : decode cX1_lines 17 = .ok (.iconst 1, 1) := dk_4 (dk_at dksX1_lines_0 17 rfl rfl)
theorem dX1_lines_18 : decode cX1_lines 18 = .ok (.isub, 1) := dk_100 (dk_at dksX1_lines_0 18 rfl rfl)
theorem dX1_lines_19 : decode cX1_lines 19 = .ok (.iaload, 1) := dk_46 (dk_at dksX1_lines_0 19 rfl rfl)
theorem dX1_lines_20 : decode cX1_lines 20 = .ok (.iconst 1, 1) := dk_4 (dk_at dksX1_lines_0 20 rfl rfl)
theorem dX1_lines_21 : decode cX1_lines 21 = .ok (.iadd, 1) := dk_96 (dk_at dksX1_lines_0 21 rfl rfl)
theorem dX1_lines_22 : decode cX1_lines 22 = .ok (.ireturn, 1) := dk_172 (dk_at dksX1_lines_0 22 rfl rfl)
abbrev cX1_lined : ByteArray := prog_1_method_70_code
def yX1_lined : MethodName := ⟨RX1, "lined", "()[I"⟩
def dkwX1_lined_8 : List UInt8 := [21, 5, 29, 79, 132, 4, 1, 132, 5, 1, 167, 255, 223, 167, 255, 79, 44, 176]
abbrev dktX1_lined_8 : List UInt8 := dkwX1_lined_8 ++ []
def dkwX1_lined_7 : List UInt8 := [21, 5, 21, 7, 162, 0, 32, 21, 4, 42, 180, 0, 127, 160, 0, 9, 132, 3, 1, 3, 54, 4, 44]
abbrev dktX1_lined_7 : List UInt8 := dkwX1_lined_7 ++ dktX1_lined_8
def dkwX1_lined_6 : List UInt8 := [158, 0, 24, 21, 4, 21, 7, 96, 21, 5, 100, 42, 180, 0, 127, 164, 0, 9, 132, 3, 1, 3, 54, 4]
abbrev dktX1_lined_6 : List UInt8 := dkwX1_lined_6 ++ dktX1_lined_7
def dkwX1_lined_5 : List UInt8 := [159, 0, 20, 43, 21, 7, 182, 1, 119, 16, 124, 159, 0, 9, 132, 7, 1, 167, 255, 222, 21, 4]
abbrev dktX1_lined_5 : List UInt8 := dkwX1_lined_5 ++ dktX1_lined_6
def dkwX1_lined_4 : List UInt8 := [167, 255, 185, 21, 5, 54, 7, 21, 7, 43, 182, 1, 118, 162, 0, 31, 43, 21, 7, 182, 1, 119, 16, 32]
abbrev dktX1_lined_4 : List UInt8 := dkwX1_lined_4 ++ dktX1_lined_5
def dkwX1_lined_3 : List UInt8 := [167, 0, 4, 3, 96, 62, 21, 6, 16, 124, 160, 0, 7, 3, 167, 0, 7, 21, 4, 4, 96, 54, 4]
abbrev dktX1_lined_3 : List UInt8 := dkwX1_lined_3 ++ dktX1_lined_4
def dkwX1_lined_2 : List UInt8 := [16, 32, 160, 0, 46, 44, 21, 5, 132, 5, 1, 29, 79, 29, 21, 6, 16, 124, 160, 0, 7, 4]
abbrev dktX1_lined_2 : List UInt8 := dkwX1_lined_2 ++ dktX1_lined_3
def dkwX1_lined_1 : List UInt8 := [182, 1, 118, 162, 0, 174, 43, 21, 5, 182, 1, 119, 54, 6, 21, 6, 16, 124, 159, 0, 10, 21, 6]
abbrev dktX1_lined_1 : List UInt8 := dkwX1_lined_1 ++ dktX1_lined_2
def dkwX1_lined_0 : List UInt8 := [42, 182, 1, 166, 76, 43, 182, 1, 118, 188, 10, 77, 3, 62, 3, 54, 4, 3, 54, 5, 21, 5, 43]
abbrev dktX1_lined_0 : List UInt8 := dkwX1_lined_0 ++ dktX1_lined_1
theorem dksX1_lined_0 : cX1_lined.data.toList.drop 0 = dktX1_lined_0 := by decide +kernel
theorem dksX1_lined_1 : cX1_lined.data.toList.drop 23 = dktX1_lined_1 := dk_seg dksX1_lined_0 23 rfl rfl
theorem dksX1_lined_2 : cX1_lined.data.toList.drop 46 = dktX1_lined_2 := dk_seg dksX1_lined_1 23 rfl rfl
theorem dksX1_lined_3 : cX1_lined.data.toList.drop 68 = dktX1_lined_3 := dk_seg dksX1_lined_2 22 rfl rfl
theorem dksX1_lined_4 : cX1_lined.data.toList.drop 91 = dktX1_lined_4 := dk_seg dksX1_lined_3 23 rfl rfl
theorem dksX1_lined_5 : cX1_lined.data.toList.drop 115 = dktX1_lined_5 := dk_seg dksX1_lined_4 24 rfl rfl
theorem dksX1_lined_6 : cX1_lined.data.toList.drop 137 = dktX1_lined_6 := dk_seg dksX1_lined_5 22 rfl rfl
theorem dksX1_lined_7 : cX1_lined.data.toList.drop 161 = dktX1_lined_7 := dk_seg dksX1_lined_6 24 rfl rfl
theorem dksX1_lined_8 : cX1_lined.data.toList.drop 184 = dktX1_lined_8 := dk_seg dksX1_lined_7 23 rfl rfl
theorem dX1_lined_0 : decode cX1_lined 0 = .ok (.aload_n 0, 1) := dk_42 (dk_at dksX1_lined_0 0 rfl rfl)
theorem dX1_lined_1 : decode cX1_lined 1 = .ok (.invokevirtual 422, 3) := dk_182 1 166 (dk_at dksX1_lined_0 1 rfl rfl)
theorem dX1_lined_4 : decode cX1_lined 4 = .ok (.astore_n 1, 1) := dk_76 (dk_at dksX1_lined_0 4 rfl rfl)
theorem dX1_lined_5 : decode cX1_lined 5 = .ok (.aload_n 1, 1) := dk_43 (dk_at dksX1_lined_0 5 rfl rfl)
theorem dX1_lined_6 : decode cX1_lined 6 = .ok (.invokevirtual 374, 3) := dk_182 1 118 (dk_at dksX1_lined_0 6 rfl rfl)
theorem dX1_lined_9 : decode cX1_lined 9 = .ok (.newarray .int, 2) := dk_188_10 (dk_at dksX1_lined_0 9 rfl rfl)
theorem dX1_lined_11 : decode cX1_lined 11 = .ok (.astore_n 2, 1) := dk_77 (dk_at dksX1_lined_0 11 rfl rfl)
theorem dX1_lined_12 : decode cX1_lined 12 = .ok (.iconst 0, 1) := dk_3 (dk_at dksX1_lined_0 12 rfl rfl)
theorem dX1_lined_13 : decode cX1_lined 13 = .ok (.istore_n 3, 1) := dk_62 (dk_at dksX1_lined_0 13 rfl rfl)
theorem dX1_lined_14 : decode cX1_lined 14 = .ok (.iconst 0, 1) := dk_3 (dk_at dksX1_lined_0 14 rfl rfl)
theorem dX1_lined_15 : decode cX1_lined 15 = .ok (.istore 4, 2) := dk_54 4 (dk_at dksX1_lined_0 15 rfl rfl)
theorem dX1_lined_17 : decode cX1_lined 17 = .ok (.iconst 0, 1) := dk_3 (dk_at dksX1_lined_0 17 rfl rfl)
theorem dX1_lined_18 : decode cX1_lined 18 = .ok (.istore 5, 2) := dk_54 5 (dk_at dksX1_lined_0 18 rfl rfl)
theorem dX1_lined_20 : decode cX1_lined 20 = .ok (.iload 5, 2) := dk_21 5 (dk_at dksX1_lined_0 20 rfl rfl)
theorem dX1_lined_22 : decode cX1_lined 22 = .ok (.aload_n 1, 1) := dk_43 (dk_at dksX1_lined_0 22 rfl rfl)
theorem dX1_lined_23 : decode cX1_lined 23 = .ok (.invokevirtual 374, 3) := dk_182 1 118 (dk_at dksX1_lined_1 0 rfl rfl)
theorem dX1_lined_26 : decode cX1_lined 26 = .ok (.if_icmp .ge 174, 3) := dk_162 0 174 (dk_at dksX1_lined_1 3 rfl rfl)
theorem dX1_lined_29 : decode cX1_lined 29 = .ok (.aload_n 1, 1) := dk_43 (dk_at dksX1_lined_1 6 rfl rfl)
theorem dX1_lined_30 : decode cX1_lined 30 = .ok (.iload 5, 2) := dk_21 5 (dk_at dksX1_lined_1 7 rfl rfl)
theorem dX1_lined_32 : decode cX1_lined 32 = .ok (.invokevirtual 375, 3) := dk_182 1 119 (dk_at dksX1_lined_1 9 rfl rfl)
theorem dX1_lined_35 : decode cX1_lined 35 = .ok (.istore 6, 2) := dk_54 6 (dk_at dksX1_lined_1 12 rfl rfl)
theorem dX1_lined_37 : decode cX1_lined 37 = .ok (.iload 6, 2) := dk_21 6 (dk_at dksX1_lined_1 14 rfl rfl)
theorem dX1_lined_39 : decode cX1_lined 39 = .ok (.bipush 124, 2) := dk_16 124 (dk_at dksX1_lined_1 16 rfl rfl)
theorem dX1_lined_41 : decode cX1_lined 41 = .ok (.if_icmp .eq 10, 3) := dk_159 0 10 (dk_at dksX1_lined_1 18 rfl rfl)
theorem dX1_lined_44 : decode cX1_lined 44 = .ok (.iload 6, 2) := dk_21 6 (dk_at dksX1_lined_1 21 rfl rfl)
theorem dX1_lined_46 : decode cX1_lined 46 = .ok (.bipush 32, 2) := dk_16 32 (dk_at dksX1_lined_2 0 rfl rfl)
theorem dX1_lined_48 : decode cX1_lined 48 = .ok (.if_icmp .ne 46, 3) := dk_160 0 46 (dk_at dksX1_lined_2 2 rfl rfl)
theorem dX1_lined_51 : decode cX1_lined 51 = .ok (.aload_n 2, 1) := dk_44 (dk_at dksX1_lined_2 5 rfl rfl)
theorem dX1_lined_52 : decode cX1_lined 52 = .ok (.iload 5, 2) := dk_21 5 (dk_at dksX1_lined_2 6 rfl rfl)
theorem dX1_lined_54 : decode cX1_lined 54 = .ok (.iinc 5 1, 3) := dk_132 5 1 (dk_at dksX1_lined_2 8 rfl rfl)
theorem dX1_lined_57 : decode cX1_lined 57 = .ok (.iload_n 3, 1) := dk_29 (dk_at dksX1_lined_2 11 rfl rfl)
theorem dX1_lined_58 : decode cX1_lined 58 = .ok (.iastore, 1) := dk_79 (dk_at dksX1_lined_2 12 rfl rfl)
theorem dX1_lined_59 : decode cX1_lined 59 = .ok (.iload_n 3, 1) := dk_29 (dk_at dksX1_lined_2 13 rfl rfl)
theorem dX1_lined_60 : decode cX1_lined 60 = .ok (.iload 6, 2) := dk_21 6 (dk_at dksX1_lined_2 14 rfl rfl)
theorem dX1_lined_62 : decode cX1_lined 62 = .ok (.bipush 124, 2) := dk_16 124 (dk_at dksX1_lined_2 16 rfl rfl)
theorem dX1_lined_64 : decode cX1_lined 64 = .ok (.if_icmp .ne 7, 3) := dk_160 0 7 (dk_at dksX1_lined_2 18 rfl rfl)
theorem dX1_lined_67 : decode cX1_lined 67 = .ok (.iconst 1, 1) := dk_4 (dk_at dksX1_lined_2 21 rfl rfl)
theorem dX1_lined_68 : decode cX1_lined 68 = .ok (.goto 4, 3) := dk_167 0 4 (dk_at dksX1_lined_3 0 rfl rfl)
theorem dX1_lined_71 : decode cX1_lined 71 = .ok (.iconst 0, 1) := dk_3 (dk_at dksX1_lined_3 3 rfl rfl)
theorem dX1_lined_72 : decode cX1_lined 72 = .ok (.iadd, 1) := dk_96 (dk_at dksX1_lined_3 4 rfl rfl)
theorem dX1_lined_73 : decode cX1_lined 73 = .ok (.istore_n 3, 1) := dk_62 (dk_at dksX1_lined_3 5 rfl rfl)
theorem dX1_lined_74 : decode cX1_lined 74 = .ok (.iload 6, 2) := dk_21 6 (dk_at dksX1_lined_3 6 rfl rfl)
theorem dX1_lined_76 : decode cX1_lined 76 = .ok (.bipush 124, 2) := dk_16 124 (dk_at dksX1_lined_3 8 rfl rfl)
theorem dX1_lined_78 : decode cX1_lined 78 = .ok (.if_icmp .ne 7, 3) := dk_160 0 7 (dk_at dksX1_lined_3 10 rfl rfl)
theorem dX1_lined_81 : decode cX1_lined 81 = .ok (.iconst 0, 1) := dk_3 (dk_at dksX1_lined_3 13 rfl rfl)
theorem dX1_lined_82 : decode cX1_lined 82 = .ok (.goto 7, 3) := dk_167 0 7 (dk_at dksX1_lined_3 14 rfl rfl)
theorem dX1_lined_85 : decode cX1_lined 85 = .ok (.iload 4, 2) := dk_21 4 (dk_at dksX1_lined_3 17 rfl rfl)
theorem dX1_lined_87 : decode cX1_lined 87 = .ok (.iconst 1, 1) := dk_4 (dk_at dksX1_lined_3 19 rfl rfl)
theorem dX1_lined_88 : decode cX1_lined 88 = .ok (.iadd, 1) := dk_96 (dk_at dksX1_lined_3 20 rfl rfl)
theorem dX1_lined_89 : decode cX1_lined 89 = .ok (.istore 4, 2) := dk_54 4 (dk_at dksX1_lined_3 21 rfl rfl)
theorem dX1_lined_91 : decode cX1_lined 91 = .ok (.goto (-71), 3) := dk_167 255 185 (dk_at dksX1_lined_4 0 rfl rfl)
theorem dX1_lined_94 : decode cX1_lined 94 = .ok (.iload 5, 2) := dk_21 5 (dk_at dksX1_lined_4 3 rfl rfl)
theorem dX1_lined_96 : decode cX1_lined 96 = .ok (.istore 7, 2) := dk_54 7 (dk_at dksX1_lined_4 5 rfl rfl)
theorem dX1_lined_98 : decode cX1_lined 98 = .ok (.iload 7, 2) := dk_21 7 (dk_at dksX1_lined_4 7 rfl rfl)
theorem dX1_lined_100 : decode cX1_lined 100 = .ok (.aload_n 1, 1) := dk_43 (dk_at dksX1_lined_4 9 rfl rfl)
theorem dX1_lined_101 : decode cX1_lined 101 = .ok (.invokevirtual 374, 3) := dk_182 1 118 (dk_at dksX1_lined_4 10 rfl rfl)
theorem dX1_lined_104 : decode cX1_lined 104 = .ok (.if_icmp .ge 31, 3) := dk_162 0 31 (dk_at dksX1_lined_4 13 rfl rfl)
theorem dX1_lined_107 : decode cX1_lined 107 = .ok (.aload_n 1, 1) := dk_43 (dk_at dksX1_lined_4 16 rfl rfl)
theorem dX1_lined_108 : decode cX1_lined 108 = .ok (.iload 7, 2) := dk_21 7 (dk_at dksX1_lined_4 17 rfl rfl)
theorem dX1_lined_110 : decode cX1_lined 110 = .ok (.invokevirtual 375, 3) := dk_182 1 119 (dk_at dksX1_lined_4 19 rfl rfl)
theorem dX1_lined_113 : decode cX1_lined 113 = .ok (.bipush 32, 2) := dk_16 32 (dk_at dksX1_lined_4 22 rfl rfl)
theorem dX1_lined_115 : decode cX1_lined 115 = .ok (.if_icmp .eq 20, 3) := dk_159 0 20 (dk_at dksX1_lined_5 0 rfl rfl)
theorem dX1_lined_118 : decode cX1_lined 118 = .ok (.aload_n 1, 1) := dk_43 (dk_at dksX1_lined_5 3 rfl rfl)
theorem dX1_lined_119 : decode cX1_lined 119 = .ok (.iload 7, 2) := dk_21 7 (dk_at dksX1_lined_5 4 rfl rfl)
theorem dX1_lined_121 : decode cX1_lined 121 = .ok (.invokevirtual 375, 3) := dk_182 1 119 (dk_at dksX1_lined_5 6 rfl rfl)
theorem dX1_lined_124 : decode cX1_lined 124 = .ok (.bipush 124, 2) := dk_16 124 (dk_at dksX1_lined_5 9 rfl rfl)
theorem dX1_lined_126 : decode cX1_lined 126 = .ok (.if_icmp .eq 9, 3) := dk_159 0 9 (dk_at dksX1_lined_5 11 rfl rfl)
theorem dX1_lined_129 : decode cX1_lined 129 = .ok (.iinc 7 1, 3) := dk_132 7 1 (dk_at dksX1_lined_5 14 rfl rfl)
theorem dX1_lined_132 : decode cX1_lined 132 = .ok (.goto (-34), 3) := dk_167 255 222 (dk_at dksX1_lined_5 17 rfl rfl)
theorem dX1_lined_135 : decode cX1_lined 135 = .ok (.iload 4, 2) := dk_21 4 (dk_at dksX1_lined_5 20 rfl rfl)
theorem dX1_lined_137 : decode cX1_lined 137 = .ok (.ifCond .le 24, 3) := dk_158 0 24 (dk_at dksX1_lined_6 0 rfl rfl)
theorem dX1_lined_140 : decode cX1_lined 140 = .ok (.iload 4, 2) := dk_21 4 (dk_at dksX1_lined_6 3 rfl rfl)
theorem dX1_lined_142 : decode cX1_lined 142 = .ok (.iload 7, 2) := dk_21 7 (dk_at dksX1_lined_6 5 rfl rfl)
theorem dX1_lined_144 : decode cX1_lined 144 = .ok (.iadd, 1) := dk_96 (dk_at dksX1_lined_6 7 rfl rfl)
theorem dX1_lined_145 : decode cX1_lined 145 = .ok (.iload 5, 2) := dk_21 5 (dk_at dksX1_lined_6 8 rfl rfl)
theorem dX1_lined_147 : decode cX1_lined 147 = .ok (.isub, 1) := dk_100 (dk_at dksX1_lined_6 10 rfl rfl)
theorem dX1_lined_148 : decode cX1_lined 148 = .ok (.aload_n 0, 1) := dk_42 (dk_at dksX1_lined_6 11 rfl rfl)
theorem dX1_lined_149 : decode cX1_lined 149 = .ok (.getfield 127, 3) := dk_180 0 127 (dk_at dksX1_lined_6 12 rfl rfl)
theorem dX1_lined_152 : decode cX1_lined 152 = .ok (.if_icmp .le 9, 3) := dk_164 0 9 (dk_at dksX1_lined_6 15 rfl rfl)
theorem dX1_lined_155 : decode cX1_lined 155 = .ok (.iinc 3 1, 3) := dk_132 3 1 (dk_at dksX1_lined_6 18 rfl rfl)
theorem dX1_lined_158 : decode cX1_lined 158 = .ok (.iconst 0, 1) := dk_3 (dk_at dksX1_lined_6 21 rfl rfl)
theorem dX1_lined_159 : decode cX1_lined 159 = .ok (.istore 4, 2) := dk_54 4 (dk_at dksX1_lined_6 22 rfl rfl)
theorem dX1_lined_161 : decode cX1_lined 161 = .ok (.iload 5, 2) := dk_21 5 (dk_at dksX1_lined_7 0 rfl rfl)
theorem dX1_lined_163 : decode cX1_lined 163 = .ok (.iload 7, 2) := dk_21 7 (dk_at dksX1_lined_7 2 rfl rfl)
theorem dX1_lined_165 : decode cX1_lined 165 = .ok (.if_icmp .ge 32, 3) := dk_162 0 32 (dk_at dksX1_lined_7 4 rfl rfl)
theorem dX1_lined_168 : decode cX1_lined 168 = .ok (.iload 4, 2) := dk_21 4 (dk_at dksX1_lined_7 7 rfl rfl)
theorem dX1_lined_170 : decode cX1_lined 170 = .ok (.aload_n 0, 1) := dk_42 (dk_at dksX1_lined_7 9 rfl rfl)
theorem dX1_lined_171 : decode cX1_lined 171 = .ok (.getfield 127, 3) := dk_180 0 127 (dk_at dksX1_lined_7 10 rfl rfl)
theorem dX1_lined_174 : decode cX1_lined 174 = .ok (.if_icmp .ne 9, 3) := dk_160 0 9 (dk_at dksX1_lined_7 13 rfl rfl)
theorem dX1_lined_177 : decode cX1_lined 177 = .ok (.iinc 3 1, 3) := dk_132 3 1 (dk_at dksX1_lined_7 16 rfl rfl)
theorem dX1_lined_180 : decode cX1_lined 180 = .ok (.iconst 0, 1) := dk_3 (dk_at dksX1_lined_7 19 rfl rfl)
theorem dX1_lined_181 : decode cX1_lined 181 = .ok (.istore 4, 2) := dk_54 4 (dk_at dksX1_lined_7 20 rfl rfl)
theorem dX1_lined_183 : decode cX1_lined 183 = .ok (.aload_n 2, 1) := dk_44 (dk_at dksX1_lined_7 22 rfl rfl)
theorem dX1_lined_184 : decode cX1_lined 184 = .ok (.iload 5, 2) := dk_21 5 (dk_at dksX1_lined_8 0 rfl rfl)
theorem dX1_lined_186 : decode cX1_lined 186 = .ok (.iload_n 3, 1) := dk_29 (dk_at dksX1_lined_8 2 rfl rfl)
theorem dX1_lined_187 : decode cX1_lined 187 = .ok (.iastore, 1) := dk_79 (dk_at dksX1_lined_8 3 rfl rfl)
theorem dX1_lined_188 : decode cX1_lined 188 = .ok (.iinc 4 1, 3) := dk_132 4 1 (dk_at dksX1_lined_8 4 rfl rfl)
theorem dX1_lined_191 : decode cX1_lined 191 = .ok (.iinc 5 1, 3) := dk_132 5 1 (dk_at dksX1_lined_8 7 rfl rfl)
theorem dX1_lined_194 : decode cX1_lined 194 = .ok (.goto (-33), 3) := dk_167 255 223 (dk_at dksX1_lined_8 10 rfl rfl)
theorem dX1_lined_197 : decode cX1_lined 197 = .ok (.goto (-177), 3) := dk_167 255 79 (dk_at dksX1_lined_8 13 rfl rfl)
theorem dX1_lined_200 : decode cX1_lined 200 = .ok (.aload_n 2, 1) := dk_44 (dk_at dksX1_lined_8 16 rfl rfl)
theorem dX1_lined_201 : decode cX1_lined 201 = .ok (.areturn, 1) := dk_176 (dk_at dksX1_lined_8 17 rfl rfl)
abbrev cX1_text : ByteArray := prog_1_method_54_code
def yX1_text : MethodName := ⟨RX1, "text", "()Ljava/lang/String;"⟩
def dkwX1_text_2 : List UInt8 := [182, 0, 210, 87, 167, 255, 228, 43, 182, 1, 4, 176]
abbrev dktX1_text_2 : List UInt8 := dkwX1_text_2 ++ []
def dkwX1_text_1 : List UInt8 := [185, 0, 229, 1, 0, 153, 0, 25, 44, 185, 0, 234, 1, 0, 192, 1, 137, 78, 43, 45, 182, 1, 143]
abbrev dktX1_text_1 : List UInt8 := dkwX1_text_1 ++ dktX1_text_2
def dkwX1_text_0 : List UInt8 := [187, 0, 86, 89, 183, 0, 88, 76, 42, 180, 0, 110, 180, 1, 135, 182, 1, 149, 77, 44]
abbrev dktX1_text_0 : List UInt8 := dkwX1_text_0 ++ dktX1_text_1
theorem dksX1_text_0 : cX1_text.data.toList.drop 0 = dktX1_text_0 := by decide +kernel
theorem dksX1_text_1 : cX1_text.data.toList.drop 20 = dktX1_text_1 := dk_seg dksX1_text_0 20 rfl rfl
theorem dksX1_text_2 : cX1_text.data.toList.drop 43 = dktX1_text_2 := dk_seg dksX1_text_1 23 rfl rfl
theorem dX1_text_0 : decode cX1_text 0 = .ok (.new 86, 3) := dk_187 0 86 (dk_at dksX1_text_0 0 rfl rfl)
theorem dX1_text_3 : decode cX1_text 3 = .ok (.dup, 1) := dk_89 (dk_at dksX1_text_0 3 rfl rfl)
theorem dX1_text_4 : decode cX1_text 4 = .ok (.invokespecial 88, 3) := dk_183 0 88 (dk_at dksX1_text_0 4 rfl rfl)
theorem dX1_text_7 : decode cX1_text 7 = .ok (.astore_n 1, 1) := dk_76 (dk_at dksX1_text_0 7 rfl rfl)
theorem dX1_text_8 : decode cX1_text 8 = .ok (.aload_n 0, 1) := dk_42 (dk_at dksX1_text_0 8 rfl rfl)
theorem dX1_text_9 : decode cX1_text 9 = .ok (.getfield 110, 3) := dk_180 0 110 (dk_at dksX1_text_0 9 rfl rfl)
theorem dX1_text_12 : decode cX1_text 12 = .ok (.getfield 391, 3) := dk_180 1 135 (dk_at dksX1_text_0 12 rfl rfl)
theorem dX1_text_15 : decode cX1_text 15 = .ok (.invokevirtual 405, 3) := dk_182 1 149 (dk_at dksX1_text_0 15 rfl rfl)
theorem dX1_text_18 : decode cX1_text 18 = .ok (.astore_n 2, 1) := dk_77 (dk_at dksX1_text_0 18 rfl rfl)
theorem dX1_text_19 : decode cX1_text 19 = .ok (.aload_n 2, 1) := dk_44 (dk_at dksX1_text_0 19 rfl rfl)
theorem dX1_text_20 : decode cX1_text 20 = .ok (.invokeinterface 229 1, 5) := by decide +kernel
theorem dX1_text_25 : decode cX1_text 25 = .ok (.ifCond .eq 25, 3) := dk_153 0 25 (dk_at dksX1_text_1 5 rfl rfl)
theorem dX1_text_28 : decode cX1_text 28 = .ok (.aload_n 2, 1) := dk_44 (dk_at dksX1_text_1 8 rfl rfl)
theorem dX1_text_29 : decode cX1_text 29 = .ok (.invokeinterface 234 1, 5) := by decide +kernel
theorem dX1_text_34 : decode cX1_text 34 = .ok (.checkcast 393, 3) := dk_192 1 137 (dk_at dksX1_text_1 14 rfl rfl)
theorem dX1_text_37 : decode cX1_text 37 = .ok (.astore_n 3, 1) := dk_78 (dk_at dksX1_text_1 17 rfl rfl)
theorem dX1_text_38 : decode cX1_text 38 = .ok (.aload_n 1, 1) := dk_43 (dk_at dksX1_text_1 18 rfl rfl)
theorem dX1_text_39 : decode cX1_text 39 = .ok (.aload_n 3, 1) := dk_45 (dk_at dksX1_text_1 19 rfl rfl)
theorem dX1_text_40 : decode cX1_text 40 = .ok (.invokevirtual 399, 3) := dk_182 1 143 (dk_at dksX1_text_1 20 rfl rfl)
theorem dX1_text_43 : decode cX1_text 43 = .ok (.invokevirtual 210, 3) := dk_182 0 210 (dk_at dksX1_text_2 0 rfl rfl)
theorem dX1_text_46 : decode cX1_text 46 = .ok (.pop, 1) := dk_87 (dk_at dksX1_text_2 3 rfl rfl)
theorem dX1_text_47 : decode cX1_text 47 = .ok (.goto (-28), 3) := dk_167 255 228 (dk_at dksX1_text_2 4 rfl rfl)
theorem dX1_text_50 : decode cX1_text 50 = .ok (.aload_n 1, 1) := dk_43 (dk_at dksX1_text_2 7 rfl rfl)
theorem dX1_text_51 : decode cX1_text 51 = .ok (.invokevirtual 260, 3) := dk_182 1 4 (dk_at dksX1_text_2 8 rfl rfl)
theorem dX1_text_54 : decode cX1_text 54 = .ok (.areturn, 1) := dk_176 (dk_at dksX1_text_2 11 rfl rfl)
abbrev cX1_brailleLength : ByteArray := prog_1_method_79_code
def yX1_brailleLength : MethodName := ⟨RX1, "brailleLength", "()I"⟩
def dkwX1_brailleLength_0 : List UInt8 := [42, 182, 1, 254, 182, 0, 172, 172]
abbrev dktX1_brailleLength_0 : List UInt8 := dkwX1_brailleLength_0 ++ []
theorem dksX1_brailleLength_0 : cX1_brailleLength.data.toList.drop 0 = dktX1_brailleLength_0 := by decide +kernel
theorem dX1_brailleLength_0 : decode cX1_brailleLength 0 = .ok (.aload_n 0, 1) := dk_42 (dk_at dksX1_brailleLength_0 0 rfl rfl)
theorem dX1_brailleLength_1 : decode cX1_brailleLength 1 = .ok (.invokevirtual 510, 3) := dk_182 1 254 (dk_at dksX1_brailleLength_0 1 rfl rfl)
theorem dX1_brailleLength_4 : decode cX1_brailleLength 4 = .ok (.invokevirtual 172, 3) := dk_182 0 172 (dk_at dksX1_brailleLength_0 4 rfl rfl)
theorem dX1_brailleLength_7 : decode cX1_brailleLength 7 = .ok (.ireturn, 1) := dk_172 (dk_at dksX1_brailleLength_0 7 rfl rfl)
abbrev cX1_brailled : ByteArray := prog_1_method_77_code
def yX1_brailled : MethodName := ⟨RX1, "brailled", "()Ljava/util/ArrayList;"⟩
def dkwX1_brailled_8 : List UInt8 := [167, 255, 86, 44, 176]
abbrev dktX1_brailled_8 : List UInt8 := dkwX1_brailled_8 ++ []
def dkwX1_brailled_7 : List UInt8 := [182, 0, 181, 87, 29, 25, 4, 199, 0, 7, 4, 167, 0, 11, 25, 4, 182, 1, 220, 182, 1, 118, 96, 62]
abbrev dktX1_brailled_7 : List UInt8 := dkwX1_brailled_7 ++ dktX1_brailled_8
def dkwX1_brailled_6 : List UInt8 := [25, 4, 199, 0, 14, 43, 29, 182, 1, 119, 184, 1, 234, 167, 0, 8, 25, 4, 182, 1, 217, 184, 0, 201]
abbrev dktX1_brailled_6 : List UInt8 := dkwX1_brailled_6 ++ dktX1_brailled_7
def dkwX1_brailled_5 : List UInt8 := [25, 6, 43, 29, 184, 1, 230, 153, 0, 8, 25, 6, 167, 0, 5, 25, 4, 58, 4, 167, 255, 179, 44]
abbrev dktX1_brailled_5 : List UInt8 := dkwX1_brailled_5 ++ dktX1_brailled_6
def dkwX1_brailled_4 : List UInt8 := [25, 4, 182, 1, 220, 182, 1, 118, 164, 0, 7, 4, 167, 0, 4, 3, 54, 7, 21, 7, 153, 0, 18]
abbrev dktX1_brailled_4 : List UInt8 := dkwX1_brailled_4 ++ dktX1_brailled_5
def dkwX1_brailled_3 : List UInt8 := [185, 0, 234, 1, 0, 192, 1, 215, 58, 6, 25, 4, 198, 0, 22, 25, 6, 182, 1, 220, 182, 1, 118]
abbrev dktX1_brailled_3 : List UInt8 := dkwX1_brailled_3 ++ dktX1_brailled_4
def dkwX1_brailled_2 : List UInt8 := [180, 0, 120, 182, 1, 149, 58, 5, 25, 5, 185, 0, 229, 1, 0, 153, 0, 73, 25, 5]
abbrev dktX1_brailled_2 : List UInt8 := dkwX1_brailled_2 ++ dktX1_brailled_3
def dkwX1_brailled_1 : List UInt8 := [29, 182, 1, 119, 184, 0, 28, 153, 0, 13, 44, 16, 64, 184, 0, 201, 182, 0, 181, 87, 1, 58, 4, 42]
abbrev dktX1_brailled_1 : List UInt8 := dkwX1_brailled_1 ++ dktX1_brailled_2
def dkwX1_brailled_0 : List UInt8 := [42, 182, 1, 166, 76, 187, 0, 69, 89, 183, 0, 71, 77, 3, 62, 29, 43, 182, 1, 118, 162, 0, 168, 43]
abbrev dktX1_brailled_0 : List UInt8 := dkwX1_brailled_0 ++ dktX1_brailled_1
theorem dksX1_brailled_0 : cX1_brailled.data.toList.drop 0 = dktX1_brailled_0 := by decide +kernel
theorem dksX1_brailled_1 : cX1_brailled.data.toList.drop 24 = dktX1_brailled_1 := dk_seg dksX1_brailled_0 24 rfl rfl
theorem dksX1_brailled_2 : cX1_brailled.data.toList.drop 48 = dktX1_brailled_2 := dk_seg dksX1_brailled_1 24 rfl rfl
theorem dksX1_brailled_3 : cX1_brailled.data.toList.drop 68 = dktX1_brailled_3 := dk_seg dksX1_brailled_2 20 rfl rfl
theorem dksX1_brailled_4 : cX1_brailled.data.toList.drop 91 = dktX1_brailled_4 := dk_seg dksX1_brailled_3 23 rfl rfl
theorem dksX1_brailled_5 : cX1_brailled.data.toList.drop 114 = dktX1_brailled_5 := dk_seg dksX1_brailled_4 23 rfl rfl
theorem dksX1_brailled_6 : cX1_brailled.data.toList.drop 137 = dktX1_brailled_6 := dk_seg dksX1_brailled_5 23 rfl rfl
theorem dksX1_brailled_7 : cX1_brailled.data.toList.drop 161 = dktX1_brailled_7 := dk_seg dksX1_brailled_6 24 rfl rfl
theorem dksX1_brailled_8 : cX1_brailled.data.toList.drop 185 = dktX1_brailled_8 := dk_seg dksX1_brailled_7 24 rfl rfl
theorem dX1_brailled_0 : decode cX1_brailled 0 = .ok (.aload_n 0, 1) := dk_42 (dk_at dksX1_brailled_0 0 rfl rfl)
theorem dX1_brailled_1 : decode cX1_brailled 1 = .ok (.invokevirtual 422, 3) := dk_182 1 166 (dk_at dksX1_brailled_0 1 rfl rfl)
theorem dX1_brailled_4 : decode cX1_brailled 4 = .ok (.astore_n 1, 1) := dk_76 (dk_at dksX1_brailled_0 4 rfl rfl)
theorem dX1_brailled_5 : decode cX1_brailled 5 = .ok (.new 69, 3) := dk_187 0 69 (dk_at dksX1_brailled_0 5 rfl rfl)
theorem dX1_brailled_8 : decode cX1_brailled 8 = .ok (.dup, 1) := dk_89 (dk_at dksX1_brailled_0 8 rfl rfl)
theorem dX1_brailled_9 : decode cX1_brailled 9 = .ok (.invokespecial 71, 3) := dk_183 0 71 (dk_at dksX1_brailled_0 9 rfl rfl)
theorem dX1_brailled_12 : decode cX1_brailled 12 = .ok (.astore_n 2, 1) := dk_77 (dk_at dksX1_brailled_0 12 rfl rfl)
theorem dX1_brailled_13 : decode cX1_brailled 13 = .ok (.iconst 0, 1) := dk_3 (dk_at dksX1_brailled_0 13 rfl rfl)
theorem dX1_brailled_14 : decode cX1_brailled 14 = .ok (.istore_n 3, 1) := dk_62 (dk_at dksX1_brailled_0 14 rfl rfl)
theorem dX1_brailled_15 : decode cX1_brailled 15 = .ok (.iload_n 3, 1) := dk_29 (dk_at dksX1_brailled_0 15 rfl rfl)
theorem dX1_brailled_16 : decode cX1_brailled 16 = .ok (.aload_n 1, 1) := dk_43 (dk_at dksX1_brailled_0 16 rfl rfl)
theorem dX1_brailled_17 : decode cX1_brailled 17 = .ok (.invokevirtual 374, 3) := dk_182 1 118 (dk_at dksX1_brailled_0 17 rfl rfl)
theorem dX1_brailled_20 : decode cX1_brailled 20 = .ok (.if_icmp .ge 168, 3) := dk_162 0 168 (dk_at dksX1_brailled_0 20 rfl rfl)
theorem dX1_brailled_23 : decode cX1_brailled 23 = .ok (.aload_n 1, 1) := dk_43 (dk_at dksX1_brailled_0 23 rfl rfl)
theorem dX1_brailled_24 : decode cX1_brailled 24 = .ok (.iload_n 3, 1) := dk_29 (dk_at dksX1_brailled_1 0 rfl rfl)
theorem dX1_brailled_25 : decode cX1_brailled 25 = .ok (.invokevirtual 375, 3) := dk_182 1 119 (dk_at dksX1_brailled_1 1 rfl rfl)
theorem dX1_brailled_28 : decode cX1_brailled 28 = .ok (.invokestatic 28, 3) := dk_184 0 28 (dk_at dksX1_brailled_1 4 rfl rfl)
theorem dX1_brailled_31 : decode cX1_brailled 31 = .ok (.ifCond .eq 13, 3) := dk_153 0 13 (dk_at dksX1_brailled_1 7 rfl rfl)
theorem dX1_brailled_34 : decode cX1_brailled 34 = .ok (.aload_n 2, 1) := dk_44 (dk_at dksX1_brailled_1 10 rfl rfl)
theorem dX1_brailled_35 : decode cX1_brailled 35 = .ok (.bipush 64, 2) := dk_16 64 (dk_at dksX1_brailled_1 11 rfl rfl)
theorem dX1_brailled_37 : decode cX1_brailled 37 = .ok (.invokestatic 201, 3) := dk_184 0 201 (dk_at dksX1_brailled_1 13 rfl rfl)
theorem dX1_brailled_40 : decode cX1_brailled 40 = .ok (.invokevirtual 181, 3) := dk_182 0 181 (dk_at dksX1_brailled_1 16 rfl rfl)
theorem dX1_brailled_43 : decode cX1_brailled 43 = .ok (.pop, 1) := dk_87 (dk_at dksX1_brailled_1 19 rfl rfl)
theorem dX1_brailled_44 : decode cX1_brailled 44 = .ok (.aconst_null, 1) := dk_1 (dk_at dksX1_brailled_1 20 rfl rfl)
theorem dX1_brailled_45 : decode cX1_brailled 45 = .ok (.astore 4, 2) := dk_58 4 (dk_at dksX1_brailled_1 21 rfl rfl)
theorem dX1_brailled_47 : decode cX1_brailled 47 = .ok (.aload_n 0, 1) := dk_42 (dk_at dksX1_brailled_1 23 rfl rfl)
theorem dX1_brailled_48 : decode cX1_brailled 48 = .ok (.getfield 120, 3) := dk_180 0 120 (dk_at dksX1_brailled_2 0 rfl rfl)
theorem dX1_brailled_51 : decode cX1_brailled 51 = .ok (.invokevirtual 405, 3) := dk_182 1 149 (dk_at dksX1_brailled_2 3 rfl rfl)
theorem dX1_brailled_54 : decode cX1_brailled 54 = .ok (.astore 5, 2) := dk_58 5 (dk_at dksX1_brailled_2 6 rfl rfl)
theorem dX1_brailled_56 : decode cX1_brailled 56 = .ok (.aload 5, 2) := dk_25 5 (dk_at dksX1_brailled_2 8 rfl rfl)
theorem dX1_brailled_58 : decode cX1_brailled 58 = .ok (.invokeinterface 229 1, 5) := by decide +kernel
theorem dX1_brailled_63 : decode cX1_brailled 63 = .ok (.ifCond .eq 73, 3) := dk_153 0 73 (dk_at dksX1_brailled_2 15 rfl rfl)
theorem dX1_brailled_66 : decode cX1_brailled 66 = .ok (.aload 5, 2) := dk_25 5 (dk_at dksX1_brailled_2 18 rfl rfl)
theorem dX1_brailled_68 : decode cX1_brailled 68 = .ok (.invokeinterface 234 1, 5) := by decide +kernel
theorem dX1_brailled_73 : decode cX1_brailled 73 = .ok (.checkcast 471, 3) := dk_192 1 215 (dk_at dksX1_brailled_3 5 rfl rfl)
theorem dX1_brailled_76 : decode cX1_brailled 76 = .ok (.astore 6, 2) := dk_58 6 (dk_at dksX1_brailled_3 8 rfl rfl)
theorem dX1_brailled_78 : decode cX1_brailled 78 = .ok (.aload 4, 2) := dk_25 4 (dk_at dksX1_brailled_3 10 rfl rfl)
theorem dX1_brailled_80 : decode cX1_brailled 80 = .ok (.ifnull 22, 3) := dk_198 0 22 (dk_at dksX1_brailled_3 12 rfl rfl)
theorem dX1_brailled_83 : decode cX1_brailled 83 = .ok (.aload 6, 2) := dk_25 6 (dk_at dksX1_brailled_3 15 rfl rfl)
theorem dX1_brailled_85 : decode cX1_brailled 85 = .ok (.invokevirtual 476, 3) := dk_182 1 220 (dk_at dksX1_brailled_3 17 rfl rfl)
theorem dX1_brailled_88 : decode cX1_brailled 88 = .ok (.invokevirtual 374, 3) := dk_182 1 118 (dk_at dksX1_brailled_3 20 rfl rfl)
theorem dX1_brailled_91 : decode cX1_brailled 91 = .ok (.aload 4, 2) := dk_25 4 (dk_at dksX1_brailled_4 0 rfl rfl)
theorem dX1_brailled_93 : decode cX1_brailled 93 = .ok (.invokevirtual 476, 3) := dk_182 1 220 (dk_at dksX1_brailled_4 2 rfl rfl)
theorem dX1_brailled_96 : decode cX1_brailled 96 = .ok (.invokevirtual 374, 3) := dk_182 1 118 (dk_at dksX1_brailled_4 5 rfl rfl)
theorem dX1_brailled_99 : decode cX1_brailled 99 = .ok (.if_icmp .le 7, 3) := dk_164 0 7 (dk_at dksX1_brailled_4 8 rfl rfl)
theorem dX1_brailled_102 : decode cX1_brailled 102 = .ok (.iconst 1, 1) := dk_4 (dk_at dksX1_brailled_4 11 rfl rfl)
theorem dX1_brailled_103 : decode cX1_brailled 103 = .ok (.goto 4, 3) := dk_167 0 4 (dk_at dksX1_brailled_4 12 rfl rfl)
theorem dX1_brailled_106 : decode cX1_brailled 106 = .ok (.iconst 0, 1) := dk_3 (dk_at dksX1_brailled_4 15 rfl rfl)
theorem dX1_brailled_107 : decode cX1_brailled 107 = .ok (.istore 7, 2) := dk_54 7 (dk_at dksX1_brailled_4 16 rfl rfl)
theorem dX1_brailled_109 : decode cX1_brailled 109 = .ok (.iload 7, 2) := dk_21 7 (dk_at dksX1_brailled_4 18 rfl rfl)
theorem dX1_brailled_111 : decode cX1_brailled 111 = .ok (.ifCond .eq 18, 3) := dk_153 0 18 (dk_at dksX1_brailled_4 20 rfl rfl)
theorem dX1_brailled_114 : decode cX1_brailled 114 = .ok (.aload 6, 2) := dk_25 6 (dk_at dksX1_brailled_5 0 rfl rfl)
theorem dX1_brailled_116 : decode cX1_brailled 116 = .ok (.aload_n 1, 1) := dk_43 (dk_at dksX1_brailled_5 2 rfl rfl)
theorem dX1_brailled_117 : decode cX1_brailled 117 = .ok (.iload_n 3, 1) := dk_29 (dk_at dksX1_brailled_5 3 rfl rfl)
theorem dX1_brailled_118 : decode cX1_brailled 118 = .ok (.invokestatic 486, 3) := dk_184 1 230 (dk_at dksX1_brailled_5 4 rfl rfl)
theorem dX1_brailled_121 : decode cX1_brailled 121 = .ok (.ifCond .eq 8, 3) := dk_153 0 8 (dk_at dksX1_brailled_5 7 rfl rfl)
theorem dX1_brailled_124 : decode cX1_brailled 124 = .ok (.aload 6, 2) := dk_25 6 (dk_at dksX1_brailled_5 10 rfl rfl)
theorem dX1_brailled_126 : decode cX1_brailled 126 = .ok (.goto 5, 3) := dk_167 0 5 (dk_at dksX1_brailled_5 12 rfl rfl)
theorem dX1_brailled_129 : decode cX1_brailled 129 = .ok (.aload 4, 2) := dk_25 4 (dk_at dksX1_brailled_5 15 rfl rfl)
theorem dX1_brailled_131 : decode cX1_brailled 131 = .ok (.astore 4, 2) := dk_58 4 (dk_at dksX1_brailled_5 17 rfl rfl)
theorem dX1_brailled_133 : decode cX1_brailled 133 = .ok (.goto (-77), 3) := dk_167 255 179 (dk_at dksX1_brailled_5 19 rfl rfl)
theorem dX1_brailled_136 : decode cX1_brailled 136 = .ok (.aload_n 2, 1) := dk_44 (dk_at dksX1_brailled_5 22 rfl rfl)
theorem dX1_brailled_137 : decode cX1_brailled 137 = .ok (.aload 4, 2) := dk_25 4 (dk_at dksX1_brailled_6 0 rfl rfl)
theorem dX1_brailled_139 : decode cX1_brailled 139 = .ok (.ifnonnull 14, 3) := dk_199 0 14 (dk_at dksX1_brailled_6 2 rfl rfl)
theorem dX1_brailled_142 : decode cX1_brailled 142 = .ok (.aload_n 1, 1) := dk_43 (dk_at dksX1_brailled_6 5 rfl rfl)
theorem dX1_brailled_143 : decode cX1_brailled 143 = .ok (.iload_n 3, 1) := dk_29 (dk_at dksX1_brailled_6 6 rfl rfl)
theorem dX1_brailled_144 : decode cX1_brailled 144 = .ok (.invokevirtual 375, 3) := dk_182 1 119 (dk_at dksX1_brailled_6 7 rfl rfl)
theorem dX1_brailled_147 : decode cX1_brailled 147 = .ok (.invokestatic 490, 3) := dk_184 1 234 (dk_at dksX1_brailled_6 10 rfl rfl)
theorem dX1_brailled_150 : decode cX1_brailled 150 = .ok (.goto 8, 3) := dk_167 0 8 (dk_at dksX1_brailled_6 13 rfl rfl)
theorem dX1_brailled_153 : decode cX1_brailled 153 = .ok (.aload 4, 2) := dk_25 4 (dk_at dksX1_brailled_6 16 rfl rfl)
theorem dX1_brailled_155 : decode cX1_brailled 155 = .ok (.invokevirtual 473, 3) := dk_182 1 217 (dk_at dksX1_brailled_6 18 rfl rfl)
theorem dX1_brailled_158 : decode cX1_brailled 158 = .ok (.invokestatic 201, 3) := dk_184 0 201 (dk_at dksX1_brailled_6 21 rfl rfl)
theorem dX1_brailled_161 : decode cX1_brailled 161 = .ok (.invokevirtual 181, 3) := dk_182 0 181 (dk_at dksX1_brailled_7 0 rfl rfl)
theorem dX1_brailled_164 : decode cX1_brailled 164 = .ok (.pop, 1) := dk_87 (dk_at dksX1_brailled_7 3 rfl rfl)
theorem dX1_brailled_165 : decode cX1_brailled 165 = .ok (.iload_n 3, 1) := dk_29 (dk_at dksX1_brailled_7 4 rfl rfl)
theorem dX1_brailled_166 : decode cX1_brailled 166 = .ok (.aload 4, 2) := dk_25 4 (dk_at dksX1_brailled_7 5 rfl rfl)
theorem dX1_brailled_168 : decode cX1_brailled 168 = .ok (.ifnonnull 7, 3) := dk_199 0 7 (dk_at dksX1_brailled_7 7 rfl rfl)
theorem dX1_brailled_171 : decode cX1_brailled 171 = .ok (.iconst 1, 1) := dk_4 (dk_at dksX1_brailled_7 10 rfl rfl)
theorem dX1_brailled_172 : decode cX1_brailled 172 = .ok (.goto 11, 3) := dk_167 0 11 (dk_at dksX1_brailled_7 11 rfl rfl)
theorem dX1_brailled_175 : decode cX1_brailled 175 = .ok (.aload 4, 2) := dk_25 4 (dk_at dksX1_brailled_7 14 rfl rfl)
theorem dX1_brailled_177 : decode cX1_brailled 177 = .ok (.invokevirtual 476, 3) := dk_182 1 220 (dk_at dksX1_brailled_7 16 rfl rfl)
theorem dX1_brailled_180 : decode cX1_brailled 180 = .ok (.invokevirtual 374, 3) := dk_182 1 118 (dk_at dksX1_brailled_7 19 rfl rfl)
theorem dX1_brailled_183 : decode cX1_brailled 183 = .ok (.iadd, 1) := dk_96 (dk_at dksX1_brailled_7 22 rfl rfl)
theorem dX1_brailled_184 : decode cX1_brailled 184 = .ok (.istore_n 3, 1) := dk_62 (dk_at dksX1_brailled_7 23 rfl rfl)
theorem dX1_brailled_185 : decode cX1_brailled 185 = .ok (.goto (-170), 3) := dk_167 255 86 (dk_at dksX1_brailled_8 0 rfl rfl)
theorem dX1_brailled_188 : decode cX1_brailled 188 = .ok (.aload_n 2, 1) := dk_44 (dk_at dksX1_brailled_8 3 rfl rfl)
theorem dX1_brailled_189 : decode cX1_brailled 189 = .ok (.areturn, 1) := dk_176 (dk_at dksX1_brailled_8 4 rfl rfl)
abbrev cX1_begins : ByteArray := prog_1_method_76_code
def yX1_begins : MethodName := ⟨RX1, "begins", "(LStenohall$Contraction;Ljava/lang/String;I)Z"⟩
def dkwX1_begins_3 : List UInt8 := [21, 4, 182, 1, 119, 160, 0, 7, 4, 167, 0, 4, 3, 62, 132, 4, 1, 167, 255, 194, 29, 172]
abbrev dktX1_begins_3 : List UInt8 := dkwX1_begins_3 ++ []
def dkwX1_begins_2 : List UInt8 := [182, 1, 119, 54, 5, 21, 4, 154, 0, 11, 21, 5, 184, 1, 226, 167, 0, 5, 21, 5, 42, 182, 1, 220]
abbrev dktX1_begins_2 : List UInt8 := dkwX1_begins_2 ++ dktX1_begins_3
def dkwX1_begins_1 : List UInt8 := [54, 4, 29, 153, 0, 64, 21, 4, 42, 182, 1, 220, 182, 1, 118, 162, 0, 52, 43, 28, 21, 4, 96]
abbrev dktX1_begins_1 : List UInt8 := dkwX1_begins_1 ++ dktX1_begins_2
def dkwX1_begins_0 : List UInt8 := [28, 42, 182, 1, 220, 182, 1, 118, 96, 43, 182, 1, 118, 163, 0, 7, 4, 167, 0, 4, 3, 62, 3]
abbrev dktX1_begins_0 : List UInt8 := dkwX1_begins_0 ++ dktX1_begins_1
theorem dksX1_begins_0 : cX1_begins.data.toList.drop 0 = dktX1_begins_0 := by decide +kernel
theorem dksX1_begins_1 : cX1_begins.data.toList.drop 23 = dktX1_begins_1 := dk_seg dksX1_begins_0 23 rfl rfl
theorem dksX1_begins_2 : cX1_begins.data.toList.drop 46 = dktX1_begins_2 := dk_seg dksX1_begins_1 23 rfl rfl
theorem dksX1_begins_3 : cX1_begins.data.toList.drop 70 = dktX1_begins_3 := dk_seg dksX1_begins_2 24 rfl rfl
theorem dX1_begins_0 : decode cX1_begins 0 = .ok (.iload_n 2, 1) := dk_28 (dk_at dksX1_begins_0 0 rfl rfl)
theorem dX1_begins_1 : decode cX1_begins 1 = .ok (.aload_n 0, 1) := dk_42 (dk_at dksX1_begins_0 1 rfl rfl)
theorem dX1_begins_2 : decode cX1_begins 2 = .ok (.invokevirtual 476, 3) := dk_182 1 220 (dk_at dksX1_begins_0 2 rfl rfl)
theorem dX1_begins_5 : decode cX1_begins 5 = .ok (.invokevirtual 374, 3) := dk_182 1 118 (dk_at dksX1_begins_0 5 rfl rfl)
theorem dX1_begins_8 : decode cX1_begins 8 = .ok (.iadd, 1) := dk_96 (dk_at dksX1_begins_0 8 rfl rfl)
theorem dX1_begins_9 : decode cX1_begins 9 = .ok (.aload_n 1, 1) := dk_43 (dk_at dksX1_begins_0 9 rfl rfl)
theorem dX1_begins_10 : decode cX1_begins 10 = .ok (.invokevirtual 374, 3) := dk_182 1 118 (dk_at dksX1_begins_0 10 rfl rfl)
theorem dX1_begins_13 : decode cX1_begins 13 = .ok (.if_icmp .gt 7, 3) := dk_163 0 7 (dk_at dksX1_begins_0 13 rfl rfl)
theorem dX1_begins_16 : decode cX1_begins 16 = .ok (.iconst 1, 1) := dk_4 (dk_at dksX1_begins_0 16 rfl rfl)
theorem dX1_begins_17 : decode cX1_begins 17 = .ok (.goto 4, 3) := dk_167 0 4 (dk_at dksX1_begins_0 17 rfl rfl)
theorem dX1_begins_20 : decode cX1_begins 20 = .ok (.iconst 0, 1) := dk_3 (dk_at dksX1_begins_0 20 rfl rfl)
theorem dX1_begins_21 : decode cX1_begins 21 = .ok (.istore_n 3, 1) := dk_62 (dk_at dksX1_begins_0 21 rfl rfl)
theorem dX1_begins_22 : decode cX1_begins 22 = .ok (.iconst 0, 1) := dk_3 (dk_at dksX1_begins_0 22 rfl rfl)
theorem dX1_begins_23 : decode cX1_begins 23 = .ok (.istore 4, 2) := dk_54 4 (dk_at dksX1_begins_1 0 rfl rfl)
theorem dX1_begins_25 : decode cX1_begins 25 = .ok (.iload_n 3, 1) := dk_29 (dk_at dksX1_begins_1 2 rfl rfl)
theorem dX1_begins_26 : decode cX1_begins 26 = .ok (.ifCond .eq 64, 3) := dk_153 0 64 (dk_at dksX1_begins_1 3 rfl rfl)
theorem dX1_begins_29 : decode cX1_begins 29 = .ok (.iload 4, 2) := dk_21 4 (dk_at dksX1_begins_1 6 rfl rfl)
theorem dX1_begins_31 : decode cX1_begins 31 = .ok (.aload_n 0, 1) := dk_42 (dk_at dksX1_begins_1 8 rfl rfl)
theorem dX1_begins_32 : decode cX1_begins 32 = .ok (.invokevirtual 476, 3) := dk_182 1 220 (dk_at dksX1_begins_1 9 rfl rfl)
theorem dX1_begins_35 : decode cX1_begins 35 = .ok (.invokevirtual 374, 3) := dk_182 1 118 (dk_at dksX1_begins_1 12 rfl rfl)
theorem dX1_begins_38 : decode cX1_begins 38 = .ok (.if_icmp .ge 52, 3) := dk_162 0 52 (dk_at dksX1_begins_1 15 rfl rfl)
theorem dX1_begins_41 : decode cX1_begins 41 = .ok (.aload_n 1, 1) := dk_43 (dk_at dksX1_begins_1 18 rfl rfl)
theorem dX1_begins_42 : decode cX1_begins 42 = .ok (.iload_n 2, 1) := dk_28 (dk_at dksX1_begins_1 19 rfl rfl)
theorem dX1_begins_43 : decode cX1_begins 43 = .ok (.iload 4, 2) := dk_21 4 (dk_at dksX1_begins_1 20 rfl rfl)
theorem dX1_begins_45 : decode cX1_begins 45 = .ok (.iadd, 1) := dk_96 (dk_at dksX1_begins_1 22 rfl rfl)
theorem dX1_begins_46 : decode cX1_begins 46 = .ok (.invokevirtual 375, 3) := dk_182 1 119 (dk_at dksX1_begins_2 0 rfl rfl)
theorem dX1_begins_49 : decode cX1_begins 49 = .ok (.istore 5, 2) := dk_54 5 (dk_at dksX1_begins_2 3 rfl rfl)
theorem dX1_begins_51 : decode cX1_begins 51 = .ok (.iload 4, 2) := dk_21 4 (dk_at dksX1_begins_2 5 rfl rfl)
theorem dX1_begins_53 : decode cX1_begins 53 = .ok (.ifCond .ne 11, 3) := dk_154 0 11 (dk_at dksX1_begins_2 7 rfl rfl)
theorem dX1_begins_56 : decode cX1_begins 56 = .ok (.iload 5, 2) := dk_21 5 (dk_at dksX1_begins_2 10 rfl rfl)
theorem dX1_begins_58 : decode cX1_begins 58 = .ok (.invokestatic 482, 3) := dk_184 1 226 (dk_at dksX1_begins_2 12 rfl rfl)
theorem dX1_begins_61 : decode cX1_begins 61 = .ok (.goto 5, 3) := dk_167 0 5 (dk_at dksX1_begins_2 15 rfl rfl)
theorem dX1_begins_64 : decode cX1_begins 64 = .ok (.iload 5, 2) := dk_21 5 (dk_at dksX1_begins_2 18 rfl rfl)
theorem dX1_begins_66 : decode cX1_begins 66 = .ok (.aload_n 0, 1) := dk_42 (dk_at dksX1_begins_2 20 rfl rfl)
theorem dX1_begins_67 : decode cX1_begins 67 = .ok (.invokevirtual 476, 3) := dk_182 1 220 (dk_at dksX1_begins_2 21 rfl rfl)
theorem dX1_begins_70 : decode cX1_begins 70 = .ok (.iload 4, 2) := dk_21 4 (dk_at dksX1_begins_3 0 rfl rfl)
theorem dX1_begins_72 : decode cX1_begins 72 = .ok (.invokevirtual 375, 3) := dk_182 1 119 (dk_at dksX1_begins_3 2 rfl rfl)
theorem dX1_begins_75 : decode cX1_begins 75 = .ok (.if_icmp .ne 7, 3) := dk_160 0 7 (dk_at dksX1_begins_3 5 rfl rfl)
theorem dX1_begins_78 : decode cX1_begins 78 = .ok (.iconst 1, 1) := dk_4 (dk_at dksX1_begins_3 8 rfl rfl)
theorem dX1_begins_79 : decode cX1_begins 79 = .ok (.goto 4, 3) := dk_167 0 4 (dk_at dksX1_begins_3 9 rfl rfl)
theorem dX1_begins_82 : decode cX1_begins 82 = .ok (.iconst 0, 1) := dk_3 (dk_at dksX1_begins_3 12 rfl rfl)
theorem dX1_begins_83 : decode cX1_begins 83 = .ok (.istore_n 3, 1) := dk_62 (dk_at dksX1_begins_3 13 rfl rfl)
theorem dX1_begins_84 : decode cX1_begins 84 = .ok (.iinc 4 1, 3) := dk_132 4 1 (dk_at dksX1_begins_3 14 rfl rfl)
theorem dX1_begins_87 : decode cX1_begins 87 = .ok (.goto (-62), 3) := dk_167 255 194 (dk_at dksX1_begins_3 17 rfl rfl)
theorem dX1_begins_90 : decode cX1_begins 90 = .ok (.iload_n 3, 1) := dk_29 (dk_at dksX1_begins_3 20 rfl rfl)
theorem dX1_begins_91 : decode cX1_begins 91 = .ok (.ireturn, 1) := dk_172 (dk_at dksX1_begins_3 21 rfl rfl)
abbrev cX1_cellOf : ByteArray := prog_1_method_75_code
def yX1_cellOf : MethodName := ⟨RX1, "cellOf", "(C)I"⟩
def dkwX1_cellOf_2 : List UInt8 := [3, 172, 16, 66, 172, 16, 67, 172, 16, 68, 172, 16, 69, 172, 26, 184, 1, 226, 16, 97, 100, 4, 96, 172]
abbrev dktX1_cellOf_2 : List UInt8 := dkwX1_cellOf_2 ++ []
def dkwX1_cellOf_1 : List UInt8 := [171, 0, 0, 0, 0, 0, 65, 0, 0, 0, 5, 0, 0, 0, 32, 0, 0, 0, 51, 0, 0, 0, 44, 0, 0, 0, 59, 0, 0, 0, 46, 0, 0, 0, 56, 0, 0, 0, 63, 0, 0, 0, 62, 0, 0, 0, 124, 0, 0, 0, 53]
abbrev dktX1_cellOf_1 : List UInt8 := dkwX1_cellOf_1 ++ dktX1_cellOf_2
def dkwX1_cellOf_0 : List UInt8 := [26]
abbrev dktX1_cellOf_0 : List UInt8 := dkwX1_cellOf_0 ++ dktX1_cellOf_1
theorem dksX1_cellOf_0 : cX1_cellOf.data.toList.drop 0 = dktX1_cellOf_0 := by decide +kernel
theorem dksX1_cellOf_1 : cX1_cellOf.data.toList.drop 1 = dktX1_cellOf_1 := dk_seg dksX1_cellOf_0 1 rfl rfl
theorem dksX1_cellOf_2 : cX1_cellOf.data.toList.drop 52 = dktX1_cellOf_2 := dk_seg dksX1_cellOf_1 51 rfl rfl
theorem dX1_cellOf_0 : decode cX1_cellOf 0 = .ok (.iload_n 0, 1) := dk_26 (dk_at dksX1_cellOf_0 0 rfl rfl)
theorem dX1_cellOf_1 : decode cX1_cellOf 1 = .ok (.lookupswitch 65 #[(32, 51), (44, 59), (46, 56), (63, 62), (124, 53)], 51) := by decide +kernel
theorem dX1_cellOf_52 : decode cX1_cellOf 52 = .ok (.iconst 0, 1) := dk_3 (dk_at dksX1_cellOf_2 0 rfl rfl)
theorem dX1_cellOf_53 : decode cX1_cellOf 53 = .ok (.ireturn, 1) := dk_172 (dk_at dksX1_cellOf_2 1 rfl rfl)
theorem dX1_cellOf_54 : decode cX1_cellOf 54 = .ok (.bipush 66, 2) := dk_16 66 (dk_at dksX1_cellOf_2 2 rfl rfl)
theorem dX1_cellOf_56 : decode cX1_cellOf 56 = .ok (.ireturn, 1) := dk_172 (dk_at dksX1_cellOf_2 4 rfl rfl)
theorem dX1_cellOf_57 : decode cX1_cellOf 57 = .ok (.bipush 67, 2) := dk_16 67 (dk_at dksX1_cellOf_2 5 rfl rfl)
theorem dX1_cellOf_59 : decode cX1_cellOf 59 = .ok (.ireturn, 1) := dk_172 (dk_at dksX1_cellOf_2 7 rfl rfl)
theorem dX1_cellOf_60 : decode cX1_cellOf 60 = .ok (.bipush 68, 2) := dk_16 68 (dk_at dksX1_cellOf_2 8 rfl rfl)
theorem dX1_cellOf_62 : decode cX1_cellOf 62 = .ok (.ireturn, 1) := dk_172 (dk_at dksX1_cellOf_2 10 rfl rfl)
theorem dX1_cellOf_63 : decode cX1_cellOf 63 = .ok (.bipush 69, 2) := dk_16 69 (dk_at dksX1_cellOf_2 11 rfl rfl)
theorem dX1_cellOf_65 : decode cX1_cellOf 65 = .ok (.ireturn, 1) := dk_172 (dk_at dksX1_cellOf_2 13 rfl rfl)
theorem dX1_cellOf_66 : decode cX1_cellOf 66 = .ok (.iload_n 0, 1) := dk_26 (dk_at dksX1_cellOf_2 14 rfl rfl)
theorem dX1_cellOf_67 : decode cX1_cellOf 67 = .ok (.invokestatic 482, 3) := dk_184 1 226 (dk_at dksX1_cellOf_2 15 rfl rfl)
theorem dX1_cellOf_70 : decode cX1_cellOf 70 = .ok (.bipush 97, 2) := dk_16 97 (dk_at dksX1_cellOf_2 18 rfl rfl)
theorem dX1_cellOf_72 : decode cX1_cellOf 72 = .ok (.isub, 1) := dk_100 (dk_at dksX1_cellOf_2 20 rfl rfl)
theorem dX1_cellOf_73 : decode cX1_cellOf 73 = .ok (.iconst 1, 1) := dk_4 (dk_at dksX1_cellOf_2 21 rfl rfl)
theorem dX1_cellOf_74 : decode cX1_cellOf 74 = .ok (.iadd, 1) := dk_96 (dk_at dksX1_cellOf_2 22 rfl rfl)
theorem dX1_cellOf_75 : decode cX1_cellOf 75 = .ok (.ireturn, 1) := dk_172 (dk_at dksX1_cellOf_2 23 rfl rfl)
abbrev cX1_misses : ByteArray := prog_1_method_81_code
def yX1_misses : MethodName := ⟨RX1, "misses", "()I"⟩
def dkwX1_misses_3 : List UInt8 := [182, 0, 62, 182, 0, 197, 184, 0, 201, 182, 0, 181, 87, 167, 255, 190, 43, 182, 0, 172, 172]
abbrev dktX1_misses_3 : List UInt8 := dkwX1_misses_3 ++ []
def dkwX1_misses_2 : List UInt8 := [58, 4, 43, 25, 4, 182, 0, 62, 182, 0, 197, 184, 0, 201, 182, 1, 26, 154, 0, 19, 43, 25, 4]
abbrev dktX1_misses_2 : List UInt8 := dkwX1_misses_2 ++ dktX1_misses_3
def dkwX1_misses_1 : List UInt8 := [153, 0, 63, 44, 185, 0, 234, 1, 0, 192, 1, 78, 78, 45, 193, 0, 60, 153, 0, 43, 45, 192, 0, 60]
abbrev dktX1_misses_1 : List UInt8 := dkwX1_misses_1 ++ dktX1_misses_2
def dkwX1_misses_0 : List UInt8 := [187, 0, 69, 89, 183, 0, 71, 76, 42, 180, 0, 99, 182, 1, 149, 77, 44, 185, 0, 229, 1, 0]
abbrev dktX1_misses_0 : List UInt8 := dkwX1_misses_0 ++ dktX1_misses_1
theorem dksX1_misses_0 : cX1_misses.data.toList.drop 0 = dktX1_misses_0 := by decide +kernel
theorem dksX1_misses_1 : cX1_misses.data.toList.drop 22 = dktX1_misses_1 := dk_seg dksX1_misses_0 22 rfl rfl
theorem dksX1_misses_2 : cX1_misses.data.toList.drop 46 = dktX1_misses_2 := dk_seg dksX1_misses_1 24 rfl rfl
theorem dksX1_misses_3 : cX1_misses.data.toList.drop 69 = dktX1_misses_3 := dk_seg dksX1_misses_2 23 rfl rfl
theorem dX1_misses_0 : decode cX1_misses 0 = .ok (.new 69, 3) := dk_187 0 69 (dk_at dksX1_misses_0 0 rfl rfl)
theorem dX1_misses_3 : decode cX1_misses 3 = .ok (.dup, 1) := dk_89 (dk_at dksX1_misses_0 3 rfl rfl)
theorem dX1_misses_4 : decode cX1_misses 4 = .ok (.invokespecial 71, 3) := dk_183 0 71 (dk_at dksX1_misses_0 4 rfl rfl)
theorem dX1_misses_7 : decode cX1_misses 7 = .ok (.astore_n 1, 1) := dk_76 (dk_at dksX1_misses_0 7 rfl rfl)
theorem dX1_misses_8 : decode cX1_misses 8 = .ok (.aload_n 0, 1) := dk_42 (dk_at dksX1_misses_0 8 rfl rfl)
theorem dX1_misses_9 : decode cX1_misses 9 = .ok (.getfield 99, 3) := dk_180 0 99 (dk_at dksX1_misses_0 9 rfl rfl)
theorem dX1_misses_12 : decode cX1_misses 12 = .ok (.invokevirtual 405, 3) := dk_182 1 149 (dk_at dksX1_misses_0 12 rfl rfl)
theorem dX1_misses_15 : decode cX1_misses 15 = .ok (.astore_n 2, 1) := dk_77 (dk_at dksX1_misses_0 15 rfl rfl)
theorem dX1_misses_16 : decode cX1_misses 16 = .ok (.aload_n 2, 1) := dk_44 (dk_at dksX1_misses_0 16 rfl rfl)
theorem dX1_misses_17 : decode cX1_misses 17 = .ok (.invokeinterface 229 1, 5) := by decide +kernel
theorem dX1_misses_22 : decode cX1_misses 22 = .ok (.ifCond .eq 63, 3) := dk_153 0 63 (dk_at dksX1_misses_1 0 rfl rfl)
theorem dX1_misses_25 : decode cX1_misses 25 = .ok (.aload_n 2, 1) := dk_44 (dk_at dksX1_misses_1 3 rfl rfl)
theorem dX1_misses_26 : decode cX1_misses 26 = .ok (.invokeinterface 234 1, 5) := by decide +kernel
theorem dX1_misses_31 : decode cX1_misses 31 = .ok (.checkcast 334, 3) := dk_192 1 78 (dk_at dksX1_misses_1 9 rfl rfl)
theorem dX1_misses_34 : decode cX1_misses 34 = .ok (.astore_n 3, 1) := dk_78 (dk_at dksX1_misses_1 12 rfl rfl)
theorem dX1_misses_35 : decode cX1_misses 35 = .ok (.aload_n 3, 1) := dk_45 (dk_at dksX1_misses_1 13 rfl rfl)
theorem dX1_misses_36 : decode cX1_misses 36 = .ok (.instanceof 60, 3) := dk_193 0 60 (dk_at dksX1_misses_1 14 rfl rfl)
theorem dX1_misses_39 : decode cX1_misses 39 = .ok (.ifCond .eq 43, 3) := dk_153 0 43 (dk_at dksX1_misses_1 17 rfl rfl)
theorem dX1_misses_42 : decode cX1_misses 42 = .ok (.aload_n 3, 1) := dk_45 (dk_at dksX1_misses_1 20 rfl rfl)
theorem dX1_misses_43 : decode cX1_misses 43 = .ok (.checkcast 60, 3) := dk_192 0 60 (dk_at dksX1_misses_1 21 rfl rfl)
theorem dX1_misses_46 : decode cX1_misses 46 = .ok (.astore 4, 2) := dk_58 4 (dk_at dksX1_misses_2 0 rfl rfl)
theorem dX1_misses_48 : decode cX1_misses 48 = .ok (.aload_n 1, 1) := dk_43 (dk_at dksX1_misses_2 2 rfl rfl)
theorem dX1_misses_49 : decode cX1_misses 49 = .ok (.aload 4, 2) := dk_25 4 (dk_at dksX1_misses_2 3 rfl rfl)
theorem dX1_misses_51 : decode cX1_misses 51 = .ok (.invokevirtual 62, 3) := dk_182 0 62 (dk_at dksX1_misses_2 5 rfl rfl)
theorem dX1_misses_54 : decode cX1_misses 54 = .ok (.invokevirtual 197, 3) := dk_182 0 197 (dk_at dksX1_misses_2 8 rfl rfl)
theorem dX1_misses_57 : decode cX1_misses 57 = .ok (.invokestatic 201, 3) := dk_184 0 201 (dk_at dksX1_misses_2 11 rfl rfl)
theorem dX1_misses_60 : decode cX1_misses 60 = .ok (.invokevirtual 282, 3) := dk_182 1 26 (dk_at dksX1_misses_2 14 rfl rfl)
theorem dX1_misses_63 : decode cX1_misses 63 = .ok (.ifCond .ne 19, 3) := dk_154 0 19 (dk_at dksX1_misses_2 17 rfl rfl)
theorem dX1_misses_66 : decode cX1_misses 66 = .ok (.aload_n 1, 1) := dk_43 (dk_at dksX1_misses_2 20 rfl rfl)
theorem dX1_misses_67 : decode cX1_misses 67 = .ok (.aload 4, 2) := dk_25 4 (dk_at dksX1_misses_2 21 rfl rfl)
theorem dX1_misses_69 : decode cX1_misses 69 = .ok (.invokevirtual 62, 3) := dk_182 0 62 (dk_at dksX1_misses_3 0 rfl rfl)
theorem dX1_misses_72 : decode cX1_misses 72 = .ok (.invokevirtual 197, 3) := dk_182 0 197 (dk_at dksX1_misses_3 3 rfl rfl)
theorem dX1_misses_75 : decode cX1_misses 75 = .ok (.invokestatic 201, 3) := dk_184 0 201 (dk_at dksX1_misses_3 6 rfl rfl)
theorem dX1_misses_78 : decode cX1_misses 78 = .ok (.invokevirtual 181, 3) := dk_182 0 181 (dk_at dksX1_misses_3 9 rfl rfl)
theorem dX1_misses_81 : decode cX1_misses 81 = .ok (.pop, 1) := dk_87 (dk_at dksX1_misses_3 12 rfl rfl)
theorem dX1_misses_82 : decode cX1_misses 82 = .ok (.goto (-66), 3) := dk_167 255 190 (dk_at dksX1_misses_3 13 rfl rfl)
theorem dX1_misses_85 : decode cX1_misses 85 = .ok (.aload_n 1, 1) := dk_43 (dk_at dksX1_misses_3 16 rfl rfl)
theorem dX1_misses_86 : decode cX1_misses 86 = .ok (.invokevirtual 172, 3) := dk_182 0 172 (dk_at dksX1_misses_3 17 rfl rfl)
theorem dX1_misses_89 : decode cX1_misses 89 = .ok (.ireturn, 1) := dk_172 (dk_at dksX1_misses_3 20 rfl rfl)
abbrev cX1_saving : ByteArray := prog_1_method_83_code
def yX1_saving : MethodName := ⟨RX1, "saving", "()I"⟩
def dkwX1_saving_8 : List UInt8 := [27, 21, 5, 21, 6, 4, 100, 104, 184, 1, 94, 60, 132, 2, 1, 167, 255, 57, 27, 172]
abbrev dktX1_saving_8 : List UInt8 := dkwX1_saving_8 ++ []
def dkwX1_saving_7 : List UInt8 := [21, 7, 182, 0, 200, 192, 1, 78, 184, 1, 80, 167, 0, 5, 21, 6, 54, 6, 132, 7, 1, 167, 255, 139]
abbrev dktX1_saving_7 : List UInt8 := dkwX1_saving_7 ++ dktX1_saving_8
def dkwX1_saving_6 : List UInt8 := [21, 5, 21, 8, 153, 0, 7, 4, 167, 0, 4, 3, 96, 54, 5, 21, 8, 153, 0, 21, 42, 180, 0, 99]
abbrev dktX1_saving_6 : List UInt8 := dkwX1_saving_6 ++ dktX1_saving_7
def dkwX1_saving_5 : List UInt8 := [192, 0, 168, 182, 1, 160, 184, 2, 2, 25, 4, 182, 1, 134, 153, 0, 7, 4, 167, 0, 4, 3, 54, 8]
abbrev dktX1_saving_5 : List UInt8 := dkwX1_saving_5 ++ dktX1_saving_6
def dkwX1_saving_4 : List UInt8 := [153, 0, 45, 42, 180, 0, 99, 21, 7, 182, 0, 200, 192, 1, 78, 42, 180, 0, 102, 21, 7, 182, 0, 200]
abbrev dktX1_saving_4 : List UInt8 := dkwX1_saving_4 ++ dktX1_saving_5
def dkwX1_saving_3 : List UInt8 := [21, 7, 42, 180, 0, 99, 182, 0, 172, 162, 0, 111, 42, 180, 0, 99, 21, 7, 182, 0, 200, 193, 0, 39]
abbrev dktX1_saving_3 : List UInt8 := dkwX1_saving_3 ++ dktX1_saving_4
def dkwX1_saving_2 : List UInt8 := [182, 0, 200, 192, 0, 168, 182, 1, 160, 184, 2, 2, 58, 4, 3, 54, 5, 3, 54, 6, 3, 54, 7]
abbrev dktX1_saving_2 : List UInt8 := dkwX1_saving_2 ++ dktX1_saving_3
def dkwX1_saving_1 : List UInt8 := [58, 4, 25, 4, 193, 0, 39, 153, 0, 170, 25, 4, 192, 0, 39, 78, 45, 42, 180, 0, 102, 28]
abbrev dktX1_saving_1 : List UInt8 := dkwX1_saving_1 ++ dktX1_saving_2
def dkwX1_saving_0 : List UInt8 := [3, 60, 3, 61, 28, 42, 180, 0, 99, 182, 0, 172, 162, 0, 194, 42, 180, 0, 99, 28, 182, 0, 200]
abbrev dktX1_saving_0 : List UInt8 := dkwX1_saving_0 ++ dktX1_saving_1
theorem dksX1_saving_0 : cX1_saving.data.toList.drop 0 = dktX1_saving_0 := by decide +kernel
theorem dksX1_saving_1 : cX1_saving.data.toList.drop 23 = dktX1_saving_1 := dk_seg dksX1_saving_0 23 rfl rfl
theorem dksX1_saving_2 : cX1_saving.data.toList.drop 45 = dktX1_saving_2 := dk_seg dksX1_saving_1 22 rfl rfl
theorem dksX1_saving_3 : cX1_saving.data.toList.drop 68 = dktX1_saving_3 := dk_seg dksX1_saving_2 23 rfl rfl
theorem dksX1_saving_4 : cX1_saving.data.toList.drop 92 = dktX1_saving_4 := dk_seg dksX1_saving_3 24 rfl rfl
theorem dksX1_saving_5 : cX1_saving.data.toList.drop 116 = dktX1_saving_5 := dk_seg dksX1_saving_4 24 rfl rfl
theorem dksX1_saving_6 : cX1_saving.data.toList.drop 140 = dktX1_saving_6 := dk_seg dksX1_saving_5 24 rfl rfl
theorem dksX1_saving_7 : cX1_saving.data.toList.drop 164 = dktX1_saving_7 := dk_seg dksX1_saving_6 24 rfl rfl
theorem dksX1_saving_8 : cX1_saving.data.toList.drop 188 = dktX1_saving_8 := dk_seg dksX1_saving_7 24 rfl rfl
theorem dX1_saving_0 : decode cX1_saving 0 = .ok (.iconst 0, 1) := dk_3 (dk_at dksX1_saving_0 0 rfl rfl)
theorem dX1_saving_1 : decode cX1_saving 1 = .ok (.istore_n 1, 1) := dk_60 (dk_at dksX1_saving_0 1 rfl rfl)
theorem dX1_saving_2 : decode cX1_saving 2 = .ok (.iconst 0, 1) := dk_3 (dk_at dksX1_saving_0 2 rfl rfl)
theorem dX1_saving_3 : decode cX1_saving 3 = .ok (.istore_n 2, 1) := dk_61 (dk_at dksX1_saving_0 3 rfl rfl)
theorem dX1_saving_4 : decode cX1_saving 4 = .ok (.iload_n 2, 1) := dk_28 (dk_at dksX1_saving_0 4 rfl rfl)
theorem dX1_saving_5 : decode cX1_saving 5 = .ok (.aload_n 0, 1) := dk_42 (dk_at dksX1_saving_0 5 rfl rfl)
theorem dX1_saving_6 : decode cX1_saving 6 = .ok (.getfield 99, 3) := dk_180 0 99 (dk_at dksX1_saving_0 6 rfl rfl)
theorem dX1_saving_9 : decode cX1_saving 9 = .ok (.invokevirtual 172, 3) := dk_182 0 172 (dk_at dksX1_saving_0 9 rfl rfl)
theorem dX1_saving_12 : decode cX1_saving 12 = .ok (.if_icmp .ge 194, 3) := dk_162 0 194 (dk_at dksX1_saving_0 12 rfl rfl)
theorem dX1_saving_15 : decode cX1_saving 15 = .ok (.aload_n 0, 1) := dk_42 (dk_at dksX1_saving_0 15 rfl rfl)
theorem dX1_saving_16 : decode cX1_saving 16 = .ok (.getfield 99, 3) := dk_180 0 99 (dk_at dksX1_saving_0 16 rfl rfl)
theorem dX1_saving_19 : decode cX1_saving 19 = .ok (.iload_n 2, 1) := dk_28 (dk_at dksX1_saving_0 19 rfl rfl)
theorem dX1_saving_20 : decode cX1_saving 20 = .ok (.invokevirtual 200, 3) := dk_182 0 200 (dk_at dksX1_saving_0 20 rfl rfl)
theorem dX1_saving_23 : decode cX1_saving 23 = .ok (.astore 4, 2) := dk_58 4 (dk_at dksX1_saving_1 0 rfl rfl)
theorem dX1_saving_25 : decode cX1_saving 25 = .ok (.aload 4, 2) := dk_25 4 (dk_at dksX1_saving_1 2 rfl rfl)
theorem dX1_saving_27 : decode cX1_saving 27 = .ok (.instanceof 39, 3) := dk_193 0 39 (dk_at dksX1_saving_1 4 rfl rfl)
theorem dX1_saving_30 : decode cX1_saving 30 = .ok (.ifCond .eq 170, 3) := dk_153 0 170 (dk_at dksX1_saving_1 7 rfl rfl)
theorem dX1_saving_33 : decode cX1_saving 33 = .ok (.aload 4, 2) := dk_25 4 (dk_at dksX1_saving_1 10 rfl rfl)
theorem dX1_saving_35 : decode cX1_saving 35 = .ok (.checkcast 39, 3) := dk_192 0 39 (dk_at dksX1_saving_1 12 rfl rfl)
theorem dX1_saving_38 : decode cX1_saving 38 = .ok (.astore_n 3, 1) := dk_78 (dk_at dksX1_saving_1 15 rfl rfl)
theorem dX1_saving_39 : decode cX1_saving 39 = .ok (.aload_n 3, 1) := dk_45 (dk_at dksX1_saving_1 16 rfl rfl)
theorem dX1_saving_40 : decode cX1_saving 40 = .ok (.aload_n 0, 1) := dk_42 (dk_at dksX1_saving_1 17 rfl rfl)
theorem dX1_saving_41 : decode cX1_saving 41 = .ok (.getfield 102, 3) := dk_180 0 102 (dk_at dksX1_saving_1 18 rfl rfl)
theorem dX1_saving_44 : decode cX1_saving 44 = .ok (.iload_n 2, 1) := dk_28 (dk_at dksX1_saving_1 21 rfl rfl)
theorem dX1_saving_45 : decode cX1_saving 45 = .ok (.invokevirtual 200, 3) := dk_182 0 200 (dk_at dksX1_saving_2 0 rfl rfl)
theorem dX1_saving_48 : decode cX1_saving 48 = .ok (.checkcast 168, 3) := dk_192 0 168 (dk_at dksX1_saving_2 3 rfl rfl)
theorem dX1_saving_51 : decode cX1_saving 51 = .ok (.invokevirtual 416, 3) := dk_182 1 160 (dk_at dksX1_saving_2 6 rfl rfl)
theorem dX1_saving_54 : decode cX1_saving 54 = .ok (.invokestatic 514, 3) := dk_184 2 2 (dk_at dksX1_saving_2 9 rfl rfl)
theorem dX1_saving_57 : decode cX1_saving 57 = .ok (.astore 4, 2) := dk_58 4 (dk_at dksX1_saving_2 12 rfl rfl)
theorem dX1_saving_59 : decode cX1_saving 59 = .ok (.iconst 0, 1) := dk_3 (dk_at dksX1_saving_2 14 rfl rfl)
theorem dX1_saving_60 : decode cX1_saving 60 = .ok (.istore 5, 2) := dk_54 5 (dk_at dksX1_saving_2 15 rfl rfl)
theorem dX1_saving_62 : decode cX1_saving 62 = .ok (.iconst 0, 1) := dk_3 (dk_at dksX1_saving_2 17 rfl rfl)
theorem dX1_saving_63 : decode cX1_saving 63 = .ok (.istore 6, 2) := dk_54 6 (dk_at dksX1_saving_2 18 rfl rfl)
theorem dX1_saving_65 : decode cX1_saving 65 = .ok (.iconst 0, 1) := dk_3 (dk_at dksX1_saving_2 20 rfl rfl)
theorem dX1_saving_66 : decode cX1_saving 66 = .ok (.istore 7, 2) := dk_54 7 (dk_at dksX1_saving_2 21 rfl rfl)
theorem dX1_saving_68 : decode cX1_saving 68 = .ok (.iload 7, 2) := dk_21 7 (dk_at dksX1_saving_3 0 rfl rfl)
theorem dX1_saving_70 : decode cX1_saving 70 = .ok (.aload_n 0, 1) := dk_42 (dk_at dksX1_saving_3 2 rfl rfl)
theorem dX1_saving_71 : decode cX1_saving 71 = .ok (.getfield 99, 3) := dk_180 0 99 (dk_at dksX1_saving_3 3 rfl rfl)
theorem dX1_saving_74 : decode cX1_saving 74 = .ok (.invokevirtual 172, 3) := dk_182 0 172 (dk_at dksX1_saving_3 6 rfl rfl)
theorem dX1_saving_77 : decode cX1_saving 77 = .ok (.if_icmp .ge 111, 3) := dk_162 0 111 (dk_at dksX1_saving_3 9 rfl rfl)
theorem dX1_saving_80 : decode cX1_saving 80 = .ok (.aload_n 0, 1) := dk_42 (dk_at dksX1_saving_3 12 rfl rfl)
theorem dX1_saving_81 : decode cX1_saving 81 = .ok (.getfield 99, 3) := dk_180 0 99 (dk_at dksX1_saving_3 13 rfl rfl)
theorem dX1_saving_84 : decode cX1_saving 84 = .ok (.iload 7, 2) := dk_21 7 (dk_at dksX1_saving_3 16 rfl rfl)
theorem dX1_saving_86 : decode cX1_saving 86 = .ok (.invokevirtual 200, 3) := dk_182 0 200 (dk_at dksX1_saving_3 18 rfl rfl)
theorem dX1_saving_89 : decode cX1_saving 89 = .ok (.instanceof 39, 3) := dk_193 0 39 (dk_at dksX1_saving_3 21 rfl rfl)
theorem dX1_saving_92 : decode cX1_saving 92 = .ok (.ifCond .eq 45, 3) := dk_153 0 45 (dk_at dksX1_saving_4 0 rfl rfl)
theorem dX1_saving_95 : decode cX1_saving 95 = .ok (.aload_n 0, 1) := dk_42 (dk_at dksX1_saving_4 3 rfl rfl)
theorem dX1_saving_96 : decode cX1_saving 96 = .ok (.getfield 99, 3) := dk_180 0 99 (dk_at dksX1_saving_4 4 rfl rfl)
theorem dX1_saving_99 : decode cX1_saving 99 = .ok (.iload 7, 2) := dk_21 7 (dk_at dksX1_saving_4 7 rfl rfl)
theorem dX1_saving_101 : decode cX1_saving 101 = .ok (.invokevirtual 200, 3) := dk_182 0 200 (dk_at dksX1_saving_4 9 rfl rfl)
theorem dX1_saving_104 : decode cX1_saving 104 = .ok (.checkcast 334, 3) := dk_192 1 78 (dk_at dksX1_saving_4 12 rfl rfl)
theorem dX1_saving_107 : decode cX1_saving 107 = .ok (.aload_n 0, 1) := dk_42 (dk_at dksX1_saving_4 15 rfl rfl)
theorem dX1_saving_108 : decode cX1_saving 108 = .ok (.getfield 102, 3) := dk_180 0 102 (dk_at dksX1_saving_4 16 rfl rfl)
theorem dX1_saving_111 : decode cX1_saving 111 = .ok (.iload 7, 2) := dk_21 7 (dk_at dksX1_saving_4 19 rfl rfl)
theorem dX1_saving_113 : decode cX1_saving 113 = .ok (.invokevirtual 200, 3) := dk_182 0 200 (dk_at dksX1_saving_4 21 rfl rfl)
theorem dX1_saving_116 : decode cX1_saving 116 = .ok (.checkcast 168, 3) := dk_192 0 168 (dk_at dksX1_saving_5 0 rfl rfl)
theorem dX1_saving_119 : decode cX1_saving 119 = .ok (.invokevirtual 416, 3) := dk_182 1 160 (dk_at dksX1_saving_5 3 rfl rfl)
theorem dX1_saving_122 : decode cX1_saving 122 = .ok (.invokestatic 514, 3) := dk_184 2 2 (dk_at dksX1_saving_5 6 rfl rfl)
theorem dX1_saving_125 : decode cX1_saving 125 = .ok (.aload 4, 2) := dk_25 4 (dk_at dksX1_saving_5 9 rfl rfl)
theorem dX1_saving_127 : decode cX1_saving 127 = .ok (.invokevirtual 390, 3) := dk_182 1 134 (dk_at dksX1_saving_5 11 rfl rfl)
theorem dX1_saving_130 : decode cX1_saving 130 = .ok (.ifCond .eq 7, 3) := dk_153 0 7 (dk_at dksX1_saving_5 14 rfl rfl)
theorem dX1_saving_133 : decode cX1_saving 133 = .ok (.iconst 1, 1) := dk_4 (dk_at dksX1_saving_5 17 rfl rfl)
theorem dX1_saving_134 : decode cX1_saving 134 = .ok (.goto 4, 3) := dk_167 0 4 (dk_at dksX1_saving_5 18 rfl rfl)
theorem dX1_saving_137 : decode cX1_saving 137 = .ok (.iconst 0, 1) := dk_3 (dk_at dksX1_saving_5 21 rfl rfl)
theorem dX1_saving_138 : decode cX1_saving 138 = .ok (.istore 8, 2) := dk_54 8 (dk_at dksX1_saving_5 22 rfl rfl)
theorem dX1_saving_140 : decode cX1_saving 140 = .ok (.iload 5, 2) := dk_21 5 (dk_at dksX1_saving_6 0 rfl rfl)
theorem dX1_saving_142 : decode cX1_saving 142 = .ok (.iload 8, 2) := dk_21 8 (dk_at dksX1_saving_6 2 rfl rfl)
theorem dX1_saving_144 : decode cX1_saving 144 = .ok (.ifCond .eq 7, 3) := dk_153 0 7 (dk_at dksX1_saving_6 4 rfl rfl)
theorem dX1_saving_147 : decode cX1_saving 147 = .ok (.iconst 1, 1) := dk_4 (dk_at dksX1_saving_6 7 rfl rfl)
theorem dX1_saving_148 : decode cX1_saving 148 = .ok (.goto 4, 3) := dk_167 0 4 (dk_at dksX1_saving_6 8 rfl rfl)
theorem dX1_saving_151 : decode cX1_saving 151 = .ok (.iconst 0, 1) := dk_3 (dk_at dksX1_saving_6 11 rfl rfl)
theorem dX1_saving_152 : decode cX1_saving 152 = .ok (.iadd, 1) := dk_96 (dk_at dksX1_saving_6 12 rfl rfl)
theorem dX1_saving_153 : decode cX1_saving 153 = .ok (.istore 5, 2) := dk_54 5 (dk_at dksX1_saving_6 13 rfl rfl)
theorem dX1_saving_155 : decode cX1_saving 155 = .ok (.iload 8, 2) := dk_21 8 (dk_at dksX1_saving_6 15 rfl rfl)
theorem dX1_saving_157 : decode cX1_saving 157 = .ok (.ifCond .eq 21, 3) := dk_153 0 21 (dk_at dksX1_saving_6 17 rfl rfl)
theorem dX1_saving_160 : decode cX1_saving 160 = .ok (.aload_n 0, 1) := dk_42 (dk_at dksX1_saving_6 20 rfl rfl)
theorem dX1_saving_161 : decode cX1_saving 161 = .ok (.getfield 99, 3) := dk_180 0 99 (dk_at dksX1_saving_6 21 rfl rfl)
theorem dX1_saving_164 : decode cX1_saving 164 = .ok (.iload 7, 2) := dk_21 7 (dk_at dksX1_saving_7 0 rfl rfl)
theorem dX1_saving_166 : decode cX1_saving 166 = .ok (.invokevirtual 200, 3) := dk_182 0 200 (dk_at dksX1_saving_7 2 rfl rfl)
theorem dX1_saving_169 : decode cX1_saving 169 = .ok (.checkcast 334, 3) := dk_192 1 78 (dk_at dksX1_saving_7 5 rfl rfl)
theorem dX1_saving_172 : decode cX1_saving 172 = .ok (.invokestatic 336, 3) := dk_184 1 80 (dk_at dksX1_saving_7 8 rfl rfl)
theorem dX1_saving_175 : decode cX1_saving 175 = .ok (.goto 5, 3) := dk_167 0 5 (dk_at dksX1_saving_7 11 rfl rfl)
theorem dX1_saving_178 : decode cX1_saving 178 = .ok (.iload 6, 2) := dk_21 6 (dk_at dksX1_saving_7 14 rfl rfl)
theorem dX1_saving_180 : decode cX1_saving 180 = .ok (.istore 6, 2) := dk_54 6 (dk_at dksX1_saving_7 16 rfl rfl)
theorem dX1_saving_182 : decode cX1_saving 182 = .ok (.iinc 7 1, 3) := dk_132 7 1 (dk_at dksX1_saving_7 18 rfl rfl)
theorem dX1_saving_185 : decode cX1_saving 185 = .ok (.goto (-117), 3) := dk_167 255 139 (dk_at dksX1_saving_7 21 rfl rfl)
theorem dX1_saving_188 : decode cX1_saving 188 = .ok (.iload_n 1, 1) := dk_27 (dk_at dksX1_saving_8 0 rfl rfl)
theorem dX1_saving_189 : decode cX1_saving 189 = .ok (.iload 5, 2) := dk_21 5 (dk_at dksX1_saving_8 1 rfl rfl)
theorem dX1_saving_191 : decode cX1_saving 191 = .ok (.iload 6, 2) := dk_21 6 (dk_at dksX1_saving_8 3 rfl rfl)
theorem dX1_saving_193 : decode cX1_saving 193 = .ok (.iconst 1, 1) := dk_4 (dk_at dksX1_saving_8 5 rfl rfl)
theorem dX1_saving_194 : decode cX1_saving 194 = .ok (.isub, 1) := dk_100 (dk_at dksX1_saving_8 6 rfl rfl)
theorem dX1_saving_195 : decode cX1_saving 195 = .ok (.imul, 1) := dk_104 (dk_at dksX1_saving_8 7 rfl rfl)
theorem dX1_saving_196 : decode cX1_saving 196 = .ok (.invokestatic 350, 3) := dk_184 1 94 (dk_at dksX1_saving_8 8 rfl rfl)
theorem dX1_saving_199 : decode cX1_saving 199 = .ok (.istore_n 1, 1) := dk_60 (dk_at dksX1_saving_8 11 rfl rfl)
theorem dX1_saving_200 : decode cX1_saving 200 = .ok (.iinc 2 1, 3) := dk_132 2 1 (dk_at dksX1_saving_8 12 rfl rfl)
theorem dX1_saving_203 : decode cX1_saving 203 = .ok (.goto (-199), 3) := dk_167 255 57 (dk_at dksX1_saving_8 15 rfl rfl)
theorem dX1_saving_206 : decode cX1_saving 206 = .ok (.iload_n 1, 1) := dk_27 (dk_at dksX1_saving_8 18 rfl rfl)
theorem dX1_saving_207 : decode cX1_saving 207 = .ok (.ireturn, 1) := dk_172 (dk_at dksX1_saving_8 19 rfl rfl)
abbrev cX1_checksum : ByteArray := prog_1_method_86_code
def yX1_checksum : MethodName := ⟨RX1, "checksum", "()J"⟩
def dkwX1_checksum_4 : List UInt8 := [20, 2, 12, 31, 105, 25, 4, 184, 1, 80, 133, 97, 64, 167, 255, 223, 31, 173]
abbrev dktX1_checksum_4 : List UInt8 := dkwX1_checksum_4 ++ []
def dkwX1_checksum_3 : List UInt8 := [182, 1, 149, 78, 45, 185, 0, 229, 1, 0, 153, 0, 30, 45, 185, 0, 234, 1, 0, 192, 1, 78, 58, 4]
abbrev dktX1_checksum_3 : List UInt8 := dkwX1_checksum_3 ++ dktX1_checksum_4
def dkwX1_checksum_2 : List UInt8 := [160, 0, 8, 16, 10, 167, 0, 8, 25, 4, 182, 1, 143, 133, 97, 64, 167, 255, 208, 42, 180, 0, 99]
abbrev dktX1_checksum_2 : List UInt8 := dkwX1_checksum_2 ++ dktX1_checksum_3
def dkwX1_checksum_1 : List UInt8 := [45, 185, 0, 234, 1, 0, 192, 1, 137, 58, 4, 20, 2, 12, 31, 105, 25, 4, 182, 1, 143, 16, 124]
abbrev dktX1_checksum_1 : List UInt8 := dkwX1_checksum_1 ++ dktX1_checksum_2
def dkwX1_checksum_0 : List UInt8 := [20, 2, 10, 64, 42, 180, 0, 110, 180, 1, 135, 182, 1, 149, 78, 45, 185, 0, 229, 1, 0, 153, 0, 45]
abbrev dktX1_checksum_0 : List UInt8 := dkwX1_checksum_0 ++ dktX1_checksum_1
theorem dksX1_checksum_0 : cX1_checksum.data.toList.drop 0 = dktX1_checksum_0 := by decide +kernel
theorem dksX1_checksum_1 : cX1_checksum.data.toList.drop 24 = dktX1_checksum_1 := dk_seg dksX1_checksum_0 24 rfl rfl
theorem dksX1_checksum_2 : cX1_checksum.data.toList.drop 47 = dktX1_checksum_2 := dk_seg dksX1_checksum_1 23 rfl rfl
theorem dksX1_checksum_3 : cX1_checksum.data.toList.drop 70 = dktX1_checksum_3 := dk_seg dksX1_checksum_2 23 rfl rfl
theorem dksX1_checksum_4 : cX1_checksum.data.toList.drop 94 = dktX1_checksum_4 := dk_seg dksX1_checksum_3 24 rfl rfl
theorem dX1_checksum_0 : decode cX1_checksum 0 = .ok (.ldc2_w 522, 3) := dk_20 2 10 (dk_at dksX1_checksum_0 0 rfl rfl)
theorem dX1_checksum_3 : decode cX1_checksum 3 = .ok (.lstore_n 1, 1) := dk_64 (dk_at dksX1_checksum_0 3 rfl rfl)
theorem dX1_checksum_4 : decode cX1_checksum 4 = .ok (.aload_n 0, 1) := dk_42 (dk_at dksX1_checksum_0 4 rfl rfl)
theorem dX1_checksum_5 : decode cX1_checksum 5 = .ok (.getfield 110, 3) := dk_180 0 110 (dk_at dksX1_checksum_0 5 rfl rfl)
theorem dX1_checksum_8 : decode cX1_checksum 8 = .ok (.getfield 391, 3) := dk_180 1 135 (dk_at dksX1_checksum_0 8 rfl rfl)
theorem dX1_checksum_11 : decode cX1_checksum 11 = .ok (.invokevirtual 405, 3) := dk_182 1 149 (dk_at dksX1_checksum_0 11 rfl rfl)
theorem dX1_checksum_14 : decode cX1_checksum 14 = .ok (.astore_n 3, 1) := dk_78 (dk_at dksX1_checksum_0 14 rfl rfl)
theorem dX1_checksum_15 : decode cX1_checksum 15 = .ok (.aload_n 3, 1) := dk_45 (dk_at dksX1_checksum_0 15 rfl rfl)
theorem dX1_checksum_16 : decode cX1_checksum 16 = .ok (.invokeinterface 229 1, 5) := by decide +kernel
theorem dX1_checksum_21 : decode cX1_checksum 21 = .ok (.ifCond .eq 45, 3) := dk_153 0 45 (dk_at dksX1_checksum_0 21 rfl rfl)
theorem dX1_checksum_24 : decode cX1_checksum 24 = .ok (.aload_n 3, 1) := dk_45 (dk_at dksX1_checksum_1 0 rfl rfl)
theorem dX1_checksum_25 : decode cX1_checksum 25 = .ok (.invokeinterface 234 1, 5) := by decide +kernel
theorem dX1_checksum_30 : decode cX1_checksum 30 = .ok (.checkcast 393, 3) := dk_192 1 137 (dk_at dksX1_checksum_1 6 rfl rfl)
theorem dX1_checksum_33 : decode cX1_checksum 33 = .ok (.astore 4, 2) := dk_58 4 (dk_at dksX1_checksum_1 9 rfl rfl)
theorem dX1_checksum_35 : decode cX1_checksum 35 = .ok (.ldc2_w 524, 3) := dk_20 2 12 (dk_at dksX1_checksum_1 11 rfl rfl)
theorem dX1_checksum_38 : decode cX1_checksum 38 = .ok (.lload_n 1, 1) := dk_31 (dk_at dksX1_checksum_1 14 rfl rfl)
theorem dX1_checksum_39 : decode cX1_checksum 39 = .ok (.lmul, 1) := dk_105 (dk_at dksX1_checksum_1 15 rfl rfl)
theorem dX1_checksum_40 : decode cX1_checksum 40 = .ok (.aload 4, 2) := dk_25 4 (dk_at dksX1_checksum_1 16 rfl rfl)
theorem dX1_checksum_42 : decode cX1_checksum 42 = .ok (.invokevirtual 399, 3) := dk_182 1 143 (dk_at dksX1_checksum_1 18 rfl rfl)
theorem dX1_checksum_45 : decode cX1_checksum 45 = .ok (.bipush 124, 2) := dk_16 124 (dk_at dksX1_checksum_1 21 rfl rfl)
theorem dX1_checksum_47 : decode cX1_checksum 47 = .ok (.if_icmp .ne 8, 3) := dk_160 0 8 (dk_at dksX1_checksum_2 0 rfl rfl)
theorem dX1_checksum_50 : decode cX1_checksum 50 = .ok (.bipush 10, 2) := dk_16 10 (dk_at dksX1_checksum_2 3 rfl rfl)
theorem dX1_checksum_52 : decode cX1_checksum 52 = .ok (.goto 8, 3) := dk_167 0 8 (dk_at dksX1_checksum_2 5 rfl rfl)
theorem dX1_checksum_55 : decode cX1_checksum 55 = .ok (.aload 4, 2) := dk_25 4 (dk_at dksX1_checksum_2 8 rfl rfl)
theorem dX1_checksum_57 : decode cX1_checksum 57 = .ok (.invokevirtual 399, 3) := dk_182 1 143 (dk_at dksX1_checksum_2 10 rfl rfl)
theorem dX1_checksum_60 : decode cX1_checksum 60 = .ok (.i2l, 1) := dk_133 (dk_at dksX1_checksum_2 13 rfl rfl)
theorem dX1_checksum_61 : decode cX1_checksum 61 = .ok (.ladd, 1) := dk_97 (dk_at dksX1_checksum_2 14 rfl rfl)
theorem dX1_checksum_62 : decode cX1_checksum 62 = .ok (.lstore_n 1, 1) := dk_64 (dk_at dksX1_checksum_2 15 rfl rfl)
theorem dX1_checksum_63 : decode cX1_checksum 63 = .ok (.goto (-48), 3) := dk_167 255 208 (dk_at dksX1_checksum_2 16 rfl rfl)
theorem dX1_checksum_66 : decode cX1_checksum 66 = .ok (.aload_n 0, 1) := dk_42 (dk_at dksX1_checksum_2 19 rfl rfl)
theorem dX1_checksum_67 : decode cX1_checksum 67 = .ok (.getfield 99, 3) := dk_180 0 99 (dk_at dksX1_checksum_2 20 rfl rfl)
theorem dX1_checksum_70 : decode cX1_checksum 70 = .ok (.invokevirtual 405, 3) := dk_182 1 149 (dk_at dksX1_checksum_3 0 rfl rfl)
theorem dX1_checksum_73 : decode cX1_checksum 73 = .ok (.astore_n 3, 1) := dk_78 (dk_at dksX1_checksum_3 3 rfl rfl)
theorem dX1_checksum_74 : decode cX1_checksum 74 = .ok (.aload_n 3, 1) := dk_45 (dk_at dksX1_checksum_3 4 rfl rfl)
theorem dX1_checksum_75 : decode cX1_checksum 75 = .ok (.invokeinterface 229 1, 5) := by decide +kernel
theorem dX1_checksum_80 : decode cX1_checksum 80 = .ok (.ifCond .eq 30, 3) := dk_153 0 30 (dk_at dksX1_checksum_3 10 rfl rfl)
theorem dX1_checksum_83 : decode cX1_checksum 83 = .ok (.aload_n 3, 1) := dk_45 (dk_at dksX1_checksum_3 13 rfl rfl)
theorem dX1_checksum_84 : decode cX1_checksum 84 = .ok (.invokeinterface 234 1, 5) := by decide +kernel
theorem dX1_checksum_89 : decode cX1_checksum 89 = .ok (.checkcast 334, 3) := dk_192 1 78 (dk_at dksX1_checksum_3 19 rfl rfl)
theorem dX1_checksum_92 : decode cX1_checksum 92 = .ok (.astore 4, 2) := dk_58 4 (dk_at dksX1_checksum_3 22 rfl rfl)
theorem dX1_checksum_94 : decode cX1_checksum 94 = .ok (.ldc2_w 524, 3) := dk_20 2 12 (dk_at dksX1_checksum_4 0 rfl rfl)
theorem dX1_checksum_97 : decode cX1_checksum 97 = .ok (.lload_n 1, 1) := dk_31 (dk_at dksX1_checksum_4 3 rfl rfl)
theorem dX1_checksum_98 : decode cX1_checksum 98 = .ok (.lmul, 1) := dk_105 (dk_at dksX1_checksum_4 4 rfl rfl)
theorem dX1_checksum_99 : decode cX1_checksum 99 = .ok (.aload 4, 2) := dk_25 4 (dk_at dksX1_checksum_4 5 rfl rfl)
theorem dX1_checksum_101 : decode cX1_checksum 101 = .ok (.invokestatic 336, 3) := dk_184 1 80 (dk_at dksX1_checksum_4 7 rfl rfl)
theorem dX1_checksum_104 : decode cX1_checksum 104 = .ok (.i2l, 1) := dk_133 (dk_at dksX1_checksum_4 10 rfl rfl)
theorem dX1_checksum_105 : decode cX1_checksum 105 = .ok (.ladd, 1) := dk_97 (dk_at dksX1_checksum_4 11 rfl rfl)
theorem dX1_checksum_106 : decode cX1_checksum 106 = .ok (.lstore_n 1, 1) := dk_64 (dk_at dksX1_checksum_4 12 rfl rfl)
theorem dX1_checksum_107 : decode cX1_checksum 107 = .ok (.goto (-33), 3) := dk_167 255 223 (dk_at dksX1_checksum_4 13 rfl rfl)
theorem dX1_checksum_110 : decode cX1_checksum 110 = .ok (.lload_n 1, 1) := dk_31 (dk_at dksX1_checksum_4 16 rfl rfl)
theorem dX1_checksum_111 : decode cX1_checksum 111 = .ok (.lreturn, 1) := dk_173 (dk_at dksX1_checksum_4 17 rfl rfl)
abbrev cX1_isSound : ByteArray := prog_1_method_88_code
def yX1_isSound : MethodName := ⟨RX1, "isSound", "()Z"⟩
def dkwX1_isSound_9 : List UInt8 := [167, 0, 4, 3, 126, 60, 167, 255, 186, 27, 172]
abbrev dktX1_isSound_9 : List UInt8 := dkwX1_isSound_9 ++ []
def dkwX1_isSound_8 : List UInt8 := [180, 0, 117, 42, 180, 0, 117, 182, 0, 172, 4, 100, 182, 0, 200, 182, 1, 134, 153, 0, 7, 4]
abbrev dktX1_isSound_8 : List UInt8 := dkwX1_isSound_8 ++ dktX1_isSound_9
def dkwX1_isSound_7 : List UInt8 := [45, 180, 1, 171, 157, 0, 39, 45, 180, 1, 188, 182, 2, 32, 154, 0, 29, 45, 180, 1, 188, 42]
abbrev dktX1_isSound_7 : List UInt8 := dkwX1_isSound_7 ++ dktX1_isSound_8
def dkwX1_isSound_6 : List UInt8 := [182, 1, 149, 77, 44, 185, 0, 229, 1, 0, 153, 0, 67, 44, 185, 0, 234, 1, 0, 192, 1, 169, 78, 27]
abbrev dktX1_isSound_6 : List UInt8 := dkwX1_isSound_6 ++ dktX1_isSound_7
def dkwX1_isSound_5 : List UInt8 := [4, 167, 0, 4, 3, 128, 54, 4, 167, 255, 212, 27, 21, 4, 126, 60, 167, 255, 173, 42, 180, 0, 114]
abbrev dktX1_isSound_5 : List UInt8 := dkwX1_isSound_5 ++ dktX1_isSound_6
def dkwX1_isSound_4 : List UInt8 := [185, 0, 234, 1, 0, 192, 0, 55, 58, 6, 21, 4, 25, 6, 182, 0, 57, 45, 182, 1, 146, 160, 0, 7]
abbrev dktX1_isSound_4 : List UInt8 := dkwX1_isSound_4 ++ dktX1_isSound_5
def dkwX1_isSound_3 : List UInt8 := [180, 0, 72, 182, 1, 149, 58, 5, 25, 5, 185, 0, 229, 1, 0, 153, 0, 40, 25, 5]
abbrev dktX1_isSound_3 : List UInt8 := dkwX1_isSound_3 ++ dktX1_isSound_4
def dkwX1_isSound_2 : List UInt8 := [185, 0, 229, 1, 0, 153, 0, 80, 44, 185, 0, 234, 1, 0, 192, 1, 137, 78, 3, 54, 4, 42]
abbrev dktX1_isSound_2 : List UInt8 := dkwX1_isSound_2 ++ dktX1_isSound_3
def dkwX1_isSound_1 : List UInt8 := [153, 0, 7, 4, 167, 0, 4, 3, 60, 42, 180, 0, 110, 180, 1, 135, 182, 1, 149, 77, 44]
abbrev dktX1_isSound_1 : List UInt8 := dkwX1_isSound_1 ++ dktX1_isSound_2
def dkwX1_isSound_0 : List UInt8 := [42, 182, 2, 25, 153, 0, 25, 42, 42, 182, 1, 254, 182, 2, 28, 42, 182, 1, 166, 182, 1, 134]
abbrev dktX1_isSound_0 : List UInt8 := dkwX1_isSound_0 ++ dktX1_isSound_1
theorem dksX1_isSound_0 : cX1_isSound.data.toList.drop 0 = dktX1_isSound_0 := by decide +kernel
theorem dksX1_isSound_1 : cX1_isSound.data.toList.drop 22 = dktX1_isSound_1 := dk_seg dksX1_isSound_0 22 rfl rfl
theorem dksX1_isSound_2 : cX1_isSound.data.toList.drop 43 = dktX1_isSound_2 := dk_seg dksX1_isSound_1 21 rfl rfl
theorem dksX1_isSound_3 : cX1_isSound.data.toList.drop 65 = dktX1_isSound_3 := dk_seg dksX1_isSound_2 22 rfl rfl
theorem dksX1_isSound_4 : cX1_isSound.data.toList.drop 85 = dktX1_isSound_4 := dk_seg dksX1_isSound_3 20 rfl rfl
theorem dksX1_isSound_5 : cX1_isSound.data.toList.drop 109 = dktX1_isSound_5 := dk_seg dksX1_isSound_4 24 rfl rfl
theorem dksX1_isSound_6 : cX1_isSound.data.toList.drop 132 = dktX1_isSound_6 := dk_seg dksX1_isSound_5 23 rfl rfl
theorem dksX1_isSound_7 : cX1_isSound.data.toList.drop 156 = dktX1_isSound_7 := dk_seg dksX1_isSound_6 24 rfl rfl
theorem dksX1_isSound_8 : cX1_isSound.data.toList.drop 178 = dktX1_isSound_8 := dk_seg dksX1_isSound_7 22 rfl rfl
theorem dksX1_isSound_9 : cX1_isSound.data.toList.drop 200 = dktX1_isSound_9 := dk_seg dksX1_isSound_8 22 rfl rfl
theorem dX1_isSound_0 : decode cX1_isSound 0 = .ok (.aload_n 0, 1) := dk_42 (dk_at dksX1_isSound_0 0 rfl rfl)
theorem dX1_isSound_1 : decode cX1_isSound 1 = .ok (.invokevirtual 537, 3) := dk_182 2 25 (dk_at dksX1_isSound_0 1 rfl rfl)
theorem dX1_isSound_4 : decode cX1_isSound 4 = .ok (.ifCond .eq 25, 3) := dk_153 0 25 (dk_at dksX1_isSound_0 4 rfl rfl)
theorem dX1_isSound_7 : decode cX1_isSound 7 = .ok (.aload_n 0, 1) := dk_42 (dk_at dksX1_isSound_0 7 rfl rfl)
theorem dX1_isSound_8 : decode cX1_isSound 8 = .ok (.aload_n 0, 1) := dk_42 (dk_at dksX1_isSound_0 8 rfl rfl)
theorem dX1_isSound_9 : decode cX1_isSound 9 = .ok (.invokevirtual 510, 3) := dk_182 1 254 (dk_at dksX1_isSound_0 9 rfl rfl)
theorem dX1_isSound_12 : decode cX1_isSound 12 = .ok (.invokevirtual 540, 3) := dk_182 2 28 (dk_at dksX1_isSound_0 12 rfl rfl)
theorem dX1_isSound_15 : decode cX1_isSound 15 = .ok (.aload_n 0, 1) := dk_42 (dk_at dksX1_isSound_0 15 rfl rfl)
theorem dX1_isSound_16 : decode cX1_isSound 16 = .ok (.invokevirtual 422, 3) := dk_182 1 166 (dk_at dksX1_isSound_0 16 rfl rfl)
theorem dX1_isSound_19 : decode cX1_isSound 19 = .ok (.invokevirtual 390, 3) := dk_182 1 134 (dk_at dksX1_isSound_0 19 rfl rfl)
theorem dX1_isSound_22 : decode cX1_isSound 22 = .ok (.ifCond .eq 7, 3) := dk_153 0 7 (dk_at dksX1_isSound_1 0 rfl rfl)
theorem dX1_isSound_25 : decode cX1_isSound 25 = .ok (.iconst 1, 1) := dk_4 (dk_at dksX1_isSound_1 3 rfl rfl)
theorem dX1_isSound_26 : decode cX1_isSound 26 = .ok (.goto 4, 3) := dk_167 0 4 (dk_at dksX1_isSound_1 4 rfl rfl)
theorem dX1_isSound_29 : decode cX1_isSound 29 = .ok (.iconst 0, 1) := dk_3 (dk_at dksX1_isSound_1 7 rfl rfl)
theorem dX1_isSound_30 : decode cX1_isSound 30 = .ok (.istore_n 1, 1) := dk_60 (dk_at dksX1_isSound_1 8 rfl rfl)
theorem dX1_isSound_31 : decode cX1_isSound 31 = .ok (.aload_n 0, 1) := dk_42 (dk_at dksX1_isSound_1 9 rfl rfl)
theorem dX1_isSound_32 : decode cX1_isSound 32 = .ok (.getfield 110, 3) := dk_180 0 110 (dk_at dksX1_isSound_1 10 rfl rfl)
theorem dX1_isSound_35 : decode cX1_isSound 35 = .ok (.getfield 391, 3) := dk_180 1 135 (dk_at dksX1_isSound_1 13 rfl rfl)
theorem dX1_isSound_38 : decode cX1_isSound 38 = .ok (.invokevirtual 405, 3) := dk_182 1 149 (dk_at dksX1_isSound_1 16 rfl rfl)
theorem dX1_isSound_41 : decode cX1_isSound 41 = .ok (.astore_n 2, 1) := dk_77 (dk_at dksX1_isSound_1 19 rfl rfl)
theorem dX1_isSound_42 : decode cX1_isSound 42 = .ok (.aload_n 2, 1) := dk_44 (dk_at dksX1_isSound_1 20 rfl rfl)
theorem dX1_isSound_43 : decode cX1_isSound 43 = .ok (.invokeinterface 229 1, 5) := by decide +kernel
theorem dX1_isSound_48 : decode cX1_isSound 48 = .ok (.ifCond .eq 80, 3) := dk_153 0 80 (dk_at dksX1_isSound_2 5 rfl rfl)
theorem dX1_isSound_51 : decode cX1_isSound 51 = .ok (.aload_n 2, 1) := dk_44 (dk_at dksX1_isSound_2 8 rfl rfl)
theorem dX1_isSound_52 : decode cX1_isSound 52 = .ok (.invokeinterface 234 1, 5) := by decide +kernel
theorem dX1_isSound_57 : decode cX1_isSound 57 = .ok (.checkcast 393, 3) := dk_192 1 137 (dk_at dksX1_isSound_2 14 rfl rfl)
theorem dX1_isSound_60 : decode cX1_isSound 60 = .ok (.astore_n 3, 1) := dk_78 (dk_at dksX1_isSound_2 17 rfl rfl)
theorem dX1_isSound_61 : decode cX1_isSound 61 = .ok (.iconst 0, 1) := dk_3 (dk_at dksX1_isSound_2 18 rfl rfl)
theorem dX1_isSound_62 : decode cX1_isSound 62 = .ok (.istore 4, 2) := dk_54 4 (dk_at dksX1_isSound_2 19 rfl rfl)
theorem dX1_isSound_64 : decode cX1_isSound 64 = .ok (.aload_n 0, 1) := dk_42 (dk_at dksX1_isSound_2 21 rfl rfl)
theorem dX1_isSound_65 : decode cX1_isSound 65 = .ok (.getfield 72, 3) := dk_180 0 72 (dk_at dksX1_isSound_3 0 rfl rfl)
theorem dX1_isSound_68 : decode cX1_isSound 68 = .ok (.invokevirtual 405, 3) := dk_182 1 149 (dk_at dksX1_isSound_3 3 rfl rfl)
theorem dX1_isSound_71 : decode cX1_isSound 71 = .ok (.astore 5, 2) := dk_58 5 (dk_at dksX1_isSound_3 6 rfl rfl)
theorem dX1_isSound_73 : decode cX1_isSound 73 = .ok (.aload 5, 2) := dk_25 5 (dk_at dksX1_isSound_3 8 rfl rfl)
theorem dX1_isSound_75 : decode cX1_isSound 75 = .ok (.invokeinterface 229 1, 5) := by decide +kernel
theorem dX1_isSound_80 : decode cX1_isSound 80 = .ok (.ifCond .eq 40, 3) := dk_153 0 40 (dk_at dksX1_isSound_3 15 rfl rfl)
theorem dX1_isSound_83 : decode cX1_isSound 83 = .ok (.aload 5, 2) := dk_25 5 (dk_at dksX1_isSound_3 18 rfl rfl)
theorem dX1_isSound_85 : decode cX1_isSound 85 = .ok (.invokeinterface 234 1, 5) := by decide +kernel
theorem dX1_isSound_90 : decode cX1_isSound 90 = .ok (.checkcast 55, 3) := dk_192 0 55 (dk_at dksX1_isSound_4 5 rfl rfl)
theorem dX1_isSound_93 : decode cX1_isSound 93 = .ok (.astore 6, 2) := dk_58 6 (dk_at dksX1_isSound_4 8 rfl rfl)
theorem dX1_isSound_95 : decode cX1_isSound 95 = .ok (.iload 4, 2) := dk_21 4 (dk_at dksX1_isSound_4 10 rfl rfl)
theorem dX1_isSound_97 : decode cX1_isSound 97 = .ok (.aload 6, 2) := dk_25 6 (dk_at dksX1_isSound_4 12 rfl rfl)
theorem dX1_isSound_99 : decode cX1_isSound 99 = .ok (.invokevirtual 57, 3) := dk_182 0 57 (dk_at dksX1_isSound_4 14 rfl rfl)
theorem dX1_isSound_102 : decode cX1_isSound 102 = .ok (.aload_n 3, 1) := dk_45 (dk_at dksX1_isSound_4 17 rfl rfl)
theorem dX1_isSound_103 : decode cX1_isSound 103 = .ok (.invokevirtual 402, 3) := dk_182 1 146 (dk_at dksX1_isSound_4 18 rfl rfl)
theorem dX1_isSound_106 : decode cX1_isSound 106 = .ok (.if_icmp .ne 7, 3) := dk_160 0 7 (dk_at dksX1_isSound_4 21 rfl rfl)
theorem dX1_isSound_109 : decode cX1_isSound 109 = .ok (.iconst 1, 1) := dk_4 (dk_at dksX1_isSound_5 0 rfl rfl)
theorem dX1_isSound_110 : decode cX1_isSound 110 = .ok (.goto 4, 3) := dk_167 0 4 (dk_at dksX1_isSound_5 1 rfl rfl)
theorem dX1_isSound_113 : decode cX1_isSound 113 = .ok (.iconst 0, 1) := dk_3 (dk_at dksX1_isSound_5 4 rfl rfl)
theorem dX1_isSound_114 : decode cX1_isSound 114 = .ok (.ior, 1) := dk_128 (dk_at dksX1_isSound_5 5 rfl rfl)
theorem dX1_isSound_115 : decode cX1_isSound 115 = .ok (.istore 4, 2) := dk_54 4 (dk_at dksX1_isSound_5 6 rfl rfl)
theorem dX1_isSound_117 : decode cX1_isSound 117 = .ok (.goto (-44), 3) := dk_167 255 212 (dk_at dksX1_isSound_5 8 rfl rfl)
theorem dX1_isSound_120 : decode cX1_isSound 120 = .ok (.iload_n 1, 1) := dk_27 (dk_at dksX1_isSound_5 11 rfl rfl)
theorem dX1_isSound_121 : decode cX1_isSound 121 = .ok (.iload 4, 2) := dk_21 4 (dk_at dksX1_isSound_5 12 rfl rfl)
theorem dX1_isSound_123 : decode cX1_isSound 123 = .ok (.iand, 1) := dk_126 (dk_at dksX1_isSound_5 14 rfl rfl)
theorem dX1_isSound_124 : decode cX1_isSound 124 = .ok (.istore_n 1, 1) := dk_60 (dk_at dksX1_isSound_5 15 rfl rfl)
theorem dX1_isSound_125 : decode cX1_isSound 125 = .ok (.goto (-83), 3) := dk_167 255 173 (dk_at dksX1_isSound_5 16 rfl rfl)
theorem dX1_isSound_128 : decode cX1_isSound 128 = .ok (.aload_n 0, 1) := dk_42 (dk_at dksX1_isSound_5 19 rfl rfl)
theorem dX1_isSound_129 : decode cX1_isSound 129 = .ok (.getfield 114, 3) := dk_180 0 114 (dk_at dksX1_isSound_5 20 rfl rfl)
theorem dX1_isSound_132 : decode cX1_isSound 132 = .ok (.invokevirtual 405, 3) := dk_182 1 149 (dk_at dksX1_isSound_6 0 rfl rfl)
theorem dX1_isSound_135 : decode cX1_isSound 135 = .ok (.astore_n 2, 1) := dk_77 (dk_at dksX1_isSound_6 3 rfl rfl)
theorem dX1_isSound_136 : decode cX1_isSound 136 = .ok (.aload_n 2, 1) := dk_44 (dk_at dksX1_isSound_6 4 rfl rfl)
theorem dX1_isSound_137 : decode cX1_isSound 137 = .ok (.invokeinterface 229 1, 5) := by decide +kernel
theorem dX1_isSound_142 : decode cX1_isSound 142 = .ok (.ifCond .eq 67, 3) := dk_153 0 67 (dk_at dksX1_isSound_6 10 rfl rfl)
theorem dX1_isSound_145 : decode cX1_isSound 145 = .ok (.aload_n 2, 1) := dk_44 (dk_at dksX1_isSound_6 13 rfl rfl)
theorem dX1_isSound_146 : decode cX1_isSound 146 = .ok (.invokeinterface 234 1, 5) := by decide +kernel
theorem dX1_isSound_151 : decode cX1_isSound 151 = .ok (.checkcast 425, 3) := dk_192 1 169 (dk_at dksX1_isSound_6 19 rfl rfl)
theorem dX1_isSound_154 : decode cX1_isSound 154 = .ok (.astore_n 3, 1) := dk_78 (dk_at dksX1_isSound_6 22 rfl rfl)
theorem dX1_isSound_155 : decode cX1_isSound 155 = .ok (.iload_n 1, 1) := dk_27 (dk_at dksX1_isSound_6 23 rfl rfl)
theorem dX1_isSound_156 : decode cX1_isSound 156 = .ok (.aload_n 3, 1) := dk_45 (dk_at dksX1_isSound_7 0 rfl rfl)
theorem dX1_isSound_157 : decode cX1_isSound 157 = .ok (.getfield 427, 3) := dk_180 1 171 (dk_at dksX1_isSound_7 1 rfl rfl)
theorem dX1_isSound_160 : decode cX1_isSound 160 = .ok (.ifCond .gt 39, 3) := dk_157 0 39 (dk_at dksX1_isSound_7 4 rfl rfl)
theorem dX1_isSound_163 : decode cX1_isSound 163 = .ok (.aload_n 3, 1) := dk_45 (dk_at dksX1_isSound_7 7 rfl rfl)
theorem dX1_isSound_164 : decode cX1_isSound 164 = .ok (.getfield 444, 3) := dk_180 1 188 (dk_at dksX1_isSound_7 8 rfl rfl)
theorem dX1_isSound_167 : decode cX1_isSound 167 = .ok (.invokevirtual 544, 3) := dk_182 2 32 (dk_at dksX1_isSound_7 11 rfl rfl)
theorem dX1_isSound_170 : decode cX1_isSound 170 = .ok (.ifCond .ne 29, 3) := dk_154 0 29 (dk_at dksX1_isSound_7 14 rfl rfl)
theorem dX1_isSound_173 : decode cX1_isSound 173 = .ok (.aload_n 3, 1) := dk_45 (dk_at dksX1_isSound_7 17 rfl rfl)
theorem dX1_isSound_174 : decode cX1_isSound 174 = .ok (.getfield 444, 3) := dk_180 1 188 (dk_at dksX1_isSound_7 18 rfl rfl)
theorem dX1_isSound_177 : decode cX1_isSound 177 = .ok (.aload_n 0, 1) := dk_42 (dk_at dksX1_isSound_7 21 rfl rfl)
theorem dX1_isSound_178 : decode cX1_isSound 178 = .ok (.getfield 117, 3) := dk_180 0 117 (dk_at dksX1_isSound_8 0 rfl rfl)
theorem dX1_isSound_181 : decode cX1_isSound 181 = .ok (.aload_n 0, 1) := dk_42 (dk_at dksX1_isSound_8 3 rfl rfl)
theorem dX1_isSound_182 : decode cX1_isSound 182 = .ok (.getfield 117, 3) := dk_180 0 117 (dk_at dksX1_isSound_8 4 rfl rfl)
theorem dX1_isSound_185 : decode cX1_isSound 185 = .ok (.invokevirtual 172, 3) := dk_182 0 172 (dk_at dksX1_isSound_8 7 rfl rfl)
theorem dX1_isSound_188 : decode cX1_isSound 188 = .ok (.iconst 1, 1) := dk_4 (dk_at dksX1_isSound_8 10 rfl rfl)
theorem dX1_isSound_189 : decode cX1_isSound 189 = .ok (.isub, 1) := dk_100 (dk_at dksX1_isSound_8 11 rfl rfl)
theorem dX1_isSound_190 : decode cX1_isSound 190 = .ok (.invokevirtual 200, 3) := dk_182 0 200 (dk_at dksX1_isSound_8 12 rfl rfl)
theorem dX1_isSound_193 : decode cX1_isSound 193 = .ok (.invokevirtual 390, 3) := dk_182 1 134 (dk_at dksX1_isSound_8 15 rfl rfl)
theorem dX1_isSound_196 : decode cX1_isSound 196 = .ok (.ifCond .eq 7, 3) := dk_153 0 7 (dk_at dksX1_isSound_8 18 rfl rfl)
theorem dX1_isSound_199 : decode cX1_isSound 199 = .ok (.iconst 1, 1) := dk_4 (dk_at dksX1_isSound_8 21 rfl rfl)
theorem dX1_isSound_200 : decode cX1_isSound 200 = .ok (.goto 4, 3) := dk_167 0 4 (dk_at dksX1_isSound_9 0 rfl rfl)
theorem dX1_isSound_203 : decode cX1_isSound 203 = .ok (.iconst 0, 1) := dk_3 (dk_at dksX1_isSound_9 3 rfl rfl)
theorem dX1_isSound_204 : decode cX1_isSound 204 = .ok (.iand, 1) := dk_126 (dk_at dksX1_isSound_9 4 rfl rfl)
theorem dX1_isSound_205 : decode cX1_isSound 205 = .ok (.istore_n 1, 1) := dk_60 (dk_at dksX1_isSound_9 5 rfl rfl)
theorem dX1_isSound_206 : decode cX1_isSound 206 = .ok (.goto (-70), 3) := dk_167 255 186 (dk_at dksX1_isSound_9 6 rfl rfl)
theorem dX1_isSound_209 : decode cX1_isSound 209 = .ok (.iload_n 1, 1) := dk_27 (dk_at dksX1_isSound_9 9 rfl rfl)
theorem dX1_isSound_210 : decode cX1_isSound 210 = .ok (.ireturn, 1) := dk_172 (dk_at dksX1_isSound_9 10 rfl rfl)
abbrev cX1_isSameAnew : ByteArray := prog_1_method_87_code
def yX1_isSameAnew : MethodName := ⟨RX1, "isSameAnew", "()Z"⟩
def dkwX1_isSameAnew_7 : List UInt8 := [160, 0, 7, 4, 167, 0, 4, 3, 172]
abbrev dktX1_isSameAnew_7 : List UInt8 := dkwX1_isSameAnew_7 ++ []
def dkwX1_isSameAnew_6 : List UInt8 := [42, 182, 1, 166, 182, 1, 134, 153, 0, 24, 43, 180, 0, 72, 182, 0, 172, 42, 180, 0, 72, 182, 0, 172]
abbrev dktX1_isSameAnew_6 : List UInt8 := dkwX1_isSameAnew_6 ++ dktX1_isSameAnew_7
def dkwX1_isSameAnew_5 : List UInt8 := [192, 0, 55, 78, 43, 180, 0, 72, 45, 182, 0, 181, 87, 43, 182, 0, 182, 167, 255, 224, 43, 182, 1, 166]
abbrev dktX1_isSameAnew_5 : List UInt8 := dkwX1_isSameAnew_5 ++ dktX1_isSameAnew_6
def dkwX1_isSameAnew_4 : List UInt8 := [42, 180, 0, 72, 182, 1, 149, 77, 44, 185, 0, 229, 1, 0, 153, 0, 29, 44, 185, 0, 234, 1, 0]
abbrev dktX1_isSameAnew_4 : List UInt8 := dkwX1_isSameAnew_4 ++ dktX1_isSameAnew_5
def dkwX1_isSameAnew_3 : List UInt8 := [43, 180, 0, 93, 42, 180, 0, 93, 182, 2, 21, 87, 43, 180, 0, 96, 42, 180, 0, 96, 182, 2, 22, 87]
abbrev dktX1_isSameAnew_3 : List UInt8 := dkwX1_isSameAnew_3 ++ dktX1_isSameAnew_4
def dkwX1_isSameAnew_2 : List UInt8 := [185, 2, 17, 2, 0, 87, 43, 180, 0, 79, 28, 42, 180, 0, 79, 28, 51, 84, 132, 2, 1, 167, 255, 204]
abbrev dktX1_isSameAnew_2 : List UInt8 := dkwX1_isSameAnew_2 ++ dktX1_isSameAnew_3
def dkwX1_isSameAnew_1 : List UInt8 := [185, 0, 51, 2, 0, 192, 0, 46, 42, 180, 0, 75, 28, 185, 0, 51, 2, 0, 192, 2, 15]
abbrev dktX1_isSameAnew_1 : List UInt8 := dkwX1_isSameAnew_1 ++ dktX1_isSameAnew_2
def dkwX1_isSameAnew_0 : List UInt8 := [187, 0, 23, 89, 183, 2, 14, 76, 3, 61, 28, 7, 162, 0, 53, 43, 180, 0, 75, 28]
abbrev dktX1_isSameAnew_0 : List UInt8 := dkwX1_isSameAnew_0 ++ dktX1_isSameAnew_1
theorem dksX1_isSameAnew_0 : cX1_isSameAnew.data.toList.drop 0 = dktX1_isSameAnew_0 := by decide +kernel
theorem dksX1_isSameAnew_1 : cX1_isSameAnew.data.toList.drop 20 = dktX1_isSameAnew_1 := dk_seg dksX1_isSameAnew_0 20 rfl rfl
theorem dksX1_isSameAnew_2 : cX1_isSameAnew.data.toList.drop 41 = dktX1_isSameAnew_2 := dk_seg dksX1_isSameAnew_1 21 rfl rfl
theorem dksX1_isSameAnew_3 : cX1_isSameAnew.data.toList.drop 65 = dktX1_isSameAnew_3 := dk_seg dksX1_isSameAnew_2 24 rfl rfl
theorem dksX1_isSameAnew_4 : cX1_isSameAnew.data.toList.drop 89 = dktX1_isSameAnew_4 := dk_seg dksX1_isSameAnew_3 24 rfl rfl
theorem dksX1_isSameAnew_5 : cX1_isSameAnew.data.toList.drop 112 = dktX1_isSameAnew_5 := dk_seg dksX1_isSameAnew_4 23 rfl rfl
theorem dksX1_isSameAnew_6 : cX1_isSameAnew.data.toList.drop 136 = dktX1_isSameAnew_6 := dk_seg dksX1_isSameAnew_5 24 rfl rfl
theorem dksX1_isSameAnew_7 : cX1_isSameAnew.data.toList.drop 160 = dktX1_isSameAnew_7 := dk_seg dksX1_isSameAnew_6 24 rfl rfl
theorem dX1_isSameAnew_0 : decode cX1_isSameAnew 0 = .ok (.new 23, 3) := dk_187 0 23 (dk_at dksX1_isSameAnew_0 0 rfl rfl)
theorem dX1_isSameAnew_3 : decode cX1_isSameAnew 3 = .ok (.dup, 1) := dk_89 (dk_at dksX1_isSameAnew_0 3 rfl rfl)
theorem dX1_isSameAnew_4 : decode cX1_isSameAnew 4 = .ok (.invokespecial 526, 3) := dk_183 2 14 (dk_at dksX1_isSameAnew_0 4 rfl rfl)
theorem dX1_isSameAnew_7 : decode cX1_isSameAnew 7 = .ok (.astore_n 1, 1) := dk_76 (dk_at dksX1_isSameAnew_0 7 rfl rfl)
theorem dX1_isSameAnew_8 : decode cX1_isSameAnew 8 = .ok (.iconst 0, 1) := dk_3 (dk_at dksX1_isSameAnew_0 8 rfl rfl)
theorem dX1_isSameAnew_9 : decode cX1_isSameAnew 9 = .ok (.istore_n 2, 1) := dk_61 (dk_at dksX1_isSameAnew_0 9 rfl rfl)
theorem dX1_isSameAnew_10 : decode cX1_isSameAnew 10 = .ok (.iload_n 2, 1) := dk_28 (dk_at dksX1_isSameAnew_0 10 rfl rfl)
theorem dX1_isSameAnew_11 : decode cX1_isSameAnew 11 = .ok (.iconst 4, 1) := dk_7 (dk_at dksX1_isSameAnew_0 11 rfl rfl)
theorem dX1_isSameAnew_12 : decode cX1_isSameAnew 12 = .ok (.if_icmp .ge 53, 3) := dk_162 0 53 (dk_at dksX1_isSameAnew_0 12 rfl rfl)
theorem dX1_isSameAnew_15 : decode cX1_isSameAnew 15 = .ok (.aload_n 1, 1) := dk_43 (dk_at dksX1_isSameAnew_0 15 rfl rfl)
theorem dX1_isSameAnew_16 : decode cX1_isSameAnew 16 = .ok (.getfield 75, 3) := dk_180 0 75 (dk_at dksX1_isSameAnew_0 16 rfl rfl)
theorem dX1_isSameAnew_19 : decode cX1_isSameAnew 19 = .ok (.iload_n 2, 1) := dk_28 (dk_at dksX1_isSameAnew_0 19 rfl rfl)
theorem dX1_isSameAnew_20 : decode cX1_isSameAnew 20 = .ok (.invokeinterface 51 2, 5) := by decide +kernel
theorem dX1_isSameAnew_25 : decode cX1_isSameAnew 25 = .ok (.checkcast 46, 3) := dk_192 0 46 (dk_at dksX1_isSameAnew_1 5 rfl rfl)
theorem dX1_isSameAnew_28 : decode cX1_isSameAnew 28 = .ok (.aload_n 0, 1) := dk_42 (dk_at dksX1_isSameAnew_1 8 rfl rfl)
theorem dX1_isSameAnew_29 : decode cX1_isSameAnew 29 = .ok (.getfield 75, 3) := dk_180 0 75 (dk_at dksX1_isSameAnew_1 9 rfl rfl)
theorem dX1_isSameAnew_32 : decode cX1_isSameAnew 32 = .ok (.iload_n 2, 1) := dk_28 (dk_at dksX1_isSameAnew_1 12 rfl rfl)
theorem dX1_isSameAnew_33 : decode cX1_isSameAnew 33 = .ok (.invokeinterface 51 2, 5) := by decide +kernel
theorem dX1_isSameAnew_38 : decode cX1_isSameAnew 38 = .ok (.checkcast 527, 3) := dk_192 2 15 (dk_at dksX1_isSameAnew_1 18 rfl rfl)
theorem dX1_isSameAnew_41 : decode cX1_isSameAnew 41 = .ok (.invokeinterface 529 2, 5) := by decide +kernel
theorem dX1_isSameAnew_46 : decode cX1_isSameAnew 46 = .ok (.pop, 1) := dk_87 (dk_at dksX1_isSameAnew_2 5 rfl rfl)
theorem dX1_isSameAnew_47 : decode cX1_isSameAnew 47 = .ok (.aload_n 1, 1) := dk_43 (dk_at dksX1_isSameAnew_2 6 rfl rfl)
theorem dX1_isSameAnew_48 : decode cX1_isSameAnew 48 = .ok (.getfield 79, 3) := dk_180 0 79 (dk_at dksX1_isSameAnew_2 7 rfl rfl)
theorem dX1_isSameAnew_51 : decode cX1_isSameAnew 51 = .ok (.iload_n 2, 1) := dk_28 (dk_at dksX1_isSameAnew_2 10 rfl rfl)
theorem dX1_isSameAnew_52 : decode cX1_isSameAnew 52 = .ok (.aload_n 0, 1) := dk_42 (dk_at dksX1_isSameAnew_2 11 rfl rfl)
theorem dX1_isSameAnew_53 : decode cX1_isSameAnew 53 = .ok (.getfield 79, 3) := dk_180 0 79 (dk_at dksX1_isSameAnew_2 12 rfl rfl)
theorem dX1_isSameAnew_56 : decode cX1_isSameAnew 56 = .ok (.iload_n 2, 1) := dk_28 (dk_at dksX1_isSameAnew_2 15 rfl rfl)
theorem dX1_isSameAnew_57 : decode cX1_isSameAnew 57 = .ok (.baload, 1) := dk_51 (dk_at dksX1_isSameAnew_2 16 rfl rfl)
theorem dX1_isSameAnew_58 : decode cX1_isSameAnew 58 = .ok (.bastore, 1) := dk_84 (dk_at dksX1_isSameAnew_2 17 rfl rfl)
theorem dX1_isSameAnew_59 : decode cX1_isSameAnew 59 = .ok (.iinc 2 1, 3) := dk_132 2 1 (dk_at dksX1_isSameAnew_2 18 rfl rfl)
theorem dX1_isSameAnew_62 : decode cX1_isSameAnew 62 = .ok (.goto (-52), 3) := dk_167 255 204 (dk_at dksX1_isSameAnew_2 21 rfl rfl)
theorem dX1_isSameAnew_65 : decode cX1_isSameAnew 65 = .ok (.aload_n 1, 1) := dk_43 (dk_at dksX1_isSameAnew_3 0 rfl rfl)
theorem dX1_isSameAnew_66 : decode cX1_isSameAnew 66 = .ok (.getfield 93, 3) := dk_180 0 93 (dk_at dksX1_isSameAnew_3 1 rfl rfl)
theorem dX1_isSameAnew_69 : decode cX1_isSameAnew 69 = .ok (.aload_n 0, 1) := dk_42 (dk_at dksX1_isSameAnew_3 4 rfl rfl)
theorem dX1_isSameAnew_70 : decode cX1_isSameAnew 70 = .ok (.getfield 93, 3) := dk_180 0 93 (dk_at dksX1_isSameAnew_3 5 rfl rfl)
theorem dX1_isSameAnew_73 : decode cX1_isSameAnew 73 = .ok (.invokevirtual 533, 3) := dk_182 2 21 (dk_at dksX1_isSameAnew_3 8 rfl rfl)
theorem dX1_isSameAnew_76 : decode cX1_isSameAnew 76 = .ok (.pop, 1) := dk_87 (dk_at dksX1_isSameAnew_3 11 rfl rfl)
theorem dX1_isSameAnew_77 : decode cX1_isSameAnew 77 = .ok (.aload_n 1, 1) := dk_43 (dk_at dksX1_isSameAnew_3 12 rfl rfl)
theorem dX1_isSameAnew_78 : decode cX1_isSameAnew 78 = .ok (.getfield 96, 3) := dk_180 0 96 (dk_at dksX1_isSameAnew_3 13 rfl rfl)
theorem dX1_isSameAnew_81 : decode cX1_isSameAnew 81 = .ok (.aload_n 0, 1) := dk_42 (dk_at dksX1_isSameAnew_3 16 rfl rfl)
theorem dX1_isSameAnew_82 : decode cX1_isSameAnew 82 = .ok (.getfield 96, 3) := dk_180 0 96 (dk_at dksX1_isSameAnew_3 17 rfl rfl)
theorem dX1_isSameAnew_85 : decode cX1_isSameAnew 85 = .ok (.invokevirtual 534, 3) := dk_182 2 22 (dk_at dksX1_isSameAnew_3 20 rfl rfl)
theorem dX1_isSameAnew_88 : decode cX1_isSameAnew 88 = .ok (.pop, 1) := dk_87 (dk_at dksX1_isSameAnew_3 23 rfl rfl)
theorem dX1_isSameAnew_89 : decode cX1_isSameAnew 89 = .ok (.aload_n 0, 1) := dk_42 (dk_at dksX1_isSameAnew_4 0 rfl rfl)
theorem dX1_isSameAnew_90 : decode cX1_isSameAnew 90 = .ok (.getfield 72, 3) := dk_180 0 72 (dk_at dksX1_isSameAnew_4 1 rfl rfl)
theorem dX1_isSameAnew_93 : decode cX1_isSameAnew 93 = .ok (.invokevirtual 405, 3) := dk_182 1 149 (dk_at dksX1_isSameAnew_4 4 rfl rfl)
theorem dX1_isSameAnew_96 : decode cX1_isSameAnew 96 = .ok (.astore_n 2, 1) := dk_77 (dk_at dksX1_isSameAnew_4 7 rfl rfl)
theorem dX1_isSameAnew_97 : decode cX1_isSameAnew 97 = .ok (.aload_n 2, 1) := dk_44 (dk_at dksX1_isSameAnew_4 8 rfl rfl)
theorem dX1_isSameAnew_98 : decode cX1_isSameAnew 98 = .ok (.invokeinterface 229 1, 5) := by decide +kernel
theorem dX1_isSameAnew_103 : decode cX1_isSameAnew 103 = .ok (.ifCond .eq 29, 3) := dk_153 0 29 (dk_at dksX1_isSameAnew_4 14 rfl rfl)
theorem dX1_isSameAnew_106 : decode cX1_isSameAnew 106 = .ok (.aload_n 2, 1) := dk_44 (dk_at dksX1_isSameAnew_4 17 rfl rfl)
theorem dX1_isSameAnew_107 : decode cX1_isSameAnew 107 = .ok (.invokeinterface 234 1, 5) := by decide +kernel
theorem dX1_isSameAnew_112 : decode cX1_isSameAnew 112 = .ok (.checkcast 55, 3) := dk_192 0 55 (dk_at dksX1_isSameAnew_5 0 rfl rfl)
theorem dX1_isSameAnew_115 : decode cX1_isSameAnew 115 = .ok (.astore_n 3, 1) := dk_78 (dk_at dksX1_isSameAnew_5 3 rfl rfl)
theorem dX1_isSameAnew_116 : decode cX1_isSameAnew 116 = .ok (.aload_n 1, 1) := dk_43 (dk_at dksX1_isSameAnew_5 4 rfl rfl)
theorem dX1_isSameAnew_117 : decode cX1_isSameAnew 117 = .ok (.getfield 72, 3) := dk_180 0 72 (dk_at dksX1_isSameAnew_5 5 rfl rfl)
theorem dX1_isSameAnew_120 : decode cX1_isSameAnew 120 = .ok (.aload_n 3, 1) := dk_45 (dk_at dksX1_isSameAnew_5 8 rfl rfl)
theorem dX1_isSameAnew_121 : decode cX1_isSameAnew 121 = .ok (.invokevirtual 181, 3) := dk_182 0 181 (dk_at dksX1_isSameAnew_5 9 rfl rfl)
theorem dX1_isSameAnew_124 : decode cX1_isSameAnew 124 = .ok (.pop, 1) := dk_87 (dk_at dksX1_isSameAnew_5 12 rfl rfl)
theorem dX1_isSameAnew_125 : decode cX1_isSameAnew 125 = .ok (.aload_n 1, 1) := dk_43 (dk_at dksX1_isSameAnew_5 13 rfl rfl)
theorem dX1_isSameAnew_126 : decode cX1_isSameAnew 126 = .ok (.invokevirtual 182, 3) := dk_182 0 182 (dk_at dksX1_isSameAnew_5 14 rfl rfl)
theorem dX1_isSameAnew_129 : decode cX1_isSameAnew 129 = .ok (.goto (-32), 3) := dk_167 255 224 (dk_at dksX1_isSameAnew_5 17 rfl rfl)
theorem dX1_isSameAnew_132 : decode cX1_isSameAnew 132 = .ok (.aload_n 1, 1) := dk_43 (dk_at dksX1_isSameAnew_5 20 rfl rfl)
theorem dX1_isSameAnew_133 : decode cX1_isSameAnew 133 = .ok (.invokevirtual 422, 3) := dk_182 1 166 (dk_at dksX1_isSameAnew_5 21 rfl rfl)
theorem dX1_isSameAnew_136 : decode cX1_isSameAnew 136 = .ok (.aload_n 0, 1) := dk_42 (dk_at dksX1_isSameAnew_6 0 rfl rfl)
theorem dX1_isSameAnew_137 : decode cX1_isSameAnew 137 = .ok (.invokevirtual 422, 3) := dk_182 1 166 (dk_at dksX1_isSameAnew_6 1 rfl rfl)
theorem dX1_isSameAnew_140 : decode cX1_isSameAnew 140 = .ok (.invokevirtual 390, 3) := dk_182 1 134 (dk_at dksX1_isSameAnew_6 4 rfl rfl)
theorem dX1_isSameAnew_143 : decode cX1_isSameAnew 143 = .ok (.ifCond .eq 24, 3) := dk_153 0 24 (dk_at dksX1_isSameAnew_6 7 rfl rfl)
theorem dX1_isSameAnew_146 : decode cX1_isSameAnew 146 = .ok (.aload_n 1, 1) := dk_43 (dk_at dksX1_isSameAnew_6 10 rfl rfl)
theorem dX1_isSameAnew_147 : decode cX1_isSameAnew 147 = .ok (.getfield 72, 3) := dk_180 0 72 (dk_at dksX1_isSameAnew_6 11 rfl rfl)
theorem dX1_isSameAnew_150 : decode cX1_isSameAnew 150 = .ok (.invokevirtual 172, 3) := dk_182 0 172 (dk_at dksX1_isSameAnew_6 14 rfl rfl)
theorem dX1_isSameAnew_153 : decode cX1_isSameAnew 153 = .ok (.aload_n 0, 1) := dk_42 (dk_at dksX1_isSameAnew_6 17 rfl rfl)
theorem dX1_isSameAnew_154 : decode cX1_isSameAnew 154 = .ok (.getfield 72, 3) := dk_180 0 72 (dk_at dksX1_isSameAnew_6 18 rfl rfl)
theorem dX1_isSameAnew_157 : decode cX1_isSameAnew 157 = .ok (.invokevirtual 172, 3) := dk_182 0 172 (dk_at dksX1_isSameAnew_6 21 rfl rfl)
theorem dX1_isSameAnew_160 : decode cX1_isSameAnew 160 = .ok (.if_icmp .ne 7, 3) := dk_160 0 7 (dk_at dksX1_isSameAnew_7 0 rfl rfl)
theorem dX1_isSameAnew_163 : decode cX1_isSameAnew 163 = .ok (.iconst 1, 1) := dk_4 (dk_at dksX1_isSameAnew_7 3 rfl rfl)
theorem dX1_isSameAnew_164 : decode cX1_isSameAnew 164 = .ok (.goto 4, 3) := dk_167 0 4 (dk_at dksX1_isSameAnew_7 4 rfl rfl)
theorem dX1_isSameAnew_167 : decode cX1_isSameAnew 167 = .ok (.iconst 0, 1) := dk_3 (dk_at dksX1_isSameAnew_7 7 rfl rfl)
theorem dX1_isSameAnew_168 : decode cX1_isSameAnew 168 = .ok (.ireturn, 1) := dk_172 (dk_at dksX1_isSameAnew_7 8 rfl rfl)
abbrev cX1_readBack : ByteArray := prog_1_method_78_code
def yX1_readBack : MethodName := ⟨RX1, "readBack", "(Ljava/util/List;)Ljava/lang/String;"⟩
def dkwX1_readBack_10 : List UInt8 := [44, 182, 1, 4, 176]
abbrev dktX1_readBack_10 : List UInt8 := dkwX1_readBack_10 ++ []
def dkwX1_readBack_9 : List UInt8 := [25, 6, 3, 182, 1, 119, 182, 0, 210, 25, 6, 4, 182, 1, 251, 182, 1, 127, 87, 3, 62, 167, 255, 49]
abbrev dktX1_readBack_9 : List UInt8 := dkwX1_readBack_9 ++ dktX1_readBack_10
def dkwX1_readBack_8 : List UInt8 := [25, 6, 58, 6, 167, 255, 212, 44, 29, 153, 0, 15, 25, 6, 3, 182, 1, 119, 184, 1, 248, 167, 0, 9]
abbrev dktX1_readBack_8 : List UInt8 := dkwX1_readBack_8 ++ dktX1_readBack_9
def dkwX1_readBack_7 : List UInt8 := [192, 1, 215, 58, 8, 25, 8, 182, 1, 217, 21, 5, 160, 0, 11, 25, 8, 182, 1, 220, 167, 0, 5]
abbrev dktX1_readBack_7 : List UInt8 := dkwX1_readBack_7 ++ dktX1_readBack_8
def dkwX1_readBack_6 : List UInt8 := [182, 1, 149, 58, 7, 25, 7, 185, 0, 229, 1, 0, 153, 0, 40, 25, 7, 185, 0, 234, 1, 0]
abbrev dktX1_readBack_6 : List UInt8 := dkwX1_readBack_6 ++ dktX1_readBack_7
def dkwX1_readBack_5 : List UInt8 := [21, 5, 16, 68, 160, 0, 9, 19, 1, 244, 167, 0, 6, 19, 1, 246, 58, 6, 42, 180, 0, 120]
abbrev dktX1_readBack_5 : List UInt8 := dkwX1_readBack_5 ++ dktX1_readBack_6
def dkwX1_readBack_4 : List UInt8 := [16, 66, 160, 0, 9, 19, 1, 240, 167, 0, 32, 21, 5, 16, 67, 160, 0, 9, 19, 1, 242, 167, 0, 19]
abbrev dktX1_readBack_4 : List UInt8 := dkwX1_readBack_4 ++ dktX1_readBack_5
def dkwX1_readBack_3 : List UInt8 := [21, 5, 16, 26, 163, 0, 17, 16, 97, 21, 5, 96, 4, 100, 146, 184, 1, 31, 167, 0, 45, 21, 5]
abbrev dktX1_readBack_3 : List UInt8 := dkwX1_readBack_3 ++ dktX1_readBack_4
def dkwX1_readBack_2 : List UInt8 := [21, 5, 16, 64, 160, 0, 8, 4, 62, 167, 255, 222, 21, 5, 154, 0, 9, 19, 1, 238, 167, 0, 66]
abbrev dktX1_readBack_2 : List UInt8 := dkwX1_readBack_2 ++ dktX1_readBack_3
def dkwX1_readBack_1 : List UInt8 := [185, 0, 229, 1, 0, 153, 0, 203, 25, 4, 185, 0, 234, 1, 0, 192, 0, 168, 182, 1, 160, 54, 5]
abbrev dktX1_readBack_1 : List UInt8 := dkwX1_readBack_1 ++ dktX1_readBack_2
def dkwX1_readBack_0 : List UInt8 := [187, 0, 86, 89, 183, 0, 88, 77, 3, 62, 43, 185, 0, 225, 1, 0, 58, 4, 25, 4]
abbrev dktX1_readBack_0 : List UInt8 := dkwX1_readBack_0 ++ dktX1_readBack_1
theorem dksX1_readBack_0 : cX1_readBack.data.toList.drop 0 = dktX1_readBack_0 := by decide +kernel
theorem dksX1_readBack_1 : cX1_readBack.data.toList.drop 20 = dktX1_readBack_1 := dk_seg dksX1_readBack_0 20 rfl rfl
theorem dksX1_readBack_2 : cX1_readBack.data.toList.drop 43 = dktX1_readBack_2 := dk_seg dksX1_readBack_1 23 rfl rfl
theorem dksX1_readBack_3 : cX1_readBack.data.toList.drop 66 = dktX1_readBack_3 := dk_seg dksX1_readBack_2 23 rfl rfl
theorem dksX1_readBack_4 : cX1_readBack.data.toList.drop 89 = dktX1_readBack_4 := dk_seg dksX1_readBack_3 23 rfl rfl
theorem dksX1_readBack_5 : cX1_readBack.data.toList.drop 113 = dktX1_readBack_5 := dk_seg dksX1_readBack_4 24 rfl rfl
theorem dksX1_readBack_6 : cX1_readBack.data.toList.drop 135 = dktX1_readBack_6 := dk_seg dksX1_readBack_5 22 rfl rfl
theorem dksX1_readBack_7 : cX1_readBack.data.toList.drop 157 = dktX1_readBack_7 := dk_seg dksX1_readBack_6 22 rfl rfl
theorem dksX1_readBack_8 : cX1_readBack.data.toList.drop 180 = dktX1_readBack_8 := dk_seg dksX1_readBack_7 23 rfl rfl
theorem dksX1_readBack_9 : cX1_readBack.data.toList.drop 204 = dktX1_readBack_9 := dk_seg dksX1_readBack_8 24 rfl rfl
theorem dksX1_readBack_10 : cX1_readBack.data.toList.drop 228 = dktX1_readBack_10 := dk_seg dksX1_readBack_9 24 rfl rfl
theorem dX1_readBack_0 : decode cX1_readBack 0 = .ok (.new 86, 3) := dk_187 0 86 (dk_at dksX1_readBack_0 0 rfl rfl)
theorem dX1_readBack_3 : decode cX1_readBack 3 = .ok (.dup, 1) := dk_89 (dk_at dksX1_readBack_0 3 rfl rfl)
theorem dX1_readBack_4 : decode cX1_readBack 4 = .ok (.invokespecial 88, 3) := dk_183 0 88 (dk_at dksX1_readBack_0 4 rfl rfl)
theorem dX1_readBack_7 : decode cX1_readBack 7 = .ok (.astore_n 2, 1) := dk_77 (dk_at dksX1_readBack_0 7 rfl rfl)
theorem dX1_readBack_8 : decode cX1_readBack 8 = .ok (.iconst 0, 1) := dk_3 (dk_at dksX1_readBack_0 8 rfl rfl)
theorem dX1_readBack_9 : decode cX1_readBack 9 = .ok (.istore_n 3, 1) := dk_62 (dk_at dksX1_readBack_0 9 rfl rfl)
theorem dX1_readBack_10 : decode cX1_readBack 10 = .ok (.aload_n 1, 1) := dk_43 (dk_at dksX1_readBack_0 10 rfl rfl)
theorem dX1_readBack_11 : decode cX1_readBack 11 = .ok (.invokeinterface 225 1, 5) := by decide +kernel
theorem dX1_readBack_16 : decode cX1_readBack 16 = .ok (.astore 4, 2) := dk_58 4 (dk_at dksX1_readBack_0 16 rfl rfl)
theorem dX1_readBack_18 : decode cX1_readBack 18 = .ok (.aload 4, 2) := dk_25 4 (dk_at dksX1_readBack_0 18 rfl rfl)
theorem dX1_readBack_20 : decode cX1_readBack 20 = .ok (.invokeinterface 229 1, 5) := by decide +kernel
theorem dX1_readBack_25 : decode cX1_readBack 25 = .ok (.ifCond .eq 203, 3) := dk_153 0 203 (dk_at dksX1_readBack_1 5 rfl rfl)
theorem dX1_readBack_28 : decode cX1_readBack 28 = .ok (.aload 4, 2) := dk_25 4 (dk_at dksX1_readBack_1 8 rfl rfl)
theorem dX1_readBack_30 : decode cX1_readBack 30 = .ok (.invokeinterface 234 1, 5) := by decide +kernel
theorem dX1_readBack_35 : decode cX1_readBack 35 = .ok (.checkcast 168, 3) := dk_192 0 168 (dk_at dksX1_readBack_1 15 rfl rfl)
theorem dX1_readBack_38 : decode cX1_readBack 38 = .ok (.invokevirtual 416, 3) := dk_182 1 160 (dk_at dksX1_readBack_1 18 rfl rfl)
theorem dX1_readBack_41 : decode cX1_readBack 41 = .ok (.istore 5, 2) := dk_54 5 (dk_at dksX1_readBack_1 21 rfl rfl)
theorem dX1_readBack_43 : decode cX1_readBack 43 = .ok (.iload 5, 2) := dk_21 5 (dk_at dksX1_readBack_2 0 rfl rfl)
theorem dX1_readBack_45 : decode cX1_readBack 45 = .ok (.bipush 64, 2) := dk_16 64 (dk_at dksX1_readBack_2 2 rfl rfl)
theorem dX1_readBack_47 : decode cX1_readBack 47 = .ok (.if_icmp .ne 8, 3) := dk_160 0 8 (dk_at dksX1_readBack_2 4 rfl rfl)
theorem dX1_readBack_50 : decode cX1_readBack 50 = .ok (.iconst 1, 1) := dk_4 (dk_at dksX1_readBack_2 7 rfl rfl)
theorem dX1_readBack_51 : decode cX1_readBack 51 = .ok (.istore_n 3, 1) := dk_62 (dk_at dksX1_readBack_2 8 rfl rfl)
theorem dX1_readBack_52 : decode cX1_readBack 52 = .ok (.goto (-34), 3) := dk_167 255 222 (dk_at dksX1_readBack_2 9 rfl rfl)
theorem dX1_readBack_55 : decode cX1_readBack 55 = .ok (.iload 5, 2) := dk_21 5 (dk_at dksX1_readBack_2 12 rfl rfl)
theorem dX1_readBack_57 : decode cX1_readBack 57 = .ok (.ifCond .ne 9, 3) := dk_154 0 9 (dk_at dksX1_readBack_2 14 rfl rfl)
theorem dX1_readBack_60 : decode cX1_readBack 60 = .ok (.ldc_w 494, 3) := dk_19 1 238 (dk_at dksX1_readBack_2 17 rfl rfl)
theorem dX1_readBack_63 : decode cX1_readBack 63 = .ok (.goto 66, 3) := dk_167 0 66 (dk_at dksX1_readBack_2 20 rfl rfl)
theorem dX1_readBack_66 : decode cX1_readBack 66 = .ok (.iload 5, 2) := dk_21 5 (dk_at dksX1_readBack_3 0 rfl rfl)
theorem dX1_readBack_68 : decode cX1_readBack 68 = .ok (.bipush 26, 2) := dk_16 26 (dk_at dksX1_readBack_3 2 rfl rfl)
theorem dX1_readBack_70 : decode cX1_readBack 70 = .ok (.if_icmp .gt 17, 3) := dk_163 0 17 (dk_at dksX1_readBack_3 4 rfl rfl)
theorem dX1_readBack_73 : decode cX1_readBack 73 = .ok (.bipush 97, 2) := dk_16 97 (dk_at dksX1_readBack_3 7 rfl rfl)
theorem dX1_readBack_75 : decode cX1_readBack 75 = .ok (.iload 5, 2) := dk_21 5 (dk_at dksX1_readBack_3 9 rfl rfl)
theorem dX1_readBack_77 : decode cX1_readBack 77 = .ok (.iadd, 1) := dk_96 (dk_at dksX1_readBack_3 11 rfl rfl)
theorem dX1_readBack_78 : decode cX1_readBack 78 = .ok (.iconst 1, 1) := dk_4 (dk_at dksX1_readBack_3 12 rfl rfl)
theorem dX1_readBack_79 : decode cX1_readBack 79 = .ok (.isub, 1) := dk_100 (dk_at dksX1_readBack_3 13 rfl rfl)
theorem dX1_readBack_80 : decode cX1_readBack 80 = .ok (.i2c, 1) := dk_146 (dk_at dksX1_readBack_3 14 rfl rfl)
theorem dX1_readBack_81 : decode cX1_readBack 81 = .ok (.invokestatic 287, 3) := dk_184 1 31 (dk_at dksX1_readBack_3 15 rfl rfl)
theorem dX1_readBack_84 : decode cX1_readBack 84 = .ok (.goto 45, 3) := dk_167 0 45 (dk_at dksX1_readBack_3 18 rfl rfl)
theorem dX1_readBack_87 : decode cX1_readBack 87 = .ok (.iload 5, 2) := dk_21 5 (dk_at dksX1_readBack_3 21 rfl rfl)
theorem dX1_readBack_89 : decode cX1_readBack 89 = .ok (.bipush 66, 2) := dk_16 66 (dk_at dksX1_readBack_4 0 rfl rfl)
theorem dX1_readBack_91 : decode cX1_readBack 91 = .ok (.if_icmp .ne 9, 3) := dk_160 0 9 (dk_at dksX1_readBack_4 2 rfl rfl)
theorem dX1_readBack_94 : decode cX1_readBack 94 = .ok (.ldc_w 496, 3) := dk_19 1 240 (dk_at dksX1_readBack_4 5 rfl rfl)
theorem dX1_readBack_97 : decode cX1_readBack 97 = .ok (.goto 32, 3) := dk_167 0 32 (dk_at dksX1_readBack_4 8 rfl rfl)
theorem dX1_readBack_100 : decode cX1_readBack 100 = .ok (.iload 5, 2) := dk_21 5 (dk_at dksX1_readBack_4 11 rfl rfl)
theorem dX1_readBack_102 : decode cX1_readBack 102 = .ok (.bipush 67, 2) := dk_16 67 (dk_at dksX1_readBack_4 13 rfl rfl)
theorem dX1_readBack_104 : decode cX1_readBack 104 = .ok (.if_icmp .ne 9, 3) := dk_160 0 9 (dk_at dksX1_readBack_4 15 rfl rfl)
theorem dX1_readBack_107 : decode cX1_readBack 107 = .ok (.ldc_w 498, 3) := dk_19 1 242 (dk_at dksX1_readBack_4 18 rfl rfl)
theorem dX1_readBack_110 : decode cX1_readBack 110 = .ok (.goto 19, 3) := dk_167 0 19 (dk_at dksX1_readBack_4 21 rfl rfl)
theorem dX1_readBack_113 : decode cX1_readBack 113 = .ok (.iload 5, 2) := dk_21 5 (dk_at dksX1_readBack_5 0 rfl rfl)
theorem dX1_readBack_115 : decode cX1_readBack 115 = .ok (.bipush 68, 2) := dk_16 68 (dk_at dksX1_readBack_5 2 rfl rfl)
theorem dX1_readBack_117 : decode cX1_readBack 117 = .ok (.if_icmp .ne 9, 3) := dk_160 0 9 (dk_at dksX1_readBack_5 4 rfl rfl)
theorem dX1_readBack_120 : decode cX1_readBack 120 = .ok (.ldc_w 500, 3) := dk_19 1 244 (dk_at dksX1_readBack_5 7 rfl rfl)
theorem dX1_readBack_123 : decode cX1_readBack 123 = .ok (.goto 6, 3) := dk_167 0 6 (dk_at dksX1_readBack_5 10 rfl rfl)
theorem dX1_readBack_126 : decode cX1_readBack 126 = .ok (.ldc_w 502, 3) := dk_19 1 246 (dk_at dksX1_readBack_5 13 rfl rfl)
theorem dX1_readBack_129 : decode cX1_readBack 129 = .ok (.astore 6, 2) := dk_58 6 (dk_at dksX1_readBack_5 16 rfl rfl)
theorem dX1_readBack_131 : decode cX1_readBack 131 = .ok (.aload_n 0, 1) := dk_42 (dk_at dksX1_readBack_5 18 rfl rfl)
theorem dX1_readBack_132 : decode cX1_readBack 132 = .ok (.getfield 120, 3) := dk_180 0 120 (dk_at dksX1_readBack_5 19 rfl rfl)
theorem dX1_readBack_135 : decode cX1_readBack 135 = .ok (.invokevirtual 405, 3) := dk_182 1 149 (dk_at dksX1_readBack_6 0 rfl rfl)
theorem dX1_readBack_138 : decode cX1_readBack 138 = .ok (.astore 7, 2) := dk_58 7 (dk_at dksX1_readBack_6 3 rfl rfl)
theorem dX1_readBack_140 : decode cX1_readBack 140 = .ok (.aload 7, 2) := dk_25 7 (dk_at dksX1_readBack_6 5 rfl rfl)
theorem dX1_readBack_142 : decode cX1_readBack 142 = .ok (.invokeinterface 229 1, 5) := by decide +kernel
theorem dX1_readBack_147 : decode cX1_readBack 147 = .ok (.ifCond .eq 40, 3) := dk_153 0 40 (dk_at dksX1_readBack_6 12 rfl rfl)
theorem dX1_readBack_150 : decode cX1_readBack 150 = .ok (.aload 7, 2) := dk_25 7 (dk_at dksX1_readBack_6 15 rfl rfl)
theorem dX1_readBack_152 : decode cX1_readBack 152 = .ok (.invokeinterface 234 1, 5) := by decide +kernel
theorem dX1_readBack_157 : decode cX1_readBack 157 = .ok (.checkcast 471, 3) := dk_192 1 215 (dk_at dksX1_readBack_7 0 rfl rfl)
theorem dX1_readBack_160 : decode cX1_readBack 160 = .ok (.astore 8, 2) := dk_58 8 (dk_at dksX1_readBack_7 3 rfl rfl)
theorem dX1_readBack_162 : decode cX1_readBack 162 = .ok (.aload 8, 2) := dk_25 8 (dk_at dksX1_readBack_7 5 rfl rfl)
theorem dX1_readBack_164 : decode cX1_readBack 164 = .ok (.invokevirtual 473, 3) := dk_182 1 217 (dk_at dksX1_readBack_7 7 rfl rfl)
theorem dX1_readBack_167 : decode cX1_readBack 167 = .ok (.iload 5, 2) := dk_21 5 (dk_at dksX1_readBack_7 10 rfl rfl)
theorem dX1_readBack_169 : decode cX1_readBack 169 = .ok (.if_icmp .ne 11, 3) := dk_160 0 11 (dk_at dksX1_readBack_7 12 rfl rfl)
theorem dX1_readBack_172 : decode cX1_readBack 172 = .ok (.aload 8, 2) := dk_25 8 (dk_at dksX1_readBack_7 15 rfl rfl)
theorem dX1_readBack_174 : decode cX1_readBack 174 = .ok (.invokevirtual 476, 3) := dk_182 1 220 (dk_at dksX1_readBack_7 17 rfl rfl)
theorem dX1_readBack_177 : decode cX1_readBack 177 = .ok (.goto 5, 3) := dk_167 0 5 (dk_at dksX1_readBack_7 20 rfl rfl)
theorem dX1_readBack_180 : decode cX1_readBack 180 = .ok (.aload 6, 2) := dk_25 6 (dk_at dksX1_readBack_8 0 rfl rfl)
theorem dX1_readBack_182 : decode cX1_readBack 182 = .ok (.astore 6, 2) := dk_58 6 (dk_at dksX1_readBack_8 2 rfl rfl)
theorem dX1_readBack_184 : decode cX1_readBack 184 = .ok (.goto (-44), 3) := dk_167 255 212 (dk_at dksX1_readBack_8 4 rfl rfl)
theorem dX1_readBack_187 : decode cX1_readBack 187 = .ok (.aload_n 2, 1) := dk_44 (dk_at dksX1_readBack_8 7 rfl rfl)
theorem dX1_readBack_188 : decode cX1_readBack 188 = .ok (.iload_n 3, 1) := dk_29 (dk_at dksX1_readBack_8 8 rfl rfl)
theorem dX1_readBack_189 : decode cX1_readBack 189 = .ok (.ifCond .eq 15, 3) := dk_153 0 15 (dk_at dksX1_readBack_8 9 rfl rfl)
theorem dX1_readBack_192 : decode cX1_readBack 192 = .ok (.aload 6, 2) := dk_25 6 (dk_at dksX1_readBack_8 12 rfl rfl)
theorem dX1_readBack_194 : decode cX1_readBack 194 = .ok (.iconst 0, 1) := dk_3 (dk_at dksX1_readBack_8 14 rfl rfl)
theorem dX1_readBack_195 : decode cX1_readBack 195 = .ok (.invokevirtual 375, 3) := dk_182 1 119 (dk_at dksX1_readBack_8 15 rfl rfl)
theorem dX1_readBack_198 : decode cX1_readBack 198 = .ok (.invokestatic 504, 3) := dk_184 1 248 (dk_at dksX1_readBack_8 18 rfl rfl)
theorem dX1_readBack_201 : decode cX1_readBack 201 = .ok (.goto 9, 3) := dk_167 0 9 (dk_at dksX1_readBack_8 21 rfl rfl)
theorem dX1_readBack_204 : decode cX1_readBack 204 = .ok (.aload 6, 2) := dk_25 6 (dk_at dksX1_readBack_9 0 rfl rfl)
theorem dX1_readBack_206 : decode cX1_readBack 206 = .ok (.iconst 0, 1) := dk_3 (dk_at dksX1_readBack_9 2 rfl rfl)
theorem dX1_readBack_207 : decode cX1_readBack 207 = .ok (.invokevirtual 375, 3) := dk_182 1 119 (dk_at dksX1_readBack_9 3 rfl rfl)
theorem dX1_readBack_210 : decode cX1_readBack 210 = .ok (.invokevirtual 210, 3) := dk_182 0 210 (dk_at dksX1_readBack_9 6 rfl rfl)
theorem dX1_readBack_213 : decode cX1_readBack 213 = .ok (.aload 6, 2) := dk_25 6 (dk_at dksX1_readBack_9 9 rfl rfl)
theorem dX1_readBack_215 : decode cX1_readBack 215 = .ok (.iconst 1, 1) := dk_4 (dk_at dksX1_readBack_9 11 rfl rfl)
theorem dX1_readBack_216 : decode cX1_readBack 216 = .ok (.invokevirtual 507, 3) := dk_182 1 251 (dk_at dksX1_readBack_9 12 rfl rfl)
theorem dX1_readBack_219 : decode cX1_readBack 219 = .ok (.invokevirtual 383, 3) := dk_182 1 127 (dk_at dksX1_readBack_9 15 rfl rfl)
theorem dX1_readBack_222 : decode cX1_readBack 222 = .ok (.pop, 1) := dk_87 (dk_at dksX1_readBack_9 18 rfl rfl)
theorem dX1_readBack_223 : decode cX1_readBack 223 = .ok (.iconst 0, 1) := dk_3 (dk_at dksX1_readBack_9 19 rfl rfl)
theorem dX1_readBack_224 : decode cX1_readBack 224 = .ok (.istore_n 3, 1) := dk_62 (dk_at dksX1_readBack_9 20 rfl rfl)
theorem dX1_readBack_225 : decode cX1_readBack 225 = .ok (.goto (-207), 3) := dk_167 255 49 (dk_at dksX1_readBack_9 21 rfl rfl)
theorem dX1_readBack_228 : decode cX1_readBack 228 = .ok (.aload_n 2, 1) := dk_44 (dk_at dksX1_readBack_10 0 rfl rfl)
theorem dX1_readBack_229 : decode cX1_readBack 229 = .ok (.invokevirtual 260, 3) := dk_182 1 4 (dk_at dksX1_readBack_10 1 rfl rfl)
theorem dX1_readBack_232 : decode cX1_readBack 232 = .ok (.areturn, 1) := dk_176 (dk_at dksX1_readBack_10 4 rfl rfl)
abbrev cX1_mode : ByteArray := prog_1_method_17_code
def yX1_mode : MethodName := ⟨RX1, "mode", "(C)Z"⟩
def dkwX1_mode_2 : List UInt8 := [61, 42, 27, 181, 0, 123, 42, 3, 181, 0, 148, 28, 172]
abbrev dktX1_mode_2 : List UInt8 := dkwX1_mode_2 ++ []
def dkwX1_mode_1 : List UInt8 := [154, 0, 7, 4, 167, 0, 4, 3, 184, 0, 145, 42, 180, 0, 123, 27, 159, 0, 7, 4, 167, 0, 4, 3]
abbrev dktX1_mode_1 : List UInt8 := dkwX1_mode_1 ++ dktX1_mode_2
def dkwX1_mode_0 : List UInt8 := [27, 16, 108, 159, 0, 9, 27, 16, 102, 160, 0, 7, 4, 167, 0, 4, 3, 184, 0, 138, 42, 180, 0, 142]
abbrev dktX1_mode_0 : List UInt8 := dkwX1_mode_0 ++ dktX1_mode_1
theorem dksX1_mode_0 : cX1_mode.data.toList.drop 0 = dktX1_mode_0 := by decide +kernel
theorem dksX1_mode_1 : cX1_mode.data.toList.drop 24 = dktX1_mode_1 := dk_seg dksX1_mode_0 24 rfl rfl
theorem dksX1_mode_2 : cX1_mode.data.toList.drop 48 = dktX1_mode_2 := dk_seg dksX1_mode_1 24 rfl rfl
theorem dX1_mode_0 : decode cX1_mode 0 = .ok (.iload_n 1, 1) := dk_27 (dk_at dksX1_mode_0 0 rfl rfl)
theorem dX1_mode_1 : decode cX1_mode 1 = .ok (.bipush 108, 2) := dk_16 108 (dk_at dksX1_mode_0 1 rfl rfl)
theorem dX1_mode_3 : decode cX1_mode 3 = .ok (.if_icmp .eq 9, 3) := dk_159 0 9 (dk_at dksX1_mode_0 3 rfl rfl)
theorem dX1_mode_6 : decode cX1_mode 6 = .ok (.iload_n 1, 1) := dk_27 (dk_at dksX1_mode_0 6 rfl rfl)
theorem dX1_mode_7 : decode cX1_mode 7 = .ok (.bipush 102, 2) := dk_16 102 (dk_at dksX1_mode_0 7 rfl rfl)
theorem dX1_mode_9 : decode cX1_mode 9 = .ok (.if_icmp .ne 7, 3) := dk_160 0 7 (dk_at dksX1_mode_0 9 rfl rfl)
theorem dX1_mode_12 : decode cX1_mode 12 = .ok (.iconst 1, 1) := dk_4 (dk_at dksX1_mode_0 12 rfl rfl)
theorem dX1_mode_13 : decode cX1_mode 13 = .ok (.goto 4, 3) := dk_167 0 4 (dk_at dksX1_mode_0 13 rfl rfl)
theorem dX1_mode_16 : decode cX1_mode 16 = .ok (.iconst 0, 1) := dk_3 (dk_at dksX1_mode_0 16 rfl rfl)
theorem dX1_mode_17 : decode cX1_mode 17 = .ok (.invokestatic 138, 3) := dk_184 0 138 (dk_at dksX1_mode_0 17 rfl rfl)
theorem dX1_mode_20 : decode cX1_mode 20 = .ok (.aload_n 0, 1) := dk_42 (dk_at dksX1_mode_0 20 rfl rfl)
theorem dX1_mode_21 : decode cX1_mode 21 = .ok (.getfield 142, 3) := dk_180 0 142 (dk_at dksX1_mode_0 21 rfl rfl)
theorem dX1_mode_24 : decode cX1_mode 24 = .ok (.ifCond .ne 7, 3) := dk_154 0 7 (dk_at dksX1_mode_1 0 rfl rfl)
theorem dX1_mode_27 : decode cX1_mode 27 = .ok (.iconst 1, 1) := dk_4 (dk_at dksX1_mode_1 3 rfl rfl)
theorem dX1_mode_28 : decode cX1_mode 28 = .ok (.goto 4, 3) := dk_167 0 4 (dk_at dksX1_mode_1 4 rfl rfl)
theorem dX1_mode_31 : decode cX1_mode 31 = .ok (.iconst 0, 1) := dk_3 (dk_at dksX1_mode_1 7 rfl rfl)
theorem dX1_mode_32 : decode cX1_mode 32 = .ok (.invokestatic 145, 3) := dk_184 0 145 (dk_at dksX1_mode_1 8 rfl rfl)
theorem dX1_mode_35 : decode cX1_mode 35 = .ok (.aload_n 0, 1) := dk_42 (dk_at dksX1_mode_1 11 rfl rfl)
theorem dX1_mode_36 : decode cX1_mode 36 = .ok (.getfield 123, 3) := dk_180 0 123 (dk_at dksX1_mode_1 12 rfl rfl)
theorem dX1_mode_39 : decode cX1_mode 39 = .ok (.iload_n 1, 1) := dk_27 (dk_at dksX1_mode_1 15 rfl rfl)
theorem dX1_mode_40 : decode cX1_mode 40 = .ok (.if_icmp .eq 7, 3) := dk_159 0 7 (dk_at dksX1_mode_1 16 rfl rfl)
theorem dX1_mode_43 : decode cX1_mode 43 = .ok (.iconst 1, 1) := dk_4 (dk_at dksX1_mode_1 19 rfl rfl)
theorem dX1_mode_44 : decode cX1_mode 44 = .ok (.goto 4, 3) := dk_167 0 4 (dk_at dksX1_mode_1 20 rfl rfl)
theorem dX1_mode_47 : decode cX1_mode 47 = .ok (.iconst 0, 1) := dk_3 (dk_at dksX1_mode_1 23 rfl rfl)
theorem dX1_mode_48 : decode cX1_mode 48 = .ok (.istore_n 2, 1) := dk_61 (dk_at dksX1_mode_2 0 rfl rfl)
theorem dX1_mode_49 : decode cX1_mode 49 = .ok (.aload_n 0, 1) := dk_42 (dk_at dksX1_mode_2 1 rfl rfl)
theorem dX1_mode_50 : decode cX1_mode 50 = .ok (.iload_n 1, 1) := dk_27 (dk_at dksX1_mode_2 2 rfl rfl)
theorem dX1_mode_51 : decode cX1_mode 51 = .ok (.putfield 123, 3) := dk_181 0 123 (dk_at dksX1_mode_2 3 rfl rfl)
theorem dX1_mode_54 : decode cX1_mode 54 = .ok (.aload_n 0, 1) := dk_42 (dk_at dksX1_mode_2 6 rfl rfl)
theorem dX1_mode_55 : decode cX1_mode 55 = .ok (.iconst 0, 1) := dk_3 (dk_at dksX1_mode_2 7 rfl rfl)
theorem dX1_mode_56 : decode cX1_mode 56 = .ok (.putfield 148, 3) := dk_181 0 148 (dk_at dksX1_mode_2 8 rfl rfl)
theorem dX1_mode_59 : decode cX1_mode 59 = .ok (.iload_n 2, 1) := dk_28 (dk_at dksX1_mode_2 11 rfl rfl)
theorem dX1_mode_60 : decode cX1_mode 60 = .ok (.ireturn, 1) := dk_172 (dk_at dksX1_mode_2 12 rfl rfl)
abbrev cX1_require : ByteArray := prog_1_method_2_code
def yX1_require : MethodName := ⟨RX1, "require", "(Z)V"⟩
def dkwX1_require_0 : List UInt8 := [26, 154, 0, 11, 187, 0, 1, 89, 183, 0, 3, 191, 177]
abbrev dktX1_require_0 : List UInt8 := dkwX1_require_0 ++ []
theorem dksX1_require_0 : cX1_require.data.toList.drop 0 = dktX1_require_0 := by decide +kernel
theorem dX1_require_0 : decode cX1_require 0 = .ok (.iload_n 0, 1) := dk_26 (dk_at dksX1_require_0 0 rfl rfl)
theorem dX1_require_1 : decode cX1_require 1 = .ok (.ifCond .ne 11, 3) := dk_154 0 11 (dk_at dksX1_require_0 1 rfl rfl)
theorem dX1_require_4 : decode cX1_require 4 = .ok (.new 1, 3) := dk_187 0 1 (dk_at dksX1_require_0 4 rfl rfl)
theorem dX1_require_7 : decode cX1_require 7 = .ok (.dup, 1) := dk_89 (dk_at dksX1_require_0 7 rfl rfl)
theorem dX1_require_8 : decode cX1_require 8 = .ok (.invokespecial 3, 3) := dk_183 0 3 (dk_at dksX1_require_0 8 rfl rfl)
theorem dX1_require_11 : decode cX1_require 11 = .ok (.athrow, 1) := dk_191 (dk_at dksX1_require_0 11 rfl rfl)
theorem dX1_require_12 : decode cX1_require 12 = .ok (.return_, 1) := dk_177 (dk_at dksX1_require_0 12 rfl rfl)
abbrev cX1_requireState : ByteArray := prog_1_method_4_code
def yX1_requireState : MethodName := ⟨RX1, "requireState", "(Z)V"⟩
def dkwX1_requireState_0 : List UInt8 := [26, 154, 0, 11, 187, 0, 10, 89, 183, 0, 12, 191, 177]
abbrev dktX1_requireState_0 : List UInt8 := dkwX1_requireState_0 ++ []
theorem dksX1_requireState_0 : cX1_requireState.data.toList.drop 0 = dktX1_requireState_0 := by decide +kernel
theorem dX1_requireState_0 : decode cX1_requireState 0 = .ok (.iload_n 0, 1) := dk_26 (dk_at dksX1_requireState_0 0 rfl rfl)
theorem dX1_requireState_1 : decode cX1_requireState 1 = .ok (.ifCond .ne 11, 3) := dk_154 0 11 (dk_at dksX1_requireState_0 1 rfl rfl)
theorem dX1_requireState_4 : decode cX1_requireState 4 = .ok (.new 10, 3) := dk_187 0 10 (dk_at dksX1_requireState_0 4 rfl rfl)
theorem dX1_requireState_7 : decode cX1_requireState 7 = .ok (.dup, 1) := dk_89 (dk_at dksX1_requireState_0 7 rfl rfl)
theorem dX1_requireState_8 : decode cX1_requireState 8 = .ok (.invokespecial 12, 3) := dk_183 0 12 (dk_at dksX1_requireState_0 8 rfl rfl)
theorem dX1_requireState_11 : decode cX1_requireState 11 = .ok (.athrow, 1) := dk_191 (dk_at dksX1_requireState_0 11 rfl rfl)
theorem dX1_requireState_12 : decode cX1_requireState 12 = .ok (.return_, 1) := dk_177 (dk_at dksX1_requireState_0 12 rfl rfl)
abbrev cX1_down : ByteArray := prog_1_method_19_code
def yX1_down : MethodName := ⟨RX1, "down", "(I)I"⟩
def dkwX1_down_2 : List UInt8 := [180, 0, 142, 184, 0, 167, 172]
abbrev dktX1_down_2 : List UInt8 := dkwX1_down_2 ++ []
def dkwX1_down_1 : List UInt8 := [89, 180, 0, 142, 4, 27, 120, 128, 181, 0, 142, 42, 89, 180, 0, 148, 4, 27, 120, 128, 181, 0, 148, 42]
abbrev dktX1_down_1 : List UInt8 := dkwX1_down_1 ++ dktX1_down_2
def dkwX1_down_0 : List UInt8 := [27, 184, 0, 160, 42, 180, 0, 142, 27, 122, 4, 126, 154, 0, 7, 4, 167, 0, 4, 3, 184, 0, 164, 42]
abbrev dktX1_down_0 : List UInt8 := dkwX1_down_0 ++ dktX1_down_1
theorem dksX1_down_0 : cX1_down.data.toList.drop 0 = dktX1_down_0 := by decide +kernel
theorem dksX1_down_1 : cX1_down.data.toList.drop 24 = dktX1_down_1 := dk_seg dksX1_down_0 24 rfl rfl
theorem dksX1_down_2 : cX1_down.data.toList.drop 48 = dktX1_down_2 := dk_seg dksX1_down_1 24 rfl rfl
theorem dX1_down_0 : decode cX1_down 0 = .ok (.iload_n 1, 1) := dk_27 (dk_at dksX1_down_0 0 rfl rfl)
theorem dX1_down_1 : decode cX1_down 1 = .ok (.invokestatic 160, 3) := dk_184 0 160 (dk_at dksX1_down_0 1 rfl rfl)
theorem dX1_down_4 : decode cX1_down 4 = .ok (.aload_n 0, 1) := dk_42 (dk_at dksX1_down_0 4 rfl rfl)
theorem dX1_down_5 : decode cX1_down 5 = .ok (.getfield 142, 3) := dk_180 0 142 (dk_at dksX1_down_0 5 rfl rfl)
theorem dX1_down_8 : decode cX1_down 8 = .ok (.iload_n 1, 1) := dk_27 (dk_at dksX1_down_0 8 rfl rfl)
theorem dX1_down_9 : decode cX1_down 9 = .ok (.ishr, 1) := dk_122 (dk_at dksX1_down_0 9 rfl rfl)
theorem dX1_down_10 : decode cX1_down 10 = .ok (.iconst 1, 1) := dk_4 (dk_at dksX1_down_0 10 rfl rfl)
theorem dX1_down_11 : decode cX1_down 11 = .ok (.iand, 1) := dk_126 (dk_at dksX1_down_0 11 rfl rfl)
theorem dX1_down_12 : decode cX1_down 12 = .ok (.ifCond .ne 7, 3) := dk_154 0 7 (dk_at dksX1_down_0 12 rfl rfl)
theorem dX1_down_15 : decode cX1_down 15 = .ok (.iconst 1, 1) := dk_4 (dk_at dksX1_down_0 15 rfl rfl)
theorem dX1_down_16 : decode cX1_down 16 = .ok (.goto 4, 3) := dk_167 0 4 (dk_at dksX1_down_0 16 rfl rfl)
theorem dX1_down_19 : decode cX1_down 19 = .ok (.iconst 0, 1) := dk_3 (dk_at dksX1_down_0 19 rfl rfl)
theorem dX1_down_20 : decode cX1_down 20 = .ok (.invokestatic 164, 3) := dk_184 0 164 (dk_at dksX1_down_0 20 rfl rfl)
theorem dX1_down_23 : decode cX1_down 23 = .ok (.aload_n 0, 1) := dk_42 (dk_at dksX1_down_0 23 rfl rfl)
theorem dX1_down_24 : decode cX1_down 24 = .ok (.dup, 1) := dk_89 (dk_at dksX1_down_1 0 rfl rfl)
theorem dX1_down_25 : decode cX1_down 25 = .ok (.getfield 142, 3) := dk_180 0 142 (dk_at dksX1_down_1 1 rfl rfl)
theorem dX1_down_28 : decode cX1_down 28 = .ok (.iconst 1, 1) := dk_4 (dk_at dksX1_down_1 4 rfl rfl)
theorem dX1_down_29 : decode cX1_down 29 = .ok (.iload_n 1, 1) := dk_27 (dk_at dksX1_down_1 5 rfl rfl)
theorem dX1_down_30 : decode cX1_down 30 = .ok (.ishl, 1) := dk_120 (dk_at dksX1_down_1 6 rfl rfl)
theorem dX1_down_31 : decode cX1_down 31 = .ok (.ior, 1) := dk_128 (dk_at dksX1_down_1 7 rfl rfl)
theorem dX1_down_32 : decode cX1_down 32 = .ok (.putfield 142, 3) := dk_181 0 142 (dk_at dksX1_down_1 8 rfl rfl)
theorem dX1_down_35 : decode cX1_down 35 = .ok (.aload_n 0, 1) := dk_42 (dk_at dksX1_down_1 11 rfl rfl)
theorem dX1_down_36 : decode cX1_down 36 = .ok (.dup, 1) := dk_89 (dk_at dksX1_down_1 12 rfl rfl)
theorem dX1_down_37 : decode cX1_down 37 = .ok (.getfield 148, 3) := dk_180 0 148 (dk_at dksX1_down_1 13 rfl rfl)
theorem dX1_down_40 : decode cX1_down 40 = .ok (.iconst 1, 1) := dk_4 (dk_at dksX1_down_1 16 rfl rfl)
theorem dX1_down_41 : decode cX1_down 41 = .ok (.iload_n 1, 1) := dk_27 (dk_at dksX1_down_1 17 rfl rfl)
theorem dX1_down_42 : decode cX1_down 42 = .ok (.ishl, 1) := dk_120 (dk_at dksX1_down_1 18 rfl rfl)
theorem dX1_down_43 : decode cX1_down 43 = .ok (.ior, 1) := dk_128 (dk_at dksX1_down_1 19 rfl rfl)
theorem dX1_down_44 : decode cX1_down 44 = .ok (.putfield 148, 3) := dk_181 0 148 (dk_at dksX1_down_1 20 rfl rfl)
theorem dX1_down_47 : decode cX1_down 47 = .ok (.aload_n 0, 1) := dk_42 (dk_at dksX1_down_1 23 rfl rfl)
theorem dX1_down_48 : decode cX1_down 48 = .ok (.getfield 142, 3) := dk_180 0 142 (dk_at dksX1_down_2 0 rfl rfl)
theorem dX1_down_51 : decode cX1_down 51 = .ok (.invokestatic 167, 3) := dk_184 0 167 (dk_at dksX1_down_2 3 rfl rfl)
theorem dX1_down_54 : decode cX1_down 54 = .ok (.ireturn, 1) := dk_172 (dk_at dksX1_down_2 6 rfl rfl)
abbrev cX1_requireKey : ByteArray := prog_1_method_18_code
def yX1_requireKey : MethodName := ⟨RX1, "requireKey", "(I)V"⟩
def dkwX1_requireKey_0 : List UInt8 := [26, 133, 9, 20, 0, 151, 184, 0, 153, 184, 0, 157, 177]
abbrev dktX1_requireKey_0 : List UInt8 := dkwX1_requireKey_0 ++ []
theorem dksX1_requireKey_0 : cX1_requireKey.data.toList.drop 0 = dktX1_requireKey_0 := by decide +kernel
theorem dX1_requireKey_0 : decode cX1_requireKey 0 = .ok (.iload_n 0, 1) := dk_26 (dk_at dksX1_requireKey_0 0 rfl rfl)
theorem dX1_requireKey_1 : decode cX1_requireKey 1 = .ok (.i2l, 1) := dk_133 (dk_at dksX1_requireKey_0 1 rfl rfl)
theorem dX1_requireKey_2 : decode cX1_requireKey 2 = .ok (.lconst 0, 1) := dk_9 (dk_at dksX1_requireKey_0 2 rfl rfl)
theorem dX1_requireKey_3 : decode cX1_requireKey 3 = .ok (.ldc2_w 151, 3) := dk_20 0 151 (dk_at dksX1_requireKey_0 3 rfl rfl)
theorem dX1_requireKey_6 : decode cX1_requireKey 6 = .ok (.invokestatic 153, 3) := dk_184 0 153 (dk_at dksX1_requireKey_0 6 rfl rfl)
theorem dX1_requireKey_9 : decode cX1_requireKey 9 = .ok (.invokestatic 157, 3) := dk_184 0 157 (dk_at dksX1_requireKey_0 9 rfl rfl)
theorem dX1_requireKey_12 : decode cX1_requireKey 12 = .ok (.return_, 1) := dk_177 (dk_at dksX1_requireKey_0 12 rfl rfl)
abbrev cX1_isBetween : ByteArray := prog_1_method_1_code
def yX1_isBetween : MethodName := ⟨RX1, "isBetween", "(JJJ)Z"⟩
def dkwX1_isBetween_0 : List UInt8 := [30, 32, 148, 155, 0, 14, 30, 22, 4, 148, 157, 0, 7, 4, 167, 0, 4, 3, 172]
abbrev dktX1_isBetween_0 : List UInt8 := dkwX1_isBetween_0 ++ []
theorem dksX1_isBetween_0 : cX1_isBetween.data.toList.drop 0 = dktX1_isBetween_0 := by decide +kernel
theorem dX1_isBetween_0 : decode cX1_isBetween 0 = .ok (.lload_n 0, 1) := dk_30 (dk_at dksX1_isBetween_0 0 rfl rfl)
theorem dX1_isBetween_1 : decode cX1_isBetween 1 = .ok (.lload_n 2, 1) := dk_32 (dk_at dksX1_isBetween_0 1 rfl rfl)
theorem dX1_isBetween_2 : decode cX1_isBetween 2 = .ok (.lcmp, 1) := dk_148 (dk_at dksX1_isBetween_0 2 rfl rfl)
theorem dX1_isBetween_3 : decode cX1_isBetween 3 = .ok (.ifCond .lt 14, 3) := dk_155 0 14 (dk_at dksX1_isBetween_0 3 rfl rfl)
theorem dX1_isBetween_6 : decode cX1_isBetween 6 = .ok (.lload_n 0, 1) := dk_30 (dk_at dksX1_isBetween_0 6 rfl rfl)
theorem dX1_isBetween_7 : decode cX1_isBetween 7 = .ok (.lload 4, 2) := dk_22 4 (dk_at dksX1_isBetween_0 7 rfl rfl)
theorem dX1_isBetween_9 : decode cX1_isBetween 9 = .ok (.lcmp, 1) := dk_148 (dk_at dksX1_isBetween_0 9 rfl rfl)
theorem dX1_isBetween_10 : decode cX1_isBetween 10 = .ok (.ifCond .gt 7, 3) := dk_157 0 7 (dk_at dksX1_isBetween_0 10 rfl rfl)
theorem dX1_isBetween_13 : decode cX1_isBetween 13 = .ok (.iconst 1, 1) := dk_4 (dk_at dksX1_isBetween_0 13 rfl rfl)
theorem dX1_isBetween_14 : decode cX1_isBetween 14 = .ok (.goto 4, 3) := dk_167 0 4 (dk_at dksX1_isBetween_0 14 rfl rfl)
theorem dX1_isBetween_17 : decode cX1_isBetween 17 = .ok (.iconst 0, 1) := dk_3 (dk_at dksX1_isBetween_0 17 rfl rfl)
theorem dX1_isBetween_18 : decode cX1_isBetween 18 = .ok (.ireturn, 1) := dk_172 (dk_at dksX1_isBetween_0 18 rfl rfl)
abbrev cX1_requireIndex : ByteArray := prog_1_method_3_code
def yX1_requireIndex : MethodName := ⟨RX1, "requireIndex", "(Z)V"⟩
def dkwX1_requireIndex_0 : List UInt8 := [26, 154, 0, 11, 187, 0, 7, 89, 183, 0, 9, 191, 177]
abbrev dktX1_requireIndex_0 : List UInt8 := dkwX1_requireIndex_0 ++ []
theorem dksX1_requireIndex_0 : cX1_requireIndex.data.toList.drop 0 = dktX1_requireIndex_0 := by decide +kernel
theorem dX1_requireIndex_0 : decode cX1_requireIndex 0 = .ok (.iload_n 0, 1) := dk_26 (dk_at dksX1_requireIndex_0 0 rfl rfl)
theorem dX1_requireIndex_1 : decode cX1_requireIndex 1 = .ok (.ifCond .ne 11, 3) := dk_154 0 11 (dk_at dksX1_requireIndex_0 1 rfl rfl)
theorem dX1_requireIndex_4 : decode cX1_requireIndex 4 = .ok (.new 7, 3) := dk_187 0 7 (dk_at dksX1_requireIndex_0 4 rfl rfl)
theorem dX1_requireIndex_7 : decode cX1_requireIndex 7 = .ok (.dup, 1) := dk_89 (dk_at dksX1_requireIndex_0 7 rfl rfl)
theorem dX1_requireIndex_8 : decode cX1_requireIndex 8 = .ok (.invokespecial 9, 3) := dk_183 0 9 (dk_at dksX1_requireIndex_0 8 rfl rfl)
theorem dX1_requireIndex_11 : decode cX1_requireIndex 11 = .ok (.athrow, 1) := dk_191 (dk_at dksX1_requireIndex_0 11 rfl rfl)
theorem dX1_requireIndex_12 : decode cX1_requireIndex 12 = .ok (.return_, 1) := dk_177 (dk_at dksX1_requireIndex_0 12 rfl rfl)
abbrev cX1_requireSupported : ByteArray := prog_1_method_6_code
def yX1_requireSupported : MethodName := ⟨RX1, "requireSupported", "(Z)V"⟩
def dkwX1_requireSupported_0 : List UInt8 := [26, 154, 0, 11, 187, 0, 16, 89, 183, 0, 18, 191, 177]
abbrev dktX1_requireSupported_0 : List UInt8 := dkwX1_requireSupported_0 ++ []
theorem dksX1_requireSupported_0 : cX1_requireSupported.data.toList.drop 0 = dktX1_requireSupported_0 := by decide +kernel
theorem dX1_requireSupported_0 : decode cX1_requireSupported 0 = .ok (.iload_n 0, 1) := dk_26 (dk_at dksX1_requireSupported_0 0 rfl rfl)
theorem dX1_requireSupported_1 : decode cX1_requireSupported 1 = .ok (.ifCond .ne 11, 3) := dk_154 0 11 (dk_at dksX1_requireSupported_0 1 rfl rfl)
theorem dX1_requireSupported_4 : decode cX1_requireSupported 4 = .ok (.new 16, 3) := dk_187 0 16 (dk_at dksX1_requireSupported_0 4 rfl rfl)
theorem dX1_requireSupported_7 : decode cX1_requireSupported 7 = .ok (.dup, 1) := dk_89 (dk_at dksX1_requireSupported_0 7 rfl rfl)
theorem dX1_requireSupported_8 : decode cX1_requireSupported 8 = .ok (.invokespecial 18, 3) := dk_183 0 18 (dk_at dksX1_requireSupported_0 8 rfl rfl)
theorem dX1_requireSupported_11 : decode cX1_requireSupported 11 = .ok (.athrow, 1) := dk_191 (dk_at dksX1_requireSupported_0 11 rfl rfl)
theorem dX1_requireSupported_12 : decode cX1_requireSupported 12 = .ok (.return_, 1) := dk_177 (dk_at dksX1_requireSupported_0 12 rfl rfl)
abbrev cX1_up : ByteArray := prog_1_method_20_code
def yX1_up : MethodName := ⟨RX1, "up", "(I)I"⟩
def dkwX1_up_5 : List UInt8 := [182, 0, 173, 29, 172]
abbrev dktX1_up_5 : List UInt8 := dkwX1_up_5 ++ []
def dkwX1_up_4 : List UInt8 := [167, 0, 4, 3, 184, 0, 145, 42, 28, 181, 0, 142, 29, 153, 0, 13, 42, 3, 181, 0, 148, 42, 29]
abbrev dktX1_up_4 : List UInt8 := dkwX1_up_4 ++ dktX1_up_5
def dkwX1_up_3 : List UInt8 := [167, 0, 4, 3, 62, 29, 153, 0, 15, 42, 180, 0, 72, 182, 0, 172, 16, 100, 162, 0, 7, 4]
abbrev dktX1_up_3 : List UInt8 := dkwX1_up_3 ++ dktX1_up_4
def dkwX1_up_2 : List UInt8 := [42, 180, 0, 148, 167, 0, 22, 3, 167, 0, 18, 42, 180, 0, 148, 153, 0, 10, 42, 180, 0, 142]
abbrev dktX1_up_2 : List UInt8 := dkwX1_up_2 ++ dktX1_up_3
def dkwX1_up_1 : List UInt8 := [42, 180, 0, 142, 4, 27, 120, 2, 130, 126, 61, 42, 180, 0, 123, 16, 108, 160, 0, 18, 28, 154, 0, 10]
abbrev dktX1_up_1 : List UInt8 := dkwX1_up_1 ++ dktX1_up_2
def dkwX1_up_0 : List UInt8 := [27, 184, 0, 160, 42, 180, 0, 142, 27, 122, 4, 126, 4, 160, 0, 7, 4, 167, 0, 4, 3, 184, 0, 164]
abbrev dktX1_up_0 : List UInt8 := dkwX1_up_0 ++ dktX1_up_1
theorem dksX1_up_0 : cX1_up.data.toList.drop 0 = dktX1_up_0 := by decide +kernel
theorem dksX1_up_1 : cX1_up.data.toList.drop 24 = dktX1_up_1 := dk_seg dksX1_up_0 24 rfl rfl
theorem dksX1_up_2 : cX1_up.data.toList.drop 48 = dktX1_up_2 := dk_seg dksX1_up_1 24 rfl rfl
theorem dksX1_up_3 : cX1_up.data.toList.drop 70 = dktX1_up_3 := dk_seg dksX1_up_2 22 rfl rfl
theorem dksX1_up_4 : cX1_up.data.toList.drop 92 = dktX1_up_4 := dk_seg dksX1_up_3 22 rfl rfl
theorem dksX1_up_5 : cX1_up.data.toList.drop 115 = dktX1_up_5 := dk_seg dksX1_up_4 23 rfl rfl
theorem dX1_up_0 : decode cX1_up 0 = .ok (.iload_n 1, 1) := dk_27 (dk_at dksX1_up_0 0 rfl rfl)
theorem dX1_up_1 : decode cX1_up 1 = .ok (.invokestatic 160, 3) := dk_184 0 160 (dk_at dksX1_up_0 1 rfl rfl)
theorem dX1_up_4 : decode cX1_up 4 = .ok (.aload_n 0, 1) := dk_42 (dk_at dksX1_up_0 4 rfl rfl)
theorem dX1_up_5 : decode cX1_up 5 = .ok (.getfield 142, 3) := dk_180 0 142 (dk_at dksX1_up_0 5 rfl rfl)
theorem dX1_up_8 : decode cX1_up 8 = .ok (.iload_n 1, 1) := dk_27 (dk_at dksX1_up_0 8 rfl rfl)
theorem dX1_up_9 : decode cX1_up 9 = .ok (.ishr, 1) := dk_122 (dk_at dksX1_up_0 9 rfl rfl)
theorem dX1_up_10 : decode cX1_up 10 = .ok (.iconst 1, 1) := dk_4 (dk_at dksX1_up_0 10 rfl rfl)
theorem dX1_up_11 : decode cX1_up 11 = .ok (.iand, 1) := dk_126 (dk_at dksX1_up_0 11 rfl rfl)
theorem dX1_up_12 : decode cX1_up 12 = .ok (.iconst 1, 1) := dk_4 (dk_at dksX1_up_0 12 rfl rfl)
theorem dX1_up_13 : decode cX1_up 13 = .ok (.if_icmp .ne 7, 3) := dk_160 0 7 (dk_at dksX1_up_0 13 rfl rfl)
theorem dX1_up_16 : decode cX1_up 16 = .ok (.iconst 1, 1) := dk_4 (dk_at dksX1_up_0 16 rfl rfl)
theorem dX1_up_17 : decode cX1_up 17 = .ok (.goto 4, 3) := dk_167 0 4 (dk_at dksX1_up_0 17 rfl rfl)
theorem dX1_up_20 : decode cX1_up 20 = .ok (.iconst 0, 1) := dk_3 (dk_at dksX1_up_0 20 rfl rfl)
theorem dX1_up_21 : decode cX1_up 21 = .ok (.invokestatic 164, 3) := dk_184 0 164 (dk_at dksX1_up_0 21 rfl rfl)
theorem dX1_up_24 : decode cX1_up 24 = .ok (.aload_n 0, 1) := dk_42 (dk_at dksX1_up_1 0 rfl rfl)
theorem dX1_up_25 : decode cX1_up 25 = .ok (.getfield 142, 3) := dk_180 0 142 (dk_at dksX1_up_1 1 rfl rfl)
theorem dX1_up_28 : decode cX1_up 28 = .ok (.iconst 1, 1) := dk_4 (dk_at dksX1_up_1 4 rfl rfl)
theorem dX1_up_29 : decode cX1_up 29 = .ok (.iload_n 1, 1) := dk_27 (dk_at dksX1_up_1 5 rfl rfl)
theorem dX1_up_30 : decode cX1_up 30 = .ok (.ishl, 1) := dk_120 (dk_at dksX1_up_1 6 rfl rfl)
theorem dX1_up_31 : decode cX1_up 31 = .ok (.iconst (-1), 1) := dk_2 (dk_at dksX1_up_1 7 rfl rfl)
theorem dX1_up_32 : decode cX1_up 32 = .ok (.ixor, 1) := dk_130 (dk_at dksX1_up_1 8 rfl rfl)
theorem dX1_up_33 : decode cX1_up 33 = .ok (.iand, 1) := dk_126 (dk_at dksX1_up_1 9 rfl rfl)
theorem dX1_up_34 : decode cX1_up 34 = .ok (.istore_n 2, 1) := dk_61 (dk_at dksX1_up_1 10 rfl rfl)
theorem dX1_up_35 : decode cX1_up 35 = .ok (.aload_n 0, 1) := dk_42 (dk_at dksX1_up_1 11 rfl rfl)
theorem dX1_up_36 : decode cX1_up 36 = .ok (.getfield 123, 3) := dk_180 0 123 (dk_at dksX1_up_1 12 rfl rfl)
theorem dX1_up_39 : decode cX1_up 39 = .ok (.bipush 108, 2) := dk_16 108 (dk_at dksX1_up_1 15 rfl rfl)
theorem dX1_up_41 : decode cX1_up 41 = .ok (.if_icmp .ne 18, 3) := dk_160 0 18 (dk_at dksX1_up_1 17 rfl rfl)
theorem dX1_up_44 : decode cX1_up 44 = .ok (.iload_n 2, 1) := dk_28 (dk_at dksX1_up_1 20 rfl rfl)
theorem dX1_up_45 : decode cX1_up 45 = .ok (.ifCond .ne 10, 3) := dk_154 0 10 (dk_at dksX1_up_1 21 rfl rfl)
theorem dX1_up_48 : decode cX1_up 48 = .ok (.aload_n 0, 1) := dk_42 (dk_at dksX1_up_2 0 rfl rfl)
theorem dX1_up_49 : decode cX1_up 49 = .ok (.getfield 148, 3) := dk_180 0 148 (dk_at dksX1_up_2 1 rfl rfl)
theorem dX1_up_52 : decode cX1_up 52 = .ok (.goto 22, 3) := dk_167 0 22 (dk_at dksX1_up_2 4 rfl rfl)
theorem dX1_up_55 : decode cX1_up 55 = .ok (.iconst 0, 1) := dk_3 (dk_at dksX1_up_2 7 rfl rfl)
theorem dX1_up_56 : decode cX1_up 56 = .ok (.goto 18, 3) := dk_167 0 18 (dk_at dksX1_up_2 8 rfl rfl)
theorem dX1_up_59 : decode cX1_up 59 = .ok (.aload_n 0, 1) := dk_42 (dk_at dksX1_up_2 11 rfl rfl)
theorem dX1_up_60 : decode cX1_up 60 = .ok (.getfield 148, 3) := dk_180 0 148 (dk_at dksX1_up_2 12 rfl rfl)
theorem dX1_up_63 : decode cX1_up 63 = .ok (.ifCond .eq 10, 3) := dk_153 0 10 (dk_at dksX1_up_2 15 rfl rfl)
theorem dX1_up_66 : decode cX1_up 66 = .ok (.aload_n 0, 1) := dk_42 (dk_at dksX1_up_2 18 rfl rfl)
theorem dX1_up_67 : decode cX1_up 67 = .ok (.getfield 142, 3) := dk_180 0 142 (dk_at dksX1_up_2 19 rfl rfl)
theorem dX1_up_70 : decode cX1_up 70 = .ok (.goto 4, 3) := dk_167 0 4 (dk_at dksX1_up_3 0 rfl rfl)
theorem dX1_up_73 : decode cX1_up 73 = .ok (.iconst 0, 1) := dk_3 (dk_at dksX1_up_3 3 rfl rfl)
theorem dX1_up_74 : decode cX1_up 74 = .ok (.istore_n 3, 1) := dk_62 (dk_at dksX1_up_3 4 rfl rfl)
theorem dX1_up_75 : decode cX1_up 75 = .ok (.iload_n 3, 1) := dk_29 (dk_at dksX1_up_3 5 rfl rfl)
theorem dX1_up_76 : decode cX1_up 76 = .ok (.ifCond .eq 15, 3) := dk_153 0 15 (dk_at dksX1_up_3 6 rfl rfl)
theorem dX1_up_79 : decode cX1_up 79 = .ok (.aload_n 0, 1) := dk_42 (dk_at dksX1_up_3 9 rfl rfl)
theorem dX1_up_80 : decode cX1_up 80 = .ok (.getfield 72, 3) := dk_180 0 72 (dk_at dksX1_up_3 10 rfl rfl)
theorem dX1_up_83 : decode cX1_up 83 = .ok (.invokevirtual 172, 3) := dk_182 0 172 (dk_at dksX1_up_3 13 rfl rfl)
theorem dX1_up_86 : decode cX1_up 86 = .ok (.bipush 100, 2) := dk_16 100 (dk_at dksX1_up_3 16 rfl rfl)
theorem dX1_up_88 : decode cX1_up 88 = .ok (.if_icmp .ge 7, 3) := dk_162 0 7 (dk_at dksX1_up_3 18 rfl rfl)
theorem dX1_up_91 : decode cX1_up 91 = .ok (.iconst 1, 1) := dk_4 (dk_at dksX1_up_3 21 rfl rfl)
theorem dX1_up_92 : decode cX1_up 92 = .ok (.goto 4, 3) := dk_167 0 4 (dk_at dksX1_up_4 0 rfl rfl)
theorem dX1_up_95 : decode cX1_up 95 = .ok (.iconst 0, 1) := dk_3 (dk_at dksX1_up_4 3 rfl rfl)
theorem dX1_up_96 : decode cX1_up 96 = .ok (.invokestatic 145, 3) := dk_184 0 145 (dk_at dksX1_up_4 4 rfl rfl)
theorem dX1_up_99 : decode cX1_up 99 = .ok (.aload_n 0, 1) := dk_42 (dk_at dksX1_up_4 7 rfl rfl)
theorem dX1_up_100 : decode cX1_up 100 = .ok (.iload_n 2, 1) := dk_28 (dk_at dksX1_up_4 8 rfl rfl)
theorem dX1_up_101 : decode cX1_up 101 = .ok (.putfield 142, 3) := dk_181 0 142 (dk_at dksX1_up_4 9 rfl rfl)
theorem dX1_up_104 : decode cX1_up 104 = .ok (.iload_n 3, 1) := dk_29 (dk_at dksX1_up_4 12 rfl rfl)
theorem dX1_up_105 : decode cX1_up 105 = .ok (.ifCond .eq 13, 3) := dk_153 0 13 (dk_at dksX1_up_4 13 rfl rfl)
theorem dX1_up_108 : decode cX1_up 108 = .ok (.aload_n 0, 1) := dk_42 (dk_at dksX1_up_4 16 rfl rfl)
theorem dX1_up_109 : decode cX1_up 109 = .ok (.iconst 0, 1) := dk_3 (dk_at dksX1_up_4 17 rfl rfl)
theorem dX1_up_110 : decode cX1_up 110 = .ok (.putfield 148, 3) := dk_181 0 148 (dk_at dksX1_up_4 18 rfl rfl)
theorem dX1_up_113 : decode cX1_up 113 = .ok (.aload_n 0, 1) := dk_42 (dk_at dksX1_up_4 21 rfl rfl)
theorem dX1_up_114 : decode cX1_up 114 = .ok (.iload_n 3, 1) := dk_29 (dk_at dksX1_up_4 22 rfl rfl)
theorem dX1_up_115 : decode cX1_up 115 = .ok (.invokevirtual 173, 3) := dk_182 0 173 (dk_at dksX1_up_5 0 rfl rfl)
theorem dX1_up_118 : decode cX1_up 118 = .ok (.iload_n 3, 1) := dk_29 (dk_at dksX1_up_5 3 rfl rfl)
theorem dX1_up_119 : decode cX1_up 119 = .ok (.ireturn, 1) := dk_172 (dk_at dksX1_up_5 4 rfl rfl)
abbrev cX1_comes : ByteArray := prog_1_method_21_code
def yX1_comes : MethodName := ⟨RX1, "comes", "(I)V"⟩
def dkwX1_comes_1 : List UInt8 := [177]
abbrev dktX1_comes_1 : List UInt8 := dkwX1_comes_1 ++ []
def dkwX1_comes_0 : List UInt8 := [42, 180, 0, 72, 187, 0, 55, 89, 27, 42, 180, 0, 176, 183, 0, 178, 182, 0, 181, 87, 42, 182, 0, 182]
abbrev dktX1_comes_0 : List UInt8 := dkwX1_comes_0 ++ dktX1_comes_1
theorem dksX1_comes_0 : cX1_comes.data.toList.drop 0 = dktX1_comes_0 := by decide +kernel
theorem dksX1_comes_1 : cX1_comes.data.toList.drop 24 = dktX1_comes_1 := dk_seg dksX1_comes_0 24 rfl rfl
theorem dX1_comes_0 : decode cX1_comes 0 = .ok (.aload_n 0, 1) := dk_42 (dk_at dksX1_comes_0 0 rfl rfl)
theorem dX1_comes_1 : decode cX1_comes 1 = .ok (.getfield 72, 3) := dk_180 0 72 (dk_at dksX1_comes_0 1 rfl rfl)
theorem dX1_comes_4 : decode cX1_comes 4 = .ok (.new 55, 3) := dk_187 0 55 (dk_at dksX1_comes_0 4 rfl rfl)
theorem dX1_comes_7 : decode cX1_comes 7 = .ok (.dup, 1) := dk_89 (dk_at dksX1_comes_0 7 rfl rfl)
theorem dX1_comes_8 : decode cX1_comes 8 = .ok (.iload_n 1, 1) := dk_27 (dk_at dksX1_comes_0 8 rfl rfl)
theorem dX1_comes_9 : decode cX1_comes 9 = .ok (.aload_n 0, 1) := dk_42 (dk_at dksX1_comes_0 9 rfl rfl)
theorem dX1_comes_10 : decode cX1_comes 10 = .ok (.getfield 176, 3) := dk_180 0 176 (dk_at dksX1_comes_0 10 rfl rfl)
theorem dX1_comes_13 : decode cX1_comes 13 = .ok (.invokespecial 178, 3) := dk_183 0 178 (dk_at dksX1_comes_0 13 rfl rfl)
theorem dX1_comes_16 : decode cX1_comes 16 = .ok (.invokevirtual 181, 3) := dk_182 0 181 (dk_at dksX1_comes_0 16 rfl rfl)
theorem dX1_comes_19 : decode cX1_comes 19 = .ok (.pop, 1) := dk_87 (dk_at dksX1_comes_0 19 rfl rfl)
theorem dX1_comes_20 : decode cX1_comes 20 = .ok (.aload_n 0, 1) := dk_42 (dk_at dksX1_comes_0 20 rfl rfl)
theorem dX1_comes_21 : decode cX1_comes 21 = .ok (.invokevirtual 182, 3) := dk_182 0 182 (dk_at dksX1_comes_0 21 rfl rfl)
theorem dX1_comes_24 : decode cX1_comes 24 = .ok (.return_, 1) := dk_177 (dk_at dksX1_comes_1 0 rfl rfl)
abbrev cX1_undo : ByteArray := prog_1_method_23_code
def yX1_undo : MethodName := ⟨RX1, "undo", "()I"⟩
def dkwX1_undo_1 : List UInt8 := [180, 0, 72, 182, 0, 172, 4, 100, 182, 0, 194, 192, 0, 55, 76, 42, 182, 0, 182, 43, 182, 0, 197, 172]
abbrev dktX1_undo_1 : List UInt8 := dkwX1_undo_1 ++ []
def dkwX1_undo_0 : List UInt8 := [42, 180, 0, 72, 182, 0, 187, 154, 0, 7, 4, 167, 0, 4, 3, 184, 0, 191, 42, 180, 0, 72, 42]
abbrev dktX1_undo_0 : List UInt8 := dkwX1_undo_0 ++ dktX1_undo_1
theorem dksX1_undo_0 : cX1_undo.data.toList.drop 0 = dktX1_undo_0 := by decide +kernel
theorem dksX1_undo_1 : cX1_undo.data.toList.drop 23 = dktX1_undo_1 := dk_seg dksX1_undo_0 23 rfl rfl
theorem dX1_undo_0 : decode cX1_undo 0 = .ok (.aload_n 0, 1) := dk_42 (dk_at dksX1_undo_0 0 rfl rfl)
theorem dX1_undo_1 : decode cX1_undo 1 = .ok (.getfield 72, 3) := dk_180 0 72 (dk_at dksX1_undo_0 1 rfl rfl)
theorem dX1_undo_4 : decode cX1_undo 4 = .ok (.invokevirtual 187, 3) := dk_182 0 187 (dk_at dksX1_undo_0 4 rfl rfl)
theorem dX1_undo_7 : decode cX1_undo 7 = .ok (.ifCond .ne 7, 3) := dk_154 0 7 (dk_at dksX1_undo_0 7 rfl rfl)
theorem dX1_undo_10 : decode cX1_undo 10 = .ok (.iconst 1, 1) := dk_4 (dk_at dksX1_undo_0 10 rfl rfl)
theorem dX1_undo_11 : decode cX1_undo 11 = .ok (.goto 4, 3) := dk_167 0 4 (dk_at dksX1_undo_0 11 rfl rfl)
theorem dX1_undo_14 : decode cX1_undo 14 = .ok (.iconst 0, 1) := dk_3 (dk_at dksX1_undo_0 14 rfl rfl)
theorem dX1_undo_15 : decode cX1_undo 15 = .ok (.invokestatic 191, 3) := dk_184 0 191 (dk_at dksX1_undo_0 15 rfl rfl)
theorem dX1_undo_18 : decode cX1_undo 18 = .ok (.aload_n 0, 1) := dk_42 (dk_at dksX1_undo_0 18 rfl rfl)
theorem dX1_undo_19 : decode cX1_undo 19 = .ok (.getfield 72, 3) := dk_180 0 72 (dk_at dksX1_undo_0 19 rfl rfl)
theorem dX1_undo_22 : decode cX1_undo 22 = .ok (.aload_n 0, 1) := dk_42 (dk_at dksX1_undo_0 22 rfl rfl)
theorem dX1_undo_23 : decode cX1_undo 23 = .ok (.getfield 72, 3) := dk_180 0 72 (dk_at dksX1_undo_1 0 rfl rfl)
theorem dX1_undo_26 : decode cX1_undo 26 = .ok (.invokevirtual 172, 3) := dk_182 0 172 (dk_at dksX1_undo_1 3 rfl rfl)
theorem dX1_undo_29 : decode cX1_undo 29 = .ok (.iconst 1, 1) := dk_4 (dk_at dksX1_undo_1 6 rfl rfl)
theorem dX1_undo_30 : decode cX1_undo 30 = .ok (.isub, 1) := dk_100 (dk_at dksX1_undo_1 7 rfl rfl)
theorem dX1_undo_31 : decode cX1_undo 31 = .ok (.invokevirtual 194, 3) := dk_182 0 194 (dk_at dksX1_undo_1 8 rfl rfl)
theorem dX1_undo_34 : decode cX1_undo 34 = .ok (.checkcast 55, 3) := dk_192 0 55 (dk_at dksX1_undo_1 11 rfl rfl)
theorem dX1_undo_37 : decode cX1_undo 37 = .ok (.astore_n 1, 1) := dk_76 (dk_at dksX1_undo_1 14 rfl rfl)
theorem dX1_undo_38 : decode cX1_undo 38 = .ok (.aload_n 0, 1) := dk_42 (dk_at dksX1_undo_1 15 rfl rfl)
theorem dX1_undo_39 : decode cX1_undo 39 = .ok (.invokevirtual 182, 3) := dk_182 0 182 (dk_at dksX1_undo_1 16 rfl rfl)
theorem dX1_undo_42 : decode cX1_undo 42 = .ok (.aload_n 1, 1) := dk_43 (dk_at dksX1_undo_1 19 rfl rfl)
theorem dX1_undo_43 : decode cX1_undo 43 = .ok (.invokevirtual 197, 3) := dk_182 0 197 (dk_at dksX1_undo_1 20 rfl rfl)
theorem dX1_undo_46 : decode cX1_undo 46 = .ok (.ireturn, 1) := dk_172 (dk_at dksX1_undo_1 23 rfl rfl)
abbrev cX1_strokeAt : ByteArray := prog_1_method_25_code
def yX1_strokeAt : MethodName := ⟨RX1, "strokeAt", "(I)I"⟩
def dkwX1_strokeAt_1 : List UInt8 := [182, 0, 200, 192, 0, 55, 182, 0, 197, 172]
abbrev dktX1_strokeAt_1 : List UInt8 := dkwX1_strokeAt_1 ++ []
def dkwX1_strokeAt_0 : List UInt8 := [27, 133, 9, 42, 180, 0, 72, 182, 0, 172, 4, 100, 133, 184, 0, 153, 184, 0, 157, 42, 180, 0, 72, 27]
abbrev dktX1_strokeAt_0 : List UInt8 := dkwX1_strokeAt_0 ++ dktX1_strokeAt_1
theorem dksX1_strokeAt_0 : cX1_strokeAt.data.toList.drop 0 = dktX1_strokeAt_0 := by decide +kernel
theorem dksX1_strokeAt_1 : cX1_strokeAt.data.toList.drop 24 = dktX1_strokeAt_1 := dk_seg dksX1_strokeAt_0 24 rfl rfl
theorem dX1_strokeAt_0 : decode cX1_strokeAt 0 = .ok (.iload_n 1, 1) := dk_27 (dk_at dksX1_strokeAt_0 0 rfl rfl)
theorem dX1_strokeAt_1 : decode cX1_strokeAt 1 = .ok (.i2l, 1) := dk_133 (dk_at dksX1_strokeAt_0 1 rfl rfl)
theorem dX1_strokeAt_2 : decode cX1_strokeAt 2 = .ok (.lconst 0, 1) := dk_9 (dk_at dksX1_strokeAt_0 2 rfl rfl)
theorem dX1_strokeAt_3 : decode cX1_strokeAt 3 = .ok (.aload_n 0, 1) := dk_42 (dk_at dksX1_strokeAt_0 3 rfl rfl)
theorem dX1_strokeAt_4 : decode cX1_strokeAt 4 = .ok (.getfield 72, 3) := dk_180 0 72 (dk_at dksX1_strokeAt_0 4 rfl rfl)
theorem dX1_strokeAt_7 : decode cX1_strokeAt 7 = .ok (.invokevirtual 172, 3) := dk_182 0 172 (dk_at dksX1_strokeAt_0 7 rfl rfl)
theorem dX1_strokeAt_10 : decode cX1_strokeAt 10 = .ok (.iconst 1, 1) := dk_4 (dk_at dksX1_strokeAt_0 10 rfl rfl)
theorem dX1_strokeAt_11 : decode cX1_strokeAt 11 = .ok (.isub, 1) := dk_100 (dk_at dksX1_strokeAt_0 11 rfl rfl)
theorem dX1_strokeAt_12 : decode cX1_strokeAt 12 = .ok (.i2l, 1) := dk_133 (dk_at dksX1_strokeAt_0 12 rfl rfl)
theorem dX1_strokeAt_13 : decode cX1_strokeAt 13 = .ok (.invokestatic 153, 3) := dk_184 0 153 (dk_at dksX1_strokeAt_0 13 rfl rfl)
theorem dX1_strokeAt_16 : decode cX1_strokeAt 16 = .ok (.invokestatic 157, 3) := dk_184 0 157 (dk_at dksX1_strokeAt_0 16 rfl rfl)
theorem dX1_strokeAt_19 : decode cX1_strokeAt 19 = .ok (.aload_n 0, 1) := dk_42 (dk_at dksX1_strokeAt_0 19 rfl rfl)
theorem dX1_strokeAt_20 : decode cX1_strokeAt 20 = .ok (.getfield 72, 3) := dk_180 0 72 (dk_at dksX1_strokeAt_0 20 rfl rfl)
theorem dX1_strokeAt_23 : decode cX1_strokeAt 23 = .ok (.iload_n 1, 1) := dk_27 (dk_at dksX1_strokeAt_0 23 rfl rfl)
theorem dX1_strokeAt_24 : decode cX1_strokeAt 24 = .ok (.invokevirtual 200, 3) := dk_182 0 200 (dk_at dksX1_strokeAt_1 0 rfl rfl)
theorem dX1_strokeAt_27 : decode cX1_strokeAt 27 = .ok (.checkcast 55, 3) := dk_192 0 55 (dk_at dksX1_strokeAt_1 3 rfl rfl)
theorem dX1_strokeAt_30 : decode cX1_strokeAt 30 = .ok (.invokevirtual 197, 3) := dk_182 0 197 (dk_at dksX1_strokeAt_1 6 rfl rfl)
theorem dX1_strokeAt_33 : decode cX1_strokeAt 33 = .ok (.ireturn, 1) := dk_172 (dk_at dksX1_strokeAt_1 9 rfl rfl)
abbrev cX1_chord : ByteArray := prog_1_method_26_code
def yX1_chord : MethodName := ⟨RX1, "chord", "(I)I"⟩
def dkwX1_chord_2 : List UInt8 := [182, 0, 172, 172]
abbrev dktX1_chord_2 : List UInt8 := dkwX1_chord_2 ++ []
def dkwX1_chord_1 : List UInt8 := [167, 0, 4, 3, 184, 0, 145, 42, 180, 0, 83, 27, 184, 0, 201, 182, 0, 181, 87, 42, 180, 0, 83]
abbrev dktX1_chord_1 : List UInt8 := dkwX1_chord_1 ++ dktX1_chord_2
def dkwX1_chord_0 : List UInt8 := [27, 133, 10, 20, 0, 185, 184, 0, 153, 184, 0, 138, 42, 180, 0, 83, 182, 0, 172, 7, 162, 0, 7, 4]
abbrev dktX1_chord_0 : List UInt8 := dkwX1_chord_0 ++ dktX1_chord_1
theorem dksX1_chord_0 : cX1_chord.data.toList.drop 0 = dktX1_chord_0 := by decide +kernel
theorem dksX1_chord_1 : cX1_chord.data.toList.drop 24 = dktX1_chord_1 := dk_seg dksX1_chord_0 24 rfl rfl
theorem dksX1_chord_2 : cX1_chord.data.toList.drop 47 = dktX1_chord_2 := dk_seg dksX1_chord_1 23 rfl rfl
theorem dX1_chord_0 : decode cX1_chord 0 = .ok (.iload_n 1, 1) := dk_27 (dk_at dksX1_chord_0 0 rfl rfl)
theorem dX1_chord_1 : decode cX1_chord 1 = .ok (.i2l, 1) := dk_133 (dk_at dksX1_chord_0 1 rfl rfl)
theorem dX1_chord_2 : decode cX1_chord 2 = .ok (.lconst 1, 1) := dk_10 (dk_at dksX1_chord_0 2 rfl rfl)
theorem dX1_chord_3 : decode cX1_chord 3 = .ok (.ldc2_w 185, 3) := dk_20 0 185 (dk_at dksX1_chord_0 3 rfl rfl)
theorem dX1_chord_6 : decode cX1_chord 6 = .ok (.invokestatic 153, 3) := dk_184 0 153 (dk_at dksX1_chord_0 6 rfl rfl)
theorem dX1_chord_9 : decode cX1_chord 9 = .ok (.invokestatic 138, 3) := dk_184 0 138 (dk_at dksX1_chord_0 9 rfl rfl)
theorem dX1_chord_12 : decode cX1_chord 12 = .ok (.aload_n 0, 1) := dk_42 (dk_at dksX1_chord_0 12 rfl rfl)
theorem dX1_chord_13 : decode cX1_chord 13 = .ok (.getfield 83, 3) := dk_180 0 83 (dk_at dksX1_chord_0 13 rfl rfl)
theorem dX1_chord_16 : decode cX1_chord 16 = .ok (.invokevirtual 172, 3) := dk_182 0 172 (dk_at dksX1_chord_0 16 rfl rfl)
theorem dX1_chord_19 : decode cX1_chord 19 = .ok (.iconst 4, 1) := dk_7 (dk_at dksX1_chord_0 19 rfl rfl)
theorem dX1_chord_20 : decode cX1_chord 20 = .ok (.if_icmp .ge 7, 3) := dk_162 0 7 (dk_at dksX1_chord_0 20 rfl rfl)
theorem dX1_chord_23 : decode cX1_chord 23 = .ok (.iconst 1, 1) := dk_4 (dk_at dksX1_chord_0 23 rfl rfl)
theorem dX1_chord_24 : decode cX1_chord 24 = .ok (.goto 4, 3) := dk_167 0 4 (dk_at dksX1_chord_1 0 rfl rfl)
theorem dX1_chord_27 : decode cX1_chord 27 = .ok (.iconst 0, 1) := dk_3 (dk_at dksX1_chord_1 3 rfl rfl)
theorem dX1_chord_28 : decode cX1_chord 28 = .ok (.invokestatic 145, 3) := dk_184 0 145 (dk_at dksX1_chord_1 4 rfl rfl)
theorem dX1_chord_31 : decode cX1_chord 31 = .ok (.aload_n 0, 1) := dk_42 (dk_at dksX1_chord_1 7 rfl rfl)
theorem dX1_chord_32 : decode cX1_chord 32 = .ok (.getfield 83, 3) := dk_180 0 83 (dk_at dksX1_chord_1 8 rfl rfl)
theorem dX1_chord_35 : decode cX1_chord 35 = .ok (.iload_n 1, 1) := dk_27 (dk_at dksX1_chord_1 11 rfl rfl)
theorem dX1_chord_36 : decode cX1_chord 36 = .ok (.invokestatic 201, 3) := dk_184 0 201 (dk_at dksX1_chord_1 12 rfl rfl)
theorem dX1_chord_39 : decode cX1_chord 39 = .ok (.invokevirtual 181, 3) := dk_182 0 181 (dk_at dksX1_chord_1 15 rfl rfl)
theorem dX1_chord_42 : decode cX1_chord 42 = .ok (.pop, 1) := dk_87 (dk_at dksX1_chord_1 18 rfl rfl)
theorem dX1_chord_43 : decode cX1_chord 43 = .ok (.aload_n 0, 1) := dk_42 (dk_at dksX1_chord_1 19 rfl rfl)
theorem dX1_chord_44 : decode cX1_chord 44 = .ok (.getfield 83, 3) := dk_180 0 83 (dk_at dksX1_chord_1 20 rfl rfl)
theorem dX1_chord_47 : decode cX1_chord 47 = .ok (.invokevirtual 172, 3) := dk_182 0 172 (dk_at dksX1_chord_2 0 rfl rfl)
theorem dX1_chord_50 : decode cX1_chord 50 = .ok (.ireturn, 1) := dk_172 (dk_at dksX1_chord_2 3 rfl rfl)
abbrev cX1_sign : ByteArray := prog_1_method_27_code
def yX1_sign : MethodName := ⟨RX1, "sign", "(C)I"⟩
def dkwX1_sign_2 : List UInt8 := [27, 182, 0, 210, 87, 42, 180, 0, 89, 182, 0, 207, 172]
abbrev dktX1_sign_2 : List UInt8 := dkwX1_sign_2 ++ []
def dkwX1_sign_1 : List UInt8 := [42, 180, 0, 89, 182, 0, 207, 16, 12, 162, 0, 7, 4, 167, 0, 4, 3, 184, 0, 145, 42, 180, 0, 89]
abbrev dktX1_sign_1 : List UInt8 := dkwX1_sign_1 ++ dktX1_sign_2
def dkwX1_sign_0 : List UInt8 := [27, 184, 0, 22, 154, 0, 12, 18, 205, 27, 182, 0, 33, 155, 0, 7, 4, 167, 0, 4, 3, 184, 0, 138]
abbrev dktX1_sign_0 : List UInt8 := dkwX1_sign_0 ++ dktX1_sign_1
theorem dksX1_sign_0 : cX1_sign.data.toList.drop 0 = dktX1_sign_0 := by decide +kernel
theorem dksX1_sign_1 : cX1_sign.data.toList.drop 24 = dktX1_sign_1 := dk_seg dksX1_sign_0 24 rfl rfl
theorem dksX1_sign_2 : cX1_sign.data.toList.drop 48 = dktX1_sign_2 := dk_seg dksX1_sign_1 24 rfl rfl
theorem dX1_sign_0 : decode cX1_sign 0 = .ok (.iload_n 1, 1) := dk_27 (dk_at dksX1_sign_0 0 rfl rfl)
theorem dX1_sign_1 : decode cX1_sign 1 = .ok (.invokestatic 22, 3) := dk_184 0 22 (dk_at dksX1_sign_0 1 rfl rfl)
theorem dX1_sign_4 : decode cX1_sign 4 = .ok (.ifCond .ne 12, 3) := dk_154 0 12 (dk_at dksX1_sign_0 4 rfl rfl)
theorem dX1_sign_7 : decode cX1_sign 7 = .ok (.ldc 205, 2) := dk_18 205 (dk_at dksX1_sign_0 7 rfl rfl)
theorem dX1_sign_9 : decode cX1_sign 9 = .ok (.iload_n 1, 1) := dk_27 (dk_at dksX1_sign_0 9 rfl rfl)
theorem dX1_sign_10 : decode cX1_sign 10 = .ok (.invokevirtual 33, 3) := dk_182 0 33 (dk_at dksX1_sign_0 10 rfl rfl)
theorem dX1_sign_13 : decode cX1_sign 13 = .ok (.ifCond .lt 7, 3) := dk_155 0 7 (dk_at dksX1_sign_0 13 rfl rfl)
theorem dX1_sign_16 : decode cX1_sign 16 = .ok (.iconst 1, 1) := dk_4 (dk_at dksX1_sign_0 16 rfl rfl)
theorem dX1_sign_17 : decode cX1_sign 17 = .ok (.goto 4, 3) := dk_167 0 4 (dk_at dksX1_sign_0 17 rfl rfl)
theorem dX1_sign_20 : decode cX1_sign 20 = .ok (.iconst 0, 1) := dk_3 (dk_at dksX1_sign_0 20 rfl rfl)
theorem dX1_sign_21 : decode cX1_sign 21 = .ok (.invokestatic 138, 3) := dk_184 0 138 (dk_at dksX1_sign_0 21 rfl rfl)
theorem dX1_sign_24 : decode cX1_sign 24 = .ok (.aload_n 0, 1) := dk_42 (dk_at dksX1_sign_1 0 rfl rfl)
theorem dX1_sign_25 : decode cX1_sign 25 = .ok (.getfield 89, 3) := dk_180 0 89 (dk_at dksX1_sign_1 1 rfl rfl)
theorem dX1_sign_28 : decode cX1_sign 28 = .ok (.invokevirtual 207, 3) := dk_182 0 207 (dk_at dksX1_sign_1 4 rfl rfl)
theorem dX1_sign_31 : decode cX1_sign 31 = .ok (.bipush 12, 2) := dk_16 12 (dk_at dksX1_sign_1 7 rfl rfl)
theorem dX1_sign_33 : decode cX1_sign 33 = .ok (.if_icmp .ge 7, 3) := dk_162 0 7 (dk_at dksX1_sign_1 9 rfl rfl)
theorem dX1_sign_36 : decode cX1_sign 36 = .ok (.iconst 1, 1) := dk_4 (dk_at dksX1_sign_1 12 rfl rfl)
theorem dX1_sign_37 : decode cX1_sign 37 = .ok (.goto 4, 3) := dk_167 0 4 (dk_at dksX1_sign_1 13 rfl rfl)
theorem dX1_sign_40 : decode cX1_sign 40 = .ok (.iconst 0, 1) := dk_3 (dk_at dksX1_sign_1 16 rfl rfl)
theorem dX1_sign_41 : decode cX1_sign 41 = .ok (.invokestatic 145, 3) := dk_184 0 145 (dk_at dksX1_sign_1 17 rfl rfl)
theorem dX1_sign_44 : decode cX1_sign 44 = .ok (.aload_n 0, 1) := dk_42 (dk_at dksX1_sign_1 20 rfl rfl)
theorem dX1_sign_45 : decode cX1_sign 45 = .ok (.getfield 89, 3) := dk_180 0 89 (dk_at dksX1_sign_1 21 rfl rfl)
theorem dX1_sign_48 : decode cX1_sign 48 = .ok (.iload_n 1, 1) := dk_27 (dk_at dksX1_sign_2 0 rfl rfl)
theorem dX1_sign_49 : decode cX1_sign 49 = .ok (.invokevirtual 210, 3) := dk_182 0 210 (dk_at dksX1_sign_2 1 rfl rfl)
theorem dX1_sign_52 : decode cX1_sign 52 = .ok (.pop, 1) := dk_87 (dk_at dksX1_sign_2 4 rfl rfl)
theorem dX1_sign_53 : decode cX1_sign 53 = .ok (.aload_n 0, 1) := dk_42 (dk_at dksX1_sign_2 5 rfl rfl)
theorem dX1_sign_54 : decode cX1_sign 54 = .ok (.getfield 89, 3) := dk_180 0 89 (dk_at dksX1_sign_2 6 rfl rfl)
theorem dX1_sign_57 : decode cX1_sign 57 = .ok (.invokevirtual 207, 3) := dk_182 0 207 (dk_at dksX1_sign_2 9 rfl rfl)
theorem dX1_sign_60 : decode cX1_sign 60 = .ok (.ireturn, 1) := dk_172 (dk_at dksX1_sign_2 12 rfl rfl)
abbrev cX1_entry : ByteArray := prog_1_method_32_code
def yX1_entry : MethodName := ⟨RX1, "entry", "(I)Z"⟩
def dkwX1_entry_5 : List UInt8 := [4, 167, 0, 4, 3, 172]
abbrev dktX1_entry_5 : List UInt8 := dkwX1_entry_5 ++ []
def dkwX1_entry_4 : List UInt8 := [182, 1, 4, 183, 1, 8, 185, 0, 134, 2, 0, 87, 42, 182, 0, 214, 42, 182, 0, 182, 45, 198, 0, 7]
abbrev dktX1_entry_4 : List UInt8 := dkwX1_entry_4 ++ dktX1_entry_5
def dkwX1_entry_3 : List UInt8 := [45, 185, 0, 254, 2, 0, 87, 44, 187, 0, 238, 89, 42, 180, 0, 83, 184, 1, 0, 42, 180, 0, 89]
abbrev dktX1_entry_3 : List UInt8 := dkwX1_entry_3 ++ dktX1_entry_4
def dkwX1_entry_2 : List UInt8 := [44, 185, 0, 45, 1, 0, 16, 40, 162, 0, 7, 4, 167, 0, 4, 3, 184, 0, 145, 45, 198, 0, 11, 44]
abbrev dktX1_entry_2 : List UInt8 := dkwX1_entry_2 ++ dktX1_entry_3
def dkwX1_entry_1 : List UInt8 := [158, 0, 7, 4, 167, 0, 4, 3, 184, 0, 164, 44, 42, 180, 0, 83, 184, 0, 250, 78, 45, 199, 0, 14]
abbrev dktX1_entry_1 : List UInt8 := dkwX1_entry_1 ++ dktX1_entry_2
def dkwX1_entry_0 : List UInt8 := [42, 27, 182, 0, 246, 77, 42, 180, 0, 83, 182, 0, 187, 154, 0, 17, 42, 180, 0, 89, 182, 0, 207]
abbrev dktX1_entry_0 : List UInt8 := dkwX1_entry_0 ++ dktX1_entry_1
theorem dksX1_entry_0 : cX1_entry.data.toList.drop 0 = dktX1_entry_0 := by decide +kernel
theorem dksX1_entry_1 : cX1_entry.data.toList.drop 23 = dktX1_entry_1 := dk_seg dksX1_entry_0 23 rfl rfl
theorem dksX1_entry_2 : cX1_entry.data.toList.drop 47 = dktX1_entry_2 := dk_seg dksX1_entry_1 24 rfl rfl
theorem dksX1_entry_3 : cX1_entry.data.toList.drop 71 = dktX1_entry_3 := dk_seg dksX1_entry_2 24 rfl rfl
theorem dksX1_entry_4 : cX1_entry.data.toList.drop 94 = dktX1_entry_4 := dk_seg dksX1_entry_3 23 rfl rfl
theorem dksX1_entry_5 : cX1_entry.data.toList.drop 118 = dktX1_entry_5 := dk_seg dksX1_entry_4 24 rfl rfl
theorem dX1_entry_0 : decode cX1_entry 0 = .ok (.aload_n 0, 1) := dk_42 (dk_at dksX1_entry_0 0 rfl rfl)
theorem dX1_entry_1 : decode cX1_entry 1 = .ok (.iload_n 1, 1) := dk_27 (dk_at dksX1_entry_0 1 rfl rfl)
theorem dX1_entry_2 : decode cX1_entry 2 = .ok (.invokevirtual 246, 3) := dk_182 0 246 (dk_at dksX1_entry_0 2 rfl rfl)
theorem dX1_entry_5 : decode cX1_entry 5 = .ok (.astore_n 2, 1) := dk_77 (dk_at dksX1_entry_0 5 rfl rfl)
theorem dX1_entry_6 : decode cX1_entry 6 = .ok (.aload_n 0, 1) := dk_42 (dk_at dksX1_entry_0 6 rfl rfl)
theorem dX1_entry_7 : decode cX1_entry 7 = .ok (.getfield 83, 3) := dk_180 0 83 (dk_at dksX1_entry_0 7 rfl rfl)
theorem dX1_entry_10 : decode cX1_entry 10 = .ok (.invokevirtual 187, 3) := dk_182 0 187 (dk_at dksX1_entry_0 10 rfl rfl)
theorem dX1_entry_13 : decode cX1_entry 13 = .ok (.ifCond .ne 17, 3) := dk_154 0 17 (dk_at dksX1_entry_0 13 rfl rfl)
theorem dX1_entry_16 : decode cX1_entry 16 = .ok (.aload_n 0, 1) := dk_42 (dk_at dksX1_entry_0 16 rfl rfl)
theorem dX1_entry_17 : decode cX1_entry 17 = .ok (.getfield 89, 3) := dk_180 0 89 (dk_at dksX1_entry_0 17 rfl rfl)
theorem dX1_entry_20 : decode cX1_entry 20 = .ok (.invokevirtual 207, 3) := dk_182 0 207 (dk_at dksX1_entry_0 20 rfl rfl)
theorem dX1_entry_23 : decode cX1_entry 23 = .ok (.ifCond .le 7, 3) := dk_158 0 7 (dk_at dksX1_entry_1 0 rfl rfl)
theorem dX1_entry_26 : decode cX1_entry 26 = .ok (.iconst 1, 1) := dk_4 (dk_at dksX1_entry_1 3 rfl rfl)
theorem dX1_entry_27 : decode cX1_entry 27 = .ok (.goto 4, 3) := dk_167 0 4 (dk_at dksX1_entry_1 4 rfl rfl)
theorem dX1_entry_30 : decode cX1_entry 30 = .ok (.iconst 0, 1) := dk_3 (dk_at dksX1_entry_1 7 rfl rfl)
theorem dX1_entry_31 : decode cX1_entry 31 = .ok (.invokestatic 164, 3) := dk_184 0 164 (dk_at dksX1_entry_1 8 rfl rfl)
theorem dX1_entry_34 : decode cX1_entry 34 = .ok (.aload_n 2, 1) := dk_44 (dk_at dksX1_entry_1 11 rfl rfl)
theorem dX1_entry_35 : decode cX1_entry 35 = .ok (.aload_n 0, 1) := dk_42 (dk_at dksX1_entry_1 12 rfl rfl)
theorem dX1_entry_36 : decode cX1_entry 36 = .ok (.getfield 83, 3) := dk_180 0 83 (dk_at dksX1_entry_1 13 rfl rfl)
theorem dX1_entry_39 : decode cX1_entry 39 = .ok (.invokestatic 250, 3) := dk_184 0 250 (dk_at dksX1_entry_1 16 rfl rfl)
theorem dX1_entry_42 : decode cX1_entry 42 = .ok (.astore_n 3, 1) := dk_78 (dk_at dksX1_entry_1 19 rfl rfl)
theorem dX1_entry_43 : decode cX1_entry 43 = .ok (.aload_n 3, 1) := dk_45 (dk_at dksX1_entry_1 20 rfl rfl)
theorem dX1_entry_44 : decode cX1_entry 44 = .ok (.ifnonnull 14, 3) := dk_199 0 14 (dk_at dksX1_entry_1 21 rfl rfl)
theorem dX1_entry_47 : decode cX1_entry 47 = .ok (.aload_n 2, 1) := dk_44 (dk_at dksX1_entry_2 0 rfl rfl)
theorem dX1_entry_48 : decode cX1_entry 48 = .ok (.invokeinterface 45 1, 5) := by decide +kernel
theorem dX1_entry_53 : decode cX1_entry 53 = .ok (.bipush 40, 2) := dk_16 40 (dk_at dksX1_entry_2 6 rfl rfl)
theorem dX1_entry_55 : decode cX1_entry 55 = .ok (.if_icmp .ge 7, 3) := dk_162 0 7 (dk_at dksX1_entry_2 8 rfl rfl)
theorem dX1_entry_58 : decode cX1_entry 58 = .ok (.iconst 1, 1) := dk_4 (dk_at dksX1_entry_2 11 rfl rfl)
theorem dX1_entry_59 : decode cX1_entry 59 = .ok (.goto 4, 3) := dk_167 0 4 (dk_at dksX1_entry_2 12 rfl rfl)
theorem dX1_entry_62 : decode cX1_entry 62 = .ok (.iconst 0, 1) := dk_3 (dk_at dksX1_entry_2 15 rfl rfl)
theorem dX1_entry_63 : decode cX1_entry 63 = .ok (.invokestatic 145, 3) := dk_184 0 145 (dk_at dksX1_entry_2 16 rfl rfl)
theorem dX1_entry_66 : decode cX1_entry 66 = .ok (.aload_n 3, 1) := dk_45 (dk_at dksX1_entry_2 19 rfl rfl)
theorem dX1_entry_67 : decode cX1_entry 67 = .ok (.ifnull 11, 3) := dk_198 0 11 (dk_at dksX1_entry_2 20 rfl rfl)
theorem dX1_entry_70 : decode cX1_entry 70 = .ok (.aload_n 2, 1) := dk_44 (dk_at dksX1_entry_2 23 rfl rfl)
theorem dX1_entry_71 : decode cX1_entry 71 = .ok (.aload_n 3, 1) := dk_45 (dk_at dksX1_entry_3 0 rfl rfl)
theorem dX1_entry_72 : decode cX1_entry 72 = .ok (.invokeinterface 254 2, 5) := by decide +kernel
theorem dX1_entry_77 : decode cX1_entry 77 = .ok (.pop, 1) := dk_87 (dk_at dksX1_entry_3 6 rfl rfl)
theorem dX1_entry_78 : decode cX1_entry 78 = .ok (.aload_n 2, 1) := dk_44 (dk_at dksX1_entry_3 7 rfl rfl)
theorem dX1_entry_79 : decode cX1_entry 79 = .ok (.new 238, 3) := dk_187 0 238 (dk_at dksX1_entry_3 8 rfl rfl)
theorem dX1_entry_82 : decode cX1_entry 82 = .ok (.dup, 1) := dk_89 (dk_at dksX1_entry_3 11 rfl rfl)
theorem dX1_entry_83 : decode cX1_entry 83 = .ok (.aload_n 0, 1) := dk_42 (dk_at dksX1_entry_3 12 rfl rfl)
theorem dX1_entry_84 : decode cX1_entry 84 = .ok (.getfield 83, 3) := dk_180 0 83 (dk_at dksX1_entry_3 13 rfl rfl)
theorem dX1_entry_87 : decode cX1_entry 87 = .ok (.invokestatic 256, 3) := dk_184 1 0 (dk_at dksX1_entry_3 16 rfl rfl)
theorem dX1_entry_90 : decode cX1_entry 90 = .ok (.aload_n 0, 1) := dk_42 (dk_at dksX1_entry_3 19 rfl rfl)
theorem dX1_entry_91 : decode cX1_entry 91 = .ok (.getfield 89, 3) := dk_180 0 89 (dk_at dksX1_entry_3 20 rfl rfl)
theorem dX1_entry_94 : decode cX1_entry 94 = .ok (.invokevirtual 260, 3) := dk_182 1 4 (dk_at dksX1_entry_4 0 rfl rfl)
theorem dX1_entry_97 : decode cX1_entry 97 = .ok (.invokespecial 264, 3) := dk_183 1 8 (dk_at dksX1_entry_4 3 rfl rfl)
theorem dX1_entry_100 : decode cX1_entry 100 = .ok (.invokeinterface 134 2, 5) := by decide +kernel
theorem dX1_entry_105 : decode cX1_entry 105 = .ok (.pop, 1) := dk_87 (dk_at dksX1_entry_4 11 rfl rfl)
theorem dX1_entry_106 : decode cX1_entry 106 = .ok (.aload_n 0, 1) := dk_42 (dk_at dksX1_entry_4 12 rfl rfl)
theorem dX1_entry_107 : decode cX1_entry 107 = .ok (.invokevirtual 214, 3) := dk_182 0 214 (dk_at dksX1_entry_4 13 rfl rfl)
theorem dX1_entry_110 : decode cX1_entry 110 = .ok (.aload_n 0, 1) := dk_42 (dk_at dksX1_entry_4 16 rfl rfl)
theorem dX1_entry_111 : decode cX1_entry 111 = .ok (.invokevirtual 182, 3) := dk_182 0 182 (dk_at dksX1_entry_4 17 rfl rfl)
theorem dX1_entry_114 : decode cX1_entry 114 = .ok (.aload_n 3, 1) := dk_45 (dk_at dksX1_entry_4 20 rfl rfl)
theorem dX1_entry_115 : decode cX1_entry 115 = .ok (.ifnull 7, 3) := dk_198 0 7 (dk_at dksX1_entry_4 21 rfl rfl)
theorem dX1_entry_118 : decode cX1_entry 118 = .ok (.iconst 1, 1) := dk_4 (dk_at dksX1_entry_5 0 rfl rfl)
theorem dX1_entry_119 : decode cX1_entry 119 = .ok (.goto 4, 3) := dk_167 0 4 (dk_at dksX1_entry_5 1 rfl rfl)
theorem dX1_entry_122 : decode cX1_entry 122 = .ok (.iconst 0, 1) := dk_3 (dk_at dksX1_entry_5 4 rfl rfl)
theorem dX1_entry_123 : decode cX1_entry 123 = .ok (.ireturn, 1) := dk_172 (dk_at dksX1_entry_5 5 rfl rfl)
abbrev cX1_layerAt : ByteArray := prog_1_method_30_code
def yX1_layerAt : MethodName := ⟨RX1, "layerAt", "(I)Ljava/util/List;"⟩
def dkwX1_layerAt_1 : List UInt8 := [192, 0, 46, 176]
abbrev dktX1_layerAt_1 : List UInt8 := dkwX1_layerAt_1 ++ []
def dkwX1_layerAt_0 : List UInt8 := [27, 133, 9, 20, 0, 223, 184, 0, 153, 184, 0, 157, 42, 180, 0, 75, 27, 185, 0, 51, 2, 0]
abbrev dktX1_layerAt_0 : List UInt8 := dkwX1_layerAt_0 ++ dktX1_layerAt_1
theorem dksX1_layerAt_0 : cX1_layerAt.data.toList.drop 0 = dktX1_layerAt_0 := by decide +kernel
theorem dksX1_layerAt_1 : cX1_layerAt.data.toList.drop 22 = dktX1_layerAt_1 := dk_seg dksX1_layerAt_0 22 rfl rfl
theorem dX1_layerAt_0 : decode cX1_layerAt 0 = .ok (.iload_n 1, 1) := dk_27 (dk_at dksX1_layerAt_0 0 rfl rfl)
theorem dX1_layerAt_1 : decode cX1_layerAt 1 = .ok (.i2l, 1) := dk_133 (dk_at dksX1_layerAt_0 1 rfl rfl)
theorem dX1_layerAt_2 : decode cX1_layerAt 2 = .ok (.lconst 0, 1) := dk_9 (dk_at dksX1_layerAt_0 2 rfl rfl)
theorem dX1_layerAt_3 : decode cX1_layerAt 3 = .ok (.ldc2_w 223, 3) := dk_20 0 223 (dk_at dksX1_layerAt_0 3 rfl rfl)
theorem dX1_layerAt_6 : decode cX1_layerAt 6 = .ok (.invokestatic 153, 3) := dk_184 0 153 (dk_at dksX1_layerAt_0 6 rfl rfl)
theorem dX1_layerAt_9 : decode cX1_layerAt 9 = .ok (.invokestatic 157, 3) := dk_184 0 157 (dk_at dksX1_layerAt_0 9 rfl rfl)
theorem dX1_layerAt_12 : decode cX1_layerAt 12 = .ok (.aload_n 0, 1) := dk_42 (dk_at dksX1_layerAt_0 12 rfl rfl)
theorem dX1_layerAt_13 : decode cX1_layerAt 13 = .ok (.getfield 75, 3) := dk_180 0 75 (dk_at dksX1_layerAt_0 13 rfl rfl)
theorem dX1_layerAt_16 : decode cX1_layerAt 16 = .ok (.iload_n 1, 1) := dk_27 (dk_at dksX1_layerAt_0 16 rfl rfl)
theorem dX1_layerAt_17 : decode cX1_layerAt 17 = .ok (.invokeinterface 51 2, 5) := by decide +kernel
theorem dX1_layerAt_22 : decode cX1_layerAt 22 = .ok (.checkcast 46, 3) := dk_192 0 46 (dk_at dksX1_layerAt_1 0 rfl rfl)
theorem dX1_layerAt_25 : decode cX1_layerAt 25 = .ok (.areturn, 1) := dk_176 (dk_at dksX1_layerAt_1 3 rfl rfl)
abbrev cX1_alternative : ByteArray := prog_1_method_33_code
def yX1_alternative : MethodName := ⟨RX1, "alternative", "(IC)I"⟩
def dkwX1_alternative_4 : List UInt8 := [182, 0, 182, 25, 4, 180, 1, 11, 182, 0, 172, 172]
abbrev dktX1_alternative_4 : List UInt8 := dkwX1_alternative_4 ++ []
def dkwX1_alternative_3 : List UInt8 := [187, 1, 14, 89, 28, 42, 180, 0, 89, 182, 1, 4, 183, 1, 16, 182, 0, 181, 87, 42, 182, 0, 214, 42]
abbrev dktX1_alternative_3 : List UInt8 := dkwX1_alternative_3 ++ dktX1_alternative_4
def dkwX1_alternative_2 : List UInt8 := [180, 1, 11, 182, 0, 172, 6, 162, 0, 7, 4, 167, 0, 4, 3, 184, 0, 145, 25, 4, 180, 1, 11]
abbrev dktX1_alternative_2 : List UInt8 := dkwX1_alternative_2 ++ dktX1_alternative_3
def dkwX1_alternative_1 : List UInt8 := [180, 0, 89, 182, 0, 207, 158, 0, 12, 25, 4, 198, 0, 7, 4, 167, 0, 4, 3, 184, 0, 164, 25, 4]
abbrev dktX1_alternative_1 : List UInt8 := dkwX1_alternative_1 ++ dktX1_alternative_2
def dkwX1_alternative_0 : List UInt8 := [42, 27, 182, 0, 246, 78, 28, 184, 0, 22, 184, 0, 138, 45, 42, 180, 0, 83, 184, 0, 250, 58, 4, 42]
abbrev dktX1_alternative_0 : List UInt8 := dkwX1_alternative_0 ++ dktX1_alternative_1
theorem dksX1_alternative_0 : cX1_alternative.data.toList.drop 0 = dktX1_alternative_0 := by decide +kernel
theorem dksX1_alternative_1 : cX1_alternative.data.toList.drop 24 = dktX1_alternative_1 := dk_seg dksX1_alternative_0 24 rfl rfl
theorem dksX1_alternative_2 : cX1_alternative.data.toList.drop 48 = dktX1_alternative_2 := dk_seg dksX1_alternative_1 24 rfl rfl
theorem dksX1_alternative_3 : cX1_alternative.data.toList.drop 71 = dktX1_alternative_3 := dk_seg dksX1_alternative_2 23 rfl rfl
theorem dksX1_alternative_4 : cX1_alternative.data.toList.drop 95 = dktX1_alternative_4 := dk_seg dksX1_alternative_3 24 rfl rfl
theorem dX1_alternative_0 : decode cX1_alternative 0 = .ok (.aload_n 0, 1) := dk_42 (dk_at dksX1_alternative_0 0 rfl rfl)
theorem dX1_alternative_1 : decode cX1_alternative 1 = .ok (.iload_n 1, 1) := dk_27 (dk_at dksX1_alternative_0 1 rfl rfl)
theorem dX1_alternative_2 : decode cX1_alternative 2 = .ok (.invokevirtual 246, 3) := dk_182 0 246 (dk_at dksX1_alternative_0 2 rfl rfl)
theorem dX1_alternative_5 : decode cX1_alternative 5 = .ok (.astore_n 3, 1) := dk_78 (dk_at dksX1_alternative_0 5 rfl rfl)
theorem dX1_alternative_6 : decode cX1_alternative 6 = .ok (.iload_n 2, 1) := dk_28 (dk_at dksX1_alternative_0 6 rfl rfl)
theorem dX1_alternative_7 : decode cX1_alternative 7 = .ok (.invokestatic 22, 3) := dk_184 0 22 (dk_at dksX1_alternative_0 7 rfl rfl)
theorem dX1_alternative_10 : decode cX1_alternative 10 = .ok (.invokestatic 138, 3) := dk_184 0 138 (dk_at dksX1_alternative_0 10 rfl rfl)
theorem dX1_alternative_13 : decode cX1_alternative 13 = .ok (.aload_n 3, 1) := dk_45 (dk_at dksX1_alternative_0 13 rfl rfl)
theorem dX1_alternative_14 : decode cX1_alternative 14 = .ok (.aload_n 0, 1) := dk_42 (dk_at dksX1_alternative_0 14 rfl rfl)
theorem dX1_alternative_15 : decode cX1_alternative 15 = .ok (.getfield 83, 3) := dk_180 0 83 (dk_at dksX1_alternative_0 15 rfl rfl)
theorem dX1_alternative_18 : decode cX1_alternative 18 = .ok (.invokestatic 250, 3) := dk_184 0 250 (dk_at dksX1_alternative_0 18 rfl rfl)
theorem dX1_alternative_21 : decode cX1_alternative 21 = .ok (.astore 4, 2) := dk_58 4 (dk_at dksX1_alternative_0 21 rfl rfl)
theorem dX1_alternative_23 : decode cX1_alternative 23 = .ok (.aload_n 0, 1) := dk_42 (dk_at dksX1_alternative_0 23 rfl rfl)
theorem dX1_alternative_24 : decode cX1_alternative 24 = .ok (.getfield 89, 3) := dk_180 0 89 (dk_at dksX1_alternative_1 0 rfl rfl)
theorem dX1_alternative_27 : decode cX1_alternative 27 = .ok (.invokevirtual 207, 3) := dk_182 0 207 (dk_at dksX1_alternative_1 3 rfl rfl)
theorem dX1_alternative_30 : decode cX1_alternative 30 = .ok (.ifCond .le 12, 3) := dk_158 0 12 (dk_at dksX1_alternative_1 6 rfl rfl)
theorem dX1_alternative_33 : decode cX1_alternative 33 = .ok (.aload 4, 2) := dk_25 4 (dk_at dksX1_alternative_1 9 rfl rfl)
theorem dX1_alternative_35 : decode cX1_alternative 35 = .ok (.ifnull 7, 3) := dk_198 0 7 (dk_at dksX1_alternative_1 11 rfl rfl)
theorem dX1_alternative_38 : decode cX1_alternative 38 = .ok (.iconst 1, 1) := dk_4 (dk_at dksX1_alternative_1 14 rfl rfl)
theorem dX1_alternative_39 : decode cX1_alternative 39 = .ok (.goto 4, 3) := dk_167 0 4 (dk_at dksX1_alternative_1 15 rfl rfl)
theorem dX1_alternative_42 : decode cX1_alternative 42 = .ok (.iconst 0, 1) := dk_3 (dk_at dksX1_alternative_1 18 rfl rfl)
theorem dX1_alternative_43 : decode cX1_alternative 43 = .ok (.invokestatic 164, 3) := dk_184 0 164 (dk_at dksX1_alternative_1 19 rfl rfl)
theorem dX1_alternative_46 : decode cX1_alternative 46 = .ok (.aload 4, 2) := dk_25 4 (dk_at dksX1_alternative_1 22 rfl rfl)
theorem dX1_alternative_48 : decode cX1_alternative 48 = .ok (.getfield 267, 3) := dk_180 1 11 (dk_at dksX1_alternative_2 0 rfl rfl)
theorem dX1_alternative_51 : decode cX1_alternative 51 = .ok (.invokevirtual 172, 3) := dk_182 0 172 (dk_at dksX1_alternative_2 3 rfl rfl)
theorem dX1_alternative_54 : decode cX1_alternative 54 = .ok (.iconst 3, 1) := dk_6 (dk_at dksX1_alternative_2 6 rfl rfl)
theorem dX1_alternative_55 : decode cX1_alternative 55 = .ok (.if_icmp .ge 7, 3) := dk_162 0 7 (dk_at dksX1_alternative_2 7 rfl rfl)
theorem dX1_alternative_58 : decode cX1_alternative 58 = .ok (.iconst 1, 1) := dk_4 (dk_at dksX1_alternative_2 10 rfl rfl)
theorem dX1_alternative_59 : decode cX1_alternative 59 = .ok (.goto 4, 3) := dk_167 0 4 (dk_at dksX1_alternative_2 11 rfl rfl)
theorem dX1_alternative_62 : decode cX1_alternative 62 = .ok (.iconst 0, 1) := dk_3 (dk_at dksX1_alternative_2 14 rfl rfl)
theorem dX1_alternative_63 : decode cX1_alternative 63 = .ok (.invokestatic 145, 3) := dk_184 0 145 (dk_at dksX1_alternative_2 15 rfl rfl)
theorem dX1_alternative_66 : decode cX1_alternative 66 = .ok (.aload 4, 2) := dk_25 4 (dk_at dksX1_alternative_2 18 rfl rfl)
theorem dX1_alternative_68 : decode cX1_alternative 68 = .ok (.getfield 267, 3) := dk_180 1 11 (dk_at dksX1_alternative_2 20 rfl rfl)
theorem dX1_alternative_71 : decode cX1_alternative 71 = .ok (.new 270, 3) := dk_187 1 14 (dk_at dksX1_alternative_3 0 rfl rfl)
theorem dX1_alternative_74 : decode cX1_alternative 74 = .ok (.dup, 1) := dk_89 (dk_at dksX1_alternative_3 3 rfl rfl)
theorem dX1_alternative_75 : decode cX1_alternative 75 = .ok (.iload_n 2, 1) := dk_28 (dk_at dksX1_alternative_3 4 rfl rfl)
theorem dX1_alternative_76 : decode cX1_alternative 76 = .ok (.aload_n 0, 1) := dk_42 (dk_at dksX1_alternative_3 5 rfl rfl)
theorem dX1_alternative_77 : decode cX1_alternative 77 = .ok (.getfield 89, 3) := dk_180 0 89 (dk_at dksX1_alternative_3 6 rfl rfl)
theorem dX1_alternative_80 : decode cX1_alternative 80 = .ok (.invokevirtual 260, 3) := dk_182 1 4 (dk_at dksX1_alternative_3 9 rfl rfl)
theorem dX1_alternative_83 : decode cX1_alternative 83 = .ok (.invokespecial 272, 3) := dk_183 1 16 (dk_at dksX1_alternative_3 12 rfl rfl)
theorem dX1_alternative_86 : decode cX1_alternative 86 = .ok (.invokevirtual 181, 3) := dk_182 0 181 (dk_at dksX1_alternative_3 15 rfl rfl)
theorem dX1_alternative_89 : decode cX1_alternative 89 = .ok (.pop, 1) := dk_87 (dk_at dksX1_alternative_3 18 rfl rfl)
theorem dX1_alternative_90 : decode cX1_alternative 90 = .ok (.aload_n 0, 1) := dk_42 (dk_at dksX1_alternative_3 19 rfl rfl)
theorem dX1_alternative_91 : decode cX1_alternative 91 = .ok (.invokevirtual 214, 3) := dk_182 0 214 (dk_at dksX1_alternative_3 20 rfl rfl)
theorem dX1_alternative_94 : decode cX1_alternative 94 = .ok (.aload_n 0, 1) := dk_42 (dk_at dksX1_alternative_3 23 rfl rfl)
theorem dX1_alternative_95 : decode cX1_alternative 95 = .ok (.invokevirtual 182, 3) := dk_182 0 182 (dk_at dksX1_alternative_4 0 rfl rfl)
theorem dX1_alternative_98 : decode cX1_alternative 98 = .ok (.aload 4, 2) := dk_25 4 (dk_at dksX1_alternative_4 3 rfl rfl)
theorem dX1_alternative_100 : decode cX1_alternative 100 = .ok (.getfield 267, 3) := dk_180 1 11 (dk_at dksX1_alternative_4 5 rfl rfl)
theorem dX1_alternative_103 : decode cX1_alternative 103 = .ok (.invokevirtual 172, 3) := dk_182 0 172 (dk_at dksX1_alternative_4 8 rfl rfl)
theorem dX1_alternative_106 : decode cX1_alternative 106 = .ok (.ireturn, 1) := dk_172 (dk_at dksX1_alternative_4 11 rfl rfl)
abbrev cX1_remove : ByteArray := prog_1_method_34_code
def yX1_remove : MethodName := ⟨RX1, "remove", "(I)Z"⟩
def dkwX1_remove_1 : List UInt8 := [45, 185, 0, 254, 2, 0, 87, 42, 182, 0, 182, 45, 198, 0, 7, 4, 167, 0, 4, 3, 172]
abbrev dktX1_remove_1 : List UInt8 := dkwX1_remove_1 ++ []
def dkwX1_remove_0 : List UInt8 := [42, 27, 182, 0, 246, 77, 44, 42, 180, 0, 83, 184, 0, 250, 78, 42, 182, 0, 214, 45, 198, 0, 15, 44]
abbrev dktX1_remove_0 : List UInt8 := dkwX1_remove_0 ++ dktX1_remove_1
theorem dksX1_remove_0 : cX1_remove.data.toList.drop 0 = dktX1_remove_0 := by decide +kernel
theorem dksX1_remove_1 : cX1_remove.data.toList.drop 24 = dktX1_remove_1 := dk_seg dksX1_remove_0 24 rfl rfl
theorem dX1_remove_0 : decode cX1_remove 0 = .ok (.aload_n 0, 1) := dk_42 (dk_at dksX1_remove_0 0 rfl rfl)
theorem dX1_remove_1 : decode cX1_remove 1 = .ok (.iload_n 1, 1) := dk_27 (dk_at dksX1_remove_0 1 rfl rfl)
theorem dX1_remove_2 : decode cX1_remove 2 = .ok (.invokevirtual 246, 3) := dk_182 0 246 (dk_at dksX1_remove_0 2 rfl rfl)
theorem dX1_remove_5 : decode cX1_remove 5 = .ok (.astore_n 2, 1) := dk_77 (dk_at dksX1_remove_0 5 rfl rfl)
theorem dX1_remove_6 : decode cX1_remove 6 = .ok (.aload_n 2, 1) := dk_44 (dk_at dksX1_remove_0 6 rfl rfl)
theorem dX1_remove_7 : decode cX1_remove 7 = .ok (.aload_n 0, 1) := dk_42 (dk_at dksX1_remove_0 7 rfl rfl)
theorem dX1_remove_8 : decode cX1_remove 8 = .ok (.getfield 83, 3) := dk_180 0 83 (dk_at dksX1_remove_0 8 rfl rfl)
theorem dX1_remove_11 : decode cX1_remove 11 = .ok (.invokestatic 250, 3) := dk_184 0 250 (dk_at dksX1_remove_0 11 rfl rfl)
theorem dX1_remove_14 : decode cX1_remove 14 = .ok (.astore_n 3, 1) := dk_78 (dk_at dksX1_remove_0 14 rfl rfl)
theorem dX1_remove_15 : decode cX1_remove 15 = .ok (.aload_n 0, 1) := dk_42 (dk_at dksX1_remove_0 15 rfl rfl)
theorem dX1_remove_16 : decode cX1_remove 16 = .ok (.invokevirtual 214, 3) := dk_182 0 214 (dk_at dksX1_remove_0 16 rfl rfl)
theorem dX1_remove_19 : decode cX1_remove 19 = .ok (.aload_n 3, 1) := dk_45 (dk_at dksX1_remove_0 19 rfl rfl)
theorem dX1_remove_20 : decode cX1_remove 20 = .ok (.ifnull 15, 3) := dk_198 0 15 (dk_at dksX1_remove_0 20 rfl rfl)
theorem dX1_remove_23 : decode cX1_remove 23 = .ok (.aload_n 2, 1) := dk_44 (dk_at dksX1_remove_0 23 rfl rfl)
theorem dX1_remove_24 : decode cX1_remove 24 = .ok (.aload_n 3, 1) := dk_45 (dk_at dksX1_remove_1 0 rfl rfl)
theorem dX1_remove_25 : decode cX1_remove 25 = .ok (.invokeinterface 254 2, 5) := by decide +kernel
theorem dX1_remove_30 : decode cX1_remove 30 = .ok (.pop, 1) := dk_87 (dk_at dksX1_remove_1 6 rfl rfl)
theorem dX1_remove_31 : decode cX1_remove 31 = .ok (.aload_n 0, 1) := dk_42 (dk_at dksX1_remove_1 7 rfl rfl)
theorem dX1_remove_32 : decode cX1_remove 32 = .ok (.invokevirtual 182, 3) := dk_182 0 182 (dk_at dksX1_remove_1 8 rfl rfl)
theorem dX1_remove_35 : decode cX1_remove 35 = .ok (.aload_n 3, 1) := dk_45 (dk_at dksX1_remove_1 11 rfl rfl)
theorem dX1_remove_36 : decode cX1_remove 36 = .ok (.ifnull 7, 3) := dk_198 0 7 (dk_at dksX1_remove_1 12 rfl rfl)
theorem dX1_remove_39 : decode cX1_remove 39 = .ok (.iconst 1, 1) := dk_4 (dk_at dksX1_remove_1 15 rfl rfl)
theorem dX1_remove_40 : decode cX1_remove 40 = .ok (.goto 4, 3) := dk_167 0 4 (dk_at dksX1_remove_1 16 rfl rfl)
theorem dX1_remove_43 : decode cX1_remove 43 = .ok (.iconst 0, 1) := dk_3 (dk_at dksX1_remove_1 19 rfl rfl)
theorem dX1_remove_44 : decode cX1_remove 44 = .ok (.ireturn, 1) := dk_172 (dk_at dksX1_remove_1 20 rfl rfl)
abbrev cX1_turn : ByteArray := prog_1_method_35_code
def yX1_turn : MethodName := ⟨RX1, "turn", "(IZ)Z"⟩
def dkwX1_turn_1 : List UInt8 := [29, 172]
abbrev dktX1_turn_1 : List UInt8 := dkwX1_turn_1 ++ []
def dkwX1_turn_0 : List UInt8 := [42, 27, 182, 0, 246, 87, 42, 180, 0, 79, 27, 51, 62, 42, 180, 0, 79, 27, 28, 84, 42, 182, 0, 182]
abbrev dktX1_turn_0 : List UInt8 := dkwX1_turn_0 ++ dktX1_turn_1
theorem dksX1_turn_0 : cX1_turn.data.toList.drop 0 = dktX1_turn_0 := by decide +kernel
theorem dksX1_turn_1 : cX1_turn.data.toList.drop 24 = dktX1_turn_1 := dk_seg dksX1_turn_0 24 rfl rfl
theorem dX1_turn_0 : decode cX1_turn 0 = .ok (.aload_n 0, 1) := dk_42 (dk_at dksX1_turn_0 0 rfl rfl)
theorem dX1_turn_1 : decode cX1_turn 1 = .ok (.iload_n 1, 1) := dk_27 (dk_at dksX1_turn_0 1 rfl rfl)
theorem dX1_turn_2 : decode cX1_turn 2 = .ok (.invokevirtual 246, 3) := dk_182 0 246 (dk_at dksX1_turn_0 2 rfl rfl)
theorem dX1_turn_5 : decode cX1_turn 5 = .ok (.pop, 1) := dk_87 (dk_at dksX1_turn_0 5 rfl rfl)
theorem dX1_turn_6 : decode cX1_turn 6 = .ok (.aload_n 0, 1) := dk_42 (dk_at dksX1_turn_0 6 rfl rfl)
theorem dX1_turn_7 : decode cX1_turn 7 = .ok (.getfield 79, 3) := dk_180 0 79 (dk_at dksX1_turn_0 7 rfl rfl)
theorem dX1_turn_10 : decode cX1_turn 10 = .ok (.iload_n 1, 1) := dk_27 (dk_at dksX1_turn_0 10 rfl rfl)
theorem dX1_turn_11 : decode cX1_turn 11 = .ok (.baload, 1) := dk_51 (dk_at dksX1_turn_0 11 rfl rfl)
theorem dX1_turn_12 : decode cX1_turn 12 = .ok (.istore_n 3, 1) := dk_62 (dk_at dksX1_turn_0 12 rfl rfl)
theorem dX1_turn_13 : decode cX1_turn 13 = .ok (.aload_n 0, 1) := dk_42 (dk_at dksX1_turn_0 13 rfl rfl)
theorem dX1_turn_14 : decode cX1_turn 14 = .ok (.getfield 79, 3) := dk_180 0 79 (dk_at dksX1_turn_0 14 rfl rfl)
theorem dX1_turn_17 : decode cX1_turn 17 = .ok (.iload_n 1, 1) := dk_27 (dk_at dksX1_turn_0 17 rfl rfl)
theorem dX1_turn_18 : decode cX1_turn 18 = .ok (.iload_n 2, 1) := dk_28 (dk_at dksX1_turn_0 18 rfl rfl)
theorem dX1_turn_19 : decode cX1_turn 19 = .ok (.bastore, 1) := dk_84 (dk_at dksX1_turn_0 19 rfl rfl)
theorem dX1_turn_20 : decode cX1_turn 20 = .ok (.aload_n 0, 1) := dk_42 (dk_at dksX1_turn_0 20 rfl rfl)
theorem dX1_turn_21 : decode cX1_turn 21 = .ok (.invokevirtual 182, 3) := dk_182 0 182 (dk_at dksX1_turn_0 21 rfl rfl)
theorem dX1_turn_24 : decode cX1_turn 24 = .ok (.iload_n 3, 1) := dk_29 (dk_at dksX1_turn_1 0 rfl rfl)
theorem dX1_turn_25 : decode cX1_turn 25 = .ok (.ireturn, 1) := dk_172 (dk_at dksX1_turn_1 1 rfl rfl)
abbrev cX1_entries : ByteArray := prog_1_method_36_code
def yX1_entries : MethodName := ⟨RX1, "entries", "(I)I"⟩
def dkwX1_entries_0 : List UInt8 := [42, 27, 182, 0, 246, 185, 0, 45, 1, 0, 172]
abbrev dktX1_entries_0 : List UInt8 := dkwX1_entries_0 ++ []
theorem dksX1_entries_0 : cX1_entries.data.toList.drop 0 = dktX1_entries_0 := by decide +kernel
theorem dX1_entries_0 : decode cX1_entries 0 = .ok (.aload_n 0, 1) := dk_42 (dk_at dksX1_entries_0 0 rfl rfl)
theorem dX1_entries_1 : decode cX1_entries 1 = .ok (.iload_n 1, 1) := dk_27 (dk_at dksX1_entries_0 1 rfl rfl)
theorem dX1_entries_2 : decode cX1_entries 2 = .ok (.invokevirtual 246, 3) := dk_182 0 246 (dk_at dksX1_entries_0 2 rfl rfl)
theorem dX1_entries_5 : decode cX1_entries 5 = .ok (.invokeinterface 45 1, 5) := by decide +kernel
theorem dX1_entries_10 : decode cX1_entries 10 = .ok (.ireturn, 1) := dk_172 (dk_at dksX1_entries_0 10 rfl rfl)
abbrev cX1_word : ByteArray := prog_1_method_38_code
def yX1_word : MethodName := ⟨RX1, "word", "()I"⟩
def dkwX1_word_3 : List UInt8 := [182, 0, 172, 172]
abbrev dktX1_word_3 : List UInt8 := dkwX1_word_3 ++ []
def dkwX1_word_2 : List UInt8 := [180, 0, 93, 43, 182, 0, 181, 87, 42, 180, 0, 89, 3, 182, 0, 220, 42, 182, 0, 182, 42, 180, 0, 93]
abbrev dktX1_word_2 : List UInt8 := dkwX1_word_2 ++ dktX1_word_3
def dkwX1_word_1 : List UInt8 := [162, 0, 7, 4, 167, 0, 4, 3, 184, 0, 145, 42, 180, 0, 93, 43, 182, 1, 26, 154, 0, 12, 42]
abbrev dktX1_word_1 : List UInt8 := dkwX1_word_1 ++ dktX1_word_2
def dkwX1_word_0 : List UInt8 := [42, 182, 1, 23, 184, 0, 164, 42, 180, 0, 89, 182, 1, 4, 76, 42, 180, 0, 93, 182, 0, 172, 16, 60]
abbrev dktX1_word_0 : List UInt8 := dkwX1_word_0 ++ dktX1_word_1
theorem dksX1_word_0 : cX1_word.data.toList.drop 0 = dktX1_word_0 := by decide +kernel
theorem dksX1_word_1 : cX1_word.data.toList.drop 24 = dktX1_word_1 := dk_seg dksX1_word_0 24 rfl rfl
theorem dksX1_word_2 : cX1_word.data.toList.drop 47 = dktX1_word_2 := dk_seg dksX1_word_1 23 rfl rfl
theorem dksX1_word_3 : cX1_word.data.toList.drop 71 = dktX1_word_3 := dk_seg dksX1_word_2 24 rfl rfl
theorem dX1_word_0 : decode cX1_word 0 = .ok (.aload_n 0, 1) := dk_42 (dk_at dksX1_word_0 0 rfl rfl)
theorem dX1_word_1 : decode cX1_word 1 = .ok (.invokevirtual 279, 3) := dk_182 1 23 (dk_at dksX1_word_0 1 rfl rfl)
theorem dX1_word_4 : decode cX1_word 4 = .ok (.invokestatic 164, 3) := dk_184 0 164 (dk_at dksX1_word_0 4 rfl rfl)
theorem dX1_word_7 : decode cX1_word 7 = .ok (.aload_n 0, 1) := dk_42 (dk_at dksX1_word_0 7 rfl rfl)
theorem dX1_word_8 : decode cX1_word 8 = .ok (.getfield 89, 3) := dk_180 0 89 (dk_at dksX1_word_0 8 rfl rfl)
theorem dX1_word_11 : decode cX1_word 11 = .ok (.invokevirtual 260, 3) := dk_182 1 4 (dk_at dksX1_word_0 11 rfl rfl)
theorem dX1_word_14 : decode cX1_word 14 = .ok (.astore_n 1, 1) := dk_76 (dk_at dksX1_word_0 14 rfl rfl)
theorem dX1_word_15 : decode cX1_word 15 = .ok (.aload_n 0, 1) := dk_42 (dk_at dksX1_word_0 15 rfl rfl)
theorem dX1_word_16 : decode cX1_word 16 = .ok (.getfield 93, 3) := dk_180 0 93 (dk_at dksX1_word_0 16 rfl rfl)
theorem dX1_word_19 : decode cX1_word 19 = .ok (.invokevirtual 172, 3) := dk_182 0 172 (dk_at dksX1_word_0 19 rfl rfl)
theorem dX1_word_22 : decode cX1_word 22 = .ok (.bipush 60, 2) := dk_16 60 (dk_at dksX1_word_0 22 rfl rfl)
theorem dX1_word_24 : decode cX1_word 24 = .ok (.if_icmp .ge 7, 3) := dk_162 0 7 (dk_at dksX1_word_1 0 rfl rfl)
theorem dX1_word_27 : decode cX1_word 27 = .ok (.iconst 1, 1) := dk_4 (dk_at dksX1_word_1 3 rfl rfl)
theorem dX1_word_28 : decode cX1_word 28 = .ok (.goto 4, 3) := dk_167 0 4 (dk_at dksX1_word_1 4 rfl rfl)
theorem dX1_word_31 : decode cX1_word 31 = .ok (.iconst 0, 1) := dk_3 (dk_at dksX1_word_1 7 rfl rfl)
theorem dX1_word_32 : decode cX1_word 32 = .ok (.invokestatic 145, 3) := dk_184 0 145 (dk_at dksX1_word_1 8 rfl rfl)
theorem dX1_word_35 : decode cX1_word 35 = .ok (.aload_n 0, 1) := dk_42 (dk_at dksX1_word_1 11 rfl rfl)
theorem dX1_word_36 : decode cX1_word 36 = .ok (.getfield 93, 3) := dk_180 0 93 (dk_at dksX1_word_1 12 rfl rfl)
theorem dX1_word_39 : decode cX1_word 39 = .ok (.aload_n 1, 1) := dk_43 (dk_at dksX1_word_1 15 rfl rfl)
theorem dX1_word_40 : decode cX1_word 40 = .ok (.invokevirtual 282, 3) := dk_182 1 26 (dk_at dksX1_word_1 16 rfl rfl)
theorem dX1_word_43 : decode cX1_word 43 = .ok (.ifCond .ne 12, 3) := dk_154 0 12 (dk_at dksX1_word_1 19 rfl rfl)
theorem dX1_word_46 : decode cX1_word 46 = .ok (.aload_n 0, 1) := dk_42 (dk_at dksX1_word_1 22 rfl rfl)
theorem dX1_word_47 : decode cX1_word 47 = .ok (.getfield 93, 3) := dk_180 0 93 (dk_at dksX1_word_2 0 rfl rfl)
theorem dX1_word_50 : decode cX1_word 50 = .ok (.aload_n 1, 1) := dk_43 (dk_at dksX1_word_2 3 rfl rfl)
theorem dX1_word_51 : decode cX1_word 51 = .ok (.invokevirtual 181, 3) := dk_182 0 181 (dk_at dksX1_word_2 4 rfl rfl)
theorem dX1_word_54 : decode cX1_word 54 = .ok (.pop, 1) := dk_87 (dk_at dksX1_word_2 7 rfl rfl)
theorem dX1_word_55 : decode cX1_word 55 = .ok (.aload_n 0, 1) := dk_42 (dk_at dksX1_word_2 8 rfl rfl)
theorem dX1_word_56 : decode cX1_word 56 = .ok (.getfield 89, 3) := dk_180 0 89 (dk_at dksX1_word_2 9 rfl rfl)
theorem dX1_word_59 : decode cX1_word 59 = .ok (.iconst 0, 1) := dk_3 (dk_at dksX1_word_2 12 rfl rfl)
theorem dX1_word_60 : decode cX1_word 60 = .ok (.invokevirtual 220, 3) := dk_182 0 220 (dk_at dksX1_word_2 13 rfl rfl)
theorem dX1_word_63 : decode cX1_word 63 = .ok (.aload_n 0, 1) := dk_42 (dk_at dksX1_word_2 16 rfl rfl)
theorem dX1_word_64 : decode cX1_word 64 = .ok (.invokevirtual 182, 3) := dk_182 0 182 (dk_at dksX1_word_2 17 rfl rfl)
theorem dX1_word_67 : decode cX1_word 67 = .ok (.aload_n 0, 1) := dk_42 (dk_at dksX1_word_2 20 rfl rfl)
theorem dX1_word_68 : decode cX1_word 68 = .ok (.getfield 93, 3) := dk_180 0 93 (dk_at dksX1_word_2 21 rfl rfl)
theorem dX1_word_71 : decode cX1_word 71 = .ok (.invokevirtual 172, 3) := dk_182 0 172 (dk_at dksX1_word_3 0 rfl rfl)
theorem dX1_word_74 : decode cX1_word 74 = .ok (.ireturn, 1) := dk_172 (dk_at dksX1_word_3 3 rfl rfl)
abbrev cX1_isOfLetters : ByteArray := prog_1_method_37_code
def yX1_isOfLetters : MethodName := ⟨RX1, "isOfLetters", "()Z"⟩
def dkwX1_isOfLetters_2 : List UInt8 := [167, 255, 228, 27, 172]
abbrev dktX1_isOfLetters_2 : List UInt8 := dkwX1_isOfLetters_2 ++ []
def dkwX1_isOfLetters_1 : List UInt8 := [182, 0, 207, 162, 0, 23, 27, 42, 180, 0, 89, 28, 182, 1, 19, 184, 0, 22, 126, 60, 132, 2, 1]
abbrev dktX1_isOfLetters_1 : List UInt8 := dkwX1_isOfLetters_1 ++ dktX1_isOfLetters_2
def dkwX1_isOfLetters_0 : List UInt8 := [42, 180, 0, 89, 182, 0, 207, 158, 0, 7, 4, 167, 0, 4, 3, 60, 3, 61, 28, 42, 180, 0, 89]
abbrev dktX1_isOfLetters_0 : List UInt8 := dkwX1_isOfLetters_0 ++ dktX1_isOfLetters_1
theorem dksX1_isOfLetters_0 : cX1_isOfLetters.data.toList.drop 0 = dktX1_isOfLetters_0 := by decide +kernel
theorem dksX1_isOfLetters_1 : cX1_isOfLetters.data.toList.drop 23 = dktX1_isOfLetters_1 := dk_seg dksX1_isOfLetters_0 23 rfl rfl
theorem dksX1_isOfLetters_2 : cX1_isOfLetters.data.toList.drop 46 = dktX1_isOfLetters_2 := dk_seg dksX1_isOfLetters_1 23 rfl rfl
theorem dX1_isOfLetters_0 : decode cX1_isOfLetters 0 = .ok (.aload_n 0, 1) := dk_42 (dk_at dksX1_isOfLetters_0 0 rfl rfl)
theorem dX1_isOfLetters_1 : decode cX1_isOfLetters 1 = .ok (.getfield 89, 3) := dk_180 0 89 (dk_at dksX1_isOfLetters_0 1 rfl rfl)
theorem dX1_isOfLetters_4 : decode cX1_isOfLetters 4 = .ok (.invokevirtual 207, 3) := dk_182 0 207 (dk_at dksX1_isOfLetters_0 4 rfl rfl)
theorem dX1_isOfLetters_7 : decode cX1_isOfLetters 7 = .ok (.ifCond .le 7, 3) := dk_158 0 7 (dk_at dksX1_isOfLetters_0 7 rfl rfl)
theorem dX1_isOfLetters_10 : decode cX1_isOfLetters 10 = .ok (.iconst 1, 1) := dk_4 (dk_at dksX1_isOfLetters_0 10 rfl rfl)
theorem dX1_isOfLetters_11 : decode cX1_isOfLetters 11 = .ok (.goto 4, 3) := dk_167 0 4 (dk_at dksX1_isOfLetters_0 11 rfl rfl)
theorem dX1_isOfLetters_14 : decode cX1_isOfLetters 14 = .ok (.iconst 0, 1) := dk_3 (dk_at dksX1_isOfLetters_0 14 rfl rfl)
theorem dX1_isOfLetters_15 : decode cX1_isOfLetters 15 = .ok (.istore_n 1, 1) := dk_60 (dk_at dksX1_isOfLetters_0 15 rfl rfl)
theorem dX1_isOfLetters_16 : decode cX1_isOfLetters 16 = .ok (.iconst 0, 1) := dk_3 (dk_at dksX1_isOfLetters_0 16 rfl rfl)
theorem dX1_isOfLetters_17 : decode cX1_isOfLetters 17 = .ok (.istore_n 2, 1) := dk_61 (dk_at dksX1_isOfLetters_0 17 rfl rfl)
theorem dX1_isOfLetters_18 : decode cX1_isOfLetters 18 = .ok (.iload_n 2, 1) := dk_28 (dk_at dksX1_isOfLetters_0 18 rfl rfl)
theorem dX1_isOfLetters_19 : decode cX1_isOfLetters 19 = .ok (.aload_n 0, 1) := dk_42 (dk_at dksX1_isOfLetters_0 19 rfl rfl)
theorem dX1_isOfLetters_20 : decode cX1_isOfLetters 20 = .ok (.getfield 89, 3) := dk_180 0 89 (dk_at dksX1_isOfLetters_0 20 rfl rfl)
theorem dX1_isOfLetters_23 : decode cX1_isOfLetters 23 = .ok (.invokevirtual 207, 3) := dk_182 0 207 (dk_at dksX1_isOfLetters_1 0 rfl rfl)
theorem dX1_isOfLetters_26 : decode cX1_isOfLetters 26 = .ok (.if_icmp .ge 23, 3) := dk_162 0 23 (dk_at dksX1_isOfLetters_1 3 rfl rfl)
theorem dX1_isOfLetters_29 : decode cX1_isOfLetters 29 = .ok (.iload_n 1, 1) := dk_27 (dk_at dksX1_isOfLetters_1 6 rfl rfl)
theorem dX1_isOfLetters_30 : decode cX1_isOfLetters 30 = .ok (.aload_n 0, 1) := dk_42 (dk_at dksX1_isOfLetters_1 7 rfl rfl)
theorem dX1_isOfLetters_31 : decode cX1_isOfLetters 31 = .ok (.getfield 89, 3) := dk_180 0 89 (dk_at dksX1_isOfLetters_1 8 rfl rfl)
theorem dX1_isOfLetters_34 : decode cX1_isOfLetters 34 = .ok (.iload_n 2, 1) := dk_28 (dk_at dksX1_isOfLetters_1 11 rfl rfl)
theorem dX1_isOfLetters_35 : decode cX1_isOfLetters 35 = .ok (.invokevirtual 275, 3) := dk_182 1 19 (dk_at dksX1_isOfLetters_1 12 rfl rfl)
theorem dX1_isOfLetters_38 : decode cX1_isOfLetters 38 = .ok (.invokestatic 22, 3) := dk_184 0 22 (dk_at dksX1_isOfLetters_1 15 rfl rfl)
theorem dX1_isOfLetters_41 : decode cX1_isOfLetters 41 = .ok (.iand, 1) := dk_126 (dk_at dksX1_isOfLetters_1 18 rfl rfl)
theorem dX1_isOfLetters_42 : decode cX1_isOfLetters 42 = .ok (.istore_n 1, 1) := dk_60 (dk_at dksX1_isOfLetters_1 19 rfl rfl)
theorem dX1_isOfLetters_43 : decode cX1_isOfLetters 43 = .ok (.iinc 2 1, 3) := dk_132 2 1 (dk_at dksX1_isOfLetters_1 20 rfl rfl)
theorem dX1_isOfLetters_46 : decode cX1_isOfLetters 46 = .ok (.goto (-28), 3) := dk_167 255 228 (dk_at dksX1_isOfLetters_2 0 rfl rfl)
theorem dX1_isOfLetters_49 : decode cX1_isOfLetters 49 = .ok (.iload_n 1, 1) := dk_27 (dk_at dksX1_isOfLetters_2 3 rfl rfl)
theorem dX1_isOfLetters_50 : decode cX1_isOfLetters 50 = .ok (.ireturn, 1) := dk_172 (dk_at dksX1_isOfLetters_2 4 rfl rfl)
abbrev cX1_rule : ByteArray := prog_1_method_40_code
def yX1_rule : MethodName := ⟨RX1, "rule", "(C)I"⟩
def dkwX1_rule_2 : List UInt8 := [182, 0, 210, 87, 42, 182, 0, 182, 42, 180, 0, 96, 182, 0, 207, 172]
abbrev dktX1_rule_2 : List UInt8 := dkwX1_rule_2 ++ []
def dkwX1_rule_1 : List UInt8 := [184, 1, 31, 182, 1, 34, 156, 0, 7, 4, 167, 0, 4, 3, 184, 0, 164, 42, 180, 0, 96, 27]
abbrev dktX1_rule_1 : List UInt8 := dkwX1_rule_1 ++ dktX1_rule_2
def dkwX1_rule_0 : List UInt8 := [19, 1, 29, 27, 182, 0, 33, 155, 0, 7, 4, 167, 0, 4, 3, 184, 0, 138, 42, 180, 0, 96, 27]
abbrev dktX1_rule_0 : List UInt8 := dkwX1_rule_0 ++ dktX1_rule_1
theorem dksX1_rule_0 : cX1_rule.data.toList.drop 0 = dktX1_rule_0 := by decide +kernel
theorem dksX1_rule_1 : cX1_rule.data.toList.drop 23 = dktX1_rule_1 := dk_seg dksX1_rule_0 23 rfl rfl
theorem dksX1_rule_2 : cX1_rule.data.toList.drop 45 = dktX1_rule_2 := dk_seg dksX1_rule_1 22 rfl rfl
theorem dX1_rule_0 : decode cX1_rule 0 = .ok (.ldc_w 285, 3) := dk_19 1 29 (dk_at dksX1_rule_0 0 rfl rfl)
theorem dX1_rule_3 : decode cX1_rule 3 = .ok (.iload_n 1, 1) := dk_27 (dk_at dksX1_rule_0 3 rfl rfl)
theorem dX1_rule_4 : decode cX1_rule 4 = .ok (.invokevirtual 33, 3) := dk_182 0 33 (dk_at dksX1_rule_0 4 rfl rfl)
theorem dX1_rule_7 : decode cX1_rule 7 = .ok (.ifCond .lt 7, 3) := dk_155 0 7 (dk_at dksX1_rule_0 7 rfl rfl)
theorem dX1_rule_10 : decode cX1_rule 10 = .ok (.iconst 1, 1) := dk_4 (dk_at dksX1_rule_0 10 rfl rfl)
theorem dX1_rule_11 : decode cX1_rule 11 = .ok (.goto 4, 3) := dk_167 0 4 (dk_at dksX1_rule_0 11 rfl rfl)
theorem dX1_rule_14 : decode cX1_rule 14 = .ok (.iconst 0, 1) := dk_3 (dk_at dksX1_rule_0 14 rfl rfl)
theorem dX1_rule_15 : decode cX1_rule 15 = .ok (.invokestatic 138, 3) := dk_184 0 138 (dk_at dksX1_rule_0 15 rfl rfl)
theorem dX1_rule_18 : decode cX1_rule 18 = .ok (.aload_n 0, 1) := dk_42 (dk_at dksX1_rule_0 18 rfl rfl)
theorem dX1_rule_19 : decode cX1_rule 19 = .ok (.getfield 96, 3) := dk_180 0 96 (dk_at dksX1_rule_0 19 rfl rfl)
theorem dX1_rule_22 : decode cX1_rule 22 = .ok (.iload_n 1, 1) := dk_27 (dk_at dksX1_rule_0 22 rfl rfl)
theorem dX1_rule_23 : decode cX1_rule 23 = .ok (.invokestatic 287, 3) := dk_184 1 31 (dk_at dksX1_rule_1 0 rfl rfl)
theorem dX1_rule_26 : decode cX1_rule 26 = .ok (.invokevirtual 290, 3) := dk_182 1 34 (dk_at dksX1_rule_1 3 rfl rfl)
theorem dX1_rule_29 : decode cX1_rule 29 = .ok (.ifCond .ge 7, 3) := dk_156 0 7 (dk_at dksX1_rule_1 6 rfl rfl)
theorem dX1_rule_32 : decode cX1_rule 32 = .ok (.iconst 1, 1) := dk_4 (dk_at dksX1_rule_1 9 rfl rfl)
theorem dX1_rule_33 : decode cX1_rule 33 = .ok (.goto 4, 3) := dk_167 0 4 (dk_at dksX1_rule_1 10 rfl rfl)
theorem dX1_rule_36 : decode cX1_rule 36 = .ok (.iconst 0, 1) := dk_3 (dk_at dksX1_rule_1 13 rfl rfl)
theorem dX1_rule_37 : decode cX1_rule 37 = .ok (.invokestatic 164, 3) := dk_184 0 164 (dk_at dksX1_rule_1 14 rfl rfl)
theorem dX1_rule_40 : decode cX1_rule 40 = .ok (.aload_n 0, 1) := dk_42 (dk_at dksX1_rule_1 17 rfl rfl)
theorem dX1_rule_41 : decode cX1_rule 41 = .ok (.getfield 96, 3) := dk_180 0 96 (dk_at dksX1_rule_1 18 rfl rfl)
theorem dX1_rule_44 : decode cX1_rule 44 = .ok (.iload_n 1, 1) := dk_27 (dk_at dksX1_rule_1 21 rfl rfl)
theorem dX1_rule_45 : decode cX1_rule 45 = .ok (.invokevirtual 210, 3) := dk_182 0 210 (dk_at dksX1_rule_2 0 rfl rfl)
theorem dX1_rule_48 : decode cX1_rule 48 = .ok (.pop, 1) := dk_87 (dk_at dksX1_rule_2 3 rfl rfl)
theorem dX1_rule_49 : decode cX1_rule 49 = .ok (.aload_n 0, 1) := dk_42 (dk_at dksX1_rule_2 4 rfl rfl)
theorem dX1_rule_50 : decode cX1_rule 50 = .ok (.invokevirtual 182, 3) := dk_182 0 182 (dk_at dksX1_rule_2 5 rfl rfl)
theorem dX1_rule_53 : decode cX1_rule 53 = .ok (.aload_n 0, 1) := dk_42 (dk_at dksX1_rule_2 8 rfl rfl)
theorem dX1_rule_54 : decode cX1_rule 54 = .ok (.getfield 96, 3) := dk_180 0 96 (dk_at dksX1_rule_2 9 rfl rfl)
theorem dX1_rule_57 : decode cX1_rule 57 = .ok (.invokevirtual 207, 3) := dk_182 0 207 (dk_at dksX1_rule_2 12 rfl rfl)
theorem dX1_rule_60 : decode cX1_rule 60 = .ok (.ireturn, 1) := dk_172 (dk_at dksX1_rule_2 15 rfl rfl)
abbrev cX1_at : ByteArray := prog_1_method_52_code
def yX1_at : MethodName := ⟨RX1, "at", "(I)C"⟩
def dkwX1_at_0 : List UInt8 := [42, 27, 182, 1, 139, 182, 1, 143, 172]
abbrev dktX1_at_0 : List UInt8 := dkwX1_at_0 ++ []
theorem dksX1_at_0 : cX1_at.data.toList.drop 0 = dktX1_at_0 := by decide +kernel
theorem dX1_at_0 : decode cX1_at 0 = .ok (.aload_n 0, 1) := dk_42 (dk_at dksX1_at_0 0 rfl rfl)
theorem dX1_at_1 : decode cX1_at 1 = .ok (.iload_n 1, 1) := dk_27 (dk_at dksX1_at_0 1 rfl rfl)
theorem dX1_at_2 : decode cX1_at 2 = .ok (.invokevirtual 395, 3) := dk_182 1 139 (dk_at dksX1_at_0 2 rfl rfl)
theorem dX1_at_5 : decode cX1_at 5 = .ok (.invokevirtual 399, 3) := dk_182 1 143 (dk_at dksX1_at_0 5 rfl rfl)
theorem dX1_at_8 : decode cX1_at 8 = .ok (.ireturn, 1) := dk_172 (dk_at dksX1_at_0 8 rfl rfl)
abbrev cX1_signAt : ByteArray := prog_1_method_50_code
def yX1_signAt : MethodName := ⟨RX1, "signAt", "(I)LStenohall$Sign;"⟩
def dkwX1_signAt_1 : List UInt8 := [180, 0, 110, 180, 1, 135, 27, 182, 0, 200, 192, 1, 137, 176]
abbrev dktX1_signAt_1 : List UInt8 := dkwX1_signAt_1 ++ []
def dkwX1_signAt_0 : List UInt8 := [27, 133, 9, 42, 180, 0, 110, 180, 1, 135, 182, 0, 172, 4, 100, 133, 184, 0, 153, 184, 0, 157, 42]
abbrev dktX1_signAt_0 : List UInt8 := dkwX1_signAt_0 ++ dktX1_signAt_1
theorem dksX1_signAt_0 : cX1_signAt.data.toList.drop 0 = dktX1_signAt_0 := by decide +kernel
theorem dksX1_signAt_1 : cX1_signAt.data.toList.drop 23 = dktX1_signAt_1 := dk_seg dksX1_signAt_0 23 rfl rfl
theorem dX1_signAt_0 : decode cX1_signAt 0 = .ok (.iload_n 1, 1) := dk_27 (dk_at dksX1_signAt_0 0 rfl rfl)
theorem dX1_signAt_1 : decode cX1_signAt 1 = .ok (.i2l, 1) := dk_133 (dk_at dksX1_signAt_0 1 rfl rfl)
theorem dX1_signAt_2 : decode cX1_signAt 2 = .ok (.lconst 0, 1) := dk_9 (dk_at dksX1_signAt_0 2 rfl rfl)
theorem dX1_signAt_3 : decode cX1_signAt 3 = .ok (.aload_n 0, 1) := dk_42 (dk_at dksX1_signAt_0 3 rfl rfl)
theorem dX1_signAt_4 : decode cX1_signAt 4 = .ok (.getfield 110, 3) := dk_180 0 110 (dk_at dksX1_signAt_0 4 rfl rfl)
theorem dX1_signAt_7 : decode cX1_signAt 7 = .ok (.getfield 391, 3) := dk_180 1 135 (dk_at dksX1_signAt_0 7 rfl rfl)
theorem dX1_signAt_10 : decode cX1_signAt 10 = .ok (.invokevirtual 172, 3) := dk_182 0 172 (dk_at dksX1_signAt_0 10 rfl rfl)
theorem dX1_signAt_13 : decode cX1_signAt 13 = .ok (.iconst 1, 1) := dk_4 (dk_at dksX1_signAt_0 13 rfl rfl)
theorem dX1_signAt_14 : decode cX1_signAt 14 = .ok (.isub, 1) := dk_100 (dk_at dksX1_signAt_0 14 rfl rfl)
theorem dX1_signAt_15 : decode cX1_signAt 15 = .ok (.i2l, 1) := dk_133 (dk_at dksX1_signAt_0 15 rfl rfl)
theorem dX1_signAt_16 : decode cX1_signAt 16 = .ok (.invokestatic 153, 3) := dk_184 0 153 (dk_at dksX1_signAt_0 16 rfl rfl)
theorem dX1_signAt_19 : decode cX1_signAt 19 = .ok (.invokestatic 157, 3) := dk_184 0 157 (dk_at dksX1_signAt_0 19 rfl rfl)
theorem dX1_signAt_22 : decode cX1_signAt 22 = .ok (.aload_n 0, 1) := dk_42 (dk_at dksX1_signAt_0 22 rfl rfl)
theorem dX1_signAt_23 : decode cX1_signAt 23 = .ok (.getfield 110, 3) := dk_180 0 110 (dk_at dksX1_signAt_1 0 rfl rfl)
theorem dX1_signAt_26 : decode cX1_signAt 26 = .ok (.getfield 391, 3) := dk_180 1 135 (dk_at dksX1_signAt_1 3 rfl rfl)
theorem dX1_signAt_29 : decode cX1_signAt 29 = .ok (.iload_n 1, 1) := dk_27 (dk_at dksX1_signAt_1 6 rfl rfl)
theorem dX1_signAt_30 : decode cX1_signAt 30 = .ok (.invokevirtual 200, 3) := dk_182 0 200 (dk_at dksX1_signAt_1 7 rfl rfl)
theorem dX1_signAt_33 : decode cX1_signAt 33 = .ok (.checkcast 393, 3) := dk_192 1 137 (dk_at dksX1_signAt_1 10 rfl rfl)
theorem dX1_signAt_36 : decode cX1_signAt 36 = .ok (.areturn, 1) := dk_176 (dk_at dksX1_signAt_1 13 rfl rfl)
abbrev cX1_time : ByteArray := prog_1_method_53_code
def yX1_time : MethodName := ⟨RX1, "time", "(I)I"⟩
def dkwX1_time_0 : List UInt8 := [42, 27, 182, 1, 139, 182, 1, 146, 172]
abbrev dktX1_time_0 : List UInt8 := dkwX1_time_0 ++ []
theorem dksX1_time_0 : cX1_time.data.toList.drop 0 = dktX1_time_0 := by decide +kernel
theorem dX1_time_0 : decode cX1_time 0 = .ok (.aload_n 0, 1) := dk_42 (dk_at dksX1_time_0 0 rfl rfl)
theorem dX1_time_1 : decode cX1_time 1 = .ok (.iload_n 1, 1) := dk_27 (dk_at dksX1_time_0 1 rfl rfl)
theorem dX1_time_2 : decode cX1_time 2 = .ok (.invokevirtual 395, 3) := dk_182 1 139 (dk_at dksX1_time_0 2 rfl rfl)
theorem dX1_time_5 : decode cX1_time 5 = .ok (.invokevirtual 402, 3) := dk_182 1 146 (dk_at dksX1_time_0 5 rfl rfl)
theorem dX1_time_8 : decode cX1_time 8 = .ok (.ireturn, 1) := dk_172 (dk_at dksX1_time_0 8 rfl rfl)
abbrev cX1_strokesOf : ByteArray := prog_1_method_58_code
def yX1_strokesOf : MethodName := ⟨RX1, "strokesOf", "(I)I"⟩
def dkwX1_strokesOf_0 : List UInt8 := [42, 27, 182, 1, 153, 184, 1, 80, 172]
abbrev dktX1_strokesOf_0 : List UInt8 := dkwX1_strokesOf_0 ++ []
theorem dksX1_strokesOf_0 : cX1_strokesOf.data.toList.drop 0 = dktX1_strokesOf_0 := by decide +kernel
theorem dX1_strokesOf_0 : decode cX1_strokesOf 0 = .ok (.aload_n 0, 1) := dk_42 (dk_at dksX1_strokesOf_0 0 rfl rfl)
theorem dX1_strokesOf_1 : decode cX1_strokesOf 1 = .ok (.iload_n 1, 1) := dk_27 (dk_at dksX1_strokesOf_0 1 rfl rfl)
theorem dX1_strokesOf_2 : decode cX1_strokesOf 2 = .ok (.invokevirtual 409, 3) := dk_182 1 153 (dk_at dksX1_strokesOf_0 2 rfl rfl)
theorem dX1_strokesOf_5 : decode cX1_strokesOf 5 = .ok (.invokestatic 336, 3) := dk_184 1 80 (dk_at dksX1_strokesOf_0 5 rfl rfl)
theorem dX1_strokesOf_8 : decode cX1_strokesOf 8 = .ok (.ireturn, 1) := dk_172 (dk_at dksX1_strokesOf_0 8 rfl rfl)
abbrev cX1_translationAt : ByteArray := prog_1_method_57_code
def yX1_translationAt : MethodName := ⟨RX1, "translationAt", "(I)LStenohall$Translation;"⟩
def dkwX1_translationAt_1 : List UInt8 := [182, 0, 200, 192, 1, 78, 176]
abbrev dktX1_translationAt_1 : List UInt8 := dkwX1_translationAt_1 ++ []
def dkwX1_translationAt_0 : List UInt8 := [27, 133, 9, 42, 180, 0, 99, 182, 0, 172, 4, 100, 133, 184, 0, 153, 184, 0, 157, 42, 180, 0, 99, 27]
abbrev dktX1_translationAt_0 : List UInt8 := dkwX1_translationAt_0 ++ dktX1_translationAt_1
theorem dksX1_translationAt_0 : cX1_translationAt.data.toList.drop 0 = dktX1_translationAt_0 := by decide +kernel
theorem dksX1_translationAt_1 : cX1_translationAt.data.toList.drop 24 = dktX1_translationAt_1 := dk_seg dksX1_translationAt_0 24 rfl rfl
theorem dX1_translationAt_0 : decode cX1_translationAt 0 = .ok (.iload_n 1, 1) := dk_27 (dk_at dksX1_translationAt_0 0 rfl rfl)
theorem dX1_translationAt_1 : decode cX1_translationAt 1 = .ok (.i2l, 1) := dk_133 (dk_at dksX1_translationAt_0 1 rfl rfl)
theorem dX1_translationAt_2 : decode cX1_translationAt 2 = .ok (.lconst 0, 1) := dk_9 (dk_at dksX1_translationAt_0 2 rfl rfl)
theorem dX1_translationAt_3 : decode cX1_translationAt 3 = .ok (.aload_n 0, 1) := dk_42 (dk_at dksX1_translationAt_0 3 rfl rfl)
theorem dX1_translationAt_4 : decode cX1_translationAt 4 = .ok (.getfield 99, 3) := dk_180 0 99 (dk_at dksX1_translationAt_0 4 rfl rfl)
theorem dX1_translationAt_7 : decode cX1_translationAt 7 = .ok (.invokevirtual 172, 3) := dk_182 0 172 (dk_at dksX1_translationAt_0 7 rfl rfl)
theorem dX1_translationAt_10 : decode cX1_translationAt 10 = .ok (.iconst 1, 1) := dk_4 (dk_at dksX1_translationAt_0 10 rfl rfl)
theorem dX1_translationAt_11 : decode cX1_translationAt 11 = .ok (.isub, 1) := dk_100 (dk_at dksX1_translationAt_0 11 rfl rfl)
theorem dX1_translationAt_12 : decode cX1_translationAt 12 = .ok (.i2l, 1) := dk_133 (dk_at dksX1_translationAt_0 12 rfl rfl)
theorem dX1_translationAt_13 : decode cX1_translationAt 13 = .ok (.invokestatic 153, 3) := dk_184 0 153 (dk_at dksX1_translationAt_0 13 rfl rfl)
theorem dX1_translationAt_16 : decode cX1_translationAt 16 = .ok (.invokestatic 157, 3) := dk_184 0 157 (dk_at dksX1_translationAt_0 16 rfl rfl)
theorem dX1_translationAt_19 : decode cX1_translationAt 19 = .ok (.aload_n 0, 1) := dk_42 (dk_at dksX1_translationAt_0 19 rfl rfl)
theorem dX1_translationAt_20 : decode cX1_translationAt 20 = .ok (.getfield 99, 3) := dk_180 0 99 (dk_at dksX1_translationAt_0 20 rfl rfl)
theorem dX1_translationAt_23 : decode cX1_translationAt 23 = .ok (.iload_n 1, 1) := dk_27 (dk_at dksX1_translationAt_0 23 rfl rfl)
theorem dX1_translationAt_24 : decode cX1_translationAt 24 = .ok (.invokevirtual 200, 3) := dk_182 0 200 (dk_at dksX1_translationAt_1 0 rfl rfl)
theorem dX1_translationAt_27 : decode cX1_translationAt 27 = .ok (.checkcast 334, 3) := dk_192 1 78 (dk_at dksX1_translationAt_1 3 rfl rfl)
theorem dX1_translationAt_30 : decode cX1_translationAt 30 = .ok (.areturn, 1) := dk_176 (dk_at dksX1_translationAt_1 6 rfl rfl)
abbrev cX1_layerOf : ByteArray := prog_1_method_59_code
def yX1_layerOf : MethodName := ⟨RX1, "layerOf", "(I)I"⟩
def dkwX1_layerOf_1 : List UInt8 := [167, 0, 4, 2, 172]
abbrev dktX1_layerOf_1 : List UInt8 := dkwX1_layerOf_1 ++ []
def dkwX1_layerOf_0 : List UInt8 := [42, 27, 182, 1, 153, 78, 45, 193, 0, 39, 153, 0, 15, 45, 192, 0, 39, 77, 44, 182, 1, 157]
abbrev dktX1_layerOf_0 : List UInt8 := dkwX1_layerOf_0 ++ dktX1_layerOf_1
theorem dksX1_layerOf_0 : cX1_layerOf.data.toList.drop 0 = dktX1_layerOf_0 := by decide +kernel
theorem dksX1_layerOf_1 : cX1_layerOf.data.toList.drop 22 = dktX1_layerOf_1 := dk_seg dksX1_layerOf_0 22 rfl rfl
theorem dX1_layerOf_0 : decode cX1_layerOf 0 = .ok (.aload_n 0, 1) := dk_42 (dk_at dksX1_layerOf_0 0 rfl rfl)
theorem dX1_layerOf_1 : decode cX1_layerOf 1 = .ok (.iload_n 1, 1) := dk_27 (dk_at dksX1_layerOf_0 1 rfl rfl)
theorem dX1_layerOf_2 : decode cX1_layerOf 2 = .ok (.invokevirtual 409, 3) := dk_182 1 153 (dk_at dksX1_layerOf_0 2 rfl rfl)
theorem dX1_layerOf_5 : decode cX1_layerOf 5 = .ok (.astore_n 3, 1) := dk_78 (dk_at dksX1_layerOf_0 5 rfl rfl)
theorem dX1_layerOf_6 : decode cX1_layerOf 6 = .ok (.aload_n 3, 1) := dk_45 (dk_at dksX1_layerOf_0 6 rfl rfl)
theorem dX1_layerOf_7 : decode cX1_layerOf 7 = .ok (.instanceof 39, 3) := dk_193 0 39 (dk_at dksX1_layerOf_0 7 rfl rfl)
theorem dX1_layerOf_10 : decode cX1_layerOf 10 = .ok (.ifCond .eq 15, 3) := dk_153 0 15 (dk_at dksX1_layerOf_0 10 rfl rfl)
theorem dX1_layerOf_13 : decode cX1_layerOf 13 = .ok (.aload_n 3, 1) := dk_45 (dk_at dksX1_layerOf_0 13 rfl rfl)
theorem dX1_layerOf_14 : decode cX1_layerOf 14 = .ok (.checkcast 39, 3) := dk_192 0 39 (dk_at dksX1_layerOf_0 14 rfl rfl)
theorem dX1_layerOf_17 : decode cX1_layerOf 17 = .ok (.astore_n 2, 1) := dk_77 (dk_at dksX1_layerOf_0 17 rfl rfl)
theorem dX1_layerOf_18 : decode cX1_layerOf 18 = .ok (.aload_n 2, 1) := dk_44 (dk_at dksX1_layerOf_0 18 rfl rfl)
theorem dX1_layerOf_19 : decode cX1_layerOf 19 = .ok (.invokevirtual 413, 3) := dk_182 1 157 (dk_at dksX1_layerOf_0 19 rfl rfl)
theorem dX1_layerOf_22 : decode cX1_layerOf 22 = .ok (.goto 4, 3) := dk_167 0 4 (dk_at dksX1_layerOf_1 0 rfl rfl)
theorem dX1_layerOf_25 : decode cX1_layerOf 25 = .ok (.iconst (-1), 1) := dk_2 (dk_at dksX1_layerOf_1 3 rfl rfl)
theorem dX1_layerOf_26 : decode cX1_layerOf 26 = .ok (.ireturn, 1) := dk_172 (dk_at dksX1_layerOf_1 4 rfl rfl)
abbrev cX1_chosen_2 : ByteArray := prog_1_method_60_code
def yX1_chosen_2 : MethodName := ⟨RX1, "chosen", "(I)I"⟩
def dkwX1_chosen_2_0 : List UInt8 := [42, 27, 182, 1, 153, 87, 42, 180, 0, 102, 27, 182, 0, 200, 192, 0, 168, 182, 1, 160, 172]
abbrev dktX1_chosen_2_0 : List UInt8 := dkwX1_chosen_2_0 ++ []
theorem dksX1_chosen_2_0 : cX1_chosen_2.data.toList.drop 0 = dktX1_chosen_2_0 := by decide +kernel
theorem dX1_chosen_2_0 : decode cX1_chosen_2 0 = .ok (.aload_n 0, 1) := dk_42 (dk_at dksX1_chosen_2_0 0 rfl rfl)
theorem dX1_chosen_2_1 : decode cX1_chosen_2 1 = .ok (.iload_n 1, 1) := dk_27 (dk_at dksX1_chosen_2_0 1 rfl rfl)
theorem dX1_chosen_2_2 : decode cX1_chosen_2 2 = .ok (.invokevirtual 409, 3) := dk_182 1 153 (dk_at dksX1_chosen_2_0 2 rfl rfl)
theorem dX1_chosen_2_5 : decode cX1_chosen_2 5 = .ok (.pop, 1) := dk_87 (dk_at dksX1_chosen_2_0 5 rfl rfl)
theorem dX1_chosen_2_6 : decode cX1_chosen_2 6 = .ok (.aload_n 0, 1) := dk_42 (dk_at dksX1_chosen_2_0 6 rfl rfl)
theorem dX1_chosen_2_7 : decode cX1_chosen_2 7 = .ok (.getfield 102, 3) := dk_180 0 102 (dk_at dksX1_chosen_2_0 7 rfl rfl)
theorem dX1_chosen_2_10 : decode cX1_chosen_2 10 = .ok (.iload_n 1, 1) := dk_27 (dk_at dksX1_chosen_2_0 10 rfl rfl)
theorem dX1_chosen_2_11 : decode cX1_chosen_2 11 = .ok (.invokevirtual 200, 3) := dk_182 0 200 (dk_at dksX1_chosen_2_0 11 rfl rfl)
theorem dX1_chosen_2_14 : decode cX1_chosen_2 14 = .ok (.checkcast 168, 3) := dk_192 0 168 (dk_at dksX1_chosen_2_0 14 rfl rfl)
theorem dX1_chosen_2_17 : decode cX1_chosen_2 17 = .ok (.invokevirtual 416, 3) := dk_182 1 160 (dk_at dksX1_chosen_2_0 17 rfl rfl)
theorem dX1_chosen_2_20 : decode cX1_chosen_2 20 = .ok (.ireturn, 1) := dk_172 (dk_at dksX1_chosen_2_0 20 rfl rfl)
abbrev cX1_fromOf : ByteArray := prog_1_method_61_code
def yX1_fromOf : MethodName := ⟨RX1, "fromOf", "(I)I"⟩
def dkwX1_fromOf_2 : List UInt8 := [132, 2, 1, 167, 255, 216, 2, 172]
abbrev dktX1_fromOf_2 : List UInt8 := dkwX1_fromOf_2 ++ []
def dkwX1_fromOf_1 : List UInt8 := [180, 0, 110, 180, 1, 135, 28, 182, 0, 200, 192, 1, 137, 182, 1, 163, 27, 160, 0, 5, 28, 172]
abbrev dktX1_fromOf_1 : List UInt8 := dkwX1_fromOf_1 ++ dktX1_fromOf_2
def dkwX1_fromOf_0 : List UInt8 := [42, 27, 182, 1, 153, 87, 3, 61, 28, 42, 180, 0, 110, 180, 1, 135, 182, 0, 172, 162, 0, 32, 42]
abbrev dktX1_fromOf_0 : List UInt8 := dkwX1_fromOf_0 ++ dktX1_fromOf_1
theorem dksX1_fromOf_0 : cX1_fromOf.data.toList.drop 0 = dktX1_fromOf_0 := by decide +kernel
theorem dksX1_fromOf_1 : cX1_fromOf.data.toList.drop 23 = dktX1_fromOf_1 := dk_seg dksX1_fromOf_0 23 rfl rfl
theorem dksX1_fromOf_2 : cX1_fromOf.data.toList.drop 45 = dktX1_fromOf_2 := dk_seg dksX1_fromOf_1 22 rfl rfl
theorem dX1_fromOf_0 : decode cX1_fromOf 0 = .ok (.aload_n 0, 1) := dk_42 (dk_at dksX1_fromOf_0 0 rfl rfl)
theorem dX1_fromOf_1 : decode cX1_fromOf 1 = .ok (.iload_n 1, 1) := dk_27 (dk_at dksX1_fromOf_0 1 rfl rfl)
theorem dX1_fromOf_2 : decode cX1_fromOf 2 = .ok (.invokevirtual 409, 3) := dk_182 1 153 (dk_at dksX1_fromOf_0 2 rfl rfl)
theorem dX1_fromOf_5 : decode cX1_fromOf 5 = .ok (.pop, 1) := dk_87 (dk_at dksX1_fromOf_0 5 rfl rfl)
theorem dX1_fromOf_6 : decode cX1_fromOf 6 = .ok (.iconst 0, 1) := dk_3 (dk_at dksX1_fromOf_0 6 rfl rfl)
theorem dX1_fromOf_7 : decode cX1_fromOf 7 = .ok (.istore_n 2, 1) := dk_61 (dk_at dksX1_fromOf_0 7 rfl rfl)
theorem dX1_fromOf_8 : decode cX1_fromOf 8 = .ok (.iload_n 2, 1) := dk_28 (dk_at dksX1_fromOf_0 8 rfl rfl)
theorem dX1_fromOf_9 : decode cX1_fromOf 9 = .ok (.aload_n 0, 1) := dk_42 (dk_at dksX1_fromOf_0 9 rfl rfl)
theorem dX1_fromOf_10 : decode cX1_fromOf 10 = .ok (.getfield 110, 3) := dk_180 0 110 (dk_at dksX1_fromOf_0 10 rfl rfl)
theorem dX1_fromOf_13 : decode cX1_fromOf 13 = .ok (.getfield 391, 3) := dk_180 1 135 (dk_at dksX1_fromOf_0 13 rfl rfl)
theorem dX1_fromOf_16 : decode cX1_fromOf 16 = .ok (.invokevirtual 172, 3) := dk_182 0 172 (dk_at dksX1_fromOf_0 16 rfl rfl)
theorem dX1_fromOf_19 : decode cX1_fromOf 19 = .ok (.if_icmp .ge 32, 3) := dk_162 0 32 (dk_at dksX1_fromOf_0 19 rfl rfl)
theorem dX1_fromOf_22 : decode cX1_fromOf 22 = .ok (.aload_n 0, 1) := dk_42 (dk_at dksX1_fromOf_0 22 rfl rfl)
theorem dX1_fromOf_23 : decode cX1_fromOf 23 = .ok (.getfield 110, 3) := dk_180 0 110 (dk_at dksX1_fromOf_1 0 rfl rfl)
theorem dX1_fromOf_26 : decode cX1_fromOf 26 = .ok (.getfield 391, 3) := dk_180 1 135 (dk_at dksX1_fromOf_1 3 rfl rfl)
theorem dX1_fromOf_29 : decode cX1_fromOf 29 = .ok (.iload_n 2, 1) := dk_28 (dk_at dksX1_fromOf_1 6 rfl rfl)
theorem dX1_fromOf_30 : decode cX1_fromOf 30 = .ok (.invokevirtual 200, 3) := dk_182 0 200 (dk_at dksX1_fromOf_1 7 rfl rfl)
theorem dX1_fromOf_33 : decode cX1_fromOf 33 = .ok (.checkcast 393, 3) := dk_192 1 137 (dk_at dksX1_fromOf_1 10 rfl rfl)
theorem dX1_fromOf_36 : decode cX1_fromOf 36 = .ok (.invokevirtual 419, 3) := dk_182 1 163 (dk_at dksX1_fromOf_1 13 rfl rfl)
theorem dX1_fromOf_39 : decode cX1_fromOf 39 = .ok (.iload_n 1, 1) := dk_27 (dk_at dksX1_fromOf_1 16 rfl rfl)
theorem dX1_fromOf_40 : decode cX1_fromOf 40 = .ok (.if_icmp .ne 5, 3) := dk_160 0 5 (dk_at dksX1_fromOf_1 17 rfl rfl)
theorem dX1_fromOf_43 : decode cX1_fromOf 43 = .ok (.iload_n 2, 1) := dk_28 (dk_at dksX1_fromOf_1 20 rfl rfl)
theorem dX1_fromOf_44 : decode cX1_fromOf 44 = .ok (.ireturn, 1) := dk_172 (dk_at dksX1_fromOf_1 21 rfl rfl)
theorem dX1_fromOf_45 : decode cX1_fromOf 45 = .ok (.iinc 2 1, 3) := dk_132 2 1 (dk_at dksX1_fromOf_2 0 rfl rfl)
theorem dX1_fromOf_48 : decode cX1_fromOf 48 = .ok (.goto (-40), 3) := dk_167 255 216 (dk_at dksX1_fromOf_2 3 rfl rfl)
theorem dX1_fromOf_51 : decode cX1_fromOf 51 = .ok (.iconst (-1), 1) := dk_2 (dk_at dksX1_fromOf_2 6 rfl rfl)
theorem dX1_fromOf_52 : decode cX1_fromOf 52 = .ok (.ireturn, 1) := dk_172 (dk_at dksX1_fromOf_2 7 rfl rfl)
abbrev cX1_tick : ByteArray := prog_1_method_62_code
def yX1_tick : MethodName := ⟨RX1, "tick", "()I"⟩
def dkwX1_tick_5 : List UInt8 := [181, 0, 176, 42, 180, 0, 176, 172]
abbrev dktX1_tick_5 : List UInt8 := dkwX1_tick_5 ++ []
def dkwX1_tick_4 : List UInt8 := [180, 1, 171, 100, 182, 0, 200, 192, 0, 34, 182, 1, 176, 167, 255, 196, 42, 89, 180, 0, 176, 4, 96]
abbrev dktX1_tick_4 : List UInt8 := dkwX1_tick_4 ++ dktX1_tick_5
def dkwX1_tick_3 : List UInt8 := [180, 1, 171, 100, 156, 0, 9, 19, 1, 174, 167, 0, 22, 42, 180, 0, 117, 42, 180, 0, 176, 44]
abbrev dktX1_tick_3 : List UInt8 := dkwX1_tick_3 ++ dktX1_tick_4
def dkwX1_tick_2 : List UInt8 := [185, 0, 229, 1, 0, 153, 0, 57, 43, 185, 0, 234, 1, 0, 192, 1, 169, 77, 44, 42, 180, 0, 176, 44]
abbrev dktX1_tick_2 : List UInt8 := dkwX1_tick_2 ++ dktX1_tick_3
def dkwX1_tick_1 : List UInt8 := [180, 0, 117, 42, 182, 1, 166, 182, 0, 181, 87, 42, 180, 0, 114, 182, 1, 149, 76, 43]
abbrev dktX1_tick_1 : List UInt8 := dkwX1_tick_1 ++ dktX1_tick_2
def dkwX1_tick_0 : List UInt8 := [42, 180, 0, 117, 182, 0, 172, 17, 1, 144, 162, 0, 7, 4, 167, 0, 4, 3, 184, 0, 145, 42]
abbrev dktX1_tick_0 : List UInt8 := dkwX1_tick_0 ++ dktX1_tick_1
theorem dksX1_tick_0 : cX1_tick.data.toList.drop 0 = dktX1_tick_0 := by decide +kernel
theorem dksX1_tick_1 : cX1_tick.data.toList.drop 22 = dktX1_tick_1 := dk_seg dksX1_tick_0 22 rfl rfl
theorem dksX1_tick_2 : cX1_tick.data.toList.drop 42 = dktX1_tick_2 := dk_seg dksX1_tick_1 20 rfl rfl
theorem dksX1_tick_3 : cX1_tick.data.toList.drop 66 = dktX1_tick_3 := dk_seg dksX1_tick_2 24 rfl rfl
theorem dksX1_tick_4 : cX1_tick.data.toList.drop 88 = dktX1_tick_4 := dk_seg dksX1_tick_3 22 rfl rfl
theorem dksX1_tick_5 : cX1_tick.data.toList.drop 111 = dktX1_tick_5 := dk_seg dksX1_tick_4 23 rfl rfl
theorem dX1_tick_0 : decode cX1_tick 0 = .ok (.aload_n 0, 1) := dk_42 (dk_at dksX1_tick_0 0 rfl rfl)
theorem dX1_tick_1 : decode cX1_tick 1 = .ok (.getfield 117, 3) := dk_180 0 117 (dk_at dksX1_tick_0 1 rfl rfl)
theorem dX1_tick_4 : decode cX1_tick 4 = .ok (.invokevirtual 172, 3) := dk_182 0 172 (dk_at dksX1_tick_0 4 rfl rfl)
theorem dX1_tick_7 : decode cX1_tick 7 = .ok (.sipush 400, 3) := dk_17 1 144 (dk_at dksX1_tick_0 7 rfl rfl)
theorem dX1_tick_10 : decode cX1_tick 10 = .ok (.if_icmp .ge 7, 3) := dk_162 0 7 (dk_at dksX1_tick_0 10 rfl rfl)
theorem dX1_tick_13 : decode cX1_tick 13 = .ok (.iconst 1, 1) := dk_4 (dk_at dksX1_tick_0 13 rfl rfl)
theorem dX1_tick_14 : decode cX1_tick 14 = .ok (.goto 4, 3) := dk_167 0 4 (dk_at dksX1_tick_0 14 rfl rfl)
theorem dX1_tick_17 : decode cX1_tick 17 = .ok (.iconst 0, 1) := dk_3 (dk_at dksX1_tick_0 17 rfl rfl)
theorem dX1_tick_18 : decode cX1_tick 18 = .ok (.invokestatic 145, 3) := dk_184 0 145 (dk_at dksX1_tick_0 18 rfl rfl)
theorem dX1_tick_21 : decode cX1_tick 21 = .ok (.aload_n 0, 1) := dk_42 (dk_at dksX1_tick_0 21 rfl rfl)
theorem dX1_tick_22 : decode cX1_tick 22 = .ok (.getfield 117, 3) := dk_180 0 117 (dk_at dksX1_tick_1 0 rfl rfl)
theorem dX1_tick_25 : decode cX1_tick 25 = .ok (.aload_n 0, 1) := dk_42 (dk_at dksX1_tick_1 3 rfl rfl)
theorem dX1_tick_26 : decode cX1_tick 26 = .ok (.invokevirtual 422, 3) := dk_182 1 166 (dk_at dksX1_tick_1 4 rfl rfl)
theorem dX1_tick_29 : decode cX1_tick 29 = .ok (.invokevirtual 181, 3) := dk_182 0 181 (dk_at dksX1_tick_1 7 rfl rfl)
theorem dX1_tick_32 : decode cX1_tick 32 = .ok (.pop, 1) := dk_87 (dk_at dksX1_tick_1 10 rfl rfl)
theorem dX1_tick_33 : decode cX1_tick 33 = .ok (.aload_n 0, 1) := dk_42 (dk_at dksX1_tick_1 11 rfl rfl)
theorem dX1_tick_34 : decode cX1_tick 34 = .ok (.getfield 114, 3) := dk_180 0 114 (dk_at dksX1_tick_1 12 rfl rfl)
theorem dX1_tick_37 : decode cX1_tick 37 = .ok (.invokevirtual 405, 3) := dk_182 1 149 (dk_at dksX1_tick_1 15 rfl rfl)
theorem dX1_tick_40 : decode cX1_tick 40 = .ok (.astore_n 1, 1) := dk_76 (dk_at dksX1_tick_1 18 rfl rfl)
theorem dX1_tick_41 : decode cX1_tick 41 = .ok (.aload_n 1, 1) := dk_43 (dk_at dksX1_tick_1 19 rfl rfl)
theorem dX1_tick_42 : decode cX1_tick 42 = .ok (.invokeinterface 229 1, 5) := by decide +kernel
theorem dX1_tick_47 : decode cX1_tick 47 = .ok (.ifCond .eq 57, 3) := dk_153 0 57 (dk_at dksX1_tick_2 5 rfl rfl)
theorem dX1_tick_50 : decode cX1_tick 50 = .ok (.aload_n 1, 1) := dk_43 (dk_at dksX1_tick_2 8 rfl rfl)
theorem dX1_tick_51 : decode cX1_tick 51 = .ok (.invokeinterface 234 1, 5) := by decide +kernel
theorem dX1_tick_56 : decode cX1_tick 56 = .ok (.checkcast 425, 3) := dk_192 1 169 (dk_at dksX1_tick_2 14 rfl rfl)
theorem dX1_tick_59 : decode cX1_tick 59 = .ok (.astore_n 2, 1) := dk_77 (dk_at dksX1_tick_2 17 rfl rfl)
theorem dX1_tick_60 : decode cX1_tick 60 = .ok (.aload_n 2, 1) := dk_44 (dk_at dksX1_tick_2 18 rfl rfl)
theorem dX1_tick_61 : decode cX1_tick 61 = .ok (.aload_n 0, 1) := dk_42 (dk_at dksX1_tick_2 19 rfl rfl)
theorem dX1_tick_62 : decode cX1_tick 62 = .ok (.getfield 176, 3) := dk_180 0 176 (dk_at dksX1_tick_2 20 rfl rfl)
theorem dX1_tick_65 : decode cX1_tick 65 = .ok (.aload_n 2, 1) := dk_44 (dk_at dksX1_tick_2 23 rfl rfl)
theorem dX1_tick_66 : decode cX1_tick 66 = .ok (.getfield 427, 3) := dk_180 1 171 (dk_at dksX1_tick_3 0 rfl rfl)
theorem dX1_tick_69 : decode cX1_tick 69 = .ok (.isub, 1) := dk_100 (dk_at dksX1_tick_3 3 rfl rfl)
theorem dX1_tick_70 : decode cX1_tick 70 = .ok (.ifCond .ge 9, 3) := dk_156 0 9 (dk_at dksX1_tick_3 4 rfl rfl)
theorem dX1_tick_73 : decode cX1_tick 73 = .ok (.ldc_w 430, 3) := dk_19 1 174 (dk_at dksX1_tick_3 7 rfl rfl)
theorem dX1_tick_76 : decode cX1_tick 76 = .ok (.goto 22, 3) := dk_167 0 22 (dk_at dksX1_tick_3 10 rfl rfl)
theorem dX1_tick_79 : decode cX1_tick 79 = .ok (.aload_n 0, 1) := dk_42 (dk_at dksX1_tick_3 13 rfl rfl)
theorem dX1_tick_80 : decode cX1_tick 80 = .ok (.getfield 117, 3) := dk_180 0 117 (dk_at dksX1_tick_3 14 rfl rfl)
theorem dX1_tick_83 : decode cX1_tick 83 = .ok (.aload_n 0, 1) := dk_42 (dk_at dksX1_tick_3 17 rfl rfl)
theorem dX1_tick_84 : decode cX1_tick 84 = .ok (.getfield 176, 3) := dk_180 0 176 (dk_at dksX1_tick_3 18 rfl rfl)
theorem dX1_tick_87 : decode cX1_tick 87 = .ok (.aload_n 2, 1) := dk_44 (dk_at dksX1_tick_3 21 rfl rfl)
theorem dX1_tick_88 : decode cX1_tick 88 = .ok (.getfield 427, 3) := dk_180 1 171 (dk_at dksX1_tick_4 0 rfl rfl)
theorem dX1_tick_91 : decode cX1_tick 91 = .ok (.isub, 1) := dk_100 (dk_at dksX1_tick_4 3 rfl rfl)
theorem dX1_tick_92 : decode cX1_tick 92 = .ok (.invokevirtual 200, 3) := dk_182 0 200 (dk_at dksX1_tick_4 4 rfl rfl)
theorem dX1_tick_95 : decode cX1_tick 95 = .ok (.checkcast 34, 3) := dk_192 0 34 (dk_at dksX1_tick_4 7 rfl rfl)
theorem dX1_tick_98 : decode cX1_tick 98 = .ok (.invokevirtual 432, 3) := dk_182 1 176 (dk_at dksX1_tick_4 10 rfl rfl)
theorem dX1_tick_101 : decode cX1_tick 101 = .ok (.goto (-60), 3) := dk_167 255 196 (dk_at dksX1_tick_4 13 rfl rfl)
theorem dX1_tick_104 : decode cX1_tick 104 = .ok (.aload_n 0, 1) := dk_42 (dk_at dksX1_tick_4 16 rfl rfl)
theorem dX1_tick_105 : decode cX1_tick 105 = .ok (.dup, 1) := dk_89 (dk_at dksX1_tick_4 17 rfl rfl)
theorem dX1_tick_106 : decode cX1_tick 106 = .ok (.getfield 176, 3) := dk_180 0 176 (dk_at dksX1_tick_4 18 rfl rfl)
theorem dX1_tick_109 : decode cX1_tick 109 = .ok (.iconst 1, 1) := dk_4 (dk_at dksX1_tick_4 21 rfl rfl)
theorem dX1_tick_110 : decode cX1_tick 110 = .ok (.iadd, 1) := dk_96 (dk_at dksX1_tick_4 22 rfl rfl)
theorem dX1_tick_111 : decode cX1_tick 111 = .ok (.putfield 176, 3) := dk_181 0 176 (dk_at dksX1_tick_5 0 rfl rfl)
theorem dX1_tick_114 : decode cX1_tick 114 = .ok (.aload_n 0, 1) := dk_42 (dk_at dksX1_tick_5 3 rfl rfl)
theorem dX1_tick_115 : decode cX1_tick 115 = .ok (.getfield 176, 3) := dk_180 0 176 (dk_at dksX1_tick_5 4 rfl rfl)
theorem dX1_tick_118 : decode cX1_tick 118 = .ok (.ireturn, 1) := dk_172 (dk_at dksX1_tick_5 7 rfl rfl)
abbrev cX1_sink : ByteArray := prog_1_method_64_code
def yX1_sink : MethodName := ⟨RX1, "sink", "(I)I"⟩
def dkwX1_sink_2 : List UInt8 := [180, 0, 114, 182, 0, 172, 4, 100, 172]
abbrev dktX1_sink_2 : List UInt8 := dkwX1_sink_2 ++ []
def dkwX1_sink_1 : List UInt8 := [167, 0, 4, 3, 184, 0, 145, 42, 180, 0, 114, 187, 1, 169, 89, 27, 183, 1, 182, 182, 0, 181, 87, 42]
abbrev dktX1_sink_1 : List UInt8 := dkwX1_sink_1 ++ dktX1_sink_2
def dkwX1_sink_0 : List UInt8 := [27, 133, 9, 20, 1, 180, 184, 0, 153, 184, 0, 138, 42, 180, 0, 114, 182, 0, 172, 7, 162, 0, 7, 4]
abbrev dktX1_sink_0 : List UInt8 := dkwX1_sink_0 ++ dktX1_sink_1
theorem dksX1_sink_0 : cX1_sink.data.toList.drop 0 = dktX1_sink_0 := by decide +kernel
theorem dksX1_sink_1 : cX1_sink.data.toList.drop 24 = dktX1_sink_1 := dk_seg dksX1_sink_0 24 rfl rfl
theorem dksX1_sink_2 : cX1_sink.data.toList.drop 48 = dktX1_sink_2 := dk_seg dksX1_sink_1 24 rfl rfl
theorem dX1_sink_0 : decode cX1_sink 0 = .ok (.iload_n 1, 1) := dk_27 (dk_at dksX1_sink_0 0 rfl rfl)
theorem dX1_sink_1 : decode cX1_sink 1 = .ok (.i2l, 1) := dk_133 (dk_at dksX1_sink_0 1 rfl rfl)
theorem dX1_sink_2 : decode cX1_sink 2 = .ok (.lconst 0, 1) := dk_9 (dk_at dksX1_sink_0 2 rfl rfl)
theorem dX1_sink_3 : decode cX1_sink 3 = .ok (.ldc2_w 436, 3) := dk_20 1 180 (dk_at dksX1_sink_0 3 rfl rfl)
theorem dX1_sink_6 : decode cX1_sink 6 = .ok (.invokestatic 153, 3) := dk_184 0 153 (dk_at dksX1_sink_0 6 rfl rfl)
theorem dX1_sink_9 : decode cX1_sink 9 = .ok (.invokestatic 138, 3) := dk_184 0 138 (dk_at dksX1_sink_0 9 rfl rfl)
theorem dX1_sink_12 : decode cX1_sink 12 = .ok (.aload_n 0, 1) := dk_42 (dk_at dksX1_sink_0 12 rfl rfl)
theorem dX1_sink_13 : decode cX1_sink 13 = .ok (.getfield 114, 3) := dk_180 0 114 (dk_at dksX1_sink_0 13 rfl rfl)
theorem dX1_sink_16 : decode cX1_sink 16 = .ok (.invokevirtual 172, 3) := dk_182 0 172 (dk_at dksX1_sink_0 16 rfl rfl)
theorem dX1_sink_19 : decode cX1_sink 19 = .ok (.iconst 4, 1) := dk_7 (dk_at dksX1_sink_0 19 rfl rfl)
theorem dX1_sink_20 : decode cX1_sink 20 = .ok (.if_icmp .ge 7, 3) := dk_162 0 7 (dk_at dksX1_sink_0 20 rfl rfl)
theorem dX1_sink_23 : decode cX1_sink 23 = .ok (.iconst 1, 1) := dk_4 (dk_at dksX1_sink_0 23 rfl rfl)
theorem dX1_sink_24 : decode cX1_sink 24 = .ok (.goto 4, 3) := dk_167 0 4 (dk_at dksX1_sink_1 0 rfl rfl)
theorem dX1_sink_27 : decode cX1_sink 27 = .ok (.iconst 0, 1) := dk_3 (dk_at dksX1_sink_1 3 rfl rfl)
theorem dX1_sink_28 : decode cX1_sink 28 = .ok (.invokestatic 145, 3) := dk_184 0 145 (dk_at dksX1_sink_1 4 rfl rfl)
theorem dX1_sink_31 : decode cX1_sink 31 = .ok (.aload_n 0, 1) := dk_42 (dk_at dksX1_sink_1 7 rfl rfl)
theorem dX1_sink_32 : decode cX1_sink 32 = .ok (.getfield 114, 3) := dk_180 0 114 (dk_at dksX1_sink_1 8 rfl rfl)
theorem dX1_sink_35 : decode cX1_sink 35 = .ok (.new 425, 3) := dk_187 1 169 (dk_at dksX1_sink_1 11 rfl rfl)
theorem dX1_sink_38 : decode cX1_sink 38 = .ok (.dup, 1) := dk_89 (dk_at dksX1_sink_1 14 rfl rfl)
theorem dX1_sink_39 : decode cX1_sink 39 = .ok (.iload_n 1, 1) := dk_27 (dk_at dksX1_sink_1 15 rfl rfl)
theorem dX1_sink_40 : decode cX1_sink 40 = .ok (.invokespecial 438, 3) := dk_183 1 182 (dk_at dksX1_sink_1 16 rfl rfl)
theorem dX1_sink_43 : decode cX1_sink 43 = .ok (.invokevirtual 181, 3) := dk_182 0 181 (dk_at dksX1_sink_1 19 rfl rfl)
theorem dX1_sink_46 : decode cX1_sink 46 = .ok (.pop, 1) := dk_87 (dk_at dksX1_sink_1 22 rfl rfl)
theorem dX1_sink_47 : decode cX1_sink 47 = .ok (.aload_n 0, 1) := dk_42 (dk_at dksX1_sink_1 23 rfl rfl)
theorem dX1_sink_48 : decode cX1_sink 48 = .ok (.getfield 114, 3) := dk_180 0 114 (dk_at dksX1_sink_2 0 rfl rfl)
theorem dX1_sink_51 : decode cX1_sink 51 = .ok (.invokevirtual 172, 3) := dk_182 0 172 (dk_at dksX1_sink_2 3 rfl rfl)
theorem dX1_sink_54 : decode cX1_sink 54 = .ok (.iconst 1, 1) := dk_4 (dk_at dksX1_sink_2 6 rfl rfl)
theorem dX1_sink_55 : decode cX1_sink 55 = .ok (.isub, 1) := dk_100 (dk_at dksX1_sink_2 7 rfl rfl)
theorem dX1_sink_56 : decode cX1_sink 56 = .ok (.ireturn, 1) := dk_172 (dk_at dksX1_sink_2 8 rfl rfl)
abbrev cX1_shown : ByteArray := prog_1_method_66_code
def yX1_shown : MethodName := ⟨RX1, "shown", "(I)I"⟩
def dkwX1_shown_0 : List UInt8 := [42, 27, 182, 1, 184, 180, 1, 188, 182, 1, 118, 172]
abbrev dktX1_shown_0 : List UInt8 := dkwX1_shown_0 ++ []
theorem dksX1_shown_0 : cX1_shown.data.toList.drop 0 = dktX1_shown_0 := by decide +kernel
theorem dX1_shown_0 : decode cX1_shown 0 = .ok (.aload_n 0, 1) := dk_42 (dk_at dksX1_shown_0 0 rfl rfl)
theorem dX1_shown_1 : decode cX1_shown 1 = .ok (.iload_n 1, 1) := dk_27 (dk_at dksX1_shown_0 1 rfl rfl)
theorem dX1_shown_2 : decode cX1_shown 2 = .ok (.invokevirtual 440, 3) := dk_182 1 184 (dk_at dksX1_shown_0 2 rfl rfl)
theorem dX1_shown_5 : decode cX1_shown 5 = .ok (.getfield 444, 3) := dk_180 1 188 (dk_at dksX1_shown_0 5 rfl rfl)
theorem dX1_shown_8 : decode cX1_shown 8 = .ok (.invokevirtual 374, 3) := dk_182 1 118 (dk_at dksX1_shown_0 8 rfl rfl)
theorem dX1_shown_11 : decode cX1_shown 11 = .ok (.ireturn, 1) := dk_172 (dk_at dksX1_shown_0 11 rfl rfl)
abbrev cX1_sinkAt : ByteArray := prog_1_method_65_code
def yX1_sinkAt : MethodName := ⟨RX1, "sinkAt", "(I)LStenohall$Sink;"⟩
def dkwX1_sinkAt_1 : List UInt8 := [182, 0, 200, 192, 1, 169, 176]
abbrev dktX1_sinkAt_1 : List UInt8 := dkwX1_sinkAt_1 ++ []
def dkwX1_sinkAt_0 : List UInt8 := [27, 133, 9, 42, 180, 0, 114, 182, 0, 172, 4, 100, 133, 184, 0, 153, 184, 0, 157, 42, 180, 0, 114, 27]
abbrev dktX1_sinkAt_0 : List UInt8 := dkwX1_sinkAt_0 ++ dktX1_sinkAt_1
theorem dksX1_sinkAt_0 : cX1_sinkAt.data.toList.drop 0 = dktX1_sinkAt_0 := by decide +kernel
theorem dksX1_sinkAt_1 : cX1_sinkAt.data.toList.drop 24 = dktX1_sinkAt_1 := dk_seg dksX1_sinkAt_0 24 rfl rfl
theorem dX1_sinkAt_0 : decode cX1_sinkAt 0 = .ok (.iload_n 1, 1) := dk_27 (dk_at dksX1_sinkAt_0 0 rfl rfl)
theorem dX1_sinkAt_1 : decode cX1_sinkAt 1 = .ok (.i2l, 1) := dk_133 (dk_at dksX1_sinkAt_0 1 rfl rfl)
theorem dX1_sinkAt_2 : decode cX1_sinkAt 2 = .ok (.lconst 0, 1) := dk_9 (dk_at dksX1_sinkAt_0 2 rfl rfl)
theorem dX1_sinkAt_3 : decode cX1_sinkAt 3 = .ok (.aload_n 0, 1) := dk_42 (dk_at dksX1_sinkAt_0 3 rfl rfl)
theorem dX1_sinkAt_4 : decode cX1_sinkAt 4 = .ok (.getfield 114, 3) := dk_180 0 114 (dk_at dksX1_sinkAt_0 4 rfl rfl)
theorem dX1_sinkAt_7 : decode cX1_sinkAt 7 = .ok (.invokevirtual 172, 3) := dk_182 0 172 (dk_at dksX1_sinkAt_0 7 rfl rfl)
theorem dX1_sinkAt_10 : decode cX1_sinkAt 10 = .ok (.iconst 1, 1) := dk_4 (dk_at dksX1_sinkAt_0 10 rfl rfl)
theorem dX1_sinkAt_11 : decode cX1_sinkAt 11 = .ok (.isub, 1) := dk_100 (dk_at dksX1_sinkAt_0 11 rfl rfl)
theorem dX1_sinkAt_12 : decode cX1_sinkAt 12 = .ok (.i2l, 1) := dk_133 (dk_at dksX1_sinkAt_0 12 rfl rfl)
theorem dX1_sinkAt_13 : decode cX1_sinkAt 13 = .ok (.invokestatic 153, 3) := dk_184 0 153 (dk_at dksX1_sinkAt_0 13 rfl rfl)
theorem dX1_sinkAt_16 : decode cX1_sinkAt 16 = .ok (.invokestatic 157, 3) := dk_184 0 157 (dk_at dksX1_sinkAt_0 16 rfl rfl)
theorem dX1_sinkAt_19 : decode cX1_sinkAt 19 = .ok (.aload_n 0, 1) := dk_42 (dk_at dksX1_sinkAt_0 19 rfl rfl)
theorem dX1_sinkAt_20 : decode cX1_sinkAt 20 = .ok (.getfield 114, 3) := dk_180 0 114 (dk_at dksX1_sinkAt_0 20 rfl rfl)
theorem dX1_sinkAt_23 : decode cX1_sinkAt 23 = .ok (.iload_n 1, 1) := dk_27 (dk_at dksX1_sinkAt_0 23 rfl rfl)
theorem dX1_sinkAt_24 : decode cX1_sinkAt 24 = .ok (.invokevirtual 200, 3) := dk_182 0 200 (dk_at dksX1_sinkAt_1 0 rfl rfl)
theorem dX1_sinkAt_27 : decode cX1_sinkAt 27 = .ok (.checkcast 425, 3) := dk_192 1 169 (dk_at dksX1_sinkAt_1 3 rfl rfl)
theorem dX1_sinkAt_30 : decode cX1_sinkAt 30 = .ok (.areturn, 1) := dk_176 (dk_at dksX1_sinkAt_1 6 rfl rfl)
abbrev cX1_shownAt : ByteArray := prog_1_method_67_code
def yX1_shownAt : MethodName := ⟨RX1, "shownAt", "(II)C"⟩
def dkwX1_shownAt_1 : List UInt8 := [184, 0, 191, 45, 28, 182, 1, 119, 172]
abbrev dktX1_shownAt_1 : List UInt8 := dkwX1_shownAt_1 ++ []
def dkwX1_shownAt_0 : List UInt8 := [42, 27, 182, 1, 184, 180, 1, 188, 78, 28, 133, 9, 45, 182, 1, 118, 4, 100, 133, 184, 0, 153]
abbrev dktX1_shownAt_0 : List UInt8 := dkwX1_shownAt_0 ++ dktX1_shownAt_1
theorem dksX1_shownAt_0 : cX1_shownAt.data.toList.drop 0 = dktX1_shownAt_0 := by decide +kernel
theorem dksX1_shownAt_1 : cX1_shownAt.data.toList.drop 22 = dktX1_shownAt_1 := dk_seg dksX1_shownAt_0 22 rfl rfl
theorem dX1_shownAt_0 : decode cX1_shownAt 0 = .ok (.aload_n 0, 1) := dk_42 (dk_at dksX1_shownAt_0 0 rfl rfl)
theorem dX1_shownAt_1 : decode cX1_shownAt 1 = .ok (.iload_n 1, 1) := dk_27 (dk_at dksX1_shownAt_0 1 rfl rfl)
theorem dX1_shownAt_2 : decode cX1_shownAt 2 = .ok (.invokevirtual 440, 3) := dk_182 1 184 (dk_at dksX1_shownAt_0 2 rfl rfl)
theorem dX1_shownAt_5 : decode cX1_shownAt 5 = .ok (.getfield 444, 3) := dk_180 1 188 (dk_at dksX1_shownAt_0 5 rfl rfl)
theorem dX1_shownAt_8 : decode cX1_shownAt 8 = .ok (.astore_n 3, 1) := dk_78 (dk_at dksX1_shownAt_0 8 rfl rfl)
theorem dX1_shownAt_9 : decode cX1_shownAt 9 = .ok (.iload_n 2, 1) := dk_28 (dk_at dksX1_shownAt_0 9 rfl rfl)
theorem dX1_shownAt_10 : decode cX1_shownAt 10 = .ok (.i2l, 1) := dk_133 (dk_at dksX1_shownAt_0 10 rfl rfl)
theorem dX1_shownAt_11 : decode cX1_shownAt 11 = .ok (.lconst 0, 1) := dk_9 (dk_at dksX1_shownAt_0 11 rfl rfl)
theorem dX1_shownAt_12 : decode cX1_shownAt 12 = .ok (.aload_n 3, 1) := dk_45 (dk_at dksX1_shownAt_0 12 rfl rfl)
theorem dX1_shownAt_13 : decode cX1_shownAt 13 = .ok (.invokevirtual 374, 3) := dk_182 1 118 (dk_at dksX1_shownAt_0 13 rfl rfl)
theorem dX1_shownAt_16 : decode cX1_shownAt 16 = .ok (.iconst 1, 1) := dk_4 (dk_at dksX1_shownAt_0 16 rfl rfl)
theorem dX1_shownAt_17 : decode cX1_shownAt 17 = .ok (.isub, 1) := dk_100 (dk_at dksX1_shownAt_0 17 rfl rfl)
theorem dX1_shownAt_18 : decode cX1_shownAt 18 = .ok (.i2l, 1) := dk_133 (dk_at dksX1_shownAt_0 18 rfl rfl)
theorem dX1_shownAt_19 : decode cX1_shownAt 19 = .ok (.invokestatic 153, 3) := dk_184 0 153 (dk_at dksX1_shownAt_0 19 rfl rfl)
theorem dX1_shownAt_22 : decode cX1_shownAt 22 = .ok (.invokestatic 191, 3) := dk_184 0 191 (dk_at dksX1_shownAt_1 0 rfl rfl)
theorem dX1_shownAt_25 : decode cX1_shownAt 25 = .ok (.aload_n 3, 1) := dk_45 (dk_at dksX1_shownAt_1 3 rfl rfl)
theorem dX1_shownAt_26 : decode cX1_shownAt 26 = .ok (.iload_n 2, 1) := dk_28 (dk_at dksX1_shownAt_1 4 rfl rfl)
theorem dX1_shownAt_27 : decode cX1_shownAt 27 = .ok (.invokevirtual 375, 3) := dk_182 1 119 (dk_at dksX1_shownAt_1 5 rfl rfl)
theorem dX1_shownAt_30 : decode cX1_shownAt 30 = .ok (.ireturn, 1) := dk_172 (dk_at dksX1_shownAt_1 8 rfl rfl)
abbrev cX1_takenBack : ByteArray := prog_1_method_68_code
def yX1_takenBack : MethodName := ⟨RX1, "takenBack", "(I)I"⟩
def dkwX1_takenBack_0 : List UInt8 := [42, 27, 182, 1, 184, 180, 1, 191, 172]
abbrev dktX1_takenBack_0 : List UInt8 := dkwX1_takenBack_0 ++ []
theorem dksX1_takenBack_0 : cX1_takenBack.data.toList.drop 0 = dktX1_takenBack_0 := by decide +kernel
theorem dX1_takenBack_0 : decode cX1_takenBack 0 = .ok (.aload_n 0, 1) := dk_42 (dk_at dksX1_takenBack_0 0 rfl rfl)
theorem dX1_takenBack_1 : decode cX1_takenBack 1 = .ok (.iload_n 1, 1) := dk_27 (dk_at dksX1_takenBack_0 1 rfl rfl)
theorem dX1_takenBack_2 : decode cX1_takenBack 2 = .ok (.invokevirtual 440, 3) := dk_182 1 184 (dk_at dksX1_takenBack_0 2 rfl rfl)
theorem dX1_takenBack_5 : decode cX1_takenBack 5 = .ok (.getfield 447, 3) := dk_180 1 191 (dk_at dksX1_takenBack_0 5 rfl rfl)
theorem dX1_takenBack_8 : decode cX1_takenBack 8 = .ok (.ireturn, 1) := dk_172 (dk_at dksX1_takenBack_0 8 rfl rfl)
abbrev cX1_paper : ByteArray := prog_1_method_69_code
def yX1_paper : MethodName := ⟨RX1, "paper", "(II)I"⟩
def dkwX1_paper_2 : List UInt8 := [180, 0, 131, 96, 62, 42, 27, 181, 0, 127, 42, 28, 181, 0, 131, 29, 172]
abbrev dktX1_paper_2 : List UInt8 := dkwX1_paper_2 ++ []
def dkwX1_paper_1 : List UInt8 := [184, 0, 153, 153, 0, 7, 4, 167, 0, 4, 3, 184, 0, 138, 16, 100, 42, 180, 0, 127, 104, 42]
abbrev dktX1_paper_1 : List UInt8 := dkwX1_paper_1 ++ dktX1_paper_2
def dkwX1_paper_0 : List UInt8 := [27, 133, 20, 1, 194, 20, 1, 196, 184, 0, 153, 153, 0, 21, 28, 133, 20, 1, 198, 20, 1, 200]
abbrev dktX1_paper_0 : List UInt8 := dkwX1_paper_0 ++ dktX1_paper_1
theorem dksX1_paper_0 : cX1_paper.data.toList.drop 0 = dktX1_paper_0 := by decide +kernel
theorem dksX1_paper_1 : cX1_paper.data.toList.drop 22 = dktX1_paper_1 := dk_seg dksX1_paper_0 22 rfl rfl
theorem dksX1_paper_2 : cX1_paper.data.toList.drop 44 = dktX1_paper_2 := dk_seg dksX1_paper_1 22 rfl rfl
theorem dX1_paper_0 : decode cX1_paper 0 = .ok (.iload_n 1, 1) := dk_27 (dk_at dksX1_paper_0 0 rfl rfl)
theorem dX1_paper_1 : decode cX1_paper 1 = .ok (.i2l, 1) := dk_133 (dk_at dksX1_paper_0 1 rfl rfl)
theorem dX1_paper_2 : decode cX1_paper 2 = .ok (.ldc2_w 450, 3) := dk_20 1 194 (dk_at dksX1_paper_0 2 rfl rfl)
theorem dX1_paper_5 : decode cX1_paper 5 = .ok (.ldc2_w 452, 3) := dk_20 1 196 (dk_at dksX1_paper_0 5 rfl rfl)
theorem dX1_paper_8 : decode cX1_paper 8 = .ok (.invokestatic 153, 3) := dk_184 0 153 (dk_at dksX1_paper_0 8 rfl rfl)
theorem dX1_paper_11 : decode cX1_paper 11 = .ok (.ifCond .eq 21, 3) := dk_153 0 21 (dk_at dksX1_paper_0 11 rfl rfl)
theorem dX1_paper_14 : decode cX1_paper 14 = .ok (.iload_n 2, 1) := dk_28 (dk_at dksX1_paper_0 14 rfl rfl)
theorem dX1_paper_15 : decode cX1_paper 15 = .ok (.i2l, 1) := dk_133 (dk_at dksX1_paper_0 15 rfl rfl)
theorem dX1_paper_16 : decode cX1_paper 16 = .ok (.ldc2_w 454, 3) := dk_20 1 198 (dk_at dksX1_paper_0 16 rfl rfl)
theorem dX1_paper_19 : decode cX1_paper 19 = .ok (.ldc2_w 456, 3) := dk_20 1 200 (dk_at dksX1_paper_0 19 rfl rfl)
theorem dX1_paper_22 : decode cX1_paper 22 = .ok (.invokestatic 153, 3) := dk_184 0 153 (dk_at dksX1_paper_1 0 rfl rfl)
theorem dX1_paper_25 : decode cX1_paper 25 = .ok (.ifCond .eq 7, 3) := dk_153 0 7 (dk_at dksX1_paper_1 3 rfl rfl)
theorem dX1_paper_28 : decode cX1_paper 28 = .ok (.iconst 1, 1) := dk_4 (dk_at dksX1_paper_1 6 rfl rfl)
theorem dX1_paper_29 : decode cX1_paper 29 = .ok (.goto 4, 3) := dk_167 0 4 (dk_at dksX1_paper_1 7 rfl rfl)
theorem dX1_paper_32 : decode cX1_paper 32 = .ok (.iconst 0, 1) := dk_3 (dk_at dksX1_paper_1 10 rfl rfl)
theorem dX1_paper_33 : decode cX1_paper 33 = .ok (.invokestatic 138, 3) := dk_184 0 138 (dk_at dksX1_paper_1 11 rfl rfl)
theorem dX1_paper_36 : decode cX1_paper 36 = .ok (.bipush 100, 2) := dk_16 100 (dk_at dksX1_paper_1 14 rfl rfl)
theorem dX1_paper_38 : decode cX1_paper 38 = .ok (.aload_n 0, 1) := dk_42 (dk_at dksX1_paper_1 16 rfl rfl)
theorem dX1_paper_39 : decode cX1_paper 39 = .ok (.getfield 127, 3) := dk_180 0 127 (dk_at dksX1_paper_1 17 rfl rfl)
theorem dX1_paper_42 : decode cX1_paper 42 = .ok (.imul, 1) := dk_104 (dk_at dksX1_paper_1 20 rfl rfl)
theorem dX1_paper_43 : decode cX1_paper 43 = .ok (.aload_n 0, 1) := dk_42 (dk_at dksX1_paper_1 21 rfl rfl)
theorem dX1_paper_44 : decode cX1_paper 44 = .ok (.getfield 131, 3) := dk_180 0 131 (dk_at dksX1_paper_2 0 rfl rfl)
theorem dX1_paper_47 : decode cX1_paper 47 = .ok (.iadd, 1) := dk_96 (dk_at dksX1_paper_2 3 rfl rfl)
theorem dX1_paper_48 : decode cX1_paper 48 = .ok (.istore_n 3, 1) := dk_62 (dk_at dksX1_paper_2 4 rfl rfl)
theorem dX1_paper_49 : decode cX1_paper 49 = .ok (.aload_n 0, 1) := dk_42 (dk_at dksX1_paper_2 5 rfl rfl)
theorem dX1_paper_50 : decode cX1_paper 50 = .ok (.iload_n 1, 1) := dk_27 (dk_at dksX1_paper_2 6 rfl rfl)
theorem dX1_paper_51 : decode cX1_paper 51 = .ok (.putfield 127, 3) := dk_181 0 127 (dk_at dksX1_paper_2 7 rfl rfl)
theorem dX1_paper_54 : decode cX1_paper 54 = .ok (.aload_n 0, 1) := dk_42 (dk_at dksX1_paper_2 10 rfl rfl)
theorem dX1_paper_55 : decode cX1_paper 55 = .ok (.iload_n 2, 1) := dk_28 (dk_at dksX1_paper_2 11 rfl rfl)
theorem dX1_paper_56 : decode cX1_paper 56 = .ok (.putfield 131, 3) := dk_181 0 131 (dk_at dksX1_paper_2 12 rfl rfl)
theorem dX1_paper_59 : decode cX1_paper 59 = .ok (.iload_n 3, 1) := dk_29 (dk_at dksX1_paper_2 15 rfl rfl)
theorem dX1_paper_60 : decode cX1_paper 60 = .ok (.ireturn, 1) := dk_172 (dk_at dksX1_paper_2 16 rfl rfl)
abbrev cX1_lineOf : ByteArray := prog_1_method_72_code
def yX1_lineOf : MethodName := ⟨RX1, "lineOf", "(I)I"⟩
def dkwX1_lineOf_0 : List UInt8 := [42, 27, 182, 1, 139, 87, 42, 182, 1, 202, 27, 46, 172]
abbrev dktX1_lineOf_0 : List UInt8 := dkwX1_lineOf_0 ++ []
theorem dksX1_lineOf_0 : cX1_lineOf.data.toList.drop 0 = dktX1_lineOf_0 := by decide +kernel
theorem dX1_lineOf_0 : decode cX1_lineOf 0 = .ok (.aload_n 0, 1) := dk_42 (dk_at dksX1_lineOf_0 0 rfl rfl)
theorem dX1_lineOf_1 : decode cX1_lineOf 1 = .ok (.iload_n 1, 1) := dk_27 (dk_at dksX1_lineOf_0 1 rfl rfl)
theorem dX1_lineOf_2 : decode cX1_lineOf 2 = .ok (.invokevirtual 395, 3) := dk_182 1 139 (dk_at dksX1_lineOf_0 2 rfl rfl)
theorem dX1_lineOf_5 : decode cX1_lineOf 5 = .ok (.pop, 1) := dk_87 (dk_at dksX1_lineOf_0 5 rfl rfl)
theorem dX1_lineOf_6 : decode cX1_lineOf 6 = .ok (.aload_n 0, 1) := dk_42 (dk_at dksX1_lineOf_0 6 rfl rfl)
theorem dX1_lineOf_7 : decode cX1_lineOf 7 = .ok (.invokevirtual 458, 3) := dk_182 1 202 (dk_at dksX1_lineOf_0 7 rfl rfl)
theorem dX1_lineOf_10 : decode cX1_lineOf 10 = .ok (.iload_n 1, 1) := dk_27 (dk_at dksX1_lineOf_0 10 rfl rfl)
theorem dX1_lineOf_11 : decode cX1_lineOf 11 = .ok (.iaload, 1) := dk_46 (dk_at dksX1_lineOf_0 11 rfl rfl)
theorem dX1_lineOf_12 : decode cX1_lineOf 12 = .ok (.ireturn, 1) := dk_172 (dk_at dksX1_lineOf_0 12 rfl rfl)
abbrev cX1_pageOf : ByteArray := prog_1_method_73_code
def yX1_pageOf : MethodName := ⟨RX1, "pageOf", "(I)I"⟩
def dkwX1_pageOf_0 : List UInt8 := [42, 27, 182, 1, 206, 42, 180, 0, 131, 108, 172]
abbrev dktX1_pageOf_0 : List UInt8 := dkwX1_pageOf_0 ++ []
theorem dksX1_pageOf_0 : cX1_pageOf.data.toList.drop 0 = dktX1_pageOf_0 := by decide +kernel
theorem dX1_pageOf_0 : decode cX1_pageOf 0 = .ok (.aload_n 0, 1) := dk_42 (dk_at dksX1_pageOf_0 0 rfl rfl)
theorem dX1_pageOf_1 : decode cX1_pageOf 1 = .ok (.iload_n 1, 1) := dk_27 (dk_at dksX1_pageOf_0 1 rfl rfl)
theorem dX1_pageOf_2 : decode cX1_pageOf 2 = .ok (.invokevirtual 462, 3) := dk_182 1 206 (dk_at dksX1_pageOf_0 2 rfl rfl)
theorem dX1_pageOf_5 : decode cX1_pageOf 5 = .ok (.aload_n 0, 1) := dk_42 (dk_at dksX1_pageOf_0 5 rfl rfl)
theorem dX1_pageOf_6 : decode cX1_pageOf 6 = .ok (.getfield 131, 3) := dk_180 0 131 (dk_at dksX1_pageOf_0 6 rfl rfl)
theorem dX1_pageOf_9 : decode cX1_pageOf 9 = .ok (.idiv, 1) := dk_108 (dk_at dksX1_pageOf_0 9 rfl rfl)
theorem dX1_pageOf_10 : decode cX1_pageOf 10 = .ok (.ireturn, 1) := dk_172 (dk_at dksX1_pageOf_0 10 rfl rfl)
abbrev cX1_contract : ByteArray := prog_1_method_74_code
def yX1_contract : MethodName := ⟨RX1, "contract", "(I)I"⟩
def dkwX1_contract_7 : List UInt8 := [180, 0, 120, 182, 0, 172, 172]
abbrev dktX1_contract_7 : List UInt8 := dkwX1_contract_7 ++ []
def dkwX1_contract_6 : List UInt8 := [187, 1, 215, 89, 27, 44, 183, 1, 223, 182, 0, 181, 87, 42, 180, 0, 89, 3, 182, 0, 220, 42]
abbrev dktX1_contract_6 : List UInt8 := dkwX1_contract_6 ++ dktX1_contract_7
def dkwX1_contract_5 : List UInt8 := [42, 180, 0, 120, 182, 0, 172, 16, 20, 162, 0, 7, 4, 167, 0, 4, 3, 184, 0, 145, 42, 180, 0, 120]
abbrev dktX1_contract_5 : List UInt8 := dkwX1_contract_5 ++ dktX1_contract_6
def dkwX1_contract_4 : List UInt8 := [182, 1, 220, 44, 182, 1, 134, 154, 0, 7, 4, 167, 0, 4, 3, 126, 62, 167, 255, 205, 29, 184, 0, 164]
abbrev dktX1_contract_4 : List UInt8 := dkwX1_contract_4 ++ dktX1_contract_5
def dkwX1_contract_3 : List UInt8 := [25, 4, 185, 0, 234, 1, 0, 192, 1, 215, 58, 5, 29, 25, 5, 182, 1, 217, 27, 159, 0, 19, 25, 5]
abbrev dktX1_contract_3 : List UInt8 := dkwX1_contract_3 ++ dktX1_contract_4
def dkwX1_contract_2 : List UInt8 := [167, 0, 4, 3, 62, 42, 180, 0, 120, 182, 1, 149, 58, 4, 25, 4, 185, 0, 229, 1, 0, 153, 0, 47]
abbrev dktX1_contract_2 : List UInt8 := dkwX1_contract_2 ++ dktX1_contract_3
def dkwX1_contract_1 : List UInt8 := [182, 1, 23, 153, 0, 24, 44, 182, 1, 118, 133, 20, 1, 198, 20, 1, 213, 184, 0, 153, 153, 0, 7, 4]
abbrev dktX1_contract_1 : List UInt8 := dkwX1_contract_1 ++ dktX1_contract_2
def dkwX1_contract_0 : List UInt8 := [27, 133, 20, 1, 209, 20, 1, 211, 184, 0, 153, 184, 0, 138, 42, 180, 0, 89, 182, 1, 4, 77, 42]
abbrev dktX1_contract_0 : List UInt8 := dkwX1_contract_0 ++ dktX1_contract_1
theorem dksX1_contract_0 : cX1_contract.data.toList.drop 0 = dktX1_contract_0 := by decide +kernel
theorem dksX1_contract_1 : cX1_contract.data.toList.drop 23 = dktX1_contract_1 := dk_seg dksX1_contract_0 23 rfl rfl
theorem dksX1_contract_2 : cX1_contract.data.toList.drop 47 = dktX1_contract_2 := dk_seg dksX1_contract_1 24 rfl rfl
theorem dksX1_contract_3 : cX1_contract.data.toList.drop 71 = dktX1_contract_3 := dk_seg dksX1_contract_2 24 rfl rfl
theorem dksX1_contract_4 : cX1_contract.data.toList.drop 95 = dktX1_contract_4 := dk_seg dksX1_contract_3 24 rfl rfl
theorem dksX1_contract_5 : cX1_contract.data.toList.drop 119 = dktX1_contract_5 := dk_seg dksX1_contract_4 24 rfl rfl
theorem dksX1_contract_6 : cX1_contract.data.toList.drop 143 = dktX1_contract_6 := dk_seg dksX1_contract_5 24 rfl rfl
theorem dksX1_contract_7 : cX1_contract.data.toList.drop 165 = dktX1_contract_7 := dk_seg dksX1_contract_6 22 rfl rfl
theorem dX1_contract_0 : decode cX1_contract 0 = .ok (.iload_n 1, 1) := dk_27 (dk_at dksX1_contract_0 0 rfl rfl)
theorem dX1_contract_1 : decode cX1_contract 1 = .ok (.i2l, 1) := dk_133 (dk_at dksX1_contract_0 1 rfl rfl)
theorem dX1_contract_2 : decode cX1_contract 2 = .ok (.ldc2_w 465, 3) := dk_20 1 209 (dk_at dksX1_contract_0 2 rfl rfl)
theorem dX1_contract_5 : decode cX1_contract 5 = .ok (.ldc2_w 467, 3) := dk_20 1 211 (dk_at dksX1_contract_0 5 rfl rfl)
theorem dX1_contract_8 : decode cX1_contract 8 = .ok (.invokestatic 153, 3) := dk_184 0 153 (dk_at dksX1_contract_0 8 rfl rfl)
theorem dX1_contract_11 : decode cX1_contract 11 = .ok (.invokestatic 138, 3) := dk_184 0 138 (dk_at dksX1_contract_0 11 rfl rfl)
theorem dX1_contract_14 : decode cX1_contract 14 = .ok (.aload_n 0, 1) := dk_42 (dk_at dksX1_contract_0 14 rfl rfl)
theorem dX1_contract_15 : decode cX1_contract 15 = .ok (.getfield 89, 3) := dk_180 0 89 (dk_at dksX1_contract_0 15 rfl rfl)
theorem dX1_contract_18 : decode cX1_contract 18 = .ok (.invokevirtual 260, 3) := dk_182 1 4 (dk_at dksX1_contract_0 18 rfl rfl)
theorem dX1_contract_21 : decode cX1_contract 21 = .ok (.astore_n 2, 1) := dk_77 (dk_at dksX1_contract_0 21 rfl rfl)
theorem dX1_contract_22 : decode cX1_contract 22 = .ok (.aload_n 0, 1) := dk_42 (dk_at dksX1_contract_0 22 rfl rfl)
theorem dX1_contract_23 : decode cX1_contract 23 = .ok (.invokevirtual 279, 3) := dk_182 1 23 (dk_at dksX1_contract_1 0 rfl rfl)
theorem dX1_contract_26 : decode cX1_contract 26 = .ok (.ifCond .eq 24, 3) := dk_153 0 24 (dk_at dksX1_contract_1 3 rfl rfl)
theorem dX1_contract_29 : decode cX1_contract 29 = .ok (.aload_n 2, 1) := dk_44 (dk_at dksX1_contract_1 6 rfl rfl)
theorem dX1_contract_30 : decode cX1_contract 30 = .ok (.invokevirtual 374, 3) := dk_182 1 118 (dk_at dksX1_contract_1 7 rfl rfl)
theorem dX1_contract_33 : decode cX1_contract 33 = .ok (.i2l, 1) := dk_133 (dk_at dksX1_contract_1 10 rfl rfl)
theorem dX1_contract_34 : decode cX1_contract 34 = .ok (.ldc2_w 454, 3) := dk_20 1 198 (dk_at dksX1_contract_1 11 rfl rfl)
theorem dX1_contract_37 : decode cX1_contract 37 = .ok (.ldc2_w 469, 3) := dk_20 1 213 (dk_at dksX1_contract_1 14 rfl rfl)
theorem dX1_contract_40 : decode cX1_contract 40 = .ok (.invokestatic 153, 3) := dk_184 0 153 (dk_at dksX1_contract_1 17 rfl rfl)
theorem dX1_contract_43 : decode cX1_contract 43 = .ok (.ifCond .eq 7, 3) := dk_153 0 7 (dk_at dksX1_contract_1 20 rfl rfl)
theorem dX1_contract_46 : decode cX1_contract 46 = .ok (.iconst 1, 1) := dk_4 (dk_at dksX1_contract_1 23 rfl rfl)
theorem dX1_contract_47 : decode cX1_contract 47 = .ok (.goto 4, 3) := dk_167 0 4 (dk_at dksX1_contract_2 0 rfl rfl)
theorem dX1_contract_50 : decode cX1_contract 50 = .ok (.iconst 0, 1) := dk_3 (dk_at dksX1_contract_2 3 rfl rfl)
theorem dX1_contract_51 : decode cX1_contract 51 = .ok (.istore_n 3, 1) := dk_62 (dk_at dksX1_contract_2 4 rfl rfl)
theorem dX1_contract_52 : decode cX1_contract 52 = .ok (.aload_n 0, 1) := dk_42 (dk_at dksX1_contract_2 5 rfl rfl)
theorem dX1_contract_53 : decode cX1_contract 53 = .ok (.getfield 120, 3) := dk_180 0 120 (dk_at dksX1_contract_2 6 rfl rfl)
theorem dX1_contract_56 : decode cX1_contract 56 = .ok (.invokevirtual 405, 3) := dk_182 1 149 (dk_at dksX1_contract_2 9 rfl rfl)
theorem dX1_contract_59 : decode cX1_contract 59 = .ok (.astore 4, 2) := dk_58 4 (dk_at dksX1_contract_2 12 rfl rfl)
theorem dX1_contract_61 : decode cX1_contract 61 = .ok (.aload 4, 2) := dk_25 4 (dk_at dksX1_contract_2 14 rfl rfl)
theorem dX1_contract_63 : decode cX1_contract 63 = .ok (.invokeinterface 229 1, 5) := by decide +kernel
theorem dX1_contract_68 : decode cX1_contract 68 = .ok (.ifCond .eq 47, 3) := dk_153 0 47 (dk_at dksX1_contract_2 21 rfl rfl)
theorem dX1_contract_71 : decode cX1_contract 71 = .ok (.aload 4, 2) := dk_25 4 (dk_at dksX1_contract_3 0 rfl rfl)
theorem dX1_contract_73 : decode cX1_contract 73 = .ok (.invokeinterface 234 1, 5) := by decide +kernel
theorem dX1_contract_78 : decode cX1_contract 78 = .ok (.checkcast 471, 3) := dk_192 1 215 (dk_at dksX1_contract_3 7 rfl rfl)
theorem dX1_contract_81 : decode cX1_contract 81 = .ok (.astore 5, 2) := dk_58 5 (dk_at dksX1_contract_3 10 rfl rfl)
theorem dX1_contract_83 : decode cX1_contract 83 = .ok (.iload_n 3, 1) := dk_29 (dk_at dksX1_contract_3 12 rfl rfl)
theorem dX1_contract_84 : decode cX1_contract 84 = .ok (.aload 5, 2) := dk_25 5 (dk_at dksX1_contract_3 13 rfl rfl)
theorem dX1_contract_86 : decode cX1_contract 86 = .ok (.invokevirtual 473, 3) := dk_182 1 217 (dk_at dksX1_contract_3 15 rfl rfl)
theorem dX1_contract_89 : decode cX1_contract 89 = .ok (.iload_n 1, 1) := dk_27 (dk_at dksX1_contract_3 18 rfl rfl)
theorem dX1_contract_90 : decode cX1_contract 90 = .ok (.if_icmp .eq 19, 3) := dk_159 0 19 (dk_at dksX1_contract_3 19 rfl rfl)
theorem dX1_contract_93 : decode cX1_contract 93 = .ok (.aload 5, 2) := dk_25 5 (dk_at dksX1_contract_3 22 rfl rfl)
theorem dX1_contract_95 : decode cX1_contract 95 = .ok (.invokevirtual 476, 3) := dk_182 1 220 (dk_at dksX1_contract_4 0 rfl rfl)
theorem dX1_contract_98 : decode cX1_contract 98 = .ok (.aload_n 2, 1) := dk_44 (dk_at dksX1_contract_4 3 rfl rfl)
theorem dX1_contract_99 : decode cX1_contract 99 = .ok (.invokevirtual 390, 3) := dk_182 1 134 (dk_at dksX1_contract_4 4 rfl rfl)
theorem dX1_contract_102 : decode cX1_contract 102 = .ok (.ifCond .ne 7, 3) := dk_154 0 7 (dk_at dksX1_contract_4 7 rfl rfl)
theorem dX1_contract_105 : decode cX1_contract 105 = .ok (.iconst 1, 1) := dk_4 (dk_at dksX1_contract_4 10 rfl rfl)
theorem dX1_contract_106 : decode cX1_contract 106 = .ok (.goto 4, 3) := dk_167 0 4 (dk_at dksX1_contract_4 11 rfl rfl)
theorem dX1_contract_109 : decode cX1_contract 109 = .ok (.iconst 0, 1) := dk_3 (dk_at dksX1_contract_4 14 rfl rfl)
theorem dX1_contract_110 : decode cX1_contract 110 = .ok (.iand, 1) := dk_126 (dk_at dksX1_contract_4 15 rfl rfl)
theorem dX1_contract_111 : decode cX1_contract 111 = .ok (.istore_n 3, 1) := dk_62 (dk_at dksX1_contract_4 16 rfl rfl)
theorem dX1_contract_112 : decode cX1_contract 112 = .ok (.goto (-51), 3) := dk_167 255 205 (dk_at dksX1_contract_4 17 rfl rfl)
theorem dX1_contract_115 : decode cX1_contract 115 = .ok (.iload_n 3, 1) := dk_29 (dk_at dksX1_contract_4 20 rfl rfl)
theorem dX1_contract_116 : decode cX1_contract 116 = .ok (.invokestatic 164, 3) := dk_184 0 164 (dk_at dksX1_contract_4 21 rfl rfl)
theorem dX1_contract_119 : decode cX1_contract 119 = .ok (.aload_n 0, 1) := dk_42 (dk_at dksX1_contract_5 0 rfl rfl)
theorem dX1_contract_120 : decode cX1_contract 120 = .ok (.getfield 120, 3) := dk_180 0 120 (dk_at dksX1_contract_5 1 rfl rfl)
theorem dX1_contract_123 : decode cX1_contract 123 = .ok (.invokevirtual 172, 3) := dk_182 0 172 (dk_at dksX1_contract_5 4 rfl rfl)
theorem dX1_contract_126 : decode cX1_contract 126 = .ok (.bipush 20, 2) := dk_16 20 (dk_at dksX1_contract_5 7 rfl rfl)
theorem dX1_contract_128 : decode cX1_contract 128 = .ok (.if_icmp .ge 7, 3) := dk_162 0 7 (dk_at dksX1_contract_5 9 rfl rfl)
theorem dX1_contract_131 : decode cX1_contract 131 = .ok (.iconst 1, 1) := dk_4 (dk_at dksX1_contract_5 12 rfl rfl)
theorem dX1_contract_132 : decode cX1_contract 132 = .ok (.goto 4, 3) := dk_167 0 4 (dk_at dksX1_contract_5 13 rfl rfl)
theorem dX1_contract_135 : decode cX1_contract 135 = .ok (.iconst 0, 1) := dk_3 (dk_at dksX1_contract_5 16 rfl rfl)
theorem dX1_contract_136 : decode cX1_contract 136 = .ok (.invokestatic 145, 3) := dk_184 0 145 (dk_at dksX1_contract_5 17 rfl rfl)
theorem dX1_contract_139 : decode cX1_contract 139 = .ok (.aload_n 0, 1) := dk_42 (dk_at dksX1_contract_5 20 rfl rfl)
theorem dX1_contract_140 : decode cX1_contract 140 = .ok (.getfield 120, 3) := dk_180 0 120 (dk_at dksX1_contract_5 21 rfl rfl)
theorem dX1_contract_143 : decode cX1_contract 143 = .ok (.new 471, 3) := dk_187 1 215 (dk_at dksX1_contract_6 0 rfl rfl)
theorem dX1_contract_146 : decode cX1_contract 146 = .ok (.dup, 1) := dk_89 (dk_at dksX1_contract_6 3 rfl rfl)
theorem dX1_contract_147 : decode cX1_contract 147 = .ok (.iload_n 1, 1) := dk_27 (dk_at dksX1_contract_6 4 rfl rfl)
theorem dX1_contract_148 : decode cX1_contract 148 = .ok (.aload_n 2, 1) := dk_44 (dk_at dksX1_contract_6 5 rfl rfl)
theorem dX1_contract_149 : decode cX1_contract 149 = .ok (.invokespecial 479, 3) := dk_183 1 223 (dk_at dksX1_contract_6 6 rfl rfl)
theorem dX1_contract_152 : decode cX1_contract 152 = .ok (.invokevirtual 181, 3) := dk_182 0 181 (dk_at dksX1_contract_6 9 rfl rfl)
theorem dX1_contract_155 : decode cX1_contract 155 = .ok (.pop, 1) := dk_87 (dk_at dksX1_contract_6 12 rfl rfl)
theorem dX1_contract_156 : decode cX1_contract 156 = .ok (.aload_n 0, 1) := dk_42 (dk_at dksX1_contract_6 13 rfl rfl)
theorem dX1_contract_157 : decode cX1_contract 157 = .ok (.getfield 89, 3) := dk_180 0 89 (dk_at dksX1_contract_6 14 rfl rfl)
theorem dX1_contract_160 : decode cX1_contract 160 = .ok (.iconst 0, 1) := dk_3 (dk_at dksX1_contract_6 17 rfl rfl)
theorem dX1_contract_161 : decode cX1_contract 161 = .ok (.invokevirtual 220, 3) := dk_182 0 220 (dk_at dksX1_contract_6 18 rfl rfl)
theorem dX1_contract_164 : decode cX1_contract 164 = .ok (.aload_n 0, 1) := dk_42 (dk_at dksX1_contract_6 21 rfl rfl)
theorem dX1_contract_165 : decode cX1_contract 165 = .ok (.getfield 120, 3) := dk_180 0 120 (dk_at dksX1_contract_7 0 rfl rfl)
theorem dX1_contract_168 : decode cX1_contract 168 = .ok (.invokevirtual 172, 3) := dk_182 0 172 (dk_at dksX1_contract_7 3 rfl rfl)
theorem dX1_contract_171 : decode cX1_contract 171 = .ok (.ireturn, 1) := dk_172 (dk_at dksX1_contract_7 6 rfl rfl)
abbrev cX1_cellAt : ByteArray := prog_1_method_80_code
def yX1_cellAt : MethodName := ⟨RX1, "cellAt", "(I)I"⟩
def dkwX1_cellAt_1 : List UInt8 := [182, 0, 200, 192, 0, 168, 182, 1, 160, 172]
abbrev dktX1_cellAt_1 : List UInt8 := dkwX1_cellAt_1 ++ []
def dkwX1_cellAt_0 : List UInt8 := [42, 182, 1, 254, 77, 27, 133, 9, 44, 182, 0, 172, 4, 100, 133, 184, 0, 153, 184, 0, 157, 44, 27]
abbrev dktX1_cellAt_0 : List UInt8 := dkwX1_cellAt_0 ++ dktX1_cellAt_1
theorem dksX1_cellAt_0 : cX1_cellAt.data.toList.drop 0 = dktX1_cellAt_0 := by decide +kernel
theorem dksX1_cellAt_1 : cX1_cellAt.data.toList.drop 23 = dktX1_cellAt_1 := dk_seg dksX1_cellAt_0 23 rfl rfl
theorem dX1_cellAt_0 : decode cX1_cellAt 0 = .ok (.aload_n 0, 1) := dk_42 (dk_at dksX1_cellAt_0 0 rfl rfl)
theorem dX1_cellAt_1 : decode cX1_cellAt 1 = .ok (.invokevirtual 510, 3) := dk_182 1 254 (dk_at dksX1_cellAt_0 1 rfl rfl)
theorem dX1_cellAt_4 : decode cX1_cellAt 4 = .ok (.astore_n 2, 1) := dk_77 (dk_at dksX1_cellAt_0 4 rfl rfl)
theorem dX1_cellAt_5 : decode cX1_cellAt 5 = .ok (.iload_n 1, 1) := dk_27 (dk_at dksX1_cellAt_0 5 rfl rfl)
theorem dX1_cellAt_6 : decode cX1_cellAt 6 = .ok (.i2l, 1) := dk_133 (dk_at dksX1_cellAt_0 6 rfl rfl)
theorem dX1_cellAt_7 : decode cX1_cellAt 7 = .ok (.lconst 0, 1) := dk_9 (dk_at dksX1_cellAt_0 7 rfl rfl)
theorem dX1_cellAt_8 : decode cX1_cellAt 8 = .ok (.aload_n 2, 1) := dk_44 (dk_at dksX1_cellAt_0 8 rfl rfl)
theorem dX1_cellAt_9 : decode cX1_cellAt 9 = .ok (.invokevirtual 172, 3) := dk_182 0 172 (dk_at dksX1_cellAt_0 9 rfl rfl)
theorem dX1_cellAt_12 : decode cX1_cellAt 12 = .ok (.iconst 1, 1) := dk_4 (dk_at dksX1_cellAt_0 12 rfl rfl)
theorem dX1_cellAt_13 : decode cX1_cellAt 13 = .ok (.isub, 1) := dk_100 (dk_at dksX1_cellAt_0 13 rfl rfl)
theorem dX1_cellAt_14 : decode cX1_cellAt 14 = .ok (.i2l, 1) := dk_133 (dk_at dksX1_cellAt_0 14 rfl rfl)
theorem dX1_cellAt_15 : decode cX1_cellAt 15 = .ok (.invokestatic 153, 3) := dk_184 0 153 (dk_at dksX1_cellAt_0 15 rfl rfl)
theorem dX1_cellAt_18 : decode cX1_cellAt 18 = .ok (.invokestatic 157, 3) := dk_184 0 157 (dk_at dksX1_cellAt_0 18 rfl rfl)
theorem dX1_cellAt_21 : decode cX1_cellAt 21 = .ok (.aload_n 2, 1) := dk_44 (dk_at dksX1_cellAt_0 21 rfl rfl)
theorem dX1_cellAt_22 : decode cX1_cellAt 22 = .ok (.iload_n 1, 1) := dk_27 (dk_at dksX1_cellAt_0 22 rfl rfl)
theorem dX1_cellAt_23 : decode cX1_cellAt 23 = .ok (.invokevirtual 200, 3) := dk_182 0 200 (dk_at dksX1_cellAt_1 0 rfl rfl)
theorem dX1_cellAt_26 : decode cX1_cellAt 26 = .ok (.checkcast 168, 3) := dk_192 0 168 (dk_at dksX1_cellAt_1 3 rfl rfl)
theorem dX1_cellAt_29 : decode cX1_cellAt 29 = .ok (.invokevirtual 416, 3) := dk_182 1 160 (dk_at dksX1_cellAt_1 6 rfl rfl)
theorem dX1_cellAt_32 : decode cX1_cellAt 32 = .ok (.ireturn, 1) := dk_172 (dk_at dksX1_cellAt_1 9 rfl rfl)
abbrev cX1_nearest : ByteArray := prog_1_method_82_code
def yX1_nearest : MethodName := ⟨RX1, "nearest", "(I)I"⟩
def dkwX1_nearest_7 : List UInt8 := [167, 255, 111, 28, 153, 0, 7, 4, 167, 0, 4, 3, 184, 0, 191, 28, 172]
abbrev dktX1_nearest_7 : List UInt8 := dkwX1_nearest_7 ++ []
def dkwX1_nearest_6 : List UInt8 := [21, 7, 154, 0, 14, 21, 6, 28, 162, 0, 8, 21, 6, 167, 0, 4, 28, 61, 167, 255, 142, 132, 3, 1]
abbrev dktX1_nearest_6 : List UInt8 := dkwX1_nearest_6 ++ dktX1_nearest_7
def dkwX1_nearest_5 : List UInt8 := [167, 0, 17, 21, 6, 27, 130, 184, 0, 167, 28, 27, 130, 184, 0, 167, 100, 54, 7, 21, 7, 155, 0, 14]
abbrev dktX1_nearest_5 : List UInt8 := dkwX1_nearest_5 ++ dktX1_nearest_6
def dkwX1_nearest_4 : List UInt8 := [180, 0, 240, 3, 185, 0, 51, 2, 0, 192, 0, 168, 182, 1, 160, 54, 6, 28, 154, 0, 7, 2]
abbrev dktX1_nearest_4 : List UInt8 := dkwX1_nearest_4 ++ dktX1_nearest_5
def dkwX1_nearest_3 : List UInt8 := [29, 51, 153, 255, 228, 25, 5, 180, 0, 240, 185, 0, 45, 1, 0, 4, 164, 0, 6, 167, 255, 211, 25, 5]
abbrev dktX1_nearest_3 : List UInt8 := dkwX1_nearest_3 ++ dktX1_nearest_4
def dkwX1_nearest_2 : List UInt8 := [185, 0, 229, 1, 0, 153, 0, 110, 25, 4, 185, 0, 234, 1, 0, 192, 0, 238, 58, 5, 42, 180, 0, 79]
abbrev dktX1_nearest_2 : List UInt8 := dkwX1_nearest_2 ++ dktX1_nearest_3
def dkwX1_nearest_1 : List UInt8 := [180, 0, 75, 29, 185, 0, 51, 2, 0, 192, 0, 46, 185, 0, 225, 1, 0, 58, 4, 25, 4]
abbrev dktX1_nearest_1 : List UInt8 := dkwX1_nearest_1 ++ dktX1_nearest_2
def dkwX1_nearest_0 : List UInt8 := [27, 133, 10, 20, 0, 185, 184, 0, 153, 184, 0, 138, 3, 61, 3, 62, 29, 7, 162, 0, 146, 42]
abbrev dktX1_nearest_0 : List UInt8 := dkwX1_nearest_0 ++ dktX1_nearest_1
theorem dksX1_nearest_0 : cX1_nearest.data.toList.drop 0 = dktX1_nearest_0 := by decide +kernel
theorem dksX1_nearest_1 : cX1_nearest.data.toList.drop 22 = dktX1_nearest_1 := dk_seg dksX1_nearest_0 22 rfl rfl
theorem dksX1_nearest_2 : cX1_nearest.data.toList.drop 43 = dktX1_nearest_2 := dk_seg dksX1_nearest_1 21 rfl rfl
theorem dksX1_nearest_3 : cX1_nearest.data.toList.drop 67 = dktX1_nearest_3 := dk_seg dksX1_nearest_2 24 rfl rfl
theorem dksX1_nearest_4 : cX1_nearest.data.toList.drop 91 = dktX1_nearest_4 := dk_seg dksX1_nearest_3 24 rfl rfl
theorem dksX1_nearest_5 : cX1_nearest.data.toList.drop 113 = dktX1_nearest_5 := dk_seg dksX1_nearest_4 22 rfl rfl
theorem dksX1_nearest_6 : cX1_nearest.data.toList.drop 137 = dktX1_nearest_6 := dk_seg dksX1_nearest_5 24 rfl rfl
theorem dksX1_nearest_7 : cX1_nearest.data.toList.drop 161 = dktX1_nearest_7 := dk_seg dksX1_nearest_6 24 rfl rfl
theorem dX1_nearest_0 : decode cX1_nearest 0 = .ok (.iload_n 1, 1) := dk_27 (dk_at dksX1_nearest_0 0 rfl rfl)
theorem dX1_nearest_1 : decode cX1_nearest 1 = .ok (.i2l, 1) := dk_133 (dk_at dksX1_nearest_0 1 rfl rfl)
theorem dX1_nearest_2 : decode cX1_nearest 2 = .ok (.lconst 1, 1) := dk_10 (dk_at dksX1_nearest_0 2 rfl rfl)
theorem dX1_nearest_3 : decode cX1_nearest 3 = .ok (.ldc2_w 185, 3) := dk_20 0 185 (dk_at dksX1_nearest_0 3 rfl rfl)
theorem dX1_nearest_6 : decode cX1_nearest 6 = .ok (.invokestatic 153, 3) := dk_184 0 153 (dk_at dksX1_nearest_0 6 rfl rfl)
theorem dX1_nearest_9 : decode cX1_nearest 9 = .ok (.invokestatic 138, 3) := dk_184 0 138 (dk_at dksX1_nearest_0 9 rfl rfl)
theorem dX1_nearest_12 : decode cX1_nearest 12 = .ok (.iconst 0, 1) := dk_3 (dk_at dksX1_nearest_0 12 rfl rfl)
theorem dX1_nearest_13 : decode cX1_nearest 13 = .ok (.istore_n 2, 1) := dk_61 (dk_at dksX1_nearest_0 13 rfl rfl)
theorem dX1_nearest_14 : decode cX1_nearest 14 = .ok (.iconst 0, 1) := dk_3 (dk_at dksX1_nearest_0 14 rfl rfl)
theorem dX1_nearest_15 : decode cX1_nearest 15 = .ok (.istore_n 3, 1) := dk_62 (dk_at dksX1_nearest_0 15 rfl rfl)
theorem dX1_nearest_16 : decode cX1_nearest 16 = .ok (.iload_n 3, 1) := dk_29 (dk_at dksX1_nearest_0 16 rfl rfl)
theorem dX1_nearest_17 : decode cX1_nearest 17 = .ok (.iconst 4, 1) := dk_7 (dk_at dksX1_nearest_0 17 rfl rfl)
theorem dX1_nearest_18 : decode cX1_nearest 18 = .ok (.if_icmp .ge 146, 3) := dk_162 0 146 (dk_at dksX1_nearest_0 18 rfl rfl)
theorem dX1_nearest_21 : decode cX1_nearest 21 = .ok (.aload_n 0, 1) := dk_42 (dk_at dksX1_nearest_0 21 rfl rfl)
theorem dX1_nearest_22 : decode cX1_nearest 22 = .ok (.getfield 75, 3) := dk_180 0 75 (dk_at dksX1_nearest_1 0 rfl rfl)
theorem dX1_nearest_25 : decode cX1_nearest 25 = .ok (.iload_n 3, 1) := dk_29 (dk_at dksX1_nearest_1 3 rfl rfl)
theorem dX1_nearest_26 : decode cX1_nearest 26 = .ok (.invokeinterface 51 2, 5) := by decide +kernel
theorem dX1_nearest_31 : decode cX1_nearest 31 = .ok (.checkcast 46, 3) := dk_192 0 46 (dk_at dksX1_nearest_1 9 rfl rfl)
theorem dX1_nearest_34 : decode cX1_nearest 34 = .ok (.invokeinterface 225 1, 5) := by decide +kernel
theorem dX1_nearest_39 : decode cX1_nearest 39 = .ok (.astore 4, 2) := dk_58 4 (dk_at dksX1_nearest_1 17 rfl rfl)
theorem dX1_nearest_41 : decode cX1_nearest 41 = .ok (.aload 4, 2) := dk_25 4 (dk_at dksX1_nearest_1 19 rfl rfl)
theorem dX1_nearest_43 : decode cX1_nearest 43 = .ok (.invokeinterface 229 1, 5) := by decide +kernel
theorem dX1_nearest_48 : decode cX1_nearest 48 = .ok (.ifCond .eq 110, 3) := dk_153 0 110 (dk_at dksX1_nearest_2 5 rfl rfl)
theorem dX1_nearest_51 : decode cX1_nearest 51 = .ok (.aload 4, 2) := dk_25 4 (dk_at dksX1_nearest_2 8 rfl rfl)
theorem dX1_nearest_53 : decode cX1_nearest 53 = .ok (.invokeinterface 234 1, 5) := by decide +kernel
theorem dX1_nearest_58 : decode cX1_nearest 58 = .ok (.checkcast 238, 3) := dk_192 0 238 (dk_at dksX1_nearest_2 15 rfl rfl)
theorem dX1_nearest_61 : decode cX1_nearest 61 = .ok (.astore 5, 2) := dk_58 5 (dk_at dksX1_nearest_2 18 rfl rfl)
theorem dX1_nearest_63 : decode cX1_nearest 63 = .ok (.aload_n 0, 1) := dk_42 (dk_at dksX1_nearest_2 20 rfl rfl)
theorem dX1_nearest_64 : decode cX1_nearest 64 = .ok (.getfield 79, 3) := dk_180 0 79 (dk_at dksX1_nearest_2 21 rfl rfl)
theorem dX1_nearest_67 : decode cX1_nearest 67 = .ok (.iload_n 3, 1) := dk_29 (dk_at dksX1_nearest_3 0 rfl rfl)
theorem dX1_nearest_68 : decode cX1_nearest 68 = .ok (.baload, 1) := dk_51 (dk_at dksX1_nearest_3 1 rfl rfl)
theorem dX1_nearest_69 : decode cX1_nearest 69 = .ok (.ifCond .eq (-28), 3) := dk_153 255 228 (dk_at dksX1_nearest_3 2 rfl rfl)
theorem dX1_nearest_72 : decode cX1_nearest 72 = .ok (.aload 5, 2) := dk_25 5 (dk_at dksX1_nearest_3 5 rfl rfl)
theorem dX1_nearest_74 : decode cX1_nearest 74 = .ok (.getfield 240, 3) := dk_180 0 240 (dk_at dksX1_nearest_3 7 rfl rfl)
theorem dX1_nearest_77 : decode cX1_nearest 77 = .ok (.invokeinterface 45 1, 5) := by decide +kernel
theorem dX1_nearest_82 : decode cX1_nearest 82 = .ok (.iconst 1, 1) := dk_4 (dk_at dksX1_nearest_3 15 rfl rfl)
theorem dX1_nearest_83 : decode cX1_nearest 83 = .ok (.if_icmp .le 6, 3) := dk_164 0 6 (dk_at dksX1_nearest_3 16 rfl rfl)
theorem dX1_nearest_86 : decode cX1_nearest 86 = .ok (.goto (-45), 3) := dk_167 255 211 (dk_at dksX1_nearest_3 19 rfl rfl)
theorem dX1_nearest_89 : decode cX1_nearest 89 = .ok (.aload 5, 2) := dk_25 5 (dk_at dksX1_nearest_3 22 rfl rfl)
theorem dX1_nearest_91 : decode cX1_nearest 91 = .ok (.getfield 240, 3) := dk_180 0 240 (dk_at dksX1_nearest_4 0 rfl rfl)
theorem dX1_nearest_94 : decode cX1_nearest 94 = .ok (.iconst 0, 1) := dk_3 (dk_at dksX1_nearest_4 3 rfl rfl)
theorem dX1_nearest_95 : decode cX1_nearest 95 = .ok (.invokeinterface 51 2, 5) := by decide +kernel
theorem dX1_nearest_100 : decode cX1_nearest 100 = .ok (.checkcast 168, 3) := dk_192 0 168 (dk_at dksX1_nearest_4 9 rfl rfl)
theorem dX1_nearest_103 : decode cX1_nearest 103 = .ok (.invokevirtual 416, 3) := dk_182 1 160 (dk_at dksX1_nearest_4 12 rfl rfl)
theorem dX1_nearest_106 : decode cX1_nearest 106 = .ok (.istore 6, 2) := dk_54 6 (dk_at dksX1_nearest_4 15 rfl rfl)
theorem dX1_nearest_108 : decode cX1_nearest 108 = .ok (.iload_n 2, 1) := dk_28 (dk_at dksX1_nearest_4 17 rfl rfl)
theorem dX1_nearest_109 : decode cX1_nearest 109 = .ok (.ifCond .ne 7, 3) := dk_154 0 7 (dk_at dksX1_nearest_4 18 rfl rfl)
theorem dX1_nearest_112 : decode cX1_nearest 112 = .ok (.iconst (-1), 1) := dk_2 (dk_at dksX1_nearest_4 21 rfl rfl)
theorem dX1_nearest_113 : decode cX1_nearest 113 = .ok (.goto 17, 3) := dk_167 0 17 (dk_at dksX1_nearest_5 0 rfl rfl)
theorem dX1_nearest_116 : decode cX1_nearest 116 = .ok (.iload 6, 2) := dk_21 6 (dk_at dksX1_nearest_5 3 rfl rfl)
theorem dX1_nearest_118 : decode cX1_nearest 118 = .ok (.iload_n 1, 1) := dk_27 (dk_at dksX1_nearest_5 5 rfl rfl)
theorem dX1_nearest_119 : decode cX1_nearest 119 = .ok (.ixor, 1) := dk_130 (dk_at dksX1_nearest_5 6 rfl rfl)
theorem dX1_nearest_120 : decode cX1_nearest 120 = .ok (.invokestatic 167, 3) := dk_184 0 167 (dk_at dksX1_nearest_5 7 rfl rfl)
theorem dX1_nearest_123 : decode cX1_nearest 123 = .ok (.iload_n 2, 1) := dk_28 (dk_at dksX1_nearest_5 10 rfl rfl)
theorem dX1_nearest_124 : decode cX1_nearest 124 = .ok (.iload_n 1, 1) := dk_27 (dk_at dksX1_nearest_5 11 rfl rfl)
theorem dX1_nearest_125 : decode cX1_nearest 125 = .ok (.ixor, 1) := dk_130 (dk_at dksX1_nearest_5 12 rfl rfl)
theorem dX1_nearest_126 : decode cX1_nearest 126 = .ok (.invokestatic 167, 3) := dk_184 0 167 (dk_at dksX1_nearest_5 13 rfl rfl)
theorem dX1_nearest_129 : decode cX1_nearest 129 = .ok (.isub, 1) := dk_100 (dk_at dksX1_nearest_5 16 rfl rfl)
theorem dX1_nearest_130 : decode cX1_nearest 130 = .ok (.istore 7, 2) := dk_54 7 (dk_at dksX1_nearest_5 17 rfl rfl)
theorem dX1_nearest_132 : decode cX1_nearest 132 = .ok (.iload 7, 2) := dk_21 7 (dk_at dksX1_nearest_5 19 rfl rfl)
theorem dX1_nearest_134 : decode cX1_nearest 134 = .ok (.ifCond .lt 14, 3) := dk_155 0 14 (dk_at dksX1_nearest_5 21 rfl rfl)
theorem dX1_nearest_137 : decode cX1_nearest 137 = .ok (.iload 7, 2) := dk_21 7 (dk_at dksX1_nearest_6 0 rfl rfl)
theorem dX1_nearest_139 : decode cX1_nearest 139 = .ok (.ifCond .ne 14, 3) := dk_154 0 14 (dk_at dksX1_nearest_6 2 rfl rfl)
theorem dX1_nearest_142 : decode cX1_nearest 142 = .ok (.iload 6, 2) := dk_21 6 (dk_at dksX1_nearest_6 5 rfl rfl)
theorem dX1_nearest_144 : decode cX1_nearest 144 = .ok (.iload_n 2, 1) := dk_28 (dk_at dksX1_nearest_6 7 rfl rfl)
theorem dX1_nearest_145 : decode cX1_nearest 145 = .ok (.if_icmp .ge 8, 3) := dk_162 0 8 (dk_at dksX1_nearest_6 8 rfl rfl)
theorem dX1_nearest_148 : decode cX1_nearest 148 = .ok (.iload 6, 2) := dk_21 6 (dk_at dksX1_nearest_6 11 rfl rfl)
theorem dX1_nearest_150 : decode cX1_nearest 150 = .ok (.goto 4, 3) := dk_167 0 4 (dk_at dksX1_nearest_6 13 rfl rfl)
theorem dX1_nearest_153 : decode cX1_nearest 153 = .ok (.iload_n 2, 1) := dk_28 (dk_at dksX1_nearest_6 16 rfl rfl)
theorem dX1_nearest_154 : decode cX1_nearest 154 = .ok (.istore_n 2, 1) := dk_61 (dk_at dksX1_nearest_6 17 rfl rfl)
theorem dX1_nearest_155 : decode cX1_nearest 155 = .ok (.goto (-114), 3) := dk_167 255 142 (dk_at dksX1_nearest_6 18 rfl rfl)
theorem dX1_nearest_158 : decode cX1_nearest 158 = .ok (.iinc 3 1, 3) := dk_132 3 1 (dk_at dksX1_nearest_6 21 rfl rfl)
theorem dX1_nearest_161 : decode cX1_nearest 161 = .ok (.goto (-145), 3) := dk_167 255 111 (dk_at dksX1_nearest_7 0 rfl rfl)
theorem dX1_nearest_164 : decode cX1_nearest 164 = .ok (.iload_n 2, 1) := dk_28 (dk_at dksX1_nearest_7 3 rfl rfl)
theorem dX1_nearest_165 : decode cX1_nearest 165 = .ok (.ifCond .eq 7, 3) := dk_153 0 7 (dk_at dksX1_nearest_7 4 rfl rfl)
theorem dX1_nearest_168 : decode cX1_nearest 168 = .ok (.iconst 1, 1) := dk_4 (dk_at dksX1_nearest_7 7 rfl rfl)
theorem dX1_nearest_169 : decode cX1_nearest 169 = .ok (.goto 4, 3) := dk_167 0 4 (dk_at dksX1_nearest_7 8 rfl rfl)
theorem dX1_nearest_172 : decode cX1_nearest 172 = .ok (.iconst 0, 1) := dk_3 (dk_at dksX1_nearest_7 11 rfl rfl)
theorem dX1_nearest_173 : decode cX1_nearest 173 = .ok (.invokestatic 191, 3) := dk_184 0 191 (dk_at dksX1_nearest_7 12 rfl rfl)
theorem dX1_nearest_176 : decode cX1_nearest 176 = .ok (.iload_n 2, 1) := dk_28 (dk_at dksX1_nearest_7 15 rfl rfl)
theorem dX1_nearest_177 : decode cX1_nearest 177 = .ok (.ireturn, 1) := dk_172 (dk_at dksX1_nearest_7 16 rfl rfl)
abbrev cX1_brief : ByteArray := prog_1_method_84_code
def yX1_brief : MethodName := ⟨RX1, "brief", "()F"⟩
def dkwX1_brief_1 : List UInt8 := [180, 0, 72, 182, 0, 172, 134, 110, 174]
abbrev dktX1_brief_1 : List UInt8 := dkwX1_brief_1 ++ []
def dkwX1_brief_0 : List UInt8 := [42, 180, 0, 72, 182, 0, 187, 154, 0, 7, 4, 167, 0, 4, 3, 184, 2, 6, 42, 182, 2, 9, 134, 42]
abbrev dktX1_brief_0 : List UInt8 := dkwX1_brief_0 ++ dktX1_brief_1
theorem dksX1_brief_0 : cX1_brief.data.toList.drop 0 = dktX1_brief_0 := by decide +kernel
theorem dksX1_brief_1 : cX1_brief.data.toList.drop 24 = dktX1_brief_1 := dk_seg dksX1_brief_0 24 rfl rfl
theorem dX1_brief_0 : decode cX1_brief 0 = .ok (.aload_n 0, 1) := dk_42 (dk_at dksX1_brief_0 0 rfl rfl)
theorem dX1_brief_1 : decode cX1_brief 1 = .ok (.getfield 72, 3) := dk_180 0 72 (dk_at dksX1_brief_0 1 rfl rfl)
theorem dX1_brief_4 : decode cX1_brief 4 = .ok (.invokevirtual 187, 3) := dk_182 0 187 (dk_at dksX1_brief_0 4 rfl rfl)
theorem dX1_brief_7 : decode cX1_brief 7 = .ok (.ifCond .ne 7, 3) := dk_154 0 7 (dk_at dksX1_brief_0 7 rfl rfl)
theorem dX1_brief_10 : decode cX1_brief 10 = .ok (.iconst 1, 1) := dk_4 (dk_at dksX1_brief_0 10 rfl rfl)
theorem dX1_brief_11 : decode cX1_brief 11 = .ok (.goto 4, 3) := dk_167 0 4 (dk_at dksX1_brief_0 11 rfl rfl)
theorem dX1_brief_14 : decode cX1_brief 14 = .ok (.iconst 0, 1) := dk_3 (dk_at dksX1_brief_0 14 rfl rfl)
theorem dX1_brief_15 : decode cX1_brief 15 = .ok (.invokestatic 518, 3) := dk_184 2 6 (dk_at dksX1_brief_0 15 rfl rfl)
theorem dX1_brief_18 : decode cX1_brief 18 = .ok (.aload_n 0, 1) := dk_42 (dk_at dksX1_brief_0 18 rfl rfl)
theorem dX1_brief_19 : decode cX1_brief 19 = .ok (.invokevirtual 521, 3) := dk_182 2 9 (dk_at dksX1_brief_0 19 rfl rfl)
theorem dX1_brief_22 : decode cX1_brief 22 = .ok (.i2f, 1) := dk_134 (dk_at dksX1_brief_0 22 rfl rfl)
theorem dX1_brief_23 : decode cX1_brief 23 = .ok (.aload_n 0, 1) := dk_42 (dk_at dksX1_brief_0 23 rfl rfl)
theorem dX1_brief_24 : decode cX1_brief 24 = .ok (.getfield 72, 3) := dk_180 0 72 (dk_at dksX1_brief_1 0 rfl rfl)
theorem dX1_brief_27 : decode cX1_brief 27 = .ok (.invokevirtual 172, 3) := dk_182 0 172 (dk_at dksX1_brief_1 3 rfl rfl)
theorem dX1_brief_30 : decode cX1_brief 30 = .ok (.i2f, 1) := dk_134 (dk_at dksX1_brief_1 6 rfl rfl)
theorem dX1_brief_31 : decode cX1_brief 31 = .ok (.fdiv, 1) := dk_110 (dk_at dksX1_brief_1 7 rfl rfl)
theorem dX1_brief_32 : decode cX1_brief 32 = .ok (.freturn, 1) := dk_174 (dk_at dksX1_brief_1 8 rfl rfl)
abbrev cX1_requireSome : ByteArray := prog_1_method_7_code
def yX1_requireSome : MethodName := ⟨RX1, "requireSome", "(Z)V"⟩
def dkwX1_requireSome_0 : List UInt8 := [26, 154, 0, 11, 187, 0, 19, 89, 183, 0, 21, 191, 177]
abbrev dktX1_requireSome_0 : List UInt8 := dkwX1_requireSome_0 ++ []
theorem dksX1_requireSome_0 : cX1_requireSome.data.toList.drop 0 = dktX1_requireSome_0 := by decide +kernel
theorem dX1_requireSome_0 : decode cX1_requireSome 0 = .ok (.iload_n 0, 1) := dk_26 (dk_at dksX1_requireSome_0 0 rfl rfl)
theorem dX1_requireSome_1 : decode cX1_requireSome 1 = .ok (.ifCond .ne 11, 3) := dk_154 0 11 (dk_at dksX1_requireSome_0 1 rfl rfl)
theorem dX1_requireSome_4 : decode cX1_requireSome 4 = .ok (.new 19, 3) := dk_187 0 19 (dk_at dksX1_requireSome_0 4 rfl rfl)
theorem dX1_requireSome_7 : decode cX1_requireSome 7 = .ok (.dup, 1) := dk_89 (dk_at dksX1_requireSome_0 7 rfl rfl)
theorem dX1_requireSome_8 : decode cX1_requireSome 8 = .ok (.invokespecial 21, 3) := dk_183 0 21 (dk_at dksX1_requireSome_0 8 rfl rfl)
theorem dX1_requireSome_11 : decode cX1_requireSome 11 = .ok (.athrow, 1) := dk_191 (dk_at dksX1_requireSome_0 11 rfl rfl)
theorem dX1_requireSome_12 : decode cX1_requireSome 12 = .ok (.return_, 1) := dk_177 (dk_at dksX1_requireSome_0 12 rfl rfl)
abbrev cX1_delay : ByteArray := prog_1_method_85_code
def yX1_delay : MethodName := ⟨RX1, "delay", "()D"⟩
def dkwX1_delay_3 : List UInt8 := [175]
abbrev dktX1_delay_3 : List UInt8 := dkwX1_delay_3 ++ []
def dkwX1_delay_2 : List UInt8 := [182, 0, 200, 192, 0, 55, 182, 0, 57, 100, 60, 27, 135, 42, 180, 0, 72, 182, 0, 172, 4, 100, 135, 111]
abbrev dktX1_delay_2 : List UInt8 := dkwX1_delay_2 ++ dktX1_delay_3
def dkwX1_delay_1 : List UInt8 := [180, 0, 72, 182, 0, 172, 4, 100, 182, 0, 200, 192, 0, 55, 182, 0, 57, 42, 180, 0, 72, 3]
abbrev dktX1_delay_1 : List UInt8 := dkwX1_delay_1 ++ dktX1_delay_2
def dkwX1_delay_0 : List UInt8 := [42, 180, 0, 72, 182, 0, 172, 4, 164, 0, 7, 4, 167, 0, 4, 3, 184, 2, 6, 42, 180, 0, 72, 42]
abbrev dktX1_delay_0 : List UInt8 := dkwX1_delay_0 ++ dktX1_delay_1
theorem dksX1_delay_0 : cX1_delay.data.toList.drop 0 = dktX1_delay_0 := by decide +kernel
theorem dksX1_delay_1 : cX1_delay.data.toList.drop 24 = dktX1_delay_1 := dk_seg dksX1_delay_0 24 rfl rfl
theorem dksX1_delay_2 : cX1_delay.data.toList.drop 46 = dktX1_delay_2 := dk_seg dksX1_delay_1 22 rfl rfl
theorem dksX1_delay_3 : cX1_delay.data.toList.drop 70 = dktX1_delay_3 := dk_seg dksX1_delay_2 24 rfl rfl
theorem dX1_delay_0 : decode cX1_delay 0 = .ok (.aload_n 0, 1) := dk_42 (dk_at dksX1_delay_0 0 rfl rfl)
theorem dX1_delay_1 : decode cX1_delay 1 = .ok (.getfield 72, 3) := dk_180 0 72 (dk_at dksX1_delay_0 1 rfl rfl)
theorem dX1_delay_4 : decode cX1_delay 4 = .ok (.invokevirtual 172, 3) := dk_182 0 172 (dk_at dksX1_delay_0 4 rfl rfl)
theorem dX1_delay_7 : decode cX1_delay 7 = .ok (.iconst 1, 1) := dk_4 (dk_at dksX1_delay_0 7 rfl rfl)
theorem dX1_delay_8 : decode cX1_delay 8 = .ok (.if_icmp .le 7, 3) := dk_164 0 7 (dk_at dksX1_delay_0 8 rfl rfl)
theorem dX1_delay_11 : decode cX1_delay 11 = .ok (.iconst 1, 1) := dk_4 (dk_at dksX1_delay_0 11 rfl rfl)
theorem dX1_delay_12 : decode cX1_delay 12 = .ok (.goto 4, 3) := dk_167 0 4 (dk_at dksX1_delay_0 12 rfl rfl)
theorem dX1_delay_15 : decode cX1_delay 15 = .ok (.iconst 0, 1) := dk_3 (dk_at dksX1_delay_0 15 rfl rfl)
theorem dX1_delay_16 : decode cX1_delay 16 = .ok (.invokestatic 518, 3) := dk_184 2 6 (dk_at dksX1_delay_0 16 rfl rfl)
theorem dX1_delay_19 : decode cX1_delay 19 = .ok (.aload_n 0, 1) := dk_42 (dk_at dksX1_delay_0 19 rfl rfl)
theorem dX1_delay_20 : decode cX1_delay 20 = .ok (.getfield 72, 3) := dk_180 0 72 (dk_at dksX1_delay_0 20 rfl rfl)
theorem dX1_delay_23 : decode cX1_delay 23 = .ok (.aload_n 0, 1) := dk_42 (dk_at dksX1_delay_0 23 rfl rfl)
theorem dX1_delay_24 : decode cX1_delay 24 = .ok (.getfield 72, 3) := dk_180 0 72 (dk_at dksX1_delay_1 0 rfl rfl)
theorem dX1_delay_27 : decode cX1_delay 27 = .ok (.invokevirtual 172, 3) := dk_182 0 172 (dk_at dksX1_delay_1 3 rfl rfl)
theorem dX1_delay_30 : decode cX1_delay 30 = .ok (.iconst 1, 1) := dk_4 (dk_at dksX1_delay_1 6 rfl rfl)
theorem dX1_delay_31 : decode cX1_delay 31 = .ok (.isub, 1) := dk_100 (dk_at dksX1_delay_1 7 rfl rfl)
theorem dX1_delay_32 : decode cX1_delay 32 = .ok (.invokevirtual 200, 3) := dk_182 0 200 (dk_at dksX1_delay_1 8 rfl rfl)
theorem dX1_delay_35 : decode cX1_delay 35 = .ok (.checkcast 55, 3) := dk_192 0 55 (dk_at dksX1_delay_1 11 rfl rfl)
theorem dX1_delay_38 : decode cX1_delay 38 = .ok (.invokevirtual 57, 3) := dk_182 0 57 (dk_at dksX1_delay_1 14 rfl rfl)
theorem dX1_delay_41 : decode cX1_delay 41 = .ok (.aload_n 0, 1) := dk_42 (dk_at dksX1_delay_1 17 rfl rfl)
theorem dX1_delay_42 : decode cX1_delay 42 = .ok (.getfield 72, 3) := dk_180 0 72 (dk_at dksX1_delay_1 18 rfl rfl)
theorem dX1_delay_45 : decode cX1_delay 45 = .ok (.iconst 0, 1) := dk_3 (dk_at dksX1_delay_1 21 rfl rfl)
theorem dX1_delay_46 : decode cX1_delay 46 = .ok (.invokevirtual 200, 3) := dk_182 0 200 (dk_at dksX1_delay_2 0 rfl rfl)
theorem dX1_delay_49 : decode cX1_delay 49 = .ok (.checkcast 55, 3) := dk_192 0 55 (dk_at dksX1_delay_2 3 rfl rfl)
theorem dX1_delay_52 : decode cX1_delay 52 = .ok (.invokevirtual 57, 3) := dk_182 0 57 (dk_at dksX1_delay_2 6 rfl rfl)
theorem dX1_delay_55 : decode cX1_delay 55 = .ok (.isub, 1) := dk_100 (dk_at dksX1_delay_2 9 rfl rfl)
theorem dX1_delay_56 : decode cX1_delay 56 = .ok (.istore_n 1, 1) := dk_60 (dk_at dksX1_delay_2 10 rfl rfl)
theorem dX1_delay_57 : decode cX1_delay 57 = .ok (.iload_n 1, 1) := dk_27 (dk_at dksX1_delay_2 11 rfl rfl)
theorem dX1_delay_58 : decode cX1_delay 58 = .ok (.i2d, 1) := dk_135 (dk_at dksX1_delay_2 12 rfl rfl)
theorem dX1_delay_59 : decode cX1_delay 59 = .ok (.aload_n 0, 1) := dk_42 (dk_at dksX1_delay_2 13 rfl rfl)
theorem dX1_delay_60 : decode cX1_delay 60 = .ok (.getfield 72, 3) := dk_180 0 72 (dk_at dksX1_delay_2 14 rfl rfl)
theorem dX1_delay_63 : decode cX1_delay 63 = .ok (.invokevirtual 172, 3) := dk_182 0 172 (dk_at dksX1_delay_2 17 rfl rfl)
theorem dX1_delay_66 : decode cX1_delay 66 = .ok (.iconst 1, 1) := dk_4 (dk_at dksX1_delay_2 20 rfl rfl)
theorem dX1_delay_67 : decode cX1_delay 67 = .ok (.isub, 1) := dk_100 (dk_at dksX1_delay_2 21 rfl rfl)
theorem dX1_delay_68 : decode cX1_delay 68 = .ok (.i2d, 1) := dk_135 (dk_at dksX1_delay_2 22 rfl rfl)
theorem dX1_delay_69 : decode cX1_delay 69 = .ok (.ddiv, 1) := dk_111 (dk_at dksX1_delay_2 23 rfl rfl)
theorem dX1_delay_70 : decode cX1_delay 70 = .ok (.dreturn, 1) := dk_175 (dk_at dksX1_delay_3 0 rfl rfl)
theorem q75 : (Jvm.Cond.initialized "Stenohall") ∈ lw_all := lw_g (lw_at lw_m1 1 rfl) rfl
theorem q156 : (Jvm.Cond.instantiable "Stenohall" (19 : Nat)) ∈ lw_all := lw_g (lw_at lw_m1 82 rfl) rfl
theorem q158 : (Jvm.Cond.instanceMethod ({ cls := "Stenohall", name := "<init>", desc := "()V" } : Jvm.MethodName)) ∈ lw_all := lw_g (lw_at lw_m1 84 rfl) rfl
theorem q159 : (Jvm.Cond.code ({ cls := "Stenohall", name := "<init>", desc := "()V" } : Jvm.MethodName) prog_1_method_16_code (2 : Nat) (Option.none : Option Jvm.ClassFile.FieldType)) ∈ lw_all := lw_g (lw_at lw_m1 85 rfl) rfl
theorem q160 : (Jvm.Cond.methodLink "Stenohall" (66 : Nat) ({ cls := "java/lang/Object", name := "<init>", desc := "()V" } : Jvm.MethodName)) ∈ lw_all := lw_g (lw_at lw_m1 86 rfl) rfl
theorem q163 : (Jvm.Cond.classLink "Stenohall" (69 : Nat) "java/util/ArrayList") ∈ lw_all := lw_g (lw_at lw_m1 89 rfl) rfl
theorem q165 : (Jvm.Cond.methodLink "Stenohall" (71 : Nat) ({ cls := "java/util/ArrayList", name := "<init>", desc := "()V" } : Jvm.MethodName)) ∈ lw_all := lw_g (lw_at lw_m1 91 rfl) rfl
theorem q200 : (Jvm.Cond.classLink "Stenohall" (86 : Nat) "java/lang/StringBuilder") ∈ lw_all := lw_g (lw_at lw_m1 126 rfl) rfl
theorem q202 : (Jvm.Cond.methodLink "Stenohall" (88 : Nat) ({ cls := "java/lang/StringBuilder", name := "<init>", desc := "()V" } : Jvm.MethodName)) ∈ lw_all := lw_g (lw_at lw_m1 128 rfl) rfl
theorem q234 : (Jvm.Cond.classLink "Stenohall" (105 : Nat) "Stenohall$Writer") ∈ lw_all := lw_g (lw_at lw_m1 160 rfl) rfl
theorem q236 : (Jvm.Cond.methodLinkNest "Stenohall" (107 : Nat) ({ cls := "Stenohall$Writer", name := "<init>", desc := "(LStenohall;)V" } : Jvm.MethodName) "Stenohall") ∈ lw_tbl := lw_at lw_m1 162 rfl
theorem q243 : (Jvm.Cond.fieldLinkNest "Stenohall" (391 : Nat) "Stenohall$Writer" "signs" "Ljava/util/ArrayList;" "Stenohall") ∈ lw_tbl := lw_at lw_m1 169 rfl
theorem q265 : (Jvm.Cond.interfaceEntry "Stenohall" (134 : Nat)) ∈ lw_tbl := lw_at lw_m1 191 rfl
theorem q266 : (Jvm.Cond.methodLink "Stenohall" (134 : Nat) ({ cls := "java/util/List", name := "add", desc := "(Ljava/lang/Object;)Z" } : Jvm.MethodName)) ∈ lw_all := lw_g (lw_at lw_m1 192 rfl) rfl
theorem q303 : (Jvm.Cond.selects "Stenohall" ({ cls := "java/lang/Object", name := "getClass", desc := "()Ljava/lang/Class;" } : Jvm.MethodName) ({ cls := "java/lang/Object", name := "getClass", desc := "()Ljava/lang/Class;" } : Jvm.MethodName)) ∈ lw_all := lw_g (lw_at lw_m1 229 rfl) rfl
theorem q755 : (Jvm.Cond.fieldLink "Stenohall" (72 : Nat) "Stenohall" "strokes" "Ljava/util/ArrayList;") ∈ lw_all := lw_g (lw_at lw_m3 201 rfl) rfl
theorem q756 : (Jvm.Cond.fieldLink "Stenohall" (75 : Nat) "Stenohall" "layers" "Ljava/util/List;") ∈ lw_all := lw_g (lw_at lw_m3 202 rfl) rfl
theorem q757 : (Jvm.Cond.fieldLink "Stenohall" (79 : Nat) "Stenohall" "isOn" "[Z") ∈ lw_all := lw_g (lw_at lw_m3 203 rfl) rfl
theorem q758 : (Jvm.Cond.fieldLink "Stenohall" (83 : Nat) "Stenohall" "chords" "Ljava/util/ArrayList;") ∈ lw_all := lw_g (lw_at lw_m3 204 rfl) rfl
theorem q759 : (Jvm.Cond.fieldLink "Stenohall" (89 : Nat) "Stenohall" "signs" "Ljava/lang/StringBuilder;") ∈ lw_all := lw_g (lw_at lw_m3 205 rfl) rfl
theorem q761 : (Jvm.Cond.fieldLink "Stenohall" (93 : Nat) "Stenohall" "words" "Ljava/util/ArrayList;") ∈ lw_all := lw_g (lw_at lw_m3 207 rfl) rfl
theorem q763 : (Jvm.Cond.fieldLink "Stenohall" (96 : Nat) "Stenohall" "rules" "Ljava/lang/StringBuilder;") ∈ lw_all := lw_g (lw_at lw_m3 209 rfl) rfl
theorem q765 : (Jvm.Cond.fieldLink "Stenohall" (99 : Nat) "Stenohall" "translations" "Ljava/util/ArrayList;") ∈ lw_all := lw_g (lw_at lw_m3 211 rfl) rfl
theorem q767 : (Jvm.Cond.fieldLink "Stenohall" (102 : Nat) "Stenohall" "choices" "Ljava/util/ArrayList;") ∈ lw_all := lw_g (lw_at lw_m3 213 rfl) rfl
theorem q768 : (Jvm.Cond.fieldLink "Stenohall" (110 : Nat) "Stenohall" "written" "LStenohall$Writer;") ∈ lw_all := lw_g (lw_at lw_m3 214 rfl) rfl
theorem q769 : (Jvm.Cond.fieldLink "Stenohall" (114 : Nat) "Stenohall" "sinks" "Ljava/util/ArrayList;") ∈ lw_all := lw_g (lw_at lw_m3 215 rfl) rfl
theorem q770 : (Jvm.Cond.fieldLink "Stenohall" (117 : Nat) "Stenohall" "kept" "Ljava/util/ArrayList;") ∈ lw_all := lw_g (lw_at lw_m3 216 rfl) rfl
theorem q771 : (Jvm.Cond.fieldLink "Stenohall" (120 : Nat) "Stenohall" "contractions" "Ljava/util/ArrayList;") ∈ lw_all := lw_g (lw_at lw_m3 217 rfl) rfl
theorem q772 : (Jvm.Cond.fieldLink "Stenohall" (176 : Nat) "Stenohall" "tick" "I") ∈ lw_all := lw_g (lw_at lw_m3 218 rfl) rfl
theorem q773 : (Jvm.Cond.fieldLink "Stenohall" (123 : Nat) "Stenohall" "mode" "C") ∈ lw_all := lw_g (lw_at lw_m3 219 rfl) rfl
theorem q774 : (Jvm.Cond.fieldLink "Stenohall" (142 : Nat) "Stenohall" "held" "I") ∈ lw_all := lw_g (lw_at lw_m3 220 rfl) rfl
theorem q775 : (Jvm.Cond.fieldLink "Stenohall" (148 : Nat) "Stenohall" "went" "I") ∈ lw_all := lw_g (lw_at lw_m3 221 rfl) rfl
theorem q776 : (Jvm.Cond.fieldLink "Stenohall" (127 : Nat) "Stenohall" "width" "I") ∈ lw_all := lw_g (lw_at lw_m3 222 rfl) rfl
theorem q777 : (Jvm.Cond.fieldLink "Stenohall" (131 : Nat) "Stenohall" "linesOfPage" "I") ∈ lw_all := lw_g (lw_at lw_m3 223 rfl) rfl
theorem q778 : (Jvm.Cond.laysFinal "Stenohall" "Stenohall" "strokes" "Ljava/util/ArrayList;") ∈ lw_all := lw_g (lw_at lw_m3 224 rfl) rfl
theorem q779 : (Jvm.Cond.soleField "Stenohall" "strokes") ∈ lw_all := lw_g (lw_at lw_m3 225 rfl) rfl
theorem q780 : (Jvm.Cond.laysFinal "Stenohall" "Stenohall" "layers" "Ljava/util/List;") ∈ lw_all := lw_g (lw_at lw_m3 226 rfl) rfl
theorem q781 : (Jvm.Cond.soleField "Stenohall" "layers") ∈ lw_all := lw_g (lw_at lw_m3 227 rfl) rfl
theorem q782 : (Jvm.Cond.laysFinal "Stenohall" "Stenohall" "isOn" "[Z") ∈ lw_all := lw_g (lw_at lw_m3 228 rfl) rfl
theorem q783 : (Jvm.Cond.soleField "Stenohall" "isOn") ∈ lw_all := lw_g (lw_at lw_m3 229 rfl) rfl
theorem q784 : (Jvm.Cond.laysFinal "Stenohall" "Stenohall" "chords" "Ljava/util/ArrayList;") ∈ lw_all := lw_g (lw_at lw_m3 230 rfl) rfl
theorem q785 : (Jvm.Cond.soleField "Stenohall" "chords") ∈ lw_all := lw_g (lw_at lw_m3 231 rfl) rfl
theorem q786 : (Jvm.Cond.laysFinal "Stenohall" "Stenohall" "signs" "Ljava/lang/StringBuilder;") ∈ lw_all := lw_g (lw_at lw_m3 232 rfl) rfl
theorem q787 : (Jvm.Cond.soleField "Stenohall" "signs") ∈ lw_all := lw_g (lw_at lw_m3 233 rfl) rfl
theorem q788 : (Jvm.Cond.laysFinal "Stenohall" "Stenohall" "words" "Ljava/util/ArrayList;") ∈ lw_all := lw_g (lw_at lw_m3 234 rfl) rfl
theorem q789 : (Jvm.Cond.soleField "Stenohall" "words") ∈ lw_all := lw_g (lw_at lw_m3 235 rfl) rfl
theorem q790 : (Jvm.Cond.laysFinal "Stenohall" "Stenohall" "rules" "Ljava/lang/StringBuilder;") ∈ lw_all := lw_g (lw_at lw_m3 236 rfl) rfl
theorem q791 : (Jvm.Cond.soleField "Stenohall" "rules") ∈ lw_all := lw_g (lw_at lw_m3 237 rfl) rfl
theorem q792 : (Jvm.Cond.lays "Stenohall" "Stenohall" "translations" "Ljava/util/ArrayList;") ∈ lw_all := lw_g (lw_at lw_m3 238 rfl) rfl
theorem q793 : (Jvm.Cond.soleField "Stenohall" "translations") ∈ lw_all := lw_g (lw_at lw_m3 239 rfl) rfl
theorem q794 : (Jvm.Cond.lays "Stenohall" "Stenohall" "choices" "Ljava/util/ArrayList;") ∈ lw_all := lw_g (lw_at lw_m4 0 rfl) rfl
theorem q795 : (Jvm.Cond.soleField "Stenohall" "choices") ∈ lw_all := lw_g (lw_at lw_m4 1 rfl) rfl
theorem q796 : (Jvm.Cond.lays "Stenohall" "Stenohall" "written" "LStenohall$Writer;") ∈ lw_all := lw_g (lw_at lw_m4 2 rfl) rfl
theorem q797 : (Jvm.Cond.soleField "Stenohall" "written") ∈ lw_all := lw_g (lw_at lw_m4 3 rfl) rfl
theorem q798 : (Jvm.Cond.laysFinal "Stenohall" "Stenohall" "sinks" "Ljava/util/ArrayList;") ∈ lw_all := lw_g (lw_at lw_m4 4 rfl) rfl
theorem q799 : (Jvm.Cond.soleField "Stenohall" "sinks") ∈ lw_all := lw_g (lw_at lw_m4 5 rfl) rfl
theorem q800 : (Jvm.Cond.laysFinal "Stenohall" "Stenohall" "kept" "Ljava/util/ArrayList;") ∈ lw_all := lw_g (lw_at lw_m4 6 rfl) rfl
theorem q801 : (Jvm.Cond.soleField "Stenohall" "kept") ∈ lw_all := lw_g (lw_at lw_m4 7 rfl) rfl
theorem q802 : (Jvm.Cond.laysFinal "Stenohall" "Stenohall" "contractions" "Ljava/util/ArrayList;") ∈ lw_all := lw_g (lw_at lw_m4 8 rfl) rfl
theorem q803 : (Jvm.Cond.soleField "Stenohall" "contractions") ∈ lw_all := lw_g (lw_at lw_m4 9 rfl) rfl
theorem q804 : (Jvm.Cond.lays "Stenohall" "Stenohall" "tick" "I") ∈ lw_all := lw_g (lw_at lw_m4 10 rfl) rfl
theorem q805 : (Jvm.Cond.soleField "Stenohall" "tick") ∈ lw_all := lw_g (lw_at lw_m4 11 rfl) rfl
theorem q806 : (Jvm.Cond.lays "Stenohall" "Stenohall" "mode" "C") ∈ lw_all := lw_g (lw_at lw_m4 12 rfl) rfl
theorem q807 : (Jvm.Cond.soleField "Stenohall" "mode") ∈ lw_all := lw_g (lw_at lw_m4 13 rfl) rfl
theorem q808 : (Jvm.Cond.lays "Stenohall" "Stenohall" "held" "I") ∈ lw_all := lw_g (lw_at lw_m4 14 rfl) rfl
theorem q809 : (Jvm.Cond.soleField "Stenohall" "held") ∈ lw_all := lw_g (lw_at lw_m4 15 rfl) rfl
theorem q810 : (Jvm.Cond.lays "Stenohall" "Stenohall" "went" "I") ∈ lw_all := lw_g (lw_at lw_m4 16 rfl) rfl
theorem q811 : (Jvm.Cond.soleField "Stenohall" "went") ∈ lw_all := lw_g (lw_at lw_m4 17 rfl) rfl
theorem q812 : (Jvm.Cond.lays "Stenohall" "Stenohall" "width" "I") ∈ lw_all := lw_g (lw_at lw_m4 18 rfl) rfl
theorem q813 : (Jvm.Cond.soleField "Stenohall" "width") ∈ lw_all := lw_g (lw_at lw_m4 19 rfl) rfl
theorem q814 : (Jvm.Cond.lays "Stenohall" "Stenohall" "linesOfPage" "I") ∈ lw_all := lw_g (lw_at lw_m4 20 rfl) rfl
theorem q815 : (Jvm.Cond.soleField "Stenohall" "linesOfPage") ∈ lw_all := lw_g (lw_at lw_m4 21 rfl) rfl
theorem q816 : (Jvm.Cond.superclass "Stenohall" "java/lang/Object") ∈ lw_all := lw_g (lw_at lw_m4 22 rfl) rfl
theorem q818 : (Jvm.Cond.instanceMethod ({ cls := "Stenohall", name := "strokes", desc := "()I" } : Jvm.MethodName)) ∈ lw_all := lw_g (lw_at lw_m4 24 rfl) rfl
theorem q819 : (Jvm.Cond.selects "Stenohall" ({ cls := "Stenohall", name := "strokes", desc := "()I" } : Jvm.MethodName) ({ cls := "Stenohall", name := "strokes", desc := "()I" } : Jvm.MethodName)) ∈ lw_all := lw_g (lw_at lw_m4 25 rfl) rfl
theorem q820 : (Jvm.Cond.code ({ cls := "Stenohall", name := "strokes", desc := "()I" } : Jvm.MethodName) prog_1_method_24_code (1 : Nat) (Option.some Jvm.ClassFile.FieldType.int)) ∈ lw_all := lw_g (lw_at lw_m4 26 rfl) rfl
theorem q821 : (Jvm.Cond.methodLink "Stenohall" (172 : Nat) ({ cls := "java/util/ArrayList", name := "size", desc := "()I" } : Jvm.MethodName)) ∈ lw_all := lw_g (lw_at lw_m4 27 rfl) rfl
theorem q823 : (Jvm.Cond.instanceMethod ({ cls := "Stenohall", name := "wipe", desc := "()I" } : Jvm.MethodName)) ∈ lw_all := lw_g (lw_at lw_m4 29 rfl) rfl
theorem q824 : (Jvm.Cond.selects "Stenohall" ({ cls := "Stenohall", name := "wipe", desc := "()I" } : Jvm.MethodName) ({ cls := "Stenohall", name := "wipe", desc := "()I" } : Jvm.MethodName)) ∈ lw_all := lw_g (lw_at lw_m4 30 rfl) rfl
theorem q825 : (Jvm.Cond.code ({ cls := "Stenohall", name := "wipe", desc := "()I" } : Jvm.MethodName) prog_1_method_28_code (2 : Nat) (Option.some Jvm.ClassFile.FieldType.int)) ∈ lw_all := lw_g (lw_at lw_m4 31 rfl) rfl
theorem q826 : (Jvm.Cond.methodLink "Stenohall" (207 : Nat) ({ cls := "java/lang/StringBuilder", name := "length", desc := "()I" } : Jvm.MethodName)) ∈ lw_all := lw_g (lw_at lw_m4 32 rfl) rfl
theorem q827 : (Jvm.Cond.methodLink "Stenohall" (214 : Nat) ({ cls := "Stenohall", name := "forgetsTyped", desc := "()V" } : Jvm.MethodName)) ∈ lw_all := lw_g (lw_at lw_m4 33 rfl) rfl
theorem q828 : (Jvm.Cond.privateMethod ({ cls := "Stenohall", name := "forgetsTyped", desc := "()V" } : Jvm.MethodName)) ∈ lw_tbl := lw_at lw_m4 34 rfl
theorem q829 : (Jvm.Cond.instanceMethod ({ cls := "Stenohall", name := "forgetsTyped", desc := "()V" } : Jvm.MethodName)) ∈ lw_all := lw_g (lw_at lw_m4 35 rfl) rfl
theorem q830 : (Jvm.Cond.code ({ cls := "Stenohall", name := "forgetsTyped", desc := "()V" } : Jvm.MethodName) prog_1_method_29_code (1 : Nat) (Option.none : Option Jvm.ClassFile.FieldType)) ∈ lw_all := lw_g (lw_at lw_m4 36 rfl) rfl
theorem q831 : (Jvm.Cond.methodLink "Stenohall" (217 : Nat) ({ cls := "java/util/ArrayList", name := "clear", desc := "()V" } : Jvm.MethodName)) ∈ lw_all := lw_g (lw_at lw_m4 37 rfl) rfl
theorem q835 : (Jvm.Cond.methodLink "Stenohall" (220 : Nat) ({ cls := "java/lang/StringBuilder", name := "setLength", desc := "(I)V" } : Jvm.MethodName)) ∈ lw_all := lw_g (lw_at lw_m4 41 rfl) rfl
theorem q901 : (Jvm.Cond.instanceMethod ({ cls := "Stenohall", name := "isWord", desc := "()Z" } : Jvm.MethodName)) ∈ lw_all := lw_g (lw_at lw_m4 107 rfl) rfl
theorem q902 : (Jvm.Cond.selects "Stenohall" ({ cls := "Stenohall", name := "isWord", desc := "()Z" } : Jvm.MethodName) ({ cls := "Stenohall", name := "isWord", desc := "()Z" } : Jvm.MethodName)) ∈ lw_all := lw_g (lw_at lw_m4 108 rfl) rfl
theorem q903 : (Jvm.Cond.code ({ cls := "Stenohall", name := "isWord", desc := "()Z" } : Jvm.MethodName) prog_1_method_39_code (1 : Nat) (Option.some Jvm.ClassFile.FieldType.boolean)) ∈ lw_all := lw_g (lw_at lw_m4 109 rfl) rfl
theorem q904 : (Jvm.Cond.methodLink "Stenohall" (260 : Nat) ({ cls := "java/lang/StringBuilder", name := "toString", desc := "()Ljava/lang/String;" } : Jvm.MethodName)) ∈ lw_all := lw_g (lw_at lw_m4 110 rfl) rfl
theorem q905 : (Jvm.Cond.methodLink "Stenohall" (282 : Nat) ({ cls := "java/util/ArrayList", name := "contains", desc := "(Ljava/lang/Object;)Z" } : Jvm.MethodName)) ∈ lw_all := lw_g (lw_at lw_m4 111 rfl) rfl
theorem q921 : (Jvm.Cond.selects "Stenohall" ({ cls := "java/lang/Object", name := "equals", desc := "(Ljava/lang/Object;)Z" } : Jvm.MethodName) ({ cls := "java/lang/Object", name := "equals", desc := "(Ljava/lang/Object;)Z" } : Jvm.MethodName)) ∈ lw_all := lw_g (lw_at lw_m4 127 rfl) rfl
theorem q990 : (Jvm.Cond.instanceMethod ({ cls := "Stenohall", name := "forget", desc := "()I" } : Jvm.MethodName)) ∈ lw_all := lw_g (lw_at lw_m4 196 rfl) rfl
theorem q991 : (Jvm.Cond.selects "Stenohall" ({ cls := "Stenohall", name := "forget", desc := "()I" } : Jvm.MethodName) ({ cls := "Stenohall", name := "forget", desc := "()I" } : Jvm.MethodName)) ∈ lw_all := lw_g (lw_at lw_m4 197 rfl) rfl
theorem q992 : (Jvm.Cond.code ({ cls := "Stenohall", name := "forget", desc := "()I" } : Jvm.MethodName) prog_1_method_41_code (2 : Nat) (Option.some Jvm.ClassFile.FieldType.int)) ∈ lw_all := lw_g (lw_at lw_m4 198 rfl) rfl
theorem q993 : (Jvm.Cond.methodLink "Stenohall" (182 : Nat) ({ cls := "Stenohall", name := "translatesAll", desc := "()V" } : Jvm.MethodName)) ∈ lw_all := lw_g (lw_at lw_m4 199 rfl) rfl
theorem q994 : (Jvm.Cond.privateMethod ({ cls := "Stenohall", name := "translatesAll", desc := "()V" } : Jvm.MethodName)) ∈ lw_tbl := lw_at lw_m4 200 rfl
theorem q995 : (Jvm.Cond.instanceMethod ({ cls := "Stenohall", name := "translatesAll", desc := "()V" } : Jvm.MethodName)) ∈ lw_all := lw_g (lw_at lw_m4 201 rfl) rfl
theorem q996 : (Jvm.Cond.codeWith ({ cls := "Stenohall", name := "translatesAll", desc := "()V" } : Jvm.MethodName) prog_1_method_42_code (2 : Nat) (Option.none : Option Jvm.ClassFile.FieldType) [((0 : Nat), (12 : Nat), (15 : Nat), (297 : Nat)), ((0 : Nat), (12 : Nat), (24 : Nat), (303 : Nat))]) ∈ lw_all := lw_g (lw_at lw_m4 202 rfl) rfl
theorem q997 : (Jvm.Cond.classLink "Stenohall" (297 : Nat) "Stenohall$UndoneInMidst") ∈ lw_all := lw_g (lw_at lw_m4 203 rfl) rfl
theorem q998 : (Jvm.Cond.classLink "Stenohall" (303 : Nat) "Stenohall$Undone") ∈ lw_all := lw_g (lw_at lw_m4 204 rfl) rfl
theorem q999 : (Jvm.Cond.methodLink "Stenohall" (293 : Nat) ({ cls := "Stenohall", name := "translated", desc := "(Ljava/util/List;)Ljava/util/ArrayList;" } : Jvm.MethodName)) ∈ lw_all := lw_g (lw_at lw_m4 205 rfl) rfl
theorem q1000 : (Jvm.Cond.privateMethod ({ cls := "Stenohall", name := "translated", desc := "(Ljava/util/List;)Ljava/util/ArrayList;" } : Jvm.MethodName)) ∈ lw_tbl := lw_at lw_m4 206 rfl
theorem q1001 : (Jvm.Cond.instanceMethod ({ cls := "Stenohall", name := "translated", desc := "(Ljava/util/List;)Ljava/util/ArrayList;" } : Jvm.MethodName)) ∈ lw_all := lw_g (lw_at lw_m4 207 rfl) rfl
theorem q1002 : (Jvm.Cond.codeWith ({ cls := "Stenohall", name := "translated", desc := "(Ljava/util/List;)Ljava/util/ArrayList;" } : Jvm.MethodName) prog_1_method_45_code (4 : Nat) (Option.some (Jvm.ClassFile.FieldType.object "java/util/ArrayList")) [((8 : Nat), (33 : Nat), (36 : Nat), (303 : Nat))]) ∈ lw_all := lw_g (lw_at lw_m4 208 rfl) rfl
theorem q1003 : (Jvm.Cond.interfaceEntry "Stenohall" (45 : Nat)) ∈ lw_tbl := lw_at lw_m4 209 rfl
theorem q1004 : (Jvm.Cond.methodLink "Stenohall" (45 : Nat) ({ cls := "java/util/List", name := "size", desc := "()I" } : Jvm.MethodName)) ∈ lw_all := lw_g (lw_at lw_m4 210 rfl) rfl
theorem q1030 : (Jvm.Cond.methodLink "Stenohall" (320 : Nat) ({ cls := "Stenohall", name := "translates", desc := "(Ljava/util/ArrayList;Ljava/util/List;I)V" } : Jvm.MethodName)) ∈ lw_all := lw_g (lw_at lw_m4 236 rfl) rfl
theorem q1031 : (Jvm.Cond.privateMethod ({ cls := "Stenohall", name := "translates", desc := "(Ljava/util/ArrayList;Ljava/util/List;I)V" } : Jvm.MethodName)) ∈ lw_tbl := lw_at lw_m4 237 rfl
theorem q1032 : (Jvm.Cond.instanceMethod ({ cls := "Stenohall", name := "translates", desc := "(Ljava/util/ArrayList;Ljava/util/List;I)V" } : Jvm.MethodName)) ∈ lw_all := lw_g (lw_at lw_m4 238 rfl) rfl
theorem q1033 : (Jvm.Cond.code ({ cls := "Stenohall", name := "translates", desc := "(Ljava/util/ArrayList;Ljava/util/List;I)V" } : Jvm.MethodName) prog_1_method_46_code (9 : Nat) (Option.none : Option Jvm.ClassFile.FieldType)) ∈ lw_all := lw_g (lw_at lw_m4 239 rfl) rfl
theorem q1034 : (Jvm.Cond.interfaceEntry "Stenohall" (326 : Nat)) ∈ lw_tbl := lw_at lw_m5 0 rfl
theorem q1035 : (Jvm.Cond.methodLink "Stenohall" (326 : Nat) ({ cls := "java/util/List", name := "subList", desc := "(II)Ljava/util/List;" } : Jvm.MethodName)) ∈ lw_all := lw_g (lw_at lw_m5 1 rfl) rfl
theorem q1162 : (Jvm.Cond.methodLink "Stenohall" (256 : Nat) ({ cls := "java/util/List", name := "copyOf", desc := "(Ljava/util/Collection;)Ljava/util/List;" } : Jvm.MethodName)) ∈ lw_all := lw_g (lw_at lw_m5 128 rfl) rfl
theorem q1561 : (Jvm.Cond.static ({ cls := "Stenohall", name := "isSmall", desc := "(C)Z" } : Jvm.MethodName)) ∈ lw_all := lw_g (lw_at lw_m7 47 rfl) rfl
theorem q1562 : (Jvm.Cond.code ({ cls := "Stenohall", name := "isSmall", desc := "(C)Z" } : Jvm.MethodName) prog_1_method_8_code (1 : Nat) (Option.some Jvm.ClassFile.FieldType.boolean)) ∈ lw_all := lw_g (lw_at lw_m7 48 rfl) rfl
theorem q1616 : (Jvm.Cond.static ({ cls := "Stenohall", name := "requireThere", desc := "(Z)V" } : Jvm.MethodName)) ∈ lw_all := lw_g (lw_at lw_m7 102 rfl) rfl
theorem q1617 : (Jvm.Cond.code ({ cls := "Stenohall", name := "requireThere", desc := "(Z)V" } : Jvm.MethodName) prog_1_method_5_code (1 : Nat) (Option.none : Option Jvm.ClassFile.FieldType)) ∈ lw_all := lw_g (lw_at lw_m7 103 rfl) rfl
theorem q1618 : (Jvm.Cond.classLink "Stenohall" (13 : Nat) "java/util/NoSuchElementException") ∈ lw_all := lw_g (lw_at lw_m7 104 rfl) rfl
theorem q1627 : (Jvm.Cond.methodLink "Stenohall" (15 : Nat) ({ cls := "java/util/NoSuchElementException", name := "<init>", desc := "()V" } : Jvm.MethodName)) ∈ lw_all := lw_g (lw_at lw_m7 113 rfl) rfl
theorem q1861 : (Jvm.Cond.methodLink "Stenohall" (330 : Nat) ({ cls := "Stenohall", name := "found", desc := "(Ljava/util/List;)LStenohall$Found;" } : Jvm.MethodName)) ∈ lw_all := lw_g (lw_at lw_m8 107 rfl) rfl
theorem q1862 : (Jvm.Cond.privateMethod ({ cls := "Stenohall", name := "found", desc := "(Ljava/util/List;)LStenohall$Found;" } : Jvm.MethodName)) ∈ lw_tbl := lw_at lw_m8 108 rfl
theorem q1863 : (Jvm.Cond.instanceMethod ({ cls := "Stenohall", name := "found", desc := "(Ljava/util/List;)LStenohall$Found;" } : Jvm.MethodName)) ∈ lw_all := lw_g (lw_at lw_m8 109 rfl) rfl
theorem q1864 : (Jvm.Cond.code ({ cls := "Stenohall", name := "found", desc := "(Ljava/util/List;)LStenohall$Found;" } : Jvm.MethodName) prog_1_method_44_code (5 : Nat) (Option.some (Jvm.ClassFile.FieldType.object "Stenohall$Found"))) ∈ lw_all := lw_g (lw_at lw_m8 110 rfl) rfl
theorem q1865 : (Jvm.Cond.interfaceEntry "Stenohall" (225 : Nat)) ∈ lw_tbl := lw_at lw_m8 111 rfl
theorem q1866 : (Jvm.Cond.methodLink "Stenohall" (225 : Nat) ({ cls := "java/util/List", name := "iterator", desc := "()Ljava/util/Iterator;" } : Jvm.MethodName)) ∈ lw_all := lw_g (lw_at lw_m8 112 rfl) rfl
theorem q1883 : (Jvm.Cond.interfaceEntry "Stenohall" (229 : Nat)) ∈ lw_tbl := lw_at lw_m8 129 rfl
theorem q1884 : (Jvm.Cond.methodLink "Stenohall" (229 : Nat) ({ cls := "java/util/Iterator", name := "hasNext", desc := "()Z" } : Jvm.MethodName)) ∈ lw_all := lw_g (lw_at lw_m8 130 rfl) rfl
theorem q1885 : (Jvm.Cond.interfaceEntry "Stenohall" (234 : Nat)) ∈ lw_tbl := lw_at lw_m8 131 rfl
theorem q1886 : (Jvm.Cond.methodLink "Stenohall" (234 : Nat) ({ cls := "java/util/Iterator", name := "next", desc := "()Ljava/lang/Object;" } : Jvm.MethodName)) ∈ lw_all := lw_g (lw_at lw_m8 132 rfl) rfl
theorem q1887 : (Jvm.Cond.classLink "Stenohall" (55 : Nat) "Stenohall$Stroke") ∈ lw_all := lw_g (lw_at lw_m8 133 rfl) rfl
theorem q1888 : (Jvm.Cond.methodLink "Stenohall" (197 : Nat) ({ cls := "Stenohall$Stroke", name := "keys", desc := "()I" } : Jvm.MethodName)) ∈ lw_all := lw_g (lw_at lw_m8 134 rfl) rfl
theorem q1892 : (Jvm.Cond.methodLink "Stenohall" (201 : Nat) ({ cls := "java/lang/Integer", name := "valueOf", desc := "(I)Ljava/lang/Integer;" } : Jvm.MethodName)) ∈ lw_all := lw_g (lw_at lw_m8 138 rfl) rfl
theorem q1911 : (Jvm.Cond.methodLink "Stenohall" (181 : Nat) ({ cls := "java/util/ArrayList", name := "add", desc := "(Ljava/lang/Object;)Z" } : Jvm.MethodName)) ∈ lw_all := lw_g (lw_at lw_m8 157 rfl) rfl
theorem q1912 : (Jvm.Cond.interfaceEntry "Stenohall" (51 : Nat)) ∈ lw_tbl := lw_at lw_m8 158 rfl
theorem q1913 : (Jvm.Cond.methodLink "Stenohall" (51 : Nat) ({ cls := "java/util/List", name := "get", desc := "(I)Ljava/lang/Object;" } : Jvm.MethodName)) ∈ lw_all := lw_g (lw_at lw_m8 159 rfl) rfl
theorem q1914 : (Jvm.Cond.classLink "Stenohall" (46 : Nat) "java/util/List") ∈ lw_all := lw_g (lw_at lw_m8 160 rfl) rfl
theorem q1915 : (Jvm.Cond.methodLink "Stenohall" (250 : Nat) ({ cls := "Stenohall", name := "find", desc := "(Ljava/util/List;Ljava/util/List;)LStenohall$Entry;" } : Jvm.MethodName)) ∈ lw_all := lw_g (lw_at lw_m8 161 rfl) rfl
theorem q1916 : (Jvm.Cond.static ({ cls := "Stenohall", name := "find", desc := "(Ljava/util/List;Ljava/util/List;)LStenohall$Entry;" } : Jvm.MethodName)) ∈ lw_all := lw_g (lw_at lw_m8 162 rfl) rfl
theorem q1917 : (Jvm.Cond.code ({ cls := "Stenohall", name := "find", desc := "(Ljava/util/List;Ljava/util/List;)LStenohall$Entry;" } : Jvm.MethodName) prog_1_method_31_code (4 : Nat) (Option.some (Jvm.ClassFile.FieldType.object "Stenohall$Entry"))) ∈ lw_all := lw_g (lw_at lw_m8 163 rfl) rfl
theorem q1918 : (Jvm.Cond.classLink "Stenohall" (238 : Nat) "Stenohall$Entry") ∈ lw_all := lw_g (lw_at lw_m8 164 rfl) rfl
theorem q1919 : (Jvm.Cond.interfaceEntry "Stenohall" (243 : Nat)) ∈ lw_tbl := lw_at lw_m8 165 rfl
theorem q1920 : (Jvm.Cond.methodLink "Stenohall" (243 : Nat) ({ cls := "java/util/List", name := "equals", desc := "(Ljava/lang/Object;)Z" } : Jvm.MethodName)) ∈ lw_all := lw_g (lw_at lw_m8 166 rfl) rfl
theorem q1974 : (Jvm.Cond.classLink "Stenohall" (39 : Nat) "Stenohall$Found") ∈ lw_all := lw_g (lw_at lw_m8 220 rfl) rfl
theorem q1976 : (Jvm.Cond.methodLinkNest "Stenohall" (317 : Nat) ({ cls := "Stenohall$Found", name := "<init>", desc := "(LStenohall$Entry;ILjava/util/List;)V" } : Jvm.MethodName) "Stenohall") ∈ lw_tbl := lw_at lw_m8 222 rfl
theorem q1993 : (Jvm.Cond.methodLink "Stenohall" (200 : Nat) ({ cls := "java/util/ArrayList", name := "get", desc := "(I)Ljava/lang/Object;" } : Jvm.MethodName)) ∈ lw_all := lw_g (lw_at lw_m8 239 rfl) rfl
theorem q1994 : (Jvm.Cond.classLink "Stenohall" (334 : Nat) "Stenohall$Translation") ∈ lw_all := lw_g (lw_at lw_m9 0 rfl) rfl
theorem q1995 : (Jvm.Cond.methodLink "Stenohall" (336 : Nat) ({ cls := "Stenohall", name := "sizeOf", desc := "(LStenohall$Translation;)I" } : Jvm.MethodName)) ∈ lw_all := lw_g (lw_at lw_m9 1 rfl) rfl
theorem q1996 : (Jvm.Cond.static ({ cls := "Stenohall", name := "sizeOf", desc := "(LStenohall$Translation;)I" } : Jvm.MethodName)) ∈ lw_all := lw_g (lw_at lw_m9 2 rfl) rfl
theorem q1997 : (Jvm.Cond.code ({ cls := "Stenohall", name := "sizeOf", desc := "(LStenohall$Translation;)I" } : Jvm.MethodName) prog_1_method_14_code (2 : Nat) (Option.some Jvm.ClassFile.FieldType.int)) ∈ lw_all := lw_g (lw_at lw_m9 3 rfl) rfl
theorem q1998 : (Jvm.Cond.methodLink "Stenohall" (41 : Nat) ({ cls := "Stenohall$Found", name := "strokes", desc := "()Ljava/util/List;" } : Jvm.MethodName)) ∈ lw_all := lw_g (lw_at lw_m9 4 rfl) rfl
theorem q2002 : (Jvm.Cond.methodLink "Stenohall" (194 : Nat) ({ cls := "java/util/ArrayList", name := "remove", desc := "(I)Ljava/lang/Object;" } : Jvm.MethodName)) ∈ lw_all := lw_g (lw_at lw_m9 8 rfl) rfl
theorem q2010 : (Jvm.Cond.classLink "Stenohall" (60 : Nat) "Stenohall$Miss") ∈ lw_all := lw_g (lw_at lw_m9 16 rfl) rfl
theorem q2012 : (Jvm.Cond.methodLinkNest "Stenohall" (340 : Nat) ({ cls := "Stenohall$Miss", name := "<init>", desc := "(LStenohall$Stroke;)V" } : Jvm.MethodName) "Stenohall") ∈ lw_tbl := lw_at lw_m9 18 rfl
theorem q2020 : (Jvm.Cond.methodLink "Stenohall" (343 : Nat) ({ cls := "Stenohall$Found", name := "entry", desc := "()LStenohall$Entry;" } : Jvm.MethodName)) ∈ lw_all := lw_g (lw_at lw_m9 26 rfl) rfl
theorem q2024 : (Jvm.Cond.methodLink "Stenohall" (347 : Nat) ({ cls := "Stenohall$Entry", name := "isUndoing", desc := "()Z" } : Jvm.MethodName)) ∈ lw_all := lw_g (lw_at lw_m9 30 rfl) rfl
theorem q2038 : (Jvm.Cond.methodLink "Stenohall" (350 : Nat) ({ cls := "java/lang/Math", name := "max", desc := "(II)I" } : Jvm.MethodName)) ∈ lw_all := lw_g (lw_at lw_m9 44 rfl) rfl
theorem q2039 : (Jvm.Cond.methodLink "Stenohall" (356 : Nat) ({ cls := "Stenohall$Undone", name := "<init>", desc := "(IILjava/lang/Throwable;)V" } : Jvm.MethodName)) ∈ lw_all := lw_g (lw_at lw_m9 45 rfl) rfl
theorem q2050 : (Jvm.Cond.fieldLinkNest "Stenohall" (314 : Nat) "Stenohall$Undone" "from" "I" "Stenohall") ∈ lw_tbl := lw_at lw_m9 56 rfl
theorem q2053 : (Jvm.Cond.fieldLinkNest "Stenohall" (311 : Nat) "Stenohall$Undone" "to" "I" "Stenohall") ∈ lw_tbl := lw_at lw_m9 59 rfl
theorem q2068 : (Jvm.Cond.methodLink "Stenohall" (324 : Nat) ({ cls := "Stenohall$UndoneInMidst", name := "<init>", desc := "(LStenohall$Undone;)V" } : Jvm.MethodName)) ∈ lw_all := lw_g (lw_at lw_m9 74 rfl) rfl
theorem q2076 : (Jvm.Cond.methodLink "Stenohall" (299 : Nat) ({ cls := "Stenohall", name := "loses", desc := "(LStenohall$Undone;)V" } : Jvm.MethodName)) ∈ lw_all := lw_g (lw_at lw_m9 82 rfl) rfl
theorem q2077 : (Jvm.Cond.privateMethod ({ cls := "Stenohall", name := "loses", desc := "(LStenohall$Undone;)V" } : Jvm.MethodName)) ∈ lw_tbl := lw_at lw_m9 83 rfl
theorem q2078 : (Jvm.Cond.instanceMethod ({ cls := "Stenohall", name := "loses", desc := "(LStenohall$Undone;)V" } : Jvm.MethodName)) ∈ lw_all := lw_g (lw_at lw_m9 84 rfl) rfl
theorem q2079 : (Jvm.Cond.code ({ cls := "Stenohall", name := "loses", desc := "(LStenohall$Undone;)V" } : Jvm.MethodName) prog_1_method_43_code (3 : Nat) (Option.none : Option Jvm.ClassFile.FieldType)) ∈ lw_all := lw_g (lw_at lw_m9 85 rfl) rfl
theorem q2080 : (Jvm.Cond.methodLink "Stenohall" (305 : Nat) ({ cls := "Stenohall", name := "chosen", desc := "(Ljava/util/List;)Ljava/util/ArrayList;" } : Jvm.MethodName)) ∈ lw_all := lw_g (lw_at lw_m9 86 rfl) rfl
theorem q2081 : (Jvm.Cond.static ({ cls := "Stenohall", name := "chosen", desc := "(Ljava/util/List;)Ljava/util/ArrayList;" } : Jvm.MethodName)) ∈ lw_all := lw_g (lw_at lw_m9 87 rfl) rfl
theorem q2082 : (Jvm.Cond.code ({ cls := "Stenohall", name := "chosen", desc := "(Ljava/util/List;)Ljava/util/ArrayList;" } : Jvm.MethodName) prog_1_method_47_code (8 : Nat) (Option.some (Jvm.ClassFile.FieldType.object "java/util/ArrayList"))) ∈ lw_all := lw_g (lw_at lw_m9 88 rfl) rfl
theorem q2083 : (Jvm.Cond.methodLink "Stenohall" (359 : Nat) ({ cls := "Stenohall$Entry", name := "firstLetter", desc := "()C" } : Jvm.MethodName)) ∈ lw_all := lw_g (lw_at lw_m9 89 rfl) rfl
theorem q2090 : (Jvm.Cond.classLink "Stenohall" (270 : Nat) "Stenohall$Alternative") ∈ lw_all := lw_g (lw_at lw_m9 96 rfl) rfl
theorem q2091 : (Jvm.Cond.methodLink "Stenohall" (363 : Nat) ({ cls := "Stenohall$Alternative", name := "letter", desc := "()C" } : Jvm.MethodName)) ∈ lw_all := lw_g (lw_at lw_m9 97 rfl) rfl
theorem q2095 : (Jvm.Cond.methodLink "Stenohall" (308 : Nat) ({ cls := "Stenohall$Writer", name := "writesAll", desc := "()V" } : Jvm.MethodName)) ∈ lw_all := lw_g (lw_at lw_m9 101 rfl) rfl
theorem q2106 : (Jvm.Cond.static ({ cls := "Stenohall", name := "contentOf", desc := "(LStenohall$Translation;I)Ljava/lang/String;" } : Jvm.MethodName)) ∈ lw_all := lw_g (lw_at lw_m9 112 rfl) rfl
theorem q2107 : (Jvm.Cond.code ({ cls := "Stenohall", name := "contentOf", desc := "(LStenohall$Translation;I)Ljava/lang/String;" } : Jvm.MethodName) prog_1_method_48_code (3 : Nat) (Option.some (Jvm.ClassFile.FieldType.object "java/lang/String"))) ∈ lw_all := lw_g (lw_at lw_m9 113 rfl) rfl
theorem q2108 : (Jvm.Cond.methodLink "Stenohall" (370 : Nat) ({ cls := "Stenohall$Alternative", name := "content", desc := "()Ljava/lang/String;" } : Jvm.MethodName)) ∈ lw_all := lw_g (lw_at lw_m9 114 rfl) rfl
theorem q2112 : (Jvm.Cond.stringRef "Stenohall" (372 : Nat) "??") ∈ lw_tbl := lw_at lw_m9 118 rfl
theorem q2114 : (Jvm.Cond.static ({ cls := "Stenohall", name := "tickOf", desc := "(LStenohall$Translation;)I" } : Jvm.MethodName)) ∈ lw_all := lw_g (lw_at lw_m9 120 rfl) rfl
theorem q2115 : (Jvm.Cond.code ({ cls := "Stenohall", name := "tickOf", desc := "(LStenohall$Translation;)I" } : Jvm.MethodName) prog_1_method_15_code (2 : Nat) (Option.some Jvm.ClassFile.FieldType.int)) ∈ lw_all := lw_g (lw_at lw_m9 121 rfl) rfl
theorem q2116 : (Jvm.Cond.methodLink "Stenohall" (57 : Nat) ({ cls := "Stenohall$Stroke", name := "tick", desc := "()I" } : Jvm.MethodName)) ∈ lw_all := lw_g (lw_at lw_m9 122 rfl) rfl
theorem q2120 : (Jvm.Cond.methodLink "Stenohall" (62 : Nat) ({ cls := "Stenohall$Miss", name := "stroke", desc := "()LStenohall$Stroke;" } : Jvm.MethodName)) ∈ lw_all := lw_g (lw_at lw_m9 126 rfl) rfl
theorem q2210 : (Jvm.Cond.static ({ cls := "Stenohall", name := "capital", desc := "(C)C" } : Jvm.MethodName)) ∈ lw_all := lw_g (lw_at lw_m9 216 rfl) rfl
theorem q2211 : (Jvm.Cond.code ({ cls := "Stenohall", name := "capital", desc := "(C)C" } : Jvm.MethodName) prog_1_method_12_code (1 : Nat) (Option.some Jvm.ClassFile.FieldType.char)) ∈ lw_all := lw_g (lw_at lw_m9 217 rfl) rfl
theorem q2212 : (Jvm.Cond.methodLink "Stenohall" (22 : Nat) ({ cls := "Stenohall", name := "isSmall", desc := "(C)Z" } : Jvm.MethodName)) ∈ lw_all := lw_g (lw_at lw_m9 218 rfl) rfl
theorem q2262 : (Jvm.Cond.static ({ cls := "Stenohall", name := "isLetter", desc := "(C)Z" } : Jvm.MethodName)) ∈ lw_all := lw_g (lw_at lw_m10 28 rfl) rfl
theorem q2263 : (Jvm.Cond.code ({ cls := "Stenohall", name := "isLetter", desc := "(C)Z" } : Jvm.MethodName) prog_1_method_10_code (1 : Nat) (Option.some Jvm.ClassFile.FieldType.boolean)) ∈ lw_all := lw_g (lw_at lw_m10 29 rfl) rfl
theorem q2264 : (Jvm.Cond.methodLink "Stenohall" (28 : Nat) ({ cls := "Stenohall", name := "isCapital", desc := "(C)Z" } : Jvm.MethodName)) ∈ lw_all := lw_g (lw_at lw_m10 30 rfl) rfl
theorem q2265 : (Jvm.Cond.static ({ cls := "Stenohall", name := "isCapital", desc := "(C)Z" } : Jvm.MethodName)) ∈ lw_all := lw_g (lw_at lw_m10 31 rfl) rfl
theorem q2266 : (Jvm.Cond.code ({ cls := "Stenohall", name := "isCapital", desc := "(C)Z" } : Jvm.MethodName) prog_1_method_9_code (1 : Nat) (Option.some Jvm.ClassFile.FieldType.boolean)) ∈ lw_all := lw_g (lw_at lw_m10 32 rfl) rfl
theorem q2272 : (Jvm.Cond.static ({ cls := "Stenohall", name := "small", desc := "(C)C" } : Jvm.MethodName)) ∈ lw_all := lw_g (lw_at lw_m10 38 rfl) rfl
theorem q2273 : (Jvm.Cond.code ({ cls := "Stenohall", name := "small", desc := "(C)C" } : Jvm.MethodName) prog_1_method_11_code (1 : Nat) (Option.some Jvm.ClassFile.FieldType.char)) ∈ lw_all := lw_g (lw_at lw_m10 39 rfl) rfl
theorem q2290 : (Jvm.Cond.static ({ cls := "Stenohall", name := "ruled", desc := "(CLjava/lang/String;Ljava/lang/String;)Ljava/lang/String;" } : Jvm.MethodName)) ∈ lw_all := lw_g (lw_at lw_m10 56 rfl) rfl
theorem q2291 : (Jvm.Cond.code ({ cls := "Stenohall", name := "ruled", desc := "(CLjava/lang/String;Ljava/lang/String;)Ljava/lang/String;" } : Jvm.MethodName) prog_1_method_49_code (11 : Nat) (Option.some (Jvm.ClassFile.FieldType.object "java/lang/String"))) ∈ lw_all := lw_g (lw_at lw_m10 57 rfl) rfl
theorem q2292 : (Jvm.Cond.methodLink "Stenohall" (374 : Nat) ({ cls := "java/lang/String", name := "length", desc := "()I" } : Jvm.MethodName)) ∈ lw_all := lw_g (lw_at lw_m10 58 rfl) rfl
theorem q2293 : (Jvm.Cond.methodLink "Stenohall" (375 : Nat) ({ cls := "java/lang/String", name := "charAt", desc := "(I)C" } : Jvm.MethodName)) ∈ lw_all := lw_g (lw_at lw_m10 59 rfl) rfl
theorem q2294 : (Jvm.Cond.methodLink "Stenohall" (376 : Nat) ({ cls := "Stenohall", name := "isVowel", desc := "(C)Z" } : Jvm.MethodName)) ∈ lw_all := lw_g (lw_at lw_m10 60 rfl) rfl
theorem q2295 : (Jvm.Cond.static ({ cls := "Stenohall", name := "isVowel", desc := "(C)Z" } : Jvm.MethodName)) ∈ lw_all := lw_g (lw_at lw_m10 61 rfl) rfl
theorem q2296 : (Jvm.Cond.code ({ cls := "Stenohall", name := "isVowel", desc := "(C)Z" } : Jvm.MethodName) prog_1_method_13_code (1 : Nat) (Option.some Jvm.ClassFile.FieldType.boolean)) ∈ lw_all := lw_g (lw_at lw_m10 62 rfl) rfl
theorem q2297 : (Jvm.Cond.stringRef "Stenohall" (31 : Nat) "aeiou") ∈ lw_tbl := lw_at lw_m10 63 rfl
theorem q2298 : (Jvm.Cond.methodLink "Stenohall" (33 : Nat) ({ cls := "java/lang/String", name := "indexOf", desc := "(I)I" } : Jvm.MethodName)) ∈ lw_all := lw_g (lw_at lw_m10 64 rfl) rfl
theorem q2299 : (Jvm.Cond.methodLink "Stenohall" (379 : Nat) ({ cls := "java/lang/String", name := "substring", desc := "(II)Ljava/lang/String;" } : Jvm.MethodName)) ∈ lw_all := lw_g (lw_at lw_m10 65 rfl) rfl
theorem q2322 : (Jvm.Cond.methodLink "Stenohall" (383 : Nat) ({ cls := "java/lang/StringBuilder", name := "append", desc := "(Ljava/lang/String;)Ljava/lang/StringBuilder;" } : Jvm.MethodName)) ∈ lw_all := lw_g (lw_at lw_m10 88 rfl) rfl
theorem q2323 : (Jvm.Cond.methodLink "Stenohall" (210 : Nat) ({ cls := "java/lang/StringBuilder", name := "append", desc := "(C)Ljava/lang/StringBuilder;" } : Jvm.MethodName)) ∈ lw_all := lw_g (lw_at lw_m10 89 rfl) rfl
theorem q2324 : (Jvm.Cond.stringRef "Stenohall" (386 : Nat) "wxy") ∈ lw_tbl := lw_at lw_m10 90 rfl
theorem q2325 : (Jvm.Cond.stringRef "Stenohall" (388 : Nat) "s") ∈ lw_tbl := lw_at lw_m10 91 rfl
theorem q2326 : (Jvm.Cond.methodLink "Stenohall" (390 : Nat) ({ cls := "java/lang/String", name := "equals", desc := "(Ljava/lang/Object;)Z" } : Jvm.MethodName)) ∈ lw_all := lw_g (lw_at lw_m10 92 rfl) rfl
theorem q2392 : (Jvm.Cond.instanceMethod ({ cls := "Stenohall", name := "length", desc := "()I" } : Jvm.MethodName)) ∈ lw_all := lw_g (lw_at lw_m10 158 rfl) rfl
theorem q2393 : (Jvm.Cond.selects "Stenohall" ({ cls := "Stenohall", name := "length", desc := "()I" } : Jvm.MethodName) ({ cls := "Stenohall", name := "length", desc := "()I" } : Jvm.MethodName)) ∈ lw_all := lw_g (lw_at lw_m10 159 rfl) rfl
theorem q2394 : (Jvm.Cond.code ({ cls := "Stenohall", name := "length", desc := "()I" } : Jvm.MethodName) prog_1_method_51_code (1 : Nat) (Option.some Jvm.ClassFile.FieldType.int)) ∈ lw_all := lw_g (lw_at lw_m10 160 rfl) rfl
theorem q2396 : (Jvm.Cond.instanceMethod ({ cls := "Stenohall", name := "words", desc := "()I" } : Jvm.MethodName)) ∈ lw_all := lw_g (lw_at lw_m10 162 rfl) rfl
theorem q2397 : (Jvm.Cond.selects "Stenohall" ({ cls := "Stenohall", name := "words", desc := "()I" } : Jvm.MethodName) ({ cls := "Stenohall", name := "words", desc := "()I" } : Jvm.MethodName)) ∈ lw_all := lw_g (lw_at lw_m10 163 rfl) rfl
theorem q2398 : (Jvm.Cond.code ({ cls := "Stenohall", name := "words", desc := "()I" } : Jvm.MethodName) prog_1_method_55_code (6 : Nat) (Option.some Jvm.ClassFile.FieldType.int)) ∈ lw_all := lw_g (lw_at lw_m10 164 rfl) rfl
theorem q2399 : (Jvm.Cond.methodLink "Stenohall" (405 : Nat) ({ cls := "java/util/ArrayList", name := "iterator", desc := "()Ljava/util/Iterator;" } : Jvm.MethodName)) ∈ lw_all := lw_g (lw_at lw_m10 165 rfl) rfl
theorem q2400 : (Jvm.Cond.classLink "Stenohall" (393 : Nat) "Stenohall$Sign") ∈ lw_all := lw_g (lw_at lw_m10 166 rfl) rfl
theorem q2401 : (Jvm.Cond.methodLink "Stenohall" (399 : Nat) ({ cls := "Stenohall$Sign", name := "sign", desc := "()C" } : Jvm.MethodName)) ∈ lw_all := lw_g (lw_at lw_m10 167 rfl) rfl
theorem q2402 : (Jvm.Cond.methodLink "Stenohall" (406 : Nat) ({ cls := "Stenohall", name := "isLetter", desc := "(C)Z" } : Jvm.MethodName)) ∈ lw_all := lw_g (lw_at lw_m10 168 rfl) rfl
theorem q2404 : (Jvm.Cond.instanceMethod ({ cls := "Stenohall", name := "translations", desc := "()I" } : Jvm.MethodName)) ∈ lw_all := lw_g (lw_at lw_m10 170 rfl) rfl
theorem q2405 : (Jvm.Cond.selects "Stenohall" ({ cls := "Stenohall", name := "translations", desc := "()I" } : Jvm.MethodName) ({ cls := "Stenohall", name := "translations", desc := "()I" } : Jvm.MethodName)) ∈ lw_all := lw_g (lw_at lw_m10 171 rfl) rfl
theorem q2406 : (Jvm.Cond.code ({ cls := "Stenohall", name := "translations", desc := "()I" } : Jvm.MethodName) prog_1_method_56_code (1 : Nat) (Option.some Jvm.ClassFile.FieldType.int)) ∈ lw_all := lw_g (lw_at lw_m10 172 rfl) rfl
theorem q2408 : (Jvm.Cond.instanceMethod ({ cls := "Stenohall", name := "now", desc := "()I" } : Jvm.MethodName)) ∈ lw_all := lw_g (lw_at lw_m10 174 rfl) rfl
theorem q2409 : (Jvm.Cond.selects "Stenohall" ({ cls := "Stenohall", name := "now", desc := "()I" } : Jvm.MethodName) ({ cls := "Stenohall", name := "now", desc := "()I" } : Jvm.MethodName)) ∈ lw_all := lw_g (lw_at lw_m10 175 rfl) rfl
theorem q2410 : (Jvm.Cond.code ({ cls := "Stenohall", name := "now", desc := "()I" } : Jvm.MethodName) prog_1_method_63_code (1 : Nat) (Option.some Jvm.ClassFile.FieldType.int)) ∈ lw_all := lw_g (lw_at lw_m10 176 rfl) rfl
theorem q2412 : (Jvm.Cond.instanceMethod ({ cls := "Stenohall", name := "lines", desc := "()I" } : Jvm.MethodName)) ∈ lw_all := lw_g (lw_at lw_m10 178 rfl) rfl
theorem q2413 : (Jvm.Cond.selects "Stenohall" ({ cls := "Stenohall", name := "lines", desc := "()I" } : Jvm.MethodName) ({ cls := "Stenohall", name := "lines", desc := "()I" } : Jvm.MethodName)) ∈ lw_all := lw_g (lw_at lw_m10 179 rfl) rfl
theorem q2414 : (Jvm.Cond.code ({ cls := "Stenohall", name := "lines", desc := "()I" } : Jvm.MethodName) prog_1_method_71_code (2 : Nat) (Option.some Jvm.ClassFile.FieldType.int)) ∈ lw_all := lw_g (lw_at lw_m10 180 rfl) rfl
theorem q2415 : (Jvm.Cond.methodLink "Stenohall" (458 : Nat) ({ cls := "Stenohall", name := "lined", desc := "()[I" } : Jvm.MethodName)) ∈ lw_all := lw_g (lw_at lw_m10 181 rfl) rfl
theorem q2416 : (Jvm.Cond.privateMethod ({ cls := "Stenohall", name := "lined", desc := "()[I" } : Jvm.MethodName)) ∈ lw_tbl := lw_at lw_m10 182 rfl
theorem q2417 : (Jvm.Cond.instanceMethod ({ cls := "Stenohall", name := "lined", desc := "()[I" } : Jvm.MethodName)) ∈ lw_all := lw_g (lw_at lw_m10 183 rfl) rfl
theorem q2418 : (Jvm.Cond.code ({ cls := "Stenohall", name := "lined", desc := "()[I" } : Jvm.MethodName) prog_1_method_70_code (8 : Nat) (Option.some (Jvm.ClassFile.FieldType.array Jvm.ClassFile.FieldType.int))) ∈ lw_all := lw_g (lw_at lw_m10 184 rfl) rfl
theorem q2419 : (Jvm.Cond.methodLink "Stenohall" (422 : Nat) ({ cls := "Stenohall", name := "text", desc := "()Ljava/lang/String;" } : Jvm.MethodName)) ∈ lw_all := lw_g (lw_at lw_m10 185 rfl) rfl
theorem q2420 : (Jvm.Cond.privateMethod ({ cls := "Stenohall", name := "text", desc := "()Ljava/lang/String;" } : Jvm.MethodName)) ∈ lw_tbl := lw_at lw_m10 186 rfl
theorem q2421 : (Jvm.Cond.instanceMethod ({ cls := "Stenohall", name := "text", desc := "()Ljava/lang/String;" } : Jvm.MethodName)) ∈ lw_all := lw_g (lw_at lw_m10 187 rfl) rfl
theorem q2422 : (Jvm.Cond.code ({ cls := "Stenohall", name := "text", desc := "()Ljava/lang/String;" } : Jvm.MethodName) prog_1_method_54_code (4 : Nat) (Option.some (Jvm.ClassFile.FieldType.object "java/lang/String"))) ∈ lw_all := lw_g (lw_at lw_m10 188 rfl) rfl
theorem q2425 : (Jvm.Cond.instanceMethod ({ cls := "Stenohall", name := "brailleLength", desc := "()I" } : Jvm.MethodName)) ∈ lw_all := lw_g (lw_at lw_m10 191 rfl) rfl
theorem q2426 : (Jvm.Cond.selects "Stenohall" ({ cls := "Stenohall", name := "brailleLength", desc := "()I" } : Jvm.MethodName) ({ cls := "Stenohall", name := "brailleLength", desc := "()I" } : Jvm.MethodName)) ∈ lw_all := lw_g (lw_at lw_m10 192 rfl) rfl
theorem q2427 : (Jvm.Cond.code ({ cls := "Stenohall", name := "brailleLength", desc := "()I" } : Jvm.MethodName) prog_1_method_79_code (1 : Nat) (Option.some Jvm.ClassFile.FieldType.int)) ∈ lw_all := lw_g (lw_at lw_m10 193 rfl) rfl
theorem q2428 : (Jvm.Cond.methodLink "Stenohall" (510 : Nat) ({ cls := "Stenohall", name := "brailled", desc := "()Ljava/util/ArrayList;" } : Jvm.MethodName)) ∈ lw_all := lw_g (lw_at lw_m10 194 rfl) rfl
theorem q2429 : (Jvm.Cond.privateMethod ({ cls := "Stenohall", name := "brailled", desc := "()Ljava/util/ArrayList;" } : Jvm.MethodName)) ∈ lw_tbl := lw_at lw_m10 195 rfl
theorem q2430 : (Jvm.Cond.instanceMethod ({ cls := "Stenohall", name := "brailled", desc := "()Ljava/util/ArrayList;" } : Jvm.MethodName)) ∈ lw_all := lw_g (lw_at lw_m10 196 rfl) rfl
theorem q2431 : (Jvm.Cond.code ({ cls := "Stenohall", name := "brailled", desc := "()Ljava/util/ArrayList;" } : Jvm.MethodName) prog_1_method_77_code (8 : Nat) (Option.some (Jvm.ClassFile.FieldType.object "java/util/ArrayList"))) ∈ lw_all := lw_g (lw_at lw_m10 197 rfl) rfl
theorem q2432 : (Jvm.Cond.classLink "Stenohall" (471 : Nat) "Stenohall$Contraction") ∈ lw_all := lw_g (lw_at lw_m10 198 rfl) rfl
theorem q2433 : (Jvm.Cond.methodLink "Stenohall" (476 : Nat) ({ cls := "Stenohall$Contraction", name := "letters", desc := "()Ljava/lang/String;" } : Jvm.MethodName)) ∈ lw_all := lw_g (lw_at lw_m10 199 rfl) rfl
theorem q2437 : (Jvm.Cond.methodLink "Stenohall" (486 : Nat) ({ cls := "Stenohall", name := "begins", desc := "(LStenohall$Contraction;Ljava/lang/String;I)Z" } : Jvm.MethodName)) ∈ lw_all := lw_g (lw_at lw_m10 203 rfl) rfl
theorem q2438 : (Jvm.Cond.static ({ cls := "Stenohall", name := "begins", desc := "(LStenohall$Contraction;Ljava/lang/String;I)Z" } : Jvm.MethodName)) ∈ lw_all := lw_g (lw_at lw_m10 204 rfl) rfl
theorem q2439 : (Jvm.Cond.code ({ cls := "Stenohall", name := "begins", desc := "(LStenohall$Contraction;Ljava/lang/String;I)Z" } : Jvm.MethodName) prog_1_method_76_code (6 : Nat) (Option.some Jvm.ClassFile.FieldType.boolean)) ∈ lw_all := lw_g (lw_at lw_m10 205 rfl) rfl
theorem q2440 : (Jvm.Cond.methodLink "Stenohall" (482 : Nat) ({ cls := "Stenohall", name := "small", desc := "(C)C" } : Jvm.MethodName)) ∈ lw_all := lw_g (lw_at lw_m10 206 rfl) rfl
theorem q2441 : (Jvm.Cond.methodLink "Stenohall" (490 : Nat) ({ cls := "Stenohall", name := "cellOf", desc := "(C)I" } : Jvm.MethodName)) ∈ lw_all := lw_g (lw_at lw_m10 207 rfl) rfl
theorem q2442 : (Jvm.Cond.static ({ cls := "Stenohall", name := "cellOf", desc := "(C)I" } : Jvm.MethodName)) ∈ lw_all := lw_g (lw_at lw_m10 208 rfl) rfl
theorem q2443 : (Jvm.Cond.code ({ cls := "Stenohall", name := "cellOf", desc := "(C)I" } : Jvm.MethodName) prog_1_method_75_code (1 : Nat) (Option.some Jvm.ClassFile.FieldType.int)) ∈ lw_all := lw_g (lw_at lw_m10 209 rfl) rfl
theorem q2444 : (Jvm.Cond.methodLink "Stenohall" (473 : Nat) ({ cls := "Stenohall$Contraction", name := "cell", desc := "()I" } : Jvm.MethodName)) ∈ lw_all := lw_g (lw_at lw_m10 210 rfl) rfl
theorem q2449 : (Jvm.Cond.instanceMethod ({ cls := "Stenohall", name := "misses", desc := "()I" } : Jvm.MethodName)) ∈ lw_all := lw_g (lw_at lw_m10 215 rfl) rfl
theorem q2450 : (Jvm.Cond.selects "Stenohall" ({ cls := "Stenohall", name := "misses", desc := "()I" } : Jvm.MethodName) ({ cls := "Stenohall", name := "misses", desc := "()I" } : Jvm.MethodName)) ∈ lw_all := lw_g (lw_at lw_m10 216 rfl) rfl
theorem q2451 : (Jvm.Cond.code ({ cls := "Stenohall", name := "misses", desc := "()I" } : Jvm.MethodName) prog_1_method_81_code (5 : Nat) (Option.some Jvm.ClassFile.FieldType.int)) ∈ lw_all := lw_g (lw_at lw_m10 217 rfl) rfl
theorem q2453 : (Jvm.Cond.instanceMethod ({ cls := "Stenohall", name := "saving", desc := "()I" } : Jvm.MethodName)) ∈ lw_all := lw_g (lw_at lw_m10 219 rfl) rfl
theorem q2454 : (Jvm.Cond.selects "Stenohall" ({ cls := "Stenohall", name := "saving", desc := "()I" } : Jvm.MethodName) ({ cls := "Stenohall", name := "saving", desc := "()I" } : Jvm.MethodName)) ∈ lw_all := lw_g (lw_at lw_m10 220 rfl) rfl
theorem q2455 : (Jvm.Cond.code ({ cls := "Stenohall", name := "saving", desc := "()I" } : Jvm.MethodName) prog_1_method_83_code (9 : Nat) (Option.some Jvm.ClassFile.FieldType.int)) ∈ lw_all := lw_g (lw_at lw_m10 221 rfl) rfl
theorem q2456 : (Jvm.Cond.classLink "Stenohall" (168 : Nat) "java/lang/Integer") ∈ lw_all := lw_g (lw_at lw_m10 222 rfl) rfl
theorem q2457 : (Jvm.Cond.methodLink "Stenohall" (416 : Nat) ({ cls := "java/lang/Integer", name := "intValue", desc := "()I" } : Jvm.MethodName)) ∈ lw_all := lw_g (lw_at lw_m10 223 rfl) rfl
theorem q2458 : (Jvm.Cond.methodLink "Stenohall" (514 : Nat) ({ cls := "Stenohall", name := "contentOf", desc := "(LStenohall$Translation;I)Ljava/lang/String;" } : Jvm.MethodName)) ∈ lw_all := lw_g (lw_at lw_m10 224 rfl) rfl
theorem q2460 : (Jvm.Cond.instanceMethod ({ cls := "Stenohall", name := "checksum", desc := "()J" } : Jvm.MethodName)) ∈ lw_all := lw_g (lw_at lw_m10 226 rfl) rfl
theorem q2461 : (Jvm.Cond.selects "Stenohall" ({ cls := "Stenohall", name := "checksum", desc := "()J" } : Jvm.MethodName) ({ cls := "Stenohall", name := "checksum", desc := "()J" } : Jvm.MethodName)) ∈ lw_all := lw_g (lw_at lw_m10 227 rfl) rfl
theorem q2462 : (Jvm.Cond.code ({ cls := "Stenohall", name := "checksum", desc := "()J" } : Jvm.MethodName) prog_1_method_86_code (5 : Nat) (Option.some Jvm.ClassFile.FieldType.long)) ∈ lw_all := lw_g (lw_at lw_m10 228 rfl) rfl
theorem q2463 : (Jvm.Cond.constantLong "Stenohall" (522 : Nat) (7 : Int64)) ∈ lw_all := lw_g (lw_at lw_m10 229 rfl) rfl
theorem q2464 : (Jvm.Cond.constantLong "Stenohall" (524 : Nat) (31 : Int64)) ∈ lw_all := lw_g (lw_at lw_m10 230 rfl) rfl
theorem q2466 : (Jvm.Cond.instanceMethod ({ cls := "Stenohall", name := "isSound", desc := "()Z" } : Jvm.MethodName)) ∈ lw_all := lw_g (lw_at lw_m10 232 rfl) rfl
theorem q2467 : (Jvm.Cond.selects "Stenohall" ({ cls := "Stenohall", name := "isSound", desc := "()Z" } : Jvm.MethodName) ({ cls := "Stenohall", name := "isSound", desc := "()Z" } : Jvm.MethodName)) ∈ lw_all := lw_g (lw_at lw_m10 233 rfl) rfl
theorem q2468 : (Jvm.Cond.code ({ cls := "Stenohall", name := "isSound", desc := "()Z" } : Jvm.MethodName) prog_1_method_88_code (7 : Nat) (Option.some Jvm.ClassFile.FieldType.boolean)) ∈ lw_all := lw_g (lw_at lw_m10 234 rfl) rfl
theorem q2469 : (Jvm.Cond.methodLink "Stenohall" (537 : Nat) ({ cls := "Stenohall", name := "isSameAnew", desc := "()Z" } : Jvm.MethodName)) ∈ lw_all := lw_g (lw_at lw_m10 235 rfl) rfl
theorem q2470 : (Jvm.Cond.privateMethod ({ cls := "Stenohall", name := "isSameAnew", desc := "()Z" } : Jvm.MethodName)) ∈ lw_tbl := lw_at lw_m10 236 rfl
theorem q2471 : (Jvm.Cond.instanceMethod ({ cls := "Stenohall", name := "isSameAnew", desc := "()Z" } : Jvm.MethodName)) ∈ lw_all := lw_g (lw_at lw_m10 237 rfl) rfl
theorem q2472 : (Jvm.Cond.code ({ cls := "Stenohall", name := "isSameAnew", desc := "()Z" } : Jvm.MethodName) prog_1_method_87_code (4 : Nat) (Option.some Jvm.ClassFile.FieldType.boolean)) ∈ lw_all := lw_g (lw_at lw_m10 238 rfl) rfl
theorem q2473 : (Jvm.Cond.classLink "Stenohall" (23 : Nat) "Stenohall") ∈ lw_all := lw_g (lw_at lw_m10 239 rfl) rfl
theorem q2474 : (Jvm.Cond.methodLink "Stenohall" (526 : Nat) ({ cls := "Stenohall", name := "<init>", desc := "()V" } : Jvm.MethodName)) ∈ lw_all := lw_g (lw_at lw_m11 0 rfl) rfl
theorem q2475 : (Jvm.Cond.classLink "Stenohall" (527 : Nat) "java/util/Collection") ∈ lw_all := lw_g (lw_at lw_m11 1 rfl) rfl
theorem q2476 : (Jvm.Cond.interfaceEntry "Stenohall" (529 : Nat)) ∈ lw_tbl := lw_at lw_m11 2 rfl
theorem q2477 : (Jvm.Cond.methodLink "Stenohall" (529 : Nat) ({ cls := "java/util/List", name := "addAll", desc := "(Ljava/util/Collection;)Z" } : Jvm.MethodName)) ∈ lw_all := lw_g (lw_at lw_m11 3 rfl) rfl
theorem q2527 : (Jvm.Cond.methodLink "Stenohall" (533 : Nat) ({ cls := "java/util/ArrayList", name := "addAll", desc := "(Ljava/util/Collection;)Z" } : Jvm.MethodName)) ∈ lw_all := lw_g (lw_at lw_m11 53 rfl) rfl
theorem q2528 : (Jvm.Cond.methodLink "Stenohall" (534 : Nat) ({ cls := "java/lang/StringBuilder", name := "append", desc := "(Ljava/lang/CharSequence;)Ljava/lang/StringBuilder;" } : Jvm.MethodName)) ∈ lw_all := lw_g (lw_at lw_m11 54 rfl) rfl
theorem q2619 : (Jvm.Cond.methodLink "Stenohall" (540 : Nat) ({ cls := "Stenohall", name := "readBack", desc := "(Ljava/util/List;)Ljava/lang/String;" } : Jvm.MethodName)) ∈ lw_all := lw_g (lw_at lw_m11 145 rfl) rfl
theorem q2620 : (Jvm.Cond.privateMethod ({ cls := "Stenohall", name := "readBack", desc := "(Ljava/util/List;)Ljava/lang/String;" } : Jvm.MethodName)) ∈ lw_tbl := lw_at lw_m11 146 rfl
theorem q2621 : (Jvm.Cond.instanceMethod ({ cls := "Stenohall", name := "readBack", desc := "(Ljava/util/List;)Ljava/lang/String;" } : Jvm.MethodName)) ∈ lw_all := lw_g (lw_at lw_m11 147 rfl) rfl
theorem q2622 : (Jvm.Cond.code ({ cls := "Stenohall", name := "readBack", desc := "(Ljava/util/List;)Ljava/lang/String;" } : Jvm.MethodName) prog_1_method_78_code (9 : Nat) (Option.some (Jvm.ClassFile.FieldType.object "java/lang/String"))) ∈ lw_all := lw_g (lw_at lw_m11 148 rfl) rfl
theorem q2623 : (Jvm.Cond.stringRef "Stenohall" (494 : Nat) " ") ∈ lw_tbl := lw_at lw_m11 149 rfl
theorem q2624 : (Jvm.Cond.methodLink "Stenohall" (287 : Nat) ({ cls := "java/lang/String", name := "valueOf", desc := "(C)Ljava/lang/String;" } : Jvm.MethodName)) ∈ lw_all := lw_g (lw_at lw_m11 150 rfl) rfl
theorem q2635 : (Jvm.Cond.stringRef "Stenohall" (496 : Nat) "|") ∈ lw_tbl := lw_at lw_m11 161 rfl
theorem q2636 : (Jvm.Cond.stringRef "Stenohall" (498 : Nat) ".") ∈ lw_tbl := lw_at lw_m11 162 rfl
theorem q2637 : (Jvm.Cond.stringRef "Stenohall" (500 : Nat) ",") ∈ lw_tbl := lw_at lw_m11 163 rfl
theorem q2638 : (Jvm.Cond.stringRef "Stenohall" (502 : Nat) "?") ∈ lw_tbl := lw_at lw_m11 164 rfl
theorem q2639 : (Jvm.Cond.methodLink "Stenohall" (504 : Nat) ({ cls := "Stenohall", name := "capital", desc := "(C)C" } : Jvm.MethodName)) ∈ lw_all := lw_g (lw_at lw_m11 165 rfl) rfl
theorem q2640 : (Jvm.Cond.methodLink "Stenohall" (507 : Nat) ({ cls := "java/lang/String", name := "substring", desc := "(I)Ljava/lang/String;" } : Jvm.MethodName)) ∈ lw_all := lw_g (lw_at lw_m11 166 rfl) rfl
theorem q2645 : (Jvm.Cond.methodLink "Stenohall" (402 : Nat) ({ cls := "Stenohall$Sign", name := "time", desc := "()I" } : Jvm.MethodName)) ∈ lw_all := lw_g (lw_at lw_m11 171 rfl) rfl
theorem q2649 : (Jvm.Cond.classLink "Stenohall" (425 : Nat) "Stenohall$Sink") ∈ lw_all := lw_g (lw_at lw_m11 175 rfl) rfl
theorem q2650 : (Jvm.Cond.methodLink "Stenohall" (544 : Nat) ({ cls := "java/lang/String", name := "isEmpty", desc := "()Z" } : Jvm.MethodName)) ∈ lw_all := lw_g (lw_at lw_m11 176 rfl) rfl
theorem q2657 : (Jvm.Cond.instanceMethod ({ cls := "Stenohall", name := "mode", desc := "(C)Z" } : Jvm.MethodName)) ∈ lw_all := lw_g (lw_at lw_m11 183 rfl) rfl
theorem q2658 : (Jvm.Cond.selects "Stenohall" ({ cls := "Stenohall", name := "mode", desc := "(C)Z" } : Jvm.MethodName) ({ cls := "Stenohall", name := "mode", desc := "(C)Z" } : Jvm.MethodName)) ∈ lw_all := lw_g (lw_at lw_m11 184 rfl) rfl
theorem q2659 : (Jvm.Cond.code ({ cls := "Stenohall", name := "mode", desc := "(C)Z" } : Jvm.MethodName) prog_1_method_17_code (3 : Nat) (Option.some Jvm.ClassFile.FieldType.boolean)) ∈ lw_all := lw_g (lw_at lw_m11 185 rfl) rfl
theorem q2660 : (Jvm.Cond.methodLink "Stenohall" (138 : Nat) ({ cls := "Stenohall", name := "require", desc := "(Z)V" } : Jvm.MethodName)) ∈ lw_all := lw_g (lw_at lw_m11 186 rfl) rfl
theorem q2661 : (Jvm.Cond.static ({ cls := "Stenohall", name := "require", desc := "(Z)V" } : Jvm.MethodName)) ∈ lw_all := lw_g (lw_at lw_m11 187 rfl) rfl
theorem q2662 : (Jvm.Cond.code ({ cls := "Stenohall", name := "require", desc := "(Z)V" } : Jvm.MethodName) prog_1_method_2_code (1 : Nat) (Option.none : Option Jvm.ClassFile.FieldType)) ∈ lw_all := lw_g (lw_at lw_m11 188 rfl) rfl
theorem q2663 : (Jvm.Cond.classLink "Stenohall" (1 : Nat) "java/lang/IllegalArgumentException") ∈ lw_all := lw_g (lw_at lw_m11 189 rfl) rfl
theorem q2664 : (Jvm.Cond.methodLink "Stenohall" (3 : Nat) ({ cls := "java/lang/IllegalArgumentException", name := "<init>", desc := "()V" } : Jvm.MethodName)) ∈ lw_all := lw_g (lw_at lw_m11 190 rfl) rfl
theorem q2668 : (Jvm.Cond.methodLink "Stenohall" (145 : Nat) ({ cls := "Stenohall", name := "requireState", desc := "(Z)V" } : Jvm.MethodName)) ∈ lw_all := lw_g (lw_at lw_m11 194 rfl) rfl
theorem q2669 : (Jvm.Cond.static ({ cls := "Stenohall", name := "requireState", desc := "(Z)V" } : Jvm.MethodName)) ∈ lw_all := lw_g (lw_at lw_m11 195 rfl) rfl
theorem q2670 : (Jvm.Cond.code ({ cls := "Stenohall", name := "requireState", desc := "(Z)V" } : Jvm.MethodName) prog_1_method_4_code (1 : Nat) (Option.none : Option Jvm.ClassFile.FieldType)) ∈ lw_all := lw_g (lw_at lw_m11 196 rfl) rfl
theorem q2671 : (Jvm.Cond.classLink "Stenohall" (10 : Nat) "java/lang/IllegalStateException") ∈ lw_all := lw_g (lw_at lw_m11 197 rfl) rfl
theorem q2680 : (Jvm.Cond.methodLink "Stenohall" (12 : Nat) ({ cls := "java/lang/IllegalStateException", name := "<init>", desc := "()V" } : Jvm.MethodName)) ∈ lw_all := lw_g (lw_at lw_m11 206 rfl) rfl
theorem q2694 : (Jvm.Cond.instanceMethod ({ cls := "Stenohall", name := "down", desc := "(I)I" } : Jvm.MethodName)) ∈ lw_all := lw_g (lw_at lw_m11 220 rfl) rfl
theorem q2695 : (Jvm.Cond.selects "Stenohall" ({ cls := "Stenohall", name := "down", desc := "(I)I" } : Jvm.MethodName) ({ cls := "Stenohall", name := "down", desc := "(I)I" } : Jvm.MethodName)) ∈ lw_all := lw_g (lw_at lw_m11 221 rfl) rfl
theorem q2696 : (Jvm.Cond.code ({ cls := "Stenohall", name := "down", desc := "(I)I" } : Jvm.MethodName) prog_1_method_19_code (2 : Nat) (Option.some Jvm.ClassFile.FieldType.int)) ∈ lw_all := lw_g (lw_at lw_m11 222 rfl) rfl
theorem q2697 : (Jvm.Cond.methodLink "Stenohall" (160 : Nat) ({ cls := "Stenohall", name := "requireKey", desc := "(I)V" } : Jvm.MethodName)) ∈ lw_all := lw_g (lw_at lw_m11 223 rfl) rfl
theorem q2698 : (Jvm.Cond.static ({ cls := "Stenohall", name := "requireKey", desc := "(I)V" } : Jvm.MethodName)) ∈ lw_all := lw_g (lw_at lw_m11 224 rfl) rfl
theorem q2699 : (Jvm.Cond.code ({ cls := "Stenohall", name := "requireKey", desc := "(I)V" } : Jvm.MethodName) prog_1_method_18_code (1 : Nat) (Option.none : Option Jvm.ClassFile.FieldType)) ∈ lw_all := lw_g (lw_at lw_m11 225 rfl) rfl
theorem q2700 : (Jvm.Cond.constantLong "Stenohall" (151 : Nat) (15 : Int64)) ∈ lw_all := lw_g (lw_at lw_m11 226 rfl) rfl
theorem q2701 : (Jvm.Cond.methodLink "Stenohall" (153 : Nat) ({ cls := "Stenohall", name := "isBetween", desc := "(JJJ)Z" } : Jvm.MethodName)) ∈ lw_all := lw_g (lw_at lw_m11 227 rfl) rfl
theorem q2702 : (Jvm.Cond.static ({ cls := "Stenohall", name := "isBetween", desc := "(JJJ)Z" } : Jvm.MethodName)) ∈ lw_all := lw_g (lw_at lw_m11 228 rfl) rfl
theorem q2703 : (Jvm.Cond.code ({ cls := "Stenohall", name := "isBetween", desc := "(JJJ)Z" } : Jvm.MethodName) prog_1_method_1_code (6 : Nat) (Option.some Jvm.ClassFile.FieldType.boolean)) ∈ lw_all := lw_g (lw_at lw_m11 229 rfl) rfl
theorem q2704 : (Jvm.Cond.methodLink "Stenohall" (157 : Nat) ({ cls := "Stenohall", name := "requireIndex", desc := "(Z)V" } : Jvm.MethodName)) ∈ lw_all := lw_g (lw_at lw_m11 230 rfl) rfl
theorem q2705 : (Jvm.Cond.static ({ cls := "Stenohall", name := "requireIndex", desc := "(Z)V" } : Jvm.MethodName)) ∈ lw_all := lw_g (lw_at lw_m11 231 rfl) rfl
theorem q2706 : (Jvm.Cond.code ({ cls := "Stenohall", name := "requireIndex", desc := "(Z)V" } : Jvm.MethodName) prog_1_method_3_code (1 : Nat) (Option.none : Option Jvm.ClassFile.FieldType)) ∈ lw_all := lw_g (lw_at lw_m11 232 rfl) rfl
theorem q2707 : (Jvm.Cond.classLink "Stenohall" (7 : Nat) "java/lang/IndexOutOfBoundsException") ∈ lw_all := lw_g (lw_at lw_m11 233 rfl) rfl
theorem q2708 : (Jvm.Cond.methodLink "Stenohall" (9 : Nat) ({ cls := "java/lang/IndexOutOfBoundsException", name := "<init>", desc := "()V" } : Jvm.MethodName)) ∈ lw_all := lw_g (lw_at lw_m11 234 rfl) rfl
theorem q2712 : (Jvm.Cond.methodLink "Stenohall" (164 : Nat) ({ cls := "Stenohall", name := "requireSupported", desc := "(Z)V" } : Jvm.MethodName)) ∈ lw_all := lw_g (lw_at lw_m11 238 rfl) rfl
theorem q2713 : (Jvm.Cond.static ({ cls := "Stenohall", name := "requireSupported", desc := "(Z)V" } : Jvm.MethodName)) ∈ lw_all := lw_g (lw_at lw_m11 239 rfl) rfl
theorem q2714 : (Jvm.Cond.code ({ cls := "Stenohall", name := "requireSupported", desc := "(Z)V" } : Jvm.MethodName) prog_1_method_6_code (1 : Nat) (Option.none : Option Jvm.ClassFile.FieldType)) ∈ lw_all := lw_g (lw_at lw_m12 0 rfl) rfl
theorem q2715 : (Jvm.Cond.classLink "Stenohall" (16 : Nat) "java/lang/UnsupportedOperationException") ∈ lw_all := lw_g (lw_at lw_m12 1 rfl) rfl
theorem q2716 : (Jvm.Cond.methodLink "Stenohall" (18 : Nat) ({ cls := "java/lang/UnsupportedOperationException", name := "<init>", desc := "()V" } : Jvm.MethodName)) ∈ lw_all := lw_g (lw_at lw_m12 2 rfl) rfl
theorem q2717 : (Jvm.Cond.methodLink "Stenohall" (167 : Nat) ({ cls := "java/lang/Integer", name := "bitCount", desc := "(I)I" } : Jvm.MethodName)) ∈ lw_all := lw_g (lw_at lw_m12 3 rfl) rfl
theorem q2727 : (Jvm.Cond.instanceMethod ({ cls := "Stenohall", name := "up", desc := "(I)I" } : Jvm.MethodName)) ∈ lw_all := lw_g (lw_at lw_m12 13 rfl) rfl
theorem q2728 : (Jvm.Cond.selects "Stenohall" ({ cls := "Stenohall", name := "up", desc := "(I)I" } : Jvm.MethodName) ({ cls := "Stenohall", name := "up", desc := "(I)I" } : Jvm.MethodName)) ∈ lw_all := lw_g (lw_at lw_m12 14 rfl) rfl
theorem q2729 : (Jvm.Cond.code ({ cls := "Stenohall", name := "up", desc := "(I)I" } : Jvm.MethodName) prog_1_method_20_code (4 : Nat) (Option.some Jvm.ClassFile.FieldType.int)) ∈ lw_all := lw_g (lw_at lw_m12 15 rfl) rfl
theorem q2730 : (Jvm.Cond.methodLink "Stenohall" (173 : Nat) ({ cls := "Stenohall", name := "comes", desc := "(I)V" } : Jvm.MethodName)) ∈ lw_all := lw_g (lw_at lw_m12 16 rfl) rfl
theorem q2731 : (Jvm.Cond.privateMethod ({ cls := "Stenohall", name := "comes", desc := "(I)V" } : Jvm.MethodName)) ∈ lw_tbl := lw_at lw_m12 17 rfl
theorem q2732 : (Jvm.Cond.instanceMethod ({ cls := "Stenohall", name := "comes", desc := "(I)V" } : Jvm.MethodName)) ∈ lw_all := lw_g (lw_at lw_m12 18 rfl) rfl
theorem q2733 : (Jvm.Cond.code ({ cls := "Stenohall", name := "comes", desc := "(I)V" } : Jvm.MethodName) prog_1_method_21_code (2 : Nat) (Option.none : Option Jvm.ClassFile.FieldType)) ∈ lw_all := lw_g (lw_at lw_m12 19 rfl) rfl
theorem q2735 : (Jvm.Cond.methodLinkNest "Stenohall" (178 : Nat) ({ cls := "Stenohall$Stroke", name := "<init>", desc := "(II)V" } : Jvm.MethodName) "Stenohall") ∈ lw_tbl := lw_at lw_m12 21 rfl
theorem q2750 : (Jvm.Cond.instanceMethod ({ cls := "Stenohall", name := "stroke", desc := "(I)I" } : Jvm.MethodName)) ∈ lw_all := lw_g (lw_at lw_m12 36 rfl) rfl
theorem q2751 : (Jvm.Cond.selects "Stenohall" ({ cls := "Stenohall", name := "stroke", desc := "(I)I" } : Jvm.MethodName) ({ cls := "Stenohall", name := "stroke", desc := "(I)I" } : Jvm.MethodName)) ∈ lw_all := lw_g (lw_at lw_m12 37 rfl) rfl
theorem q2752 : (Jvm.Cond.codeSync ({ cls := "Stenohall", name := "stroke", desc := "(I)I" } : Jvm.MethodName) prog_1_method_22_code (2 : Nat) (Option.some Jvm.ClassFile.FieldType.int)) ∈ lw_all := lw_g (lw_at lw_m12 38 rfl) rfl
theorem q2753 : (Jvm.Cond.constantLong "Stenohall" (185 : Nat) (65535 : Int64)) ∈ lw_all := lw_g (lw_at lw_m12 39 rfl) rfl
theorem q2759 : (Jvm.Cond.instanceMethod ({ cls := "Stenohall", name := "undo", desc := "()I" } : Jvm.MethodName)) ∈ lw_all := lw_g (lw_at lw_m12 45 rfl) rfl
theorem q2760 : (Jvm.Cond.selects "Stenohall" ({ cls := "Stenohall", name := "undo", desc := "()I" } : Jvm.MethodName) ({ cls := "Stenohall", name := "undo", desc := "()I" } : Jvm.MethodName)) ∈ lw_all := lw_g (lw_at lw_m12 46 rfl) rfl
theorem q2761 : (Jvm.Cond.code ({ cls := "Stenohall", name := "undo", desc := "()I" } : Jvm.MethodName) prog_1_method_23_code (2 : Nat) (Option.some Jvm.ClassFile.FieldType.int)) ∈ lw_all := lw_g (lw_at lw_m12 47 rfl) rfl
theorem q2762 : (Jvm.Cond.methodLink "Stenohall" (187 : Nat) ({ cls := "java/util/ArrayList", name := "isEmpty", desc := "()Z" } : Jvm.MethodName)) ∈ lw_all := lw_g (lw_at lw_m12 48 rfl) rfl
theorem q2763 : (Jvm.Cond.methodLink "Stenohall" (191 : Nat) ({ cls := "Stenohall", name := "requireThere", desc := "(Z)V" } : Jvm.MethodName)) ∈ lw_all := lw_g (lw_at lw_m12 49 rfl) rfl
theorem q2768 : (Jvm.Cond.instanceMethod ({ cls := "Stenohall", name := "strokeAt", desc := "(I)I" } : Jvm.MethodName)) ∈ lw_all := lw_g (lw_at lw_m12 54 rfl) rfl
theorem q2769 : (Jvm.Cond.selects "Stenohall" ({ cls := "Stenohall", name := "strokeAt", desc := "(I)I" } : Jvm.MethodName) ({ cls := "Stenohall", name := "strokeAt", desc := "(I)I" } : Jvm.MethodName)) ∈ lw_all := lw_g (lw_at lw_m12 55 rfl) rfl
theorem q2770 : (Jvm.Cond.code ({ cls := "Stenohall", name := "strokeAt", desc := "(I)I" } : Jvm.MethodName) prog_1_method_25_code (2 : Nat) (Option.some Jvm.ClassFile.FieldType.int)) ∈ lw_all := lw_g (lw_at lw_m12 56 rfl) rfl
theorem q2775 : (Jvm.Cond.instanceMethod ({ cls := "Stenohall", name := "chord", desc := "(I)I" } : Jvm.MethodName)) ∈ lw_all := lw_g (lw_at lw_m12 61 rfl) rfl
theorem q2776 : (Jvm.Cond.selects "Stenohall" ({ cls := "Stenohall", name := "chord", desc := "(I)I" } : Jvm.MethodName) ({ cls := "Stenohall", name := "chord", desc := "(I)I" } : Jvm.MethodName)) ∈ lw_all := lw_g (lw_at lw_m12 62 rfl) rfl
theorem q2777 : (Jvm.Cond.code ({ cls := "Stenohall", name := "chord", desc := "(I)I" } : Jvm.MethodName) prog_1_method_26_code (2 : Nat) (Option.some Jvm.ClassFile.FieldType.int)) ∈ lw_all := lw_g (lw_at lw_m12 63 rfl) rfl
theorem q2782 : (Jvm.Cond.instanceMethod ({ cls := "Stenohall", name := "sign", desc := "(C)I" } : Jvm.MethodName)) ∈ lw_all := lw_g (lw_at lw_m12 68 rfl) rfl
theorem q2783 : (Jvm.Cond.selects "Stenohall" ({ cls := "Stenohall", name := "sign", desc := "(C)I" } : Jvm.MethodName) ({ cls := "Stenohall", name := "sign", desc := "(C)I" } : Jvm.MethodName)) ∈ lw_all := lw_g (lw_at lw_m12 69 rfl) rfl
theorem q2784 : (Jvm.Cond.code ({ cls := "Stenohall", name := "sign", desc := "(C)I" } : Jvm.MethodName) prog_1_method_27_code (2 : Nat) (Option.some Jvm.ClassFile.FieldType.int)) ∈ lw_all := lw_g (lw_at lw_m12 70 rfl) rfl
theorem q2785 : (Jvm.Cond.stringRef "Stenohall" (205 : Nat) "^-<.,#|=") ∈ lw_tbl := lw_at lw_m12 71 rfl
theorem q2790 : (Jvm.Cond.instanceMethod ({ cls := "Stenohall", name := "entry", desc := "(I)Z" } : Jvm.MethodName)) ∈ lw_all := lw_g (lw_at lw_m12 76 rfl) rfl
theorem q2791 : (Jvm.Cond.selects "Stenohall" ({ cls := "Stenohall", name := "entry", desc := "(I)Z" } : Jvm.MethodName) ({ cls := "Stenohall", name := "entry", desc := "(I)Z" } : Jvm.MethodName)) ∈ lw_all := lw_g (lw_at lw_m12 77 rfl) rfl
theorem q2792 : (Jvm.Cond.code ({ cls := "Stenohall", name := "entry", desc := "(I)Z" } : Jvm.MethodName) prog_1_method_32_code (4 : Nat) (Option.some Jvm.ClassFile.FieldType.boolean)) ∈ lw_all := lw_g (lw_at lw_m12 78 rfl) rfl
theorem q2793 : (Jvm.Cond.methodLink "Stenohall" (246 : Nat) ({ cls := "Stenohall", name := "layerAt", desc := "(I)Ljava/util/List;" } : Jvm.MethodName)) ∈ lw_all := lw_g (lw_at lw_m12 79 rfl) rfl
theorem q2794 : (Jvm.Cond.privateMethod ({ cls := "Stenohall", name := "layerAt", desc := "(I)Ljava/util/List;" } : Jvm.MethodName)) ∈ lw_tbl := lw_at lw_m12 80 rfl
theorem q2795 : (Jvm.Cond.instanceMethod ({ cls := "Stenohall", name := "layerAt", desc := "(I)Ljava/util/List;" } : Jvm.MethodName)) ∈ lw_all := lw_g (lw_at lw_m12 81 rfl) rfl
theorem q2796 : (Jvm.Cond.code ({ cls := "Stenohall", name := "layerAt", desc := "(I)Ljava/util/List;" } : Jvm.MethodName) prog_1_method_30_code (2 : Nat) (Option.some (Jvm.ClassFile.FieldType.object "java/util/List"))) ∈ lw_all := lw_g (lw_at lw_m12 82 rfl) rfl
theorem q2797 : (Jvm.Cond.constantLong "Stenohall" (223 : Nat) (3 : Int64)) ∈ lw_all := lw_g (lw_at lw_m12 83 rfl) rfl
theorem q2798 : (Jvm.Cond.interfaceEntry "Stenohall" (254 : Nat)) ∈ lw_tbl := lw_at lw_m12 84 rfl
theorem q2799 : (Jvm.Cond.methodLink "Stenohall" (254 : Nat) ({ cls := "java/util/List", name := "remove", desc := "(Ljava/lang/Object;)Z" } : Jvm.MethodName)) ∈ lw_all := lw_g (lw_at lw_m12 85 rfl) rfl
theorem q2938 : (Jvm.Cond.methodLink "Stenohall" (264 : Nat) ({ cls := "Stenohall$Entry", name := "<init>", desc := "(Ljava/util/List;Ljava/lang/String;)V" } : Jvm.MethodName)) ∈ lw_all := lw_g (lw_at lw_m12 224 rfl) rfl
theorem q2945 : (Jvm.Cond.fieldLinkNest "Stenohall" (240 : Nat) "Stenohall$Entry" "outline" "Ljava/util/List;" "Stenohall") ∈ lw_tbl := lw_at lw_m12 231 rfl
theorem q2947 : (Jvm.Cond.fieldLinkNest "Stenohall" (366 : Nat) "Stenohall$Entry" "content" "Ljava/lang/String;" "Stenohall") ∈ lw_tbl := lw_at lw_m12 233 rfl
theorem q2949 : (Jvm.Cond.fieldLinkNest "Stenohall" (267 : Nat) "Stenohall$Entry" "alternatives" "Ljava/util/ArrayList;" "Stenohall") ∈ lw_tbl := lw_at lw_m12 235 rfl
theorem q2961 : (Jvm.Cond.instanceMethod ({ cls := "Stenohall", name := "alternative", desc := "(IC)I" } : Jvm.MethodName)) ∈ lw_all := lw_g (lw_at lw_m13 7 rfl) rfl
theorem q2962 : (Jvm.Cond.selects "Stenohall" ({ cls := "Stenohall", name := "alternative", desc := "(IC)I" } : Jvm.MethodName) ({ cls := "Stenohall", name := "alternative", desc := "(IC)I" } : Jvm.MethodName)) ∈ lw_all := lw_g (lw_at lw_m13 8 rfl) rfl
theorem q2963 : (Jvm.Cond.code ({ cls := "Stenohall", name := "alternative", desc := "(IC)I" } : Jvm.MethodName) prog_1_method_33_code (5 : Nat) (Option.some Jvm.ClassFile.FieldType.int)) ∈ lw_all := lw_g (lw_at lw_m13 9 rfl) rfl
theorem q2965 : (Jvm.Cond.methodLinkNest "Stenohall" (272 : Nat) ({ cls := "Stenohall$Alternative", name := "<init>", desc := "(CLjava/lang/String;)V" } : Jvm.MethodName) "Stenohall") ∈ lw_tbl := lw_at lw_m13 11 rfl
theorem q2980 : (Jvm.Cond.instanceMethod ({ cls := "Stenohall", name := "remove", desc := "(I)Z" } : Jvm.MethodName)) ∈ lw_all := lw_g (lw_at lw_m13 26 rfl) rfl
theorem q2981 : (Jvm.Cond.selects "Stenohall" ({ cls := "Stenohall", name := "remove", desc := "(I)Z" } : Jvm.MethodName) ({ cls := "Stenohall", name := "remove", desc := "(I)Z" } : Jvm.MethodName)) ∈ lw_all := lw_g (lw_at lw_m13 27 rfl) rfl
theorem q2982 : (Jvm.Cond.code ({ cls := "Stenohall", name := "remove", desc := "(I)Z" } : Jvm.MethodName) prog_1_method_34_code (4 : Nat) (Option.some Jvm.ClassFile.FieldType.boolean)) ∈ lw_all := lw_g (lw_at lw_m13 28 rfl) rfl
theorem q2987 : (Jvm.Cond.instanceMethod ({ cls := "Stenohall", name := "turn", desc := "(IZ)Z" } : Jvm.MethodName)) ∈ lw_all := lw_g (lw_at lw_m13 33 rfl) rfl
theorem q2988 : (Jvm.Cond.selects "Stenohall" ({ cls := "Stenohall", name := "turn", desc := "(IZ)Z" } : Jvm.MethodName) ({ cls := "Stenohall", name := "turn", desc := "(IZ)Z" } : Jvm.MethodName)) ∈ lw_all := lw_g (lw_at lw_m13 34 rfl) rfl
theorem q2989 : (Jvm.Cond.code ({ cls := "Stenohall", name := "turn", desc := "(IZ)Z" } : Jvm.MethodName) prog_1_method_35_code (4 : Nat) (Option.some Jvm.ClassFile.FieldType.boolean)) ∈ lw_all := lw_g (lw_at lw_m13 35 rfl) rfl
theorem q2994 : (Jvm.Cond.instanceMethod ({ cls := "Stenohall", name := "entries", desc := "(I)I" } : Jvm.MethodName)) ∈ lw_all := lw_g (lw_at lw_m13 40 rfl) rfl
theorem q2995 : (Jvm.Cond.selects "Stenohall" ({ cls := "Stenohall", name := "entries", desc := "(I)I" } : Jvm.MethodName) ({ cls := "Stenohall", name := "entries", desc := "(I)I" } : Jvm.MethodName)) ∈ lw_all := lw_g (lw_at lw_m13 41 rfl) rfl
theorem q2996 : (Jvm.Cond.code ({ cls := "Stenohall", name := "entries", desc := "(I)I" } : Jvm.MethodName) prog_1_method_36_code (2 : Nat) (Option.some Jvm.ClassFile.FieldType.int)) ∈ lw_all := lw_g (lw_at lw_m13 42 rfl) rfl
theorem q3001 : (Jvm.Cond.instanceMethod ({ cls := "Stenohall", name := "word", desc := "()I" } : Jvm.MethodName)) ∈ lw_all := lw_g (lw_at lw_m13 47 rfl) rfl
theorem q3002 : (Jvm.Cond.selects "Stenohall" ({ cls := "Stenohall", name := "word", desc := "()I" } : Jvm.MethodName) ({ cls := "Stenohall", name := "word", desc := "()I" } : Jvm.MethodName)) ∈ lw_all := lw_g (lw_at lw_m13 48 rfl) rfl
theorem q3003 : (Jvm.Cond.code ({ cls := "Stenohall", name := "word", desc := "()I" } : Jvm.MethodName) prog_1_method_38_code (2 : Nat) (Option.some Jvm.ClassFile.FieldType.int)) ∈ lw_all := lw_g (lw_at lw_m13 49 rfl) rfl
theorem q3004 : (Jvm.Cond.methodLink "Stenohall" (279 : Nat) ({ cls := "Stenohall", name := "isOfLetters", desc := "()Z" } : Jvm.MethodName)) ∈ lw_all := lw_g (lw_at lw_m13 50 rfl) rfl
theorem q3005 : (Jvm.Cond.privateMethod ({ cls := "Stenohall", name := "isOfLetters", desc := "()Z" } : Jvm.MethodName)) ∈ lw_tbl := lw_at lw_m13 51 rfl
theorem q3006 : (Jvm.Cond.instanceMethod ({ cls := "Stenohall", name := "isOfLetters", desc := "()Z" } : Jvm.MethodName)) ∈ lw_all := lw_g (lw_at lw_m13 52 rfl) rfl
theorem q3007 : (Jvm.Cond.code ({ cls := "Stenohall", name := "isOfLetters", desc := "()Z" } : Jvm.MethodName) prog_1_method_37_code (3 : Nat) (Option.some Jvm.ClassFile.FieldType.boolean)) ∈ lw_all := lw_g (lw_at lw_m13 53 rfl) rfl
theorem q3008 : (Jvm.Cond.methodLink "Stenohall" (275 : Nat) ({ cls := "java/lang/StringBuilder", name := "charAt", desc := "(I)C" } : Jvm.MethodName)) ∈ lw_all := lw_g (lw_at lw_m13 54 rfl) rfl
theorem q3013 : (Jvm.Cond.instanceMethod ({ cls := "Stenohall", name := "rule", desc := "(C)I" } : Jvm.MethodName)) ∈ lw_all := lw_g (lw_at lw_m13 59 rfl) rfl
theorem q3014 : (Jvm.Cond.selects "Stenohall" ({ cls := "Stenohall", name := "rule", desc := "(C)I" } : Jvm.MethodName) ({ cls := "Stenohall", name := "rule", desc := "(C)I" } : Jvm.MethodName)) ∈ lw_all := lw_g (lw_at lw_m13 60 rfl) rfl
theorem q3015 : (Jvm.Cond.code ({ cls := "Stenohall", name := "rule", desc := "(C)I" } : Jvm.MethodName) prog_1_method_40_code (2 : Nat) (Option.some Jvm.ClassFile.FieldType.int)) ∈ lw_all := lw_g (lw_at lw_m13 61 rfl) rfl
theorem q3016 : (Jvm.Cond.stringRef "Stenohall" (285 : Nat) "eyds") ∈ lw_tbl := lw_at lw_m13 62 rfl
theorem q3017 : (Jvm.Cond.methodLink "Stenohall" (290 : Nat) ({ cls := "java/lang/StringBuilder", name := "indexOf", desc := "(Ljava/lang/String;)I" } : Jvm.MethodName)) ∈ lw_all := lw_g (lw_at lw_m13 63 rfl) rfl
theorem q3071 : (Jvm.Cond.instanceMethod ({ cls := "Stenohall", name := "at", desc := "(I)C" } : Jvm.MethodName)) ∈ lw_all := lw_g (lw_at lw_m13 117 rfl) rfl
theorem q3072 : (Jvm.Cond.selects "Stenohall" ({ cls := "Stenohall", name := "at", desc := "(I)C" } : Jvm.MethodName) ({ cls := "Stenohall", name := "at", desc := "(I)C" } : Jvm.MethodName)) ∈ lw_all := lw_g (lw_at lw_m13 118 rfl) rfl
theorem q3073 : (Jvm.Cond.code ({ cls := "Stenohall", name := "at", desc := "(I)C" } : Jvm.MethodName) prog_1_method_52_code (2 : Nat) (Option.some Jvm.ClassFile.FieldType.char)) ∈ lw_all := lw_g (lw_at lw_m13 119 rfl) rfl
theorem q3074 : (Jvm.Cond.methodLink "Stenohall" (395 : Nat) ({ cls := "Stenohall", name := "signAt", desc := "(I)LStenohall$Sign;" } : Jvm.MethodName)) ∈ lw_all := lw_g (lw_at lw_m13 120 rfl) rfl
theorem q3075 : (Jvm.Cond.privateMethod ({ cls := "Stenohall", name := "signAt", desc := "(I)LStenohall$Sign;" } : Jvm.MethodName)) ∈ lw_tbl := lw_at lw_m13 121 rfl
theorem q3076 : (Jvm.Cond.instanceMethod ({ cls := "Stenohall", name := "signAt", desc := "(I)LStenohall$Sign;" } : Jvm.MethodName)) ∈ lw_all := lw_g (lw_at lw_m13 122 rfl) rfl
theorem q3077 : (Jvm.Cond.code ({ cls := "Stenohall", name := "signAt", desc := "(I)LStenohall$Sign;" } : Jvm.MethodName) prog_1_method_50_code (2 : Nat) (Option.some (Jvm.ClassFile.FieldType.object "Stenohall$Sign"))) ∈ lw_all := lw_g (lw_at lw_m13 123 rfl) rfl
theorem q3082 : (Jvm.Cond.instanceMethod ({ cls := "Stenohall", name := "time", desc := "(I)I" } : Jvm.MethodName)) ∈ lw_all := lw_g (lw_at lw_m13 128 rfl) rfl
theorem q3083 : (Jvm.Cond.selects "Stenohall" ({ cls := "Stenohall", name := "time", desc := "(I)I" } : Jvm.MethodName) ({ cls := "Stenohall", name := "time", desc := "(I)I" } : Jvm.MethodName)) ∈ lw_all := lw_g (lw_at lw_m13 129 rfl) rfl
theorem q3084 : (Jvm.Cond.code ({ cls := "Stenohall", name := "time", desc := "(I)I" } : Jvm.MethodName) prog_1_method_53_code (2 : Nat) (Option.some Jvm.ClassFile.FieldType.int)) ∈ lw_all := lw_g (lw_at lw_m13 130 rfl) rfl
theorem q3089 : (Jvm.Cond.instanceMethod ({ cls := "Stenohall", name := "strokesOf", desc := "(I)I" } : Jvm.MethodName)) ∈ lw_all := lw_g (lw_at lw_m13 135 rfl) rfl
theorem q3090 : (Jvm.Cond.selects "Stenohall" ({ cls := "Stenohall", name := "strokesOf", desc := "(I)I" } : Jvm.MethodName) ({ cls := "Stenohall", name := "strokesOf", desc := "(I)I" } : Jvm.MethodName)) ∈ lw_all := lw_g (lw_at lw_m13 136 rfl) rfl
theorem q3091 : (Jvm.Cond.code ({ cls := "Stenohall", name := "strokesOf", desc := "(I)I" } : Jvm.MethodName) prog_1_method_58_code (2 : Nat) (Option.some Jvm.ClassFile.FieldType.int)) ∈ lw_all := lw_g (lw_at lw_m13 137 rfl) rfl
theorem q3092 : (Jvm.Cond.methodLink "Stenohall" (409 : Nat) ({ cls := "Stenohall", name := "translationAt", desc := "(I)LStenohall$Translation;" } : Jvm.MethodName)) ∈ lw_all := lw_g (lw_at lw_m13 138 rfl) rfl
theorem q3093 : (Jvm.Cond.privateMethod ({ cls := "Stenohall", name := "translationAt", desc := "(I)LStenohall$Translation;" } : Jvm.MethodName)) ∈ lw_tbl := lw_at lw_m13 139 rfl
theorem q3094 : (Jvm.Cond.instanceMethod ({ cls := "Stenohall", name := "translationAt", desc := "(I)LStenohall$Translation;" } : Jvm.MethodName)) ∈ lw_all := lw_g (lw_at lw_m13 140 rfl) rfl
theorem q3095 : (Jvm.Cond.code ({ cls := "Stenohall", name := "translationAt", desc := "(I)LStenohall$Translation;" } : Jvm.MethodName) prog_1_method_57_code (2 : Nat) (Option.some (Jvm.ClassFile.FieldType.object "Stenohall$Translation"))) ∈ lw_all := lw_g (lw_at lw_m13 141 rfl) rfl
theorem q3100 : (Jvm.Cond.instanceMethod ({ cls := "Stenohall", name := "layerOf", desc := "(I)I" } : Jvm.MethodName)) ∈ lw_all := lw_g (lw_at lw_m13 146 rfl) rfl
theorem q3101 : (Jvm.Cond.selects "Stenohall" ({ cls := "Stenohall", name := "layerOf", desc := "(I)I" } : Jvm.MethodName) ({ cls := "Stenohall", name := "layerOf", desc := "(I)I" } : Jvm.MethodName)) ∈ lw_all := lw_g (lw_at lw_m13 147 rfl) rfl
theorem q3102 : (Jvm.Cond.code ({ cls := "Stenohall", name := "layerOf", desc := "(I)I" } : Jvm.MethodName) prog_1_method_59_code (4 : Nat) (Option.some Jvm.ClassFile.FieldType.int)) ∈ lw_all := lw_g (lw_at lw_m13 148 rfl) rfl
theorem q3103 : (Jvm.Cond.methodLink "Stenohall" (413 : Nat) ({ cls := "Stenohall$Found", name := "layer", desc := "()I" } : Jvm.MethodName)) ∈ lw_all := lw_g (lw_at lw_m13 149 rfl) rfl
theorem q3111 : (Jvm.Cond.instanceMethod ({ cls := "Stenohall", name := "chosen", desc := "(I)I" } : Jvm.MethodName)) ∈ lw_all := lw_g (lw_at lw_m13 157 rfl) rfl
theorem q3112 : (Jvm.Cond.selects "Stenohall" ({ cls := "Stenohall", name := "chosen", desc := "(I)I" } : Jvm.MethodName) ({ cls := "Stenohall", name := "chosen", desc := "(I)I" } : Jvm.MethodName)) ∈ lw_all := lw_g (lw_at lw_m13 158 rfl) rfl
theorem q3113 : (Jvm.Cond.code ({ cls := "Stenohall", name := "chosen", desc := "(I)I" } : Jvm.MethodName) prog_1_method_60_code (2 : Nat) (Option.some Jvm.ClassFile.FieldType.int)) ∈ lw_all := lw_g (lw_at lw_m13 159 rfl) rfl
theorem q3118 : (Jvm.Cond.instanceMethod ({ cls := "Stenohall", name := "fromOf", desc := "(I)I" } : Jvm.MethodName)) ∈ lw_all := lw_g (lw_at lw_m13 164 rfl) rfl
theorem q3119 : (Jvm.Cond.selects "Stenohall" ({ cls := "Stenohall", name := "fromOf", desc := "(I)I" } : Jvm.MethodName) ({ cls := "Stenohall", name := "fromOf", desc := "(I)I" } : Jvm.MethodName)) ∈ lw_all := lw_g (lw_at lw_m13 165 rfl) rfl
theorem q3120 : (Jvm.Cond.code ({ cls := "Stenohall", name := "fromOf", desc := "(I)I" } : Jvm.MethodName) prog_1_method_61_code (3 : Nat) (Option.some Jvm.ClassFile.FieldType.int)) ∈ lw_all := lw_g (lw_at lw_m13 166 rfl) rfl
theorem q3121 : (Jvm.Cond.methodLink "Stenohall" (419 : Nat) ({ cls := "Stenohall$Sign", name := "by", desc := "()I" } : Jvm.MethodName)) ∈ lw_all := lw_g (lw_at lw_m13 167 rfl) rfl
theorem q3129 : (Jvm.Cond.instanceMethod ({ cls := "Stenohall", name := "tick", desc := "()I" } : Jvm.MethodName)) ∈ lw_all := lw_g (lw_at lw_m13 175 rfl) rfl
theorem q3130 : (Jvm.Cond.selects "Stenohall" ({ cls := "Stenohall", name := "tick", desc := "()I" } : Jvm.MethodName) ({ cls := "Stenohall", name := "tick", desc := "()I" } : Jvm.MethodName)) ∈ lw_all := lw_g (lw_at lw_m13 176 rfl) rfl
theorem q3131 : (Jvm.Cond.code ({ cls := "Stenohall", name := "tick", desc := "()I" } : Jvm.MethodName) prog_1_method_62_code (3 : Nat) (Option.some Jvm.ClassFile.FieldType.int)) ∈ lw_all := lw_g (lw_at lw_m13 177 rfl) rfl
theorem q3132 : (Jvm.Cond.stringRef "Stenohall" (430 : Nat) "") ∈ lw_tbl := lw_at lw_m13 178 rfl
theorem q3133 : (Jvm.Cond.classLink "Stenohall" (34 : Nat) "java/lang/String") ∈ lw_all := lw_g (lw_at lw_m13 179 rfl) rfl
theorem q3134 : (Jvm.Cond.methodLink "Stenohall" (432 : Nat) ({ cls := "Stenohall$Sink", name := "shows", desc := "(Ljava/lang/String;)V" } : Jvm.MethodName)) ∈ lw_all := lw_g (lw_at lw_m13 180 rfl) rfl
theorem q3145 : (Jvm.Cond.instanceMethod ({ cls := "Stenohall", name := "sink", desc := "(I)I" } : Jvm.MethodName)) ∈ lw_all := lw_g (lw_at lw_m13 191 rfl) rfl
theorem q3146 : (Jvm.Cond.selects "Stenohall" ({ cls := "Stenohall", name := "sink", desc := "(I)I" } : Jvm.MethodName) ({ cls := "Stenohall", name := "sink", desc := "(I)I" } : Jvm.MethodName)) ∈ lw_all := lw_g (lw_at lw_m13 192 rfl) rfl
theorem q3147 : (Jvm.Cond.code ({ cls := "Stenohall", name := "sink", desc := "(I)I" } : Jvm.MethodName) prog_1_method_64_code (2 : Nat) (Option.some Jvm.ClassFile.FieldType.int)) ∈ lw_all := lw_g (lw_at lw_m13 193 rfl) rfl
theorem q3148 : (Jvm.Cond.constantLong "Stenohall" (436 : Nat) (9 : Int64)) ∈ lw_all := lw_g (lw_at lw_m13 194 rfl) rfl
theorem q3150 : (Jvm.Cond.methodLink "Stenohall" (438 : Nat) ({ cls := "Stenohall$Sink", name := "<init>", desc := "(I)V" } : Jvm.MethodName)) ∈ lw_all := lw_g (lw_at lw_m13 196 rfl) rfl
theorem q3156 : (Jvm.Cond.fieldLinkNest "Stenohall" (427 : Nat) "Stenohall$Sink" "delay" "I" "Stenohall") ∈ lw_tbl := lw_at lw_m13 202 rfl
theorem q3158 : (Jvm.Cond.fieldLinkNest "Stenohall" (444 : Nat) "Stenohall$Sink" "shown" "Ljava/lang/String;" "Stenohall") ∈ lw_tbl := lw_at lw_m13 204 rfl
theorem q3160 : (Jvm.Cond.fieldLinkNest "Stenohall" (447 : Nat) "Stenohall$Sink" "takenBack" "I" "Stenohall") ∈ lw_tbl := lw_at lw_m13 206 rfl
theorem q3172 : (Jvm.Cond.instanceMethod ({ cls := "Stenohall", name := "shown", desc := "(I)I" } : Jvm.MethodName)) ∈ lw_all := lw_g (lw_at lw_m13 218 rfl) rfl
theorem q3173 : (Jvm.Cond.selects "Stenohall" ({ cls := "Stenohall", name := "shown", desc := "(I)I" } : Jvm.MethodName) ({ cls := "Stenohall", name := "shown", desc := "(I)I" } : Jvm.MethodName)) ∈ lw_all := lw_g (lw_at lw_m13 219 rfl) rfl
theorem q3174 : (Jvm.Cond.code ({ cls := "Stenohall", name := "shown", desc := "(I)I" } : Jvm.MethodName) prog_1_method_66_code (2 : Nat) (Option.some Jvm.ClassFile.FieldType.int)) ∈ lw_all := lw_g (lw_at lw_m13 220 rfl) rfl
theorem q3175 : (Jvm.Cond.methodLink "Stenohall" (440 : Nat) ({ cls := "Stenohall", name := "sinkAt", desc := "(I)LStenohall$Sink;" } : Jvm.MethodName)) ∈ lw_all := lw_g (lw_at lw_m13 221 rfl) rfl
theorem q3176 : (Jvm.Cond.privateMethod ({ cls := "Stenohall", name := "sinkAt", desc := "(I)LStenohall$Sink;" } : Jvm.MethodName)) ∈ lw_tbl := lw_at lw_m13 222 rfl
theorem q3177 : (Jvm.Cond.instanceMethod ({ cls := "Stenohall", name := "sinkAt", desc := "(I)LStenohall$Sink;" } : Jvm.MethodName)) ∈ lw_all := lw_g (lw_at lw_m13 223 rfl) rfl
theorem q3178 : (Jvm.Cond.code ({ cls := "Stenohall", name := "sinkAt", desc := "(I)LStenohall$Sink;" } : Jvm.MethodName) prog_1_method_65_code (2 : Nat) (Option.some (Jvm.ClassFile.FieldType.object "Stenohall$Sink"))) ∈ lw_all := lw_g (lw_at lw_m13 224 rfl) rfl
theorem q3183 : (Jvm.Cond.instanceMethod ({ cls := "Stenohall", name := "shownAt", desc := "(II)C" } : Jvm.MethodName)) ∈ lw_all := lw_g (lw_at lw_m13 229 rfl) rfl
theorem q3184 : (Jvm.Cond.selects "Stenohall" ({ cls := "Stenohall", name := "shownAt", desc := "(II)C" } : Jvm.MethodName) ({ cls := "Stenohall", name := "shownAt", desc := "(II)C" } : Jvm.MethodName)) ∈ lw_all := lw_g (lw_at lw_m13 230 rfl) rfl
theorem q3185 : (Jvm.Cond.code ({ cls := "Stenohall", name := "shownAt", desc := "(II)C" } : Jvm.MethodName) prog_1_method_67_code (4 : Nat) (Option.some Jvm.ClassFile.FieldType.char)) ∈ lw_all := lw_g (lw_at lw_m13 231 rfl) rfl
theorem q3190 : (Jvm.Cond.instanceMethod ({ cls := "Stenohall", name := "takenBack", desc := "(I)I" } : Jvm.MethodName)) ∈ lw_all := lw_g (lw_at lw_m13 236 rfl) rfl
theorem q3191 : (Jvm.Cond.selects "Stenohall" ({ cls := "Stenohall", name := "takenBack", desc := "(I)I" } : Jvm.MethodName) ({ cls := "Stenohall", name := "takenBack", desc := "(I)I" } : Jvm.MethodName)) ∈ lw_all := lw_g (lw_at lw_m13 237 rfl) rfl
theorem q3192 : (Jvm.Cond.code ({ cls := "Stenohall", name := "takenBack", desc := "(I)I" } : Jvm.MethodName) prog_1_method_68_code (2 : Nat) (Option.some Jvm.ClassFile.FieldType.int)) ∈ lw_all := lw_g (lw_at lw_m13 238 rfl) rfl
theorem q3197 : (Jvm.Cond.instanceMethod ({ cls := "Stenohall", name := "paper", desc := "(II)I" } : Jvm.MethodName)) ∈ lw_all := lw_g (lw_at lw_m14 3 rfl) rfl
theorem q3198 : (Jvm.Cond.selects "Stenohall" ({ cls := "Stenohall", name := "paper", desc := "(II)I" } : Jvm.MethodName) ({ cls := "Stenohall", name := "paper", desc := "(II)I" } : Jvm.MethodName)) ∈ lw_all := lw_g (lw_at lw_m14 4 rfl) rfl
theorem q3199 : (Jvm.Cond.code ({ cls := "Stenohall", name := "paper", desc := "(II)I" } : Jvm.MethodName) prog_1_method_69_code (4 : Nat) (Option.some Jvm.ClassFile.FieldType.int)) ∈ lw_all := lw_g (lw_at lw_m14 5 rfl) rfl
theorem q3200 : (Jvm.Cond.constantLong "Stenohall" (450 : Nat) (10 : Int64)) ∈ lw_all := lw_g (lw_at lw_m14 6 rfl) rfl
theorem q3201 : (Jvm.Cond.constantLong "Stenohall" (452 : Nat) (80 : Int64)) ∈ lw_all := lw_g (lw_at lw_m14 7 rfl) rfl
theorem q3202 : (Jvm.Cond.constantLong "Stenohall" (454 : Nat) (2 : Int64)) ∈ lw_all := lw_g (lw_at lw_m14 8 rfl) rfl
theorem q3203 : (Jvm.Cond.constantLong "Stenohall" (456 : Nat) (30 : Int64)) ∈ lw_all := lw_g (lw_at lw_m14 9 rfl) rfl
theorem q3208 : (Jvm.Cond.instanceMethod ({ cls := "Stenohall", name := "lineOf", desc := "(I)I" } : Jvm.MethodName)) ∈ lw_all := lw_g (lw_at lw_m14 14 rfl) rfl
theorem q3209 : (Jvm.Cond.selects "Stenohall" ({ cls := "Stenohall", name := "lineOf", desc := "(I)I" } : Jvm.MethodName) ({ cls := "Stenohall", name := "lineOf", desc := "(I)I" } : Jvm.MethodName)) ∈ lw_all := lw_g (lw_at lw_m14 15 rfl) rfl
theorem q3210 : (Jvm.Cond.code ({ cls := "Stenohall", name := "lineOf", desc := "(I)I" } : Jvm.MethodName) prog_1_method_72_code (2 : Nat) (Option.some Jvm.ClassFile.FieldType.int)) ∈ lw_all := lw_g (lw_at lw_m14 16 rfl) rfl
theorem q3215 : (Jvm.Cond.instanceMethod ({ cls := "Stenohall", name := "pageOf", desc := "(I)I" } : Jvm.MethodName)) ∈ lw_all := lw_g (lw_at lw_m14 21 rfl) rfl
theorem q3216 : (Jvm.Cond.selects "Stenohall" ({ cls := "Stenohall", name := "pageOf", desc := "(I)I" } : Jvm.MethodName) ({ cls := "Stenohall", name := "pageOf", desc := "(I)I" } : Jvm.MethodName)) ∈ lw_all := lw_g (lw_at lw_m14 22 rfl) rfl
theorem q3217 : (Jvm.Cond.code ({ cls := "Stenohall", name := "pageOf", desc := "(I)I" } : Jvm.MethodName) prog_1_method_73_code (2 : Nat) (Option.some Jvm.ClassFile.FieldType.int)) ∈ lw_all := lw_g (lw_at lw_m14 23 rfl) rfl
theorem q3218 : (Jvm.Cond.methodLink "Stenohall" (462 : Nat) ({ cls := "Stenohall", name := "lineOf", desc := "(I)I" } : Jvm.MethodName)) ∈ lw_all := lw_g (lw_at lw_m14 24 rfl) rfl
theorem q3223 : (Jvm.Cond.instanceMethod ({ cls := "Stenohall", name := "contract", desc := "(I)I" } : Jvm.MethodName)) ∈ lw_all := lw_g (lw_at lw_m14 29 rfl) rfl
theorem q3224 : (Jvm.Cond.selects "Stenohall" ({ cls := "Stenohall", name := "contract", desc := "(I)I" } : Jvm.MethodName) ({ cls := "Stenohall", name := "contract", desc := "(I)I" } : Jvm.MethodName)) ∈ lw_all := lw_g (lw_at lw_m14 30 rfl) rfl
theorem q3225 : (Jvm.Cond.code ({ cls := "Stenohall", name := "contract", desc := "(I)I" } : Jvm.MethodName) prog_1_method_74_code (6 : Nat) (Option.some Jvm.ClassFile.FieldType.int)) ∈ lw_all := lw_g (lw_at lw_m14 31 rfl) rfl
theorem q3226 : (Jvm.Cond.constantLong "Stenohall" (465 : Nat) (27 : Int64)) ∈ lw_all := lw_g (lw_at lw_m14 32 rfl) rfl
theorem q3227 : (Jvm.Cond.constantLong "Stenohall" (467 : Nat) (63 : Int64)) ∈ lw_all := lw_g (lw_at lw_m14 33 rfl) rfl
theorem q3228 : (Jvm.Cond.constantLong "Stenohall" (469 : Nat) (4 : Int64)) ∈ lw_all := lw_g (lw_at lw_m14 34 rfl) rfl
theorem q3230 : (Jvm.Cond.methodLinkNest "Stenohall" (479 : Nat) ({ cls := "Stenohall$Contraction", name := "<init>", desc := "(ILjava/lang/String;)V" } : Jvm.MethodName) "Stenohall") ∈ lw_tbl := lw_at lw_m14 36 rfl
theorem q3245 : (Jvm.Cond.instanceMethod ({ cls := "Stenohall", name := "cellAt", desc := "(I)I" } : Jvm.MethodName)) ∈ lw_all := lw_g (lw_at lw_m14 51 rfl) rfl
theorem q3246 : (Jvm.Cond.selects "Stenohall" ({ cls := "Stenohall", name := "cellAt", desc := "(I)I" } : Jvm.MethodName) ({ cls := "Stenohall", name := "cellAt", desc := "(I)I" } : Jvm.MethodName)) ∈ lw_all := lw_g (lw_at lw_m14 52 rfl) rfl
theorem q3247 : (Jvm.Cond.code ({ cls := "Stenohall", name := "cellAt", desc := "(I)I" } : Jvm.MethodName) prog_1_method_80_code (3 : Nat) (Option.some Jvm.ClassFile.FieldType.int)) ∈ lw_all := lw_g (lw_at lw_m14 53 rfl) rfl
theorem q3252 : (Jvm.Cond.instanceMethod ({ cls := "Stenohall", name := "nearest", desc := "(I)I" } : Jvm.MethodName)) ∈ lw_all := lw_g (lw_at lw_m14 58 rfl) rfl
theorem q3253 : (Jvm.Cond.selects "Stenohall" ({ cls := "Stenohall", name := "nearest", desc := "(I)I" } : Jvm.MethodName) ({ cls := "Stenohall", name := "nearest", desc := "(I)I" } : Jvm.MethodName)) ∈ lw_all := lw_g (lw_at lw_m14 59 rfl) rfl
theorem q3254 : (Jvm.Cond.code ({ cls := "Stenohall", name := "nearest", desc := "(I)I" } : Jvm.MethodName) prog_1_method_82_code (8 : Nat) (Option.some Jvm.ClassFile.FieldType.int)) ∈ lw_all := lw_g (lw_at lw_m14 60 rfl) rfl
theorem q3273 : (Jvm.Cond.instanceMethod ({ cls := "Stenohall", name := "brief", desc := "()F" } : Jvm.MethodName)) ∈ lw_all := lw_g (lw_at lw_m14 79 rfl) rfl
theorem q3274 : (Jvm.Cond.selects "Stenohall" ({ cls := "Stenohall", name := "brief", desc := "()F" } : Jvm.MethodName) ({ cls := "Stenohall", name := "brief", desc := "()F" } : Jvm.MethodName)) ∈ lw_all := lw_g (lw_at lw_m14 80 rfl) rfl
theorem q3275 : (Jvm.Cond.code ({ cls := "Stenohall", name := "brief", desc := "()F" } : Jvm.MethodName) prog_1_method_84_code (1 : Nat) (Option.some Jvm.ClassFile.FieldType.float)) ∈ lw_all := lw_g (lw_at lw_m14 81 rfl) rfl
theorem q3276 : (Jvm.Cond.methodLink "Stenohall" (518 : Nat) ({ cls := "Stenohall", name := "requireSome", desc := "(Z)V" } : Jvm.MethodName)) ∈ lw_all := lw_g (lw_at lw_m14 82 rfl) rfl
theorem q3277 : (Jvm.Cond.static ({ cls := "Stenohall", name := "requireSome", desc := "(Z)V" } : Jvm.MethodName)) ∈ lw_all := lw_g (lw_at lw_m14 83 rfl) rfl
theorem q3278 : (Jvm.Cond.code ({ cls := "Stenohall", name := "requireSome", desc := "(Z)V" } : Jvm.MethodName) prog_1_method_7_code (1 : Nat) (Option.none : Option Jvm.ClassFile.FieldType)) ∈ lw_all := lw_g (lw_at lw_m14 84 rfl) rfl
theorem q3279 : (Jvm.Cond.classLink "Stenohall" (19 : Nat) "java/lang/ArithmeticException") ∈ lw_all := lw_g (lw_at lw_m14 85 rfl) rfl
theorem q3280 : (Jvm.Cond.methodLink "Stenohall" (21 : Nat) ({ cls := "java/lang/ArithmeticException", name := "<init>", desc := "()V" } : Jvm.MethodName)) ∈ lw_all := lw_g (lw_at lw_m14 86 rfl) rfl
theorem q3284 : (Jvm.Cond.methodLink "Stenohall" (521 : Nat) ({ cls := "Stenohall", name := "length", desc := "()I" } : Jvm.MethodName)) ∈ lw_all := lw_g (lw_at lw_m14 90 rfl) rfl
theorem q3289 : (Jvm.Cond.instanceMethod ({ cls := "Stenohall", name := "delay", desc := "()D" } : Jvm.MethodName)) ∈ lw_all := lw_g (lw_at lw_m14 95 rfl) rfl
theorem q3290 : (Jvm.Cond.selects "Stenohall" ({ cls := "Stenohall", name := "delay", desc := "()D" } : Jvm.MethodName) ({ cls := "Stenohall", name := "delay", desc := "()D" } : Jvm.MethodName)) ∈ lw_all := lw_g (lw_at lw_m14 96 rfl) rfl
theorem q3291 : (Jvm.Cond.code ({ cls := "Stenohall", name := "delay", desc := "()D" } : Jvm.MethodName) prog_1_method_85_code (2 : Nat) (Option.some Jvm.ClassFile.FieldType.double)) ∈ lw_all := lw_g (lw_at lw_m14 97 rfl) rfl
theorem q4340 : (Jvm.Cond.castable "Stenohall" "java/lang/Object") ∈ lw_tbl := lw_at lw_m18 186 rfl
theorem in_X1 : ∀ w ∈ wsX10, w ∈ lw_all := lw_in wsX10 [778, 780, 782, 784, 786, 788, 790, 792, 794, 796, 798, 800, 802, 804, 806, 808, 810, 812, 814] (by decide +kernel) (by decide +kernel)
