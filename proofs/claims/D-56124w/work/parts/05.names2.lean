/-! SlideParkLaw -/
set_option maxRecDepth 100000
def RX0 : String := "SlideParkLaw"
abbrev cX0_buildSlide : ByteArray := method_3_code
def yX0_buildSlide : MethodName := ⟨RX0, "buildSlide", "(LSlidePark;II[J)I"⟩
def dkwX0_buildSlide_0 : List UInt8 := [45, 3, 42, 27, 28, 182, 0, 7, 133, 80, 167, 0, 11, 58, 4, 4, 172, 58, 4, 5, 172, 3, 172]
abbrev dktX0_buildSlide_0 : List UInt8 := dkwX0_buildSlide_0 ++ []
theorem dksX0_buildSlide_0 : cX0_buildSlide.data.toList.drop 0 = dktX0_buildSlide_0 := by decide +kernel
theorem dX0_buildSlide_0 : decode cX0_buildSlide 0 = .ok (.aload_n 3, 1) := dk_45 (dk_at dksX0_buildSlide_0 0 rfl rfl)
theorem dX0_buildSlide_1 : decode cX0_buildSlide 1 = .ok (.iconst 0, 1) := dk_3 (dk_at dksX0_buildSlide_0 1 rfl rfl)
theorem dX0_buildSlide_2 : decode cX0_buildSlide 2 = .ok (.aload_n 0, 1) := dk_42 (dk_at dksX0_buildSlide_0 2 rfl rfl)
theorem dX0_buildSlide_3 : decode cX0_buildSlide 3 = .ok (.iload_n 1, 1) := dk_27 (dk_at dksX0_buildSlide_0 3 rfl rfl)
theorem dX0_buildSlide_4 : decode cX0_buildSlide 4 = .ok (.iload_n 2, 1) := dk_28 (dk_at dksX0_buildSlide_0 4 rfl rfl)
theorem dX0_buildSlide_5 : decode cX0_buildSlide 5 = .ok (.invokevirtual 7, 3) := dk_182 0 7 (dk_at dksX0_buildSlide_0 5 rfl rfl)
theorem dX0_buildSlide_8 : decode cX0_buildSlide 8 = .ok (.i2l, 1) := dk_133 (dk_at dksX0_buildSlide_0 8 rfl rfl)
theorem dX0_buildSlide_9 : decode cX0_buildSlide 9 = .ok (.lastore, 1) := dk_80 (dk_at dksX0_buildSlide_0 9 rfl rfl)
theorem dX0_buildSlide_10 : decode cX0_buildSlide 10 = .ok (.goto 11, 3) := dk_167 0 11 (dk_at dksX0_buildSlide_0 10 rfl rfl)
theorem dX0_buildSlide_13 : decode cX0_buildSlide 13 = .ok (.astore 4, 2) := dk_58 4 (dk_at dksX0_buildSlide_0 13 rfl rfl)
theorem dX0_buildSlide_15 : decode cX0_buildSlide 15 = .ok (.iconst 1, 1) := dk_4 (dk_at dksX0_buildSlide_0 15 rfl rfl)
theorem dX0_buildSlide_16 : decode cX0_buildSlide 16 = .ok (.ireturn, 1) := dk_172 (dk_at dksX0_buildSlide_0 16 rfl rfl)
theorem dX0_buildSlide_17 : decode cX0_buildSlide 17 = .ok (.astore 4, 2) := dk_58 4 (dk_at dksX0_buildSlide_0 17 rfl rfl)
theorem dX0_buildSlide_19 : decode cX0_buildSlide 19 = .ok (.iconst 2, 1) := dk_5 (dk_at dksX0_buildSlide_0 19 rfl rfl)
theorem dX0_buildSlide_20 : decode cX0_buildSlide 20 = .ok (.ireturn, 1) := dk_172 (dk_at dksX0_buildSlide_0 20 rfl rfl)
theorem dX0_buildSlide_21 : decode cX0_buildSlide 21 = .ok (.iconst 0, 1) := dk_3 (dk_at dksX0_buildSlide_0 21 rfl rfl)
theorem dX0_buildSlide_22 : decode cX0_buildSlide 22 = .ok (.ireturn, 1) := dk_172 (dk_at dksX0_buildSlide_0 22 rfl rfl)
abbrev cX0_addGuest : ByteArray := method_4_code
def yX0_addGuest : MethodName := ⟨RX0, "addGuest", "(LSlidePark;[J)I"⟩
def dkwX0_addGuest_0 : List UInt8 := [43, 3, 42, 182, 0, 17, 133, 80, 167, 0, 6, 77, 4, 172, 3, 172]
abbrev dktX0_addGuest_0 : List UInt8 := dkwX0_addGuest_0 ++ []
theorem dksX0_addGuest_0 : cX0_addGuest.data.toList.drop 0 = dktX0_addGuest_0 := by decide +kernel
theorem dX0_addGuest_0 : decode cX0_addGuest 0 = .ok (.aload_n 1, 1) := dk_43 (dk_at dksX0_addGuest_0 0 rfl rfl)
theorem dX0_addGuest_1 : decode cX0_addGuest 1 = .ok (.iconst 0, 1) := dk_3 (dk_at dksX0_addGuest_0 1 rfl rfl)
theorem dX0_addGuest_2 : decode cX0_addGuest 2 = .ok (.aload_n 0, 1) := dk_42 (dk_at dksX0_addGuest_0 2 rfl rfl)
theorem dX0_addGuest_3 : decode cX0_addGuest 3 = .ok (.invokevirtual 17, 3) := dk_182 0 17 (dk_at dksX0_addGuest_0 3 rfl rfl)
theorem dX0_addGuest_6 : decode cX0_addGuest 6 = .ok (.i2l, 1) := dk_133 (dk_at dksX0_addGuest_0 6 rfl rfl)
theorem dX0_addGuest_7 : decode cX0_addGuest 7 = .ok (.lastore, 1) := dk_80 (dk_at dksX0_addGuest_0 7 rfl rfl)
theorem dX0_addGuest_8 : decode cX0_addGuest 8 = .ok (.goto 6, 3) := dk_167 0 6 (dk_at dksX0_addGuest_0 8 rfl rfl)
theorem dX0_addGuest_11 : decode cX0_addGuest 11 = .ok (.astore_n 2, 1) := dk_77 (dk_at dksX0_addGuest_0 11 rfl rfl)
theorem dX0_addGuest_12 : decode cX0_addGuest 12 = .ok (.iconst 1, 1) := dk_4 (dk_at dksX0_addGuest_0 12 rfl rfl)
theorem dX0_addGuest_13 : decode cX0_addGuest 13 = .ok (.ireturn, 1) := dk_172 (dk_at dksX0_addGuest_0 13 rfl rfl)
theorem dX0_addGuest_14 : decode cX0_addGuest 14 = .ok (.iconst 0, 1) := dk_3 (dk_at dksX0_addGuest_0 14 rfl rfl)
theorem dX0_addGuest_15 : decode cX0_addGuest 15 = .ok (.ireturn, 1) := dk_172 (dk_at dksX0_addGuest_0 15 rfl rfl)
abbrev cX0_book : ByteArray := method_5_code
def yX0_book : MethodName := ⟨RX0, "book", "(LSlidePark;III[J)I"⟩
def dkwX0_book_1 : List UInt8 := [58, 5, 6, 172, 58, 5, 7, 172, 3, 172]
abbrev dktX0_book_1 : List UInt8 := dkwX0_book_1 ++ []
def dkwX0_book_0 : List UInt8 := [25, 4, 3, 42, 27, 28, 29, 182, 0, 21, 133, 80, 167, 0, 19, 58, 5, 4, 172, 58, 5, 5, 172]
abbrev dktX0_book_0 : List UInt8 := dkwX0_book_0 ++ dktX0_book_1
theorem dksX0_book_0 : cX0_book.data.toList.drop 0 = dktX0_book_0 := by decide +kernel
theorem dksX0_book_1 : cX0_book.data.toList.drop 23 = dktX0_book_1 := dk_seg dksX0_book_0 23 rfl rfl
theorem dX0_book_0 : decode cX0_book 0 = .ok (.aload 4, 2) := dk_25 4 (dk_at dksX0_book_0 0 rfl rfl)
theorem dX0_book_2 : decode cX0_book 2 = .ok (.iconst 0, 1) := dk_3 (dk_at dksX0_book_0 2 rfl rfl)
theorem dX0_book_3 : decode cX0_book 3 = .ok (.aload_n 0, 1) := dk_42 (dk_at dksX0_book_0 3 rfl rfl)
theorem dX0_book_4 : decode cX0_book 4 = .ok (.iload_n 1, 1) := dk_27 (dk_at dksX0_book_0 4 rfl rfl)
theorem dX0_book_5 : decode cX0_book 5 = .ok (.iload_n 2, 1) := dk_28 (dk_at dksX0_book_0 5 rfl rfl)
theorem dX0_book_6 : decode cX0_book 6 = .ok (.iload_n 3, 1) := dk_29 (dk_at dksX0_book_0 6 rfl rfl)
theorem dX0_book_7 : decode cX0_book 7 = .ok (.invokevirtual 21, 3) := dk_182 0 21 (dk_at dksX0_book_0 7 rfl rfl)
theorem dX0_book_10 : decode cX0_book 10 = .ok (.i2l, 1) := dk_133 (dk_at dksX0_book_0 10 rfl rfl)
theorem dX0_book_11 : decode cX0_book 11 = .ok (.lastore, 1) := dk_80 (dk_at dksX0_book_0 11 rfl rfl)
theorem dX0_book_12 : decode cX0_book 12 = .ok (.goto 19, 3) := dk_167 0 19 (dk_at dksX0_book_0 12 rfl rfl)
theorem dX0_book_15 : decode cX0_book 15 = .ok (.astore 5, 2) := dk_58 5 (dk_at dksX0_book_0 15 rfl rfl)
theorem dX0_book_17 : decode cX0_book 17 = .ok (.iconst 1, 1) := dk_4 (dk_at dksX0_book_0 17 rfl rfl)
theorem dX0_book_18 : decode cX0_book 18 = .ok (.ireturn, 1) := dk_172 (dk_at dksX0_book_0 18 rfl rfl)
theorem dX0_book_19 : decode cX0_book 19 = .ok (.astore 5, 2) := dk_58 5 (dk_at dksX0_book_0 19 rfl rfl)
theorem dX0_book_21 : decode cX0_book 21 = .ok (.iconst 2, 1) := dk_5 (dk_at dksX0_book_0 21 rfl rfl)
theorem dX0_book_22 : decode cX0_book 22 = .ok (.ireturn, 1) := dk_172 (dk_at dksX0_book_0 22 rfl rfl)
theorem dX0_book_23 : decode cX0_book 23 = .ok (.astore 5, 2) := dk_58 5 (dk_at dksX0_book_1 0 rfl rfl)
theorem dX0_book_25 : decode cX0_book 25 = .ok (.iconst 3, 1) := dk_6 (dk_at dksX0_book_1 2 rfl rfl)
theorem dX0_book_26 : decode cX0_book 26 = .ok (.ireturn, 1) := dk_172 (dk_at dksX0_book_1 3 rfl rfl)
theorem dX0_book_27 : decode cX0_book 27 = .ok (.astore 5, 2) := dk_58 5 (dk_at dksX0_book_1 4 rfl rfl)
theorem dX0_book_29 : decode cX0_book 29 = .ok (.iconst 4, 1) := dk_7 (dk_at dksX0_book_1 6 rfl rfl)
theorem dX0_book_30 : decode cX0_book 30 = .ok (.ireturn, 1) := dk_172 (dk_at dksX0_book_1 7 rfl rfl)
theorem dX0_book_31 : decode cX0_book 31 = .ok (.iconst 0, 1) := dk_3 (dk_at dksX0_book_1 8 rfl rfl)
theorem dX0_book_32 : decode cX0_book 32 = .ok (.ireturn, 1) := dk_172 (dk_at dksX0_book_1 9 rfl rfl)
abbrev cX0_cancel : ByteArray := method_6_code
def yX0_cancel : MethodName := ⟨RX0, "cancel", "(LSlidePark;I[J)I"⟩
def dkwX0_cancel_0 : List UInt8 := [44, 3, 42, 27, 182, 0, 29, 133, 80, 167, 0, 9, 78, 4, 172, 78, 5, 172, 3, 172]
abbrev dktX0_cancel_0 : List UInt8 := dkwX0_cancel_0 ++ []
theorem dksX0_cancel_0 : cX0_cancel.data.toList.drop 0 = dktX0_cancel_0 := by decide +kernel
theorem dX0_cancel_0 : decode cX0_cancel 0 = .ok (.aload_n 2, 1) := dk_44 (dk_at dksX0_cancel_0 0 rfl rfl)
theorem dX0_cancel_1 : decode cX0_cancel 1 = .ok (.iconst 0, 1) := dk_3 (dk_at dksX0_cancel_0 1 rfl rfl)
theorem dX0_cancel_2 : decode cX0_cancel 2 = .ok (.aload_n 0, 1) := dk_42 (dk_at dksX0_cancel_0 2 rfl rfl)
theorem dX0_cancel_3 : decode cX0_cancel 3 = .ok (.iload_n 1, 1) := dk_27 (dk_at dksX0_cancel_0 3 rfl rfl)
theorem dX0_cancel_4 : decode cX0_cancel 4 = .ok (.invokevirtual 29, 3) := dk_182 0 29 (dk_at dksX0_cancel_0 4 rfl rfl)
theorem dX0_cancel_7 : decode cX0_cancel 7 = .ok (.i2l, 1) := dk_133 (dk_at dksX0_cancel_0 7 rfl rfl)
theorem dX0_cancel_8 : decode cX0_cancel 8 = .ok (.lastore, 1) := dk_80 (dk_at dksX0_cancel_0 8 rfl rfl)
theorem dX0_cancel_9 : decode cX0_cancel 9 = .ok (.goto 9, 3) := dk_167 0 9 (dk_at dksX0_cancel_0 9 rfl rfl)
theorem dX0_cancel_12 : decode cX0_cancel 12 = .ok (.astore_n 3, 1) := dk_78 (dk_at dksX0_cancel_0 12 rfl rfl)
theorem dX0_cancel_13 : decode cX0_cancel 13 = .ok (.iconst 1, 1) := dk_4 (dk_at dksX0_cancel_0 13 rfl rfl)
theorem dX0_cancel_14 : decode cX0_cancel 14 = .ok (.ireturn, 1) := dk_172 (dk_at dksX0_cancel_0 14 rfl rfl)
theorem dX0_cancel_15 : decode cX0_cancel 15 = .ok (.astore_n 3, 1) := dk_78 (dk_at dksX0_cancel_0 15 rfl rfl)
theorem dX0_cancel_16 : decode cX0_cancel 16 = .ok (.iconst 2, 1) := dk_5 (dk_at dksX0_cancel_0 16 rfl rfl)
theorem dX0_cancel_17 : decode cX0_cancel 17 = .ok (.ireturn, 1) := dk_172 (dk_at dksX0_cancel_0 17 rfl rfl)
theorem dX0_cancel_18 : decode cX0_cancel 18 = .ok (.iconst 0, 1) := dk_3 (dk_at dksX0_cancel_0 18 rfl rfl)
theorem dX0_cancel_19 : decode cX0_cancel 19 = .ok (.ireturn, 1) := dk_172 (dk_at dksX0_cancel_0 19 rfl rfl)
abbrev cX0_joinQueue : ByteArray := method_7_code
def yX0_joinQueue : MethodName := ⟨RX0, "joinQueue", "(LSlidePark;II[J)I"⟩
def dkwX0_joinQueue_1 : List UInt8 := [172, 3, 172]
abbrev dktX0_joinQueue_1 : List UInt8 := dkwX0_joinQueue_1 ++ []
def dkwX0_joinQueue_0 : List UInt8 := [45, 3, 42, 27, 28, 182, 0, 33, 133, 80, 167, 0, 15, 58, 4, 4, 172, 58, 4, 5, 172, 58, 4, 6]
abbrev dktX0_joinQueue_0 : List UInt8 := dkwX0_joinQueue_0 ++ dktX0_joinQueue_1
theorem dksX0_joinQueue_0 : cX0_joinQueue.data.toList.drop 0 = dktX0_joinQueue_0 := by decide +kernel
theorem dksX0_joinQueue_1 : cX0_joinQueue.data.toList.drop 24 = dktX0_joinQueue_1 := dk_seg dksX0_joinQueue_0 24 rfl rfl
theorem dX0_joinQueue_0 : decode cX0_joinQueue 0 = .ok (.aload_n 3, 1) := dk_45 (dk_at dksX0_joinQueue_0 0 rfl rfl)
theorem dX0_joinQueue_1 : decode cX0_joinQueue 1 = .ok (.iconst 0, 1) := dk_3 (dk_at dksX0_joinQueue_0 1 rfl rfl)
theorem dX0_joinQueue_2 : decode cX0_joinQueue 2 = .ok (.aload_n 0, 1) := dk_42 (dk_at dksX0_joinQueue_0 2 rfl rfl)
theorem dX0_joinQueue_3 : decode cX0_joinQueue 3 = .ok (.iload_n 1, 1) := dk_27 (dk_at dksX0_joinQueue_0 3 rfl rfl)
theorem dX0_joinQueue_4 : decode cX0_joinQueue 4 = .ok (.iload_n 2, 1) := dk_28 (dk_at dksX0_joinQueue_0 4 rfl rfl)
theorem dX0_joinQueue_5 : decode cX0_joinQueue 5 = .ok (.invokevirtual 33, 3) := dk_182 0 33 (dk_at dksX0_joinQueue_0 5 rfl rfl)
theorem dX0_joinQueue_8 : decode cX0_joinQueue 8 = .ok (.i2l, 1) := dk_133 (dk_at dksX0_joinQueue_0 8 rfl rfl)
theorem dX0_joinQueue_9 : decode cX0_joinQueue 9 = .ok (.lastore, 1) := dk_80 (dk_at dksX0_joinQueue_0 9 rfl rfl)
theorem dX0_joinQueue_10 : decode cX0_joinQueue 10 = .ok (.goto 15, 3) := dk_167 0 15 (dk_at dksX0_joinQueue_0 10 rfl rfl)
theorem dX0_joinQueue_13 : decode cX0_joinQueue 13 = .ok (.astore 4, 2) := dk_58 4 (dk_at dksX0_joinQueue_0 13 rfl rfl)
theorem dX0_joinQueue_15 : decode cX0_joinQueue 15 = .ok (.iconst 1, 1) := dk_4 (dk_at dksX0_joinQueue_0 15 rfl rfl)
theorem dX0_joinQueue_16 : decode cX0_joinQueue 16 = .ok (.ireturn, 1) := dk_172 (dk_at dksX0_joinQueue_0 16 rfl rfl)
theorem dX0_joinQueue_17 : decode cX0_joinQueue 17 = .ok (.astore 4, 2) := dk_58 4 (dk_at dksX0_joinQueue_0 17 rfl rfl)
theorem dX0_joinQueue_19 : decode cX0_joinQueue 19 = .ok (.iconst 2, 1) := dk_5 (dk_at dksX0_joinQueue_0 19 rfl rfl)
theorem dX0_joinQueue_20 : decode cX0_joinQueue 20 = .ok (.ireturn, 1) := dk_172 (dk_at dksX0_joinQueue_0 20 rfl rfl)
theorem dX0_joinQueue_21 : decode cX0_joinQueue 21 = .ok (.astore 4, 2) := dk_58 4 (dk_at dksX0_joinQueue_0 21 rfl rfl)
theorem dX0_joinQueue_23 : decode cX0_joinQueue 23 = .ok (.iconst 3, 1) := dk_6 (dk_at dksX0_joinQueue_0 23 rfl rfl)
theorem dX0_joinQueue_24 : decode cX0_joinQueue 24 = .ok (.ireturn, 1) := dk_172 (dk_at dksX0_joinQueue_1 0 rfl rfl)
theorem dX0_joinQueue_25 : decode cX0_joinQueue 25 = .ok (.iconst 0, 1) := dk_3 (dk_at dksX0_joinQueue_1 1 rfl rfl)
theorem dX0_joinQueue_26 : decode cX0_joinQueue 26 = .ok (.ireturn, 1) := dk_172 (dk_at dksX0_joinQueue_1 2 rfl rfl)
abbrev cX0_leaveQueue : ByteArray := method_8_code
def yX0_leaveQueue : MethodName := ⟨RX0, "leaveQueue", "(LSlidePark;I[J)I"⟩
def dkwX0_leaveQueue_0 : List UInt8 := [44, 3, 42, 27, 182, 0, 36, 133, 80, 167, 0, 9, 78, 4, 172, 78, 5, 172, 3, 172]
abbrev dktX0_leaveQueue_0 : List UInt8 := dkwX0_leaveQueue_0 ++ []
theorem dksX0_leaveQueue_0 : cX0_leaveQueue.data.toList.drop 0 = dktX0_leaveQueue_0 := by decide +kernel
theorem dX0_leaveQueue_0 : decode cX0_leaveQueue 0 = .ok (.aload_n 2, 1) := dk_44 (dk_at dksX0_leaveQueue_0 0 rfl rfl)
theorem dX0_leaveQueue_1 : decode cX0_leaveQueue 1 = .ok (.iconst 0, 1) := dk_3 (dk_at dksX0_leaveQueue_0 1 rfl rfl)
theorem dX0_leaveQueue_2 : decode cX0_leaveQueue 2 = .ok (.aload_n 0, 1) := dk_42 (dk_at dksX0_leaveQueue_0 2 rfl rfl)
theorem dX0_leaveQueue_3 : decode cX0_leaveQueue 3 = .ok (.iload_n 1, 1) := dk_27 (dk_at dksX0_leaveQueue_0 3 rfl rfl)
theorem dX0_leaveQueue_4 : decode cX0_leaveQueue 4 = .ok (.invokevirtual 36, 3) := dk_182 0 36 (dk_at dksX0_leaveQueue_0 4 rfl rfl)
theorem dX0_leaveQueue_7 : decode cX0_leaveQueue 7 = .ok (.i2l, 1) := dk_133 (dk_at dksX0_leaveQueue_0 7 rfl rfl)
theorem dX0_leaveQueue_8 : decode cX0_leaveQueue 8 = .ok (.lastore, 1) := dk_80 (dk_at dksX0_leaveQueue_0 8 rfl rfl)
theorem dX0_leaveQueue_9 : decode cX0_leaveQueue 9 = .ok (.goto 9, 3) := dk_167 0 9 (dk_at dksX0_leaveQueue_0 9 rfl rfl)
theorem dX0_leaveQueue_12 : decode cX0_leaveQueue 12 = .ok (.astore_n 3, 1) := dk_78 (dk_at dksX0_leaveQueue_0 12 rfl rfl)
theorem dX0_leaveQueue_13 : decode cX0_leaveQueue 13 = .ok (.iconst 1, 1) := dk_4 (dk_at dksX0_leaveQueue_0 13 rfl rfl)
theorem dX0_leaveQueue_14 : decode cX0_leaveQueue 14 = .ok (.ireturn, 1) := dk_172 (dk_at dksX0_leaveQueue_0 14 rfl rfl)
theorem dX0_leaveQueue_15 : decode cX0_leaveQueue 15 = .ok (.astore_n 3, 1) := dk_78 (dk_at dksX0_leaveQueue_0 15 rfl rfl)
theorem dX0_leaveQueue_16 : decode cX0_leaveQueue 16 = .ok (.iconst 2, 1) := dk_5 (dk_at dksX0_leaveQueue_0 16 rfl rfl)
theorem dX0_leaveQueue_17 : decode cX0_leaveQueue 17 = .ok (.ireturn, 1) := dk_172 (dk_at dksX0_leaveQueue_0 17 rfl rfl)
theorem dX0_leaveQueue_18 : decode cX0_leaveQueue 18 = .ok (.iconst 0, 1) := dk_3 (dk_at dksX0_leaveQueue_0 18 rfl rfl)
theorem dX0_leaveQueue_19 : decode cX0_leaveQueue 19 = .ok (.ireturn, 1) := dk_172 (dk_at dksX0_leaveQueue_0 19 rfl rfl)
abbrev cX0_passMinutes : ByteArray := method_9_code
def yX0_passMinutes : MethodName := ⟨RX0, "passMinutes", "(LSlidePark;I[J)I"⟩
def dkwX0_passMinutes_0 : List UInt8 := [44, 3, 42, 27, 182, 0, 41, 133, 80, 167, 0, 6, 78, 4, 172, 3, 172]
abbrev dktX0_passMinutes_0 : List UInt8 := dkwX0_passMinutes_0 ++ []
theorem dksX0_passMinutes_0 : cX0_passMinutes.data.toList.drop 0 = dktX0_passMinutes_0 := by decide +kernel
theorem dX0_passMinutes_0 : decode cX0_passMinutes 0 = .ok (.aload_n 2, 1) := dk_44 (dk_at dksX0_passMinutes_0 0 rfl rfl)
theorem dX0_passMinutes_1 : decode cX0_passMinutes 1 = .ok (.iconst 0, 1) := dk_3 (dk_at dksX0_passMinutes_0 1 rfl rfl)
theorem dX0_passMinutes_2 : decode cX0_passMinutes 2 = .ok (.aload_n 0, 1) := dk_42 (dk_at dksX0_passMinutes_0 2 rfl rfl)
theorem dX0_passMinutes_3 : decode cX0_passMinutes 3 = .ok (.iload_n 1, 1) := dk_27 (dk_at dksX0_passMinutes_0 3 rfl rfl)
theorem dX0_passMinutes_4 : decode cX0_passMinutes 4 = .ok (.invokevirtual 41, 3) := dk_182 0 41 (dk_at dksX0_passMinutes_0 4 rfl rfl)
theorem dX0_passMinutes_7 : decode cX0_passMinutes 7 = .ok (.i2l, 1) := dk_133 (dk_at dksX0_passMinutes_0 7 rfl rfl)
theorem dX0_passMinutes_8 : decode cX0_passMinutes 8 = .ok (.lastore, 1) := dk_80 (dk_at dksX0_passMinutes_0 8 rfl rfl)
theorem dX0_passMinutes_9 : decode cX0_passMinutes 9 = .ok (.goto 6, 3) := dk_167 0 6 (dk_at dksX0_passMinutes_0 9 rfl rfl)
theorem dX0_passMinutes_12 : decode cX0_passMinutes 12 = .ok (.astore_n 3, 1) := dk_78 (dk_at dksX0_passMinutes_0 12 rfl rfl)
theorem dX0_passMinutes_13 : decode cX0_passMinutes 13 = .ok (.iconst 1, 1) := dk_4 (dk_at dksX0_passMinutes_0 13 rfl rfl)
theorem dX0_passMinutes_14 : decode cX0_passMinutes 14 = .ok (.ireturn, 1) := dk_172 (dk_at dksX0_passMinutes_0 14 rfl rfl)
theorem dX0_passMinutes_15 : decode cX0_passMinutes 15 = .ok (.iconst 0, 1) := dk_3 (dk_at dksX0_passMinutes_0 15 rfl rfl)
theorem dX0_passMinutes_16 : decode cX0_passMinutes 16 = .ok (.ireturn, 1) := dk_172 (dk_at dksX0_passMinutes_0 16 rfl rfl)
abbrev cX0_duration : ByteArray := method_10_code
def yX0_duration : MethodName := ⟨RX0, "duration", "(LSlidePark;I[J)I"⟩
def dkwX0_duration_0 : List UInt8 := [44, 3, 42, 27, 182, 0, 44, 133, 80, 167, 0, 6, 78, 4, 172, 3, 172]
abbrev dktX0_duration_0 : List UInt8 := dkwX0_duration_0 ++ []
theorem dksX0_duration_0 : cX0_duration.data.toList.drop 0 = dktX0_duration_0 := by decide +kernel
theorem dX0_duration_0 : decode cX0_duration 0 = .ok (.aload_n 2, 1) := dk_44 (dk_at dksX0_duration_0 0 rfl rfl)
theorem dX0_duration_1 : decode cX0_duration 1 = .ok (.iconst 0, 1) := dk_3 (dk_at dksX0_duration_0 1 rfl rfl)
theorem dX0_duration_2 : decode cX0_duration 2 = .ok (.aload_n 0, 1) := dk_42 (dk_at dksX0_duration_0 2 rfl rfl)
theorem dX0_duration_3 : decode cX0_duration 3 = .ok (.iload_n 1, 1) := dk_27 (dk_at dksX0_duration_0 3 rfl rfl)
theorem dX0_duration_4 : decode cX0_duration 4 = .ok (.invokevirtual 44, 3) := dk_182 0 44 (dk_at dksX0_duration_0 4 rfl rfl)
theorem dX0_duration_7 : decode cX0_duration 7 = .ok (.i2l, 1) := dk_133 (dk_at dksX0_duration_0 7 rfl rfl)
theorem dX0_duration_8 : decode cX0_duration 8 = .ok (.lastore, 1) := dk_80 (dk_at dksX0_duration_0 8 rfl rfl)
theorem dX0_duration_9 : decode cX0_duration 9 = .ok (.goto 6, 3) := dk_167 0 6 (dk_at dksX0_duration_0 9 rfl rfl)
theorem dX0_duration_12 : decode cX0_duration 12 = .ok (.astore_n 3, 1) := dk_78 (dk_at dksX0_duration_0 12 rfl rfl)
theorem dX0_duration_13 : decode cX0_duration 13 = .ok (.iconst 1, 1) := dk_4 (dk_at dksX0_duration_0 13 rfl rfl)
theorem dX0_duration_14 : decode cX0_duration 14 = .ok (.ireturn, 1) := dk_172 (dk_at dksX0_duration_0 14 rfl rfl)
theorem dX0_duration_15 : decode cX0_duration 15 = .ok (.iconst 0, 1) := dk_3 (dk_at dksX0_duration_0 15 rfl rfl)
theorem dX0_duration_16 : decode cX0_duration 16 = .ok (.ireturn, 1) := dk_172 (dk_at dksX0_duration_0 16 rfl rfl)
abbrev cX0_price : ByteArray := method_11_code
def yX0_price : MethodName := ⟨RX0, "price", "(LSlidePark;I[J)I"⟩
def dkwX0_price_0 : List UInt8 := [44, 3, 42, 27, 182, 0, 47, 133, 80, 167, 0, 6, 78, 4, 172, 3, 172]
abbrev dktX0_price_0 : List UInt8 := dkwX0_price_0 ++ []
theorem dksX0_price_0 : cX0_price.data.toList.drop 0 = dktX0_price_0 := by decide +kernel
theorem dX0_price_0 : decode cX0_price 0 = .ok (.aload_n 2, 1) := dk_44 (dk_at dksX0_price_0 0 rfl rfl)
theorem dX0_price_1 : decode cX0_price 1 = .ok (.iconst 0, 1) := dk_3 (dk_at dksX0_price_0 1 rfl rfl)
theorem dX0_price_2 : decode cX0_price 2 = .ok (.aload_n 0, 1) := dk_42 (dk_at dksX0_price_0 2 rfl rfl)
theorem dX0_price_3 : decode cX0_price 3 = .ok (.iload_n 1, 1) := dk_27 (dk_at dksX0_price_0 3 rfl rfl)
theorem dX0_price_4 : decode cX0_price 4 = .ok (.invokevirtual 47, 3) := dk_182 0 47 (dk_at dksX0_price_0 4 rfl rfl)
theorem dX0_price_7 : decode cX0_price 7 = .ok (.i2l, 1) := dk_133 (dk_at dksX0_price_0 7 rfl rfl)
theorem dX0_price_8 : decode cX0_price 8 = .ok (.lastore, 1) := dk_80 (dk_at dksX0_price_0 8 rfl rfl)
theorem dX0_price_9 : decode cX0_price 9 = .ok (.goto 6, 3) := dk_167 0 6 (dk_at dksX0_price_0 9 rfl rfl)
theorem dX0_price_12 : decode cX0_price 12 = .ok (.astore_n 3, 1) := dk_78 (dk_at dksX0_price_0 12 rfl rfl)
theorem dX0_price_13 : decode cX0_price 13 = .ok (.iconst 1, 1) := dk_4 (dk_at dksX0_price_0 13 rfl rfl)
theorem dX0_price_14 : decode cX0_price 14 = .ok (.ireturn, 1) := dk_172 (dk_at dksX0_price_0 14 rfl rfl)
theorem dX0_price_15 : decode cX0_price 15 = .ok (.iconst 0, 1) := dk_3 (dk_at dksX0_price_0 15 rfl rfl)
theorem dX0_price_16 : decode cX0_price 16 = .ok (.ireturn, 1) := dk_172 (dk_at dksX0_price_0 16 rfl rfl)
abbrev cX0_wetness : ByteArray := method_12_code
def yX0_wetness : MethodName := ⟨RX0, "wetness", "(LSlidePark;I[J)I"⟩
def dkwX0_wetness_0 : List UInt8 := [44, 3, 42, 27, 182, 0, 50, 133, 80, 167, 0, 6, 78, 4, 172, 3, 172]
abbrev dktX0_wetness_0 : List UInt8 := dkwX0_wetness_0 ++ []
theorem dksX0_wetness_0 : cX0_wetness.data.toList.drop 0 = dktX0_wetness_0 := by decide +kernel
theorem dX0_wetness_0 : decode cX0_wetness 0 = .ok (.aload_n 2, 1) := dk_44 (dk_at dksX0_wetness_0 0 rfl rfl)
theorem dX0_wetness_1 : decode cX0_wetness 1 = .ok (.iconst 0, 1) := dk_3 (dk_at dksX0_wetness_0 1 rfl rfl)
theorem dX0_wetness_2 : decode cX0_wetness 2 = .ok (.aload_n 0, 1) := dk_42 (dk_at dksX0_wetness_0 2 rfl rfl)
theorem dX0_wetness_3 : decode cX0_wetness 3 = .ok (.iload_n 1, 1) := dk_27 (dk_at dksX0_wetness_0 3 rfl rfl)
theorem dX0_wetness_4 : decode cX0_wetness 4 = .ok (.invokevirtual 50, 3) := dk_182 0 50 (dk_at dksX0_wetness_0 4 rfl rfl)
theorem dX0_wetness_7 : decode cX0_wetness 7 = .ok (.i2l, 1) := dk_133 (dk_at dksX0_wetness_0 7 rfl rfl)
theorem dX0_wetness_8 : decode cX0_wetness 8 = .ok (.lastore, 1) := dk_80 (dk_at dksX0_wetness_0 8 rfl rfl)
theorem dX0_wetness_9 : decode cX0_wetness 9 = .ok (.goto 6, 3) := dk_167 0 6 (dk_at dksX0_wetness_0 9 rfl rfl)
theorem dX0_wetness_12 : decode cX0_wetness 12 = .ok (.astore_n 3, 1) := dk_78 (dk_at dksX0_wetness_0 12 rfl rfl)
theorem dX0_wetness_13 : decode cX0_wetness 13 = .ok (.iconst 1, 1) := dk_4 (dk_at dksX0_wetness_0 13 rfl rfl)
theorem dX0_wetness_14 : decode cX0_wetness 14 = .ok (.ireturn, 1) := dk_172 (dk_at dksX0_wetness_0 14 rfl rfl)
theorem dX0_wetness_15 : decode cX0_wetness 15 = .ok (.iconst 0, 1) := dk_3 (dk_at dksX0_wetness_0 15 rfl rfl)
theorem dX0_wetness_16 : decode cX0_wetness 16 = .ok (.ireturn, 1) := dk_172 (dk_at dksX0_wetness_0 16 rfl rfl)
abbrev cX0_rider : ByteArray := method_13_code
def yX0_rider : MethodName := ⟨RX0, "rider", "(LSlidePark;I[J)I"⟩
def dkwX0_rider_0 : List UInt8 := [44, 3, 42, 27, 182, 0, 53, 133, 80, 167, 0, 9, 78, 4, 172, 78, 5, 172, 3, 172]
abbrev dktX0_rider_0 : List UInt8 := dkwX0_rider_0 ++ []
theorem dksX0_rider_0 : cX0_rider.data.toList.drop 0 = dktX0_rider_0 := by decide +kernel
theorem dX0_rider_0 : decode cX0_rider 0 = .ok (.aload_n 2, 1) := dk_44 (dk_at dksX0_rider_0 0 rfl rfl)
theorem dX0_rider_1 : decode cX0_rider 1 = .ok (.iconst 0, 1) := dk_3 (dk_at dksX0_rider_0 1 rfl rfl)
theorem dX0_rider_2 : decode cX0_rider 2 = .ok (.aload_n 0, 1) := dk_42 (dk_at dksX0_rider_0 2 rfl rfl)
theorem dX0_rider_3 : decode cX0_rider 3 = .ok (.iload_n 1, 1) := dk_27 (dk_at dksX0_rider_0 3 rfl rfl)
theorem dX0_rider_4 : decode cX0_rider 4 = .ok (.invokevirtual 53, 3) := dk_182 0 53 (dk_at dksX0_rider_0 4 rfl rfl)
theorem dX0_rider_7 : decode cX0_rider 7 = .ok (.i2l, 1) := dk_133 (dk_at dksX0_rider_0 7 rfl rfl)
theorem dX0_rider_8 : decode cX0_rider 8 = .ok (.lastore, 1) := dk_80 (dk_at dksX0_rider_0 8 rfl rfl)
theorem dX0_rider_9 : decode cX0_rider 9 = .ok (.goto 9, 3) := dk_167 0 9 (dk_at dksX0_rider_0 9 rfl rfl)
theorem dX0_rider_12 : decode cX0_rider 12 = .ok (.astore_n 3, 1) := dk_78 (dk_at dksX0_rider_0 12 rfl rfl)
theorem dX0_rider_13 : decode cX0_rider 13 = .ok (.iconst 1, 1) := dk_4 (dk_at dksX0_rider_0 13 rfl rfl)
theorem dX0_rider_14 : decode cX0_rider 14 = .ok (.ireturn, 1) := dk_172 (dk_at dksX0_rider_0 14 rfl rfl)
theorem dX0_rider_15 : decode cX0_rider 15 = .ok (.astore_n 3, 1) := dk_78 (dk_at dksX0_rider_0 15 rfl rfl)
theorem dX0_rider_16 : decode cX0_rider 16 = .ok (.iconst 2, 1) := dk_5 (dk_at dksX0_rider_0 16 rfl rfl)
theorem dX0_rider_17 : decode cX0_rider 17 = .ok (.ireturn, 1) := dk_172 (dk_at dksX0_rider_0 17 rfl rfl)
theorem dX0_rider_18 : decode cX0_rider 18 = .ok (.iconst 0, 1) := dk_3 (dk_at dksX0_rider_0 18 rfl rfl)
theorem dX0_rider_19 : decode cX0_rider 19 = .ok (.ireturn, 1) := dk_172 (dk_at dksX0_rider_0 19 rfl rfl)
abbrev cX0_coins : ByteArray := method_14_code
def yX0_coins : MethodName := ⟨RX0, "coins", "(LSlidePark;I[J)I"⟩
def dkwX0_coins_0 : List UInt8 := [44, 3, 42, 27, 182, 0, 56, 133, 80, 167, 0, 6, 78, 4, 172, 3, 172]
abbrev dktX0_coins_0 : List UInt8 := dkwX0_coins_0 ++ []
theorem dksX0_coins_0 : cX0_coins.data.toList.drop 0 = dktX0_coins_0 := by decide +kernel
theorem dX0_coins_0 : decode cX0_coins 0 = .ok (.aload_n 2, 1) := dk_44 (dk_at dksX0_coins_0 0 rfl rfl)
theorem dX0_coins_1 : decode cX0_coins 1 = .ok (.iconst 0, 1) := dk_3 (dk_at dksX0_coins_0 1 rfl rfl)
theorem dX0_coins_2 : decode cX0_coins 2 = .ok (.aload_n 0, 1) := dk_42 (dk_at dksX0_coins_0 2 rfl rfl)
theorem dX0_coins_3 : decode cX0_coins 3 = .ok (.iload_n 1, 1) := dk_27 (dk_at dksX0_coins_0 3 rfl rfl)
theorem dX0_coins_4 : decode cX0_coins 4 = .ok (.invokevirtual 56, 3) := dk_182 0 56 (dk_at dksX0_coins_0 4 rfl rfl)
theorem dX0_coins_7 : decode cX0_coins 7 = .ok (.i2l, 1) := dk_133 (dk_at dksX0_coins_0 7 rfl rfl)
theorem dX0_coins_8 : decode cX0_coins 8 = .ok (.lastore, 1) := dk_80 (dk_at dksX0_coins_0 8 rfl rfl)
theorem dX0_coins_9 : decode cX0_coins 9 = .ok (.goto 6, 3) := dk_167 0 6 (dk_at dksX0_coins_0 9 rfl rfl)
theorem dX0_coins_12 : decode cX0_coins 12 = .ok (.astore_n 3, 1) := dk_78 (dk_at dksX0_coins_0 12 rfl rfl)
theorem dX0_coins_13 : decode cX0_coins 13 = .ok (.iconst 1, 1) := dk_4 (dk_at dksX0_coins_0 13 rfl rfl)
theorem dX0_coins_14 : decode cX0_coins 14 = .ok (.ireturn, 1) := dk_172 (dk_at dksX0_coins_0 14 rfl rfl)
theorem dX0_coins_15 : decode cX0_coins 15 = .ok (.iconst 0, 1) := dk_3 (dk_at dksX0_coins_0 15 rfl rfl)
theorem dX0_coins_16 : decode cX0_coins 16 = .ok (.ireturn, 1) := dk_172 (dk_at dksX0_coins_0 16 rfl rfl)
abbrev cX0_queueOf : ByteArray := method_15_code
def yX0_queueOf : MethodName := ⟨RX0, "queueOf", "(LSlidePark;I[J)I"⟩
def dkwX0_queueOf_0 : List UInt8 := [44, 3, 42, 27, 182, 0, 59, 133, 80, 167, 0, 9, 78, 4, 172, 78, 5, 172, 3, 172]
abbrev dktX0_queueOf_0 : List UInt8 := dkwX0_queueOf_0 ++ []
theorem dksX0_queueOf_0 : cX0_queueOf.data.toList.drop 0 = dktX0_queueOf_0 := by decide +kernel
theorem dX0_queueOf_0 : decode cX0_queueOf 0 = .ok (.aload_n 2, 1) := dk_44 (dk_at dksX0_queueOf_0 0 rfl rfl)
theorem dX0_queueOf_1 : decode cX0_queueOf 1 = .ok (.iconst 0, 1) := dk_3 (dk_at dksX0_queueOf_0 1 rfl rfl)
theorem dX0_queueOf_2 : decode cX0_queueOf 2 = .ok (.aload_n 0, 1) := dk_42 (dk_at dksX0_queueOf_0 2 rfl rfl)
theorem dX0_queueOf_3 : decode cX0_queueOf 3 = .ok (.iload_n 1, 1) := dk_27 (dk_at dksX0_queueOf_0 3 rfl rfl)
theorem dX0_queueOf_4 : decode cX0_queueOf 4 = .ok (.invokevirtual 59, 3) := dk_182 0 59 (dk_at dksX0_queueOf_0 4 rfl rfl)
theorem dX0_queueOf_7 : decode cX0_queueOf 7 = .ok (.i2l, 1) := dk_133 (dk_at dksX0_queueOf_0 7 rfl rfl)
theorem dX0_queueOf_8 : decode cX0_queueOf 8 = .ok (.lastore, 1) := dk_80 (dk_at dksX0_queueOf_0 8 rfl rfl)
theorem dX0_queueOf_9 : decode cX0_queueOf 9 = .ok (.goto 9, 3) := dk_167 0 9 (dk_at dksX0_queueOf_0 9 rfl rfl)
theorem dX0_queueOf_12 : decode cX0_queueOf 12 = .ok (.astore_n 3, 1) := dk_78 (dk_at dksX0_queueOf_0 12 rfl rfl)
theorem dX0_queueOf_13 : decode cX0_queueOf 13 = .ok (.iconst 1, 1) := dk_4 (dk_at dksX0_queueOf_0 13 rfl rfl)
theorem dX0_queueOf_14 : decode cX0_queueOf 14 = .ok (.ireturn, 1) := dk_172 (dk_at dksX0_queueOf_0 14 rfl rfl)
theorem dX0_queueOf_15 : decode cX0_queueOf 15 = .ok (.astore_n 3, 1) := dk_78 (dk_at dksX0_queueOf_0 15 rfl rfl)
theorem dX0_queueOf_16 : decode cX0_queueOf 16 = .ok (.iconst 2, 1) := dk_5 (dk_at dksX0_queueOf_0 16 rfl rfl)
theorem dX0_queueOf_17 : decode cX0_queueOf 17 = .ok (.ireturn, 1) := dk_172 (dk_at dksX0_queueOf_0 17 rfl rfl)
theorem dX0_queueOf_18 : decode cX0_queueOf 18 = .ok (.iconst 0, 1) := dk_3 (dk_at dksX0_queueOf_0 18 rfl rfl)
theorem dX0_queueOf_19 : decode cX0_queueOf 19 = .ok (.ireturn, 1) := dk_172 (dk_at dksX0_queueOf_0 19 rfl rfl)
abbrev cX0_queueLength : ByteArray := method_16_code
def yX0_queueLength : MethodName := ⟨RX0, "queueLength", "(LSlidePark;I[J)I"⟩
def dkwX0_queueLength_0 : List UInt8 := [44, 3, 42, 27, 182, 0, 62, 133, 80, 167, 0, 6, 78, 4, 172, 3, 172]
abbrev dktX0_queueLength_0 : List UInt8 := dkwX0_queueLength_0 ++ []
theorem dksX0_queueLength_0 : cX0_queueLength.data.toList.drop 0 = dktX0_queueLength_0 := by decide +kernel
theorem dX0_queueLength_0 : decode cX0_queueLength 0 = .ok (.aload_n 2, 1) := dk_44 (dk_at dksX0_queueLength_0 0 rfl rfl)
theorem dX0_queueLength_1 : decode cX0_queueLength 1 = .ok (.iconst 0, 1) := dk_3 (dk_at dksX0_queueLength_0 1 rfl rfl)
theorem dX0_queueLength_2 : decode cX0_queueLength 2 = .ok (.aload_n 0, 1) := dk_42 (dk_at dksX0_queueLength_0 2 rfl rfl)
theorem dX0_queueLength_3 : decode cX0_queueLength 3 = .ok (.iload_n 1, 1) := dk_27 (dk_at dksX0_queueLength_0 3 rfl rfl)
theorem dX0_queueLength_4 : decode cX0_queueLength 4 = .ok (.invokevirtual 62, 3) := dk_182 0 62 (dk_at dksX0_queueLength_0 4 rfl rfl)
theorem dX0_queueLength_7 : decode cX0_queueLength 7 = .ok (.i2l, 1) := dk_133 (dk_at dksX0_queueLength_0 7 rfl rfl)
theorem dX0_queueLength_8 : decode cX0_queueLength 8 = .ok (.lastore, 1) := dk_80 (dk_at dksX0_queueLength_0 8 rfl rfl)
theorem dX0_queueLength_9 : decode cX0_queueLength 9 = .ok (.goto 6, 3) := dk_167 0 6 (dk_at dksX0_queueLength_0 9 rfl rfl)
theorem dX0_queueLength_12 : decode cX0_queueLength 12 = .ok (.astore_n 3, 1) := dk_78 (dk_at dksX0_queueLength_0 12 rfl rfl)
theorem dX0_queueLength_13 : decode cX0_queueLength 13 = .ok (.iconst 1, 1) := dk_4 (dk_at dksX0_queueLength_0 13 rfl rfl)
theorem dX0_queueLength_14 : decode cX0_queueLength 14 = .ok (.ireturn, 1) := dk_172 (dk_at dksX0_queueLength_0 14 rfl rfl)
theorem dX0_queueLength_15 : decode cX0_queueLength 15 = .ok (.iconst 0, 1) := dk_3 (dk_at dksX0_queueLength_0 15 rfl rfl)
theorem dX0_queueLength_16 : decode cX0_queueLength 16 = .ok (.ireturn, 1) := dk_172 (dk_at dksX0_queueLength_0 16 rfl rfl)
abbrev cX0_queuedGuest : ByteArray := method_17_code
def yX0_queuedGuest : MethodName := ⟨RX0, "queuedGuest", "(LSlidePark;II[J)I"⟩
def dkwX0_queuedGuest_0 : List UInt8 := [45, 3, 42, 27, 28, 182, 0, 65, 133, 80, 167, 0, 11, 58, 4, 4, 172, 58, 4, 5, 172, 3, 172]
abbrev dktX0_queuedGuest_0 : List UInt8 := dkwX0_queuedGuest_0 ++ []
theorem dksX0_queuedGuest_0 : cX0_queuedGuest.data.toList.drop 0 = dktX0_queuedGuest_0 := by decide +kernel
theorem dX0_queuedGuest_0 : decode cX0_queuedGuest 0 = .ok (.aload_n 3, 1) := dk_45 (dk_at dksX0_queuedGuest_0 0 rfl rfl)
theorem dX0_queuedGuest_1 : decode cX0_queuedGuest 1 = .ok (.iconst 0, 1) := dk_3 (dk_at dksX0_queuedGuest_0 1 rfl rfl)
theorem dX0_queuedGuest_2 : decode cX0_queuedGuest 2 = .ok (.aload_n 0, 1) := dk_42 (dk_at dksX0_queuedGuest_0 2 rfl rfl)
theorem dX0_queuedGuest_3 : decode cX0_queuedGuest 3 = .ok (.iload_n 1, 1) := dk_27 (dk_at dksX0_queuedGuest_0 3 rfl rfl)
theorem dX0_queuedGuest_4 : decode cX0_queuedGuest 4 = .ok (.iload_n 2, 1) := dk_28 (dk_at dksX0_queuedGuest_0 4 rfl rfl)
theorem dX0_queuedGuest_5 : decode cX0_queuedGuest 5 = .ok (.invokevirtual 65, 3) := dk_182 0 65 (dk_at dksX0_queuedGuest_0 5 rfl rfl)
theorem dX0_queuedGuest_8 : decode cX0_queuedGuest 8 = .ok (.i2l, 1) := dk_133 (dk_at dksX0_queuedGuest_0 8 rfl rfl)
theorem dX0_queuedGuest_9 : decode cX0_queuedGuest 9 = .ok (.lastore, 1) := dk_80 (dk_at dksX0_queuedGuest_0 9 rfl rfl)
theorem dX0_queuedGuest_10 : decode cX0_queuedGuest 10 = .ok (.goto 11, 3) := dk_167 0 11 (dk_at dksX0_queuedGuest_0 10 rfl rfl)
theorem dX0_queuedGuest_13 : decode cX0_queuedGuest 13 = .ok (.astore 4, 2) := dk_58 4 (dk_at dksX0_queuedGuest_0 13 rfl rfl)
theorem dX0_queuedGuest_15 : decode cX0_queuedGuest 15 = .ok (.iconst 1, 1) := dk_4 (dk_at dksX0_queuedGuest_0 15 rfl rfl)
theorem dX0_queuedGuest_16 : decode cX0_queuedGuest 16 = .ok (.ireturn, 1) := dk_172 (dk_at dksX0_queuedGuest_0 16 rfl rfl)
theorem dX0_queuedGuest_17 : decode cX0_queuedGuest 17 = .ok (.astore 4, 2) := dk_58 4 (dk_at dksX0_queuedGuest_0 17 rfl rfl)
theorem dX0_queuedGuest_19 : decode cX0_queuedGuest 19 = .ok (.iconst 2, 1) := dk_5 (dk_at dksX0_queuedGuest_0 19 rfl rfl)
theorem dX0_queuedGuest_20 : decode cX0_queuedGuest 20 = .ok (.ireturn, 1) := dk_172 (dk_at dksX0_queuedGuest_0 20 rfl rfl)
theorem dX0_queuedGuest_21 : decode cX0_queuedGuest 21 = .ok (.iconst 0, 1) := dk_3 (dk_at dksX0_queuedGuest_0 21 rfl rfl)
theorem dX0_queuedGuest_22 : decode cX0_queuedGuest 22 = .ok (.ireturn, 1) := dk_172 (dk_at dksX0_queuedGuest_0 22 rfl rfl)
abbrev cX0_bookedGuest : ByteArray := method_18_code
def yX0_bookedGuest : MethodName := ⟨RX0, "bookedGuest", "(LSlidePark;I[J)I"⟩
def dkwX0_bookedGuest_0 : List UInt8 := [44, 3, 42, 27, 182, 0, 68, 133, 80, 167, 0, 6, 78, 4, 172, 3, 172]
abbrev dktX0_bookedGuest_0 : List UInt8 := dkwX0_bookedGuest_0 ++ []
theorem dksX0_bookedGuest_0 : cX0_bookedGuest.data.toList.drop 0 = dktX0_bookedGuest_0 := by decide +kernel
theorem dX0_bookedGuest_0 : decode cX0_bookedGuest 0 = .ok (.aload_n 2, 1) := dk_44 (dk_at dksX0_bookedGuest_0 0 rfl rfl)
theorem dX0_bookedGuest_1 : decode cX0_bookedGuest 1 = .ok (.iconst 0, 1) := dk_3 (dk_at dksX0_bookedGuest_0 1 rfl rfl)
theorem dX0_bookedGuest_2 : decode cX0_bookedGuest 2 = .ok (.aload_n 0, 1) := dk_42 (dk_at dksX0_bookedGuest_0 2 rfl rfl)
theorem dX0_bookedGuest_3 : decode cX0_bookedGuest 3 = .ok (.iload_n 1, 1) := dk_27 (dk_at dksX0_bookedGuest_0 3 rfl rfl)
theorem dX0_bookedGuest_4 : decode cX0_bookedGuest 4 = .ok (.invokevirtual 68, 3) := dk_182 0 68 (dk_at dksX0_bookedGuest_0 4 rfl rfl)
theorem dX0_bookedGuest_7 : decode cX0_bookedGuest 7 = .ok (.i2l, 1) := dk_133 (dk_at dksX0_bookedGuest_0 7 rfl rfl)
theorem dX0_bookedGuest_8 : decode cX0_bookedGuest 8 = .ok (.lastore, 1) := dk_80 (dk_at dksX0_bookedGuest_0 8 rfl rfl)
theorem dX0_bookedGuest_9 : decode cX0_bookedGuest 9 = .ok (.goto 6, 3) := dk_167 0 6 (dk_at dksX0_bookedGuest_0 9 rfl rfl)
theorem dX0_bookedGuest_12 : decode cX0_bookedGuest 12 = .ok (.astore_n 3, 1) := dk_78 (dk_at dksX0_bookedGuest_0 12 rfl rfl)
theorem dX0_bookedGuest_13 : decode cX0_bookedGuest 13 = .ok (.iconst 1, 1) := dk_4 (dk_at dksX0_bookedGuest_0 13 rfl rfl)
theorem dX0_bookedGuest_14 : decode cX0_bookedGuest 14 = .ok (.ireturn, 1) := dk_172 (dk_at dksX0_bookedGuest_0 14 rfl rfl)
theorem dX0_bookedGuest_15 : decode cX0_bookedGuest 15 = .ok (.iconst 0, 1) := dk_3 (dk_at dksX0_bookedGuest_0 15 rfl rfl)
theorem dX0_bookedGuest_16 : decode cX0_bookedGuest 16 = .ok (.ireturn, 1) := dk_172 (dk_at dksX0_bookedGuest_0 16 rfl rfl)
abbrev cX0_bookedSlide : ByteArray := method_19_code
def yX0_bookedSlide : MethodName := ⟨RX0, "bookedSlide", "(LSlidePark;I[J)I"⟩
def dkwX0_bookedSlide_0 : List UInt8 := [44, 3, 42, 27, 182, 0, 71, 133, 80, 167, 0, 6, 78, 4, 172, 3, 172]
abbrev dktX0_bookedSlide_0 : List UInt8 := dkwX0_bookedSlide_0 ++ []
theorem dksX0_bookedSlide_0 : cX0_bookedSlide.data.toList.drop 0 = dktX0_bookedSlide_0 := by decide +kernel
theorem dX0_bookedSlide_0 : decode cX0_bookedSlide 0 = .ok (.aload_n 2, 1) := dk_44 (dk_at dksX0_bookedSlide_0 0 rfl rfl)
theorem dX0_bookedSlide_1 : decode cX0_bookedSlide 1 = .ok (.iconst 0, 1) := dk_3 (dk_at dksX0_bookedSlide_0 1 rfl rfl)
theorem dX0_bookedSlide_2 : decode cX0_bookedSlide 2 = .ok (.aload_n 0, 1) := dk_42 (dk_at dksX0_bookedSlide_0 2 rfl rfl)
theorem dX0_bookedSlide_3 : decode cX0_bookedSlide 3 = .ok (.iload_n 1, 1) := dk_27 (dk_at dksX0_bookedSlide_0 3 rfl rfl)
theorem dX0_bookedSlide_4 : decode cX0_bookedSlide 4 = .ok (.invokevirtual 71, 3) := dk_182 0 71 (dk_at dksX0_bookedSlide_0 4 rfl rfl)
theorem dX0_bookedSlide_7 : decode cX0_bookedSlide 7 = .ok (.i2l, 1) := dk_133 (dk_at dksX0_bookedSlide_0 7 rfl rfl)
theorem dX0_bookedSlide_8 : decode cX0_bookedSlide 8 = .ok (.lastore, 1) := dk_80 (dk_at dksX0_bookedSlide_0 8 rfl rfl)
theorem dX0_bookedSlide_9 : decode cX0_bookedSlide 9 = .ok (.goto 6, 3) := dk_167 0 6 (dk_at dksX0_bookedSlide_0 9 rfl rfl)
theorem dX0_bookedSlide_12 : decode cX0_bookedSlide 12 = .ok (.astore_n 3, 1) := dk_78 (dk_at dksX0_bookedSlide_0 12 rfl rfl)
theorem dX0_bookedSlide_13 : decode cX0_bookedSlide 13 = .ok (.iconst 1, 1) := dk_4 (dk_at dksX0_bookedSlide_0 13 rfl rfl)
theorem dX0_bookedSlide_14 : decode cX0_bookedSlide 14 = .ok (.ireturn, 1) := dk_172 (dk_at dksX0_bookedSlide_0 14 rfl rfl)
theorem dX0_bookedSlide_15 : decode cX0_bookedSlide 15 = .ok (.iconst 0, 1) := dk_3 (dk_at dksX0_bookedSlide_0 15 rfl rfl)
theorem dX0_bookedSlide_16 : decode cX0_bookedSlide 16 = .ok (.ireturn, 1) := dk_172 (dk_at dksX0_bookedSlide_0 16 rfl rfl)
abbrev cX0_start : ByteArray := method_20_code
def yX0_start : MethodName := ⟨RX0, "start", "(LSlidePark;I[J)I"⟩
def dkwX0_start_0 : List UInt8 := [44, 3, 42, 27, 182, 0, 74, 133, 80, 167, 0, 6, 78, 4, 172, 3, 172]
abbrev dktX0_start_0 : List UInt8 := dkwX0_start_0 ++ []
theorem dksX0_start_0 : cX0_start.data.toList.drop 0 = dktX0_start_0 := by decide +kernel
theorem dX0_start_0 : decode cX0_start 0 = .ok (.aload_n 2, 1) := dk_44 (dk_at dksX0_start_0 0 rfl rfl)
theorem dX0_start_1 : decode cX0_start 1 = .ok (.iconst 0, 1) := dk_3 (dk_at dksX0_start_0 1 rfl rfl)
theorem dX0_start_2 : decode cX0_start 2 = .ok (.aload_n 0, 1) := dk_42 (dk_at dksX0_start_0 2 rfl rfl)
theorem dX0_start_3 : decode cX0_start 3 = .ok (.iload_n 1, 1) := dk_27 (dk_at dksX0_start_0 3 rfl rfl)
theorem dX0_start_4 : decode cX0_start 4 = .ok (.invokevirtual 74, 3) := dk_182 0 74 (dk_at dksX0_start_0 4 rfl rfl)
theorem dX0_start_7 : decode cX0_start 7 = .ok (.i2l, 1) := dk_133 (dk_at dksX0_start_0 7 rfl rfl)
theorem dX0_start_8 : decode cX0_start 8 = .ok (.lastore, 1) := dk_80 (dk_at dksX0_start_0 8 rfl rfl)
theorem dX0_start_9 : decode cX0_start 9 = .ok (.goto 6, 3) := dk_167 0 6 (dk_at dksX0_start_0 9 rfl rfl)
theorem dX0_start_12 : decode cX0_start 12 = .ok (.astore_n 3, 1) := dk_78 (dk_at dksX0_start_0 12 rfl rfl)
theorem dX0_start_13 : decode cX0_start 13 = .ok (.iconst 1, 1) := dk_4 (dk_at dksX0_start_0 13 rfl rfl)
theorem dX0_start_14 : decode cX0_start 14 = .ok (.ireturn, 1) := dk_172 (dk_at dksX0_start_0 14 rfl rfl)
theorem dX0_start_15 : decode cX0_start 15 = .ok (.iconst 0, 1) := dk_3 (dk_at dksX0_start_0 15 rfl rfl)
theorem dX0_start_16 : decode cX0_start 16 = .ok (.ireturn, 1) := dk_172 (dk_at dksX0_start_0 16 rfl rfl)
abbrev cX0_hasStarted : ByteArray := method_21_code
def yX0_hasStarted : MethodName := ⟨RX0, "hasStarted", "(LSlidePark;I[J)I"⟩
def dkwX0_hasStarted_0 : List UInt8 := [44, 3, 42, 27, 182, 0, 77, 153, 0, 7, 10, 167, 0, 4, 9, 80, 167, 0, 6, 78, 4, 172, 3, 172]
abbrev dktX0_hasStarted_0 : List UInt8 := dkwX0_hasStarted_0 ++ []
theorem dksX0_hasStarted_0 : cX0_hasStarted.data.toList.drop 0 = dktX0_hasStarted_0 := by decide +kernel
theorem dX0_hasStarted_0 : decode cX0_hasStarted 0 = .ok (.aload_n 2, 1) := dk_44 (dk_at dksX0_hasStarted_0 0 rfl rfl)
theorem dX0_hasStarted_1 : decode cX0_hasStarted 1 = .ok (.iconst 0, 1) := dk_3 (dk_at dksX0_hasStarted_0 1 rfl rfl)
theorem dX0_hasStarted_2 : decode cX0_hasStarted 2 = .ok (.aload_n 0, 1) := dk_42 (dk_at dksX0_hasStarted_0 2 rfl rfl)
theorem dX0_hasStarted_3 : decode cX0_hasStarted 3 = .ok (.iload_n 1, 1) := dk_27 (dk_at dksX0_hasStarted_0 3 rfl rfl)
theorem dX0_hasStarted_4 : decode cX0_hasStarted 4 = .ok (.invokevirtual 77, 3) := dk_182 0 77 (dk_at dksX0_hasStarted_0 4 rfl rfl)
theorem dX0_hasStarted_7 : decode cX0_hasStarted 7 = .ok (.ifCond .eq 7, 3) := dk_153 0 7 (dk_at dksX0_hasStarted_0 7 rfl rfl)
theorem dX0_hasStarted_10 : decode cX0_hasStarted 10 = .ok (.lconst 1, 1) := dk_10 (dk_at dksX0_hasStarted_0 10 rfl rfl)
theorem dX0_hasStarted_11 : decode cX0_hasStarted 11 = .ok (.goto 4, 3) := dk_167 0 4 (dk_at dksX0_hasStarted_0 11 rfl rfl)
theorem dX0_hasStarted_14 : decode cX0_hasStarted 14 = .ok (.lconst 0, 1) := dk_9 (dk_at dksX0_hasStarted_0 14 rfl rfl)
theorem dX0_hasStarted_15 : decode cX0_hasStarted 15 = .ok (.lastore, 1) := dk_80 (dk_at dksX0_hasStarted_0 15 rfl rfl)
theorem dX0_hasStarted_16 : decode cX0_hasStarted 16 = .ok (.goto 6, 3) := dk_167 0 6 (dk_at dksX0_hasStarted_0 16 rfl rfl)
theorem dX0_hasStarted_19 : decode cX0_hasStarted 19 = .ok (.astore_n 3, 1) := dk_78 (dk_at dksX0_hasStarted_0 19 rfl rfl)
theorem dX0_hasStarted_20 : decode cX0_hasStarted 20 = .ok (.iconst 1, 1) := dk_4 (dk_at dksX0_hasStarted_0 20 rfl rfl)
theorem dX0_hasStarted_21 : decode cX0_hasStarted 21 = .ok (.ireturn, 1) := dk_172 (dk_at dksX0_hasStarted_0 21 rfl rfl)
theorem dX0_hasStarted_22 : decode cX0_hasStarted 22 = .ok (.iconst 0, 1) := dk_3 (dk_at dksX0_hasStarted_0 22 rfl rfl)
theorem dX0_hasStarted_23 : decode cX0_hasStarted 23 = .ok (.ireturn, 1) := dk_172 (dk_at dksX0_hasStarted_0 23 rfl rfl)
abbrev cX0_bookingByStart : ByteArray := method_22_code
def yX0_bookingByStart : MethodName := ⟨RX0, "bookingByStart", "(LSlidePark;I[J)I"⟩
def dkwX0_bookingByStart_0 : List UInt8 := [44, 3, 42, 27, 182, 0, 81, 133, 80, 167, 0, 6, 78, 4, 172, 3, 172]
abbrev dktX0_bookingByStart_0 : List UInt8 := dkwX0_bookingByStart_0 ++ []
theorem dksX0_bookingByStart_0 : cX0_bookingByStart.data.toList.drop 0 = dktX0_bookingByStart_0 := by decide +kernel
theorem dX0_bookingByStart_0 : decode cX0_bookingByStart 0 = .ok (.aload_n 2, 1) := dk_44 (dk_at dksX0_bookingByStart_0 0 rfl rfl)
theorem dX0_bookingByStart_1 : decode cX0_bookingByStart 1 = .ok (.iconst 0, 1) := dk_3 (dk_at dksX0_bookingByStart_0 1 rfl rfl)
theorem dX0_bookingByStart_2 : decode cX0_bookingByStart 2 = .ok (.aload_n 0, 1) := dk_42 (dk_at dksX0_bookingByStart_0 2 rfl rfl)
theorem dX0_bookingByStart_3 : decode cX0_bookingByStart 3 = .ok (.iload_n 1, 1) := dk_27 (dk_at dksX0_bookingByStart_0 3 rfl rfl)
theorem dX0_bookingByStart_4 : decode cX0_bookingByStart 4 = .ok (.invokevirtual 81, 3) := dk_182 0 81 (dk_at dksX0_bookingByStart_0 4 rfl rfl)
theorem dX0_bookingByStart_7 : decode cX0_bookingByStart 7 = .ok (.i2l, 1) := dk_133 (dk_at dksX0_bookingByStart_0 7 rfl rfl)
theorem dX0_bookingByStart_8 : decode cX0_bookingByStart 8 = .ok (.lastore, 1) := dk_80 (dk_at dksX0_bookingByStart_0 8 rfl rfl)
theorem dX0_bookingByStart_9 : decode cX0_bookingByStart 9 = .ok (.goto 6, 3) := dk_167 0 6 (dk_at dksX0_bookingByStart_0 9 rfl rfl)
theorem dX0_bookingByStart_12 : decode cX0_bookingByStart 12 = .ok (.astore_n 3, 1) := dk_78 (dk_at dksX0_bookingByStart_0 12 rfl rfl)
theorem dX0_bookingByStart_13 : decode cX0_bookingByStart 13 = .ok (.iconst 1, 1) := dk_4 (dk_at dksX0_bookingByStart_0 13 rfl rfl)
theorem dX0_bookingByStart_14 : decode cX0_bookingByStart 14 = .ok (.ireturn, 1) := dk_172 (dk_at dksX0_bookingByStart_0 14 rfl rfl)
theorem dX0_bookingByStart_15 : decode cX0_bookingByStart 15 = .ok (.iconst 0, 1) := dk_3 (dk_at dksX0_bookingByStart_0 15 rfl rfl)
theorem dX0_bookingByStart_16 : decode cX0_bookingByStart 16 = .ok (.ireturn, 1) := dk_172 (dk_at dksX0_bookingByStart_0 16 rfl rfl)
abbrev cX0_isFree : ByteArray := method_23_code
def yX0_isFree : MethodName := ⟨RX0, "isFree", "(LSlidePark;II[J)I"⟩
def dkwX0_isFree_1 : List UInt8 := [58, 4, 5, 172, 3, 172]
abbrev dktX0_isFree_1 : List UInt8 := dkwX0_isFree_1 ++ []
def dkwX0_isFree_0 : List UInt8 := [45, 3, 42, 27, 28, 182, 0, 84, 153, 0, 7, 10, 167, 0, 4, 9, 80, 167, 0, 11, 58, 4, 4, 172]
abbrev dktX0_isFree_0 : List UInt8 := dkwX0_isFree_0 ++ dktX0_isFree_1
theorem dksX0_isFree_0 : cX0_isFree.data.toList.drop 0 = dktX0_isFree_0 := by decide +kernel
theorem dksX0_isFree_1 : cX0_isFree.data.toList.drop 24 = dktX0_isFree_1 := dk_seg dksX0_isFree_0 24 rfl rfl
theorem dX0_isFree_0 : decode cX0_isFree 0 = .ok (.aload_n 3, 1) := dk_45 (dk_at dksX0_isFree_0 0 rfl rfl)
theorem dX0_isFree_1 : decode cX0_isFree 1 = .ok (.iconst 0, 1) := dk_3 (dk_at dksX0_isFree_0 1 rfl rfl)
theorem dX0_isFree_2 : decode cX0_isFree 2 = .ok (.aload_n 0, 1) := dk_42 (dk_at dksX0_isFree_0 2 rfl rfl)
theorem dX0_isFree_3 : decode cX0_isFree 3 = .ok (.iload_n 1, 1) := dk_27 (dk_at dksX0_isFree_0 3 rfl rfl)
theorem dX0_isFree_4 : decode cX0_isFree 4 = .ok (.iload_n 2, 1) := dk_28 (dk_at dksX0_isFree_0 4 rfl rfl)
theorem dX0_isFree_5 : decode cX0_isFree 5 = .ok (.invokevirtual 84, 3) := dk_182 0 84 (dk_at dksX0_isFree_0 5 rfl rfl)
theorem dX0_isFree_8 : decode cX0_isFree 8 = .ok (.ifCond .eq 7, 3) := dk_153 0 7 (dk_at dksX0_isFree_0 8 rfl rfl)
theorem dX0_isFree_11 : decode cX0_isFree 11 = .ok (.lconst 1, 1) := dk_10 (dk_at dksX0_isFree_0 11 rfl rfl)
theorem dX0_isFree_12 : decode cX0_isFree 12 = .ok (.goto 4, 3) := dk_167 0 4 (dk_at dksX0_isFree_0 12 rfl rfl)
theorem dX0_isFree_15 : decode cX0_isFree 15 = .ok (.lconst 0, 1) := dk_9 (dk_at dksX0_isFree_0 15 rfl rfl)
theorem dX0_isFree_16 : decode cX0_isFree 16 = .ok (.lastore, 1) := dk_80 (dk_at dksX0_isFree_0 16 rfl rfl)
theorem dX0_isFree_17 : decode cX0_isFree 17 = .ok (.goto 11, 3) := dk_167 0 11 (dk_at dksX0_isFree_0 17 rfl rfl)
theorem dX0_isFree_20 : decode cX0_isFree 20 = .ok (.astore 4, 2) := dk_58 4 (dk_at dksX0_isFree_0 20 rfl rfl)
theorem dX0_isFree_22 : decode cX0_isFree 22 = .ok (.iconst 1, 1) := dk_4 (dk_at dksX0_isFree_0 22 rfl rfl)
theorem dX0_isFree_23 : decode cX0_isFree 23 = .ok (.ireturn, 1) := dk_172 (dk_at dksX0_isFree_0 23 rfl rfl)
theorem dX0_isFree_24 : decode cX0_isFree 24 = .ok (.astore 4, 2) := dk_58 4 (dk_at dksX0_isFree_1 0 rfl rfl)
theorem dX0_isFree_26 : decode cX0_isFree 26 = .ok (.iconst 2, 1) := dk_5 (dk_at dksX0_isFree_1 2 rfl rfl)
theorem dX0_isFree_27 : decode cX0_isFree 27 = .ok (.ireturn, 1) := dk_172 (dk_at dksX0_isFree_1 3 rfl rfl)
theorem dX0_isFree_28 : decode cX0_isFree 28 = .ok (.iconst 0, 1) := dk_3 (dk_at dksX0_isFree_1 4 rfl rfl)
theorem dX0_isFree_29 : decode cX0_isFree 29 = .ok (.ireturn, 1) := dk_172 (dk_at dksX0_isFree_1 5 rfl rfl)
abbrev cX0_firstFree : ByteArray := method_24_code
def yX0_firstFree : MethodName := ⟨RX0, "firstFree", "(LSlidePark;II[J)I"⟩
def dkwX0_firstFree_1 : List UInt8 := [172, 3, 172]
abbrev dktX0_firstFree_1 : List UInt8 := dkwX0_firstFree_1 ++ []
def dkwX0_firstFree_0 : List UInt8 := [45, 3, 42, 27, 28, 182, 0, 88, 133, 80, 167, 0, 15, 58, 4, 4, 172, 58, 4, 5, 172, 58, 4, 6]
abbrev dktX0_firstFree_0 : List UInt8 := dkwX0_firstFree_0 ++ dktX0_firstFree_1
theorem dksX0_firstFree_0 : cX0_firstFree.data.toList.drop 0 = dktX0_firstFree_0 := by decide +kernel
theorem dksX0_firstFree_1 : cX0_firstFree.data.toList.drop 24 = dktX0_firstFree_1 := dk_seg dksX0_firstFree_0 24 rfl rfl
theorem dX0_firstFree_0 : decode cX0_firstFree 0 = .ok (.aload_n 3, 1) := dk_45 (dk_at dksX0_firstFree_0 0 rfl rfl)
theorem dX0_firstFree_1 : decode cX0_firstFree 1 = .ok (.iconst 0, 1) := dk_3 (dk_at dksX0_firstFree_0 1 rfl rfl)
theorem dX0_firstFree_2 : decode cX0_firstFree 2 = .ok (.aload_n 0, 1) := dk_42 (dk_at dksX0_firstFree_0 2 rfl rfl)
theorem dX0_firstFree_3 : decode cX0_firstFree 3 = .ok (.iload_n 1, 1) := dk_27 (dk_at dksX0_firstFree_0 3 rfl rfl)
theorem dX0_firstFree_4 : decode cX0_firstFree 4 = .ok (.iload_n 2, 1) := dk_28 (dk_at dksX0_firstFree_0 4 rfl rfl)
theorem dX0_firstFree_5 : decode cX0_firstFree 5 = .ok (.invokevirtual 88, 3) := dk_182 0 88 (dk_at dksX0_firstFree_0 5 rfl rfl)
theorem dX0_firstFree_8 : decode cX0_firstFree 8 = .ok (.i2l, 1) := dk_133 (dk_at dksX0_firstFree_0 8 rfl rfl)
theorem dX0_firstFree_9 : decode cX0_firstFree 9 = .ok (.lastore, 1) := dk_80 (dk_at dksX0_firstFree_0 9 rfl rfl)
theorem dX0_firstFree_10 : decode cX0_firstFree 10 = .ok (.goto 15, 3) := dk_167 0 15 (dk_at dksX0_firstFree_0 10 rfl rfl)
theorem dX0_firstFree_13 : decode cX0_firstFree 13 = .ok (.astore 4, 2) := dk_58 4 (dk_at dksX0_firstFree_0 13 rfl rfl)
theorem dX0_firstFree_15 : decode cX0_firstFree 15 = .ok (.iconst 1, 1) := dk_4 (dk_at dksX0_firstFree_0 15 rfl rfl)
theorem dX0_firstFree_16 : decode cX0_firstFree 16 = .ok (.ireturn, 1) := dk_172 (dk_at dksX0_firstFree_0 16 rfl rfl)
theorem dX0_firstFree_17 : decode cX0_firstFree 17 = .ok (.astore 4, 2) := dk_58 4 (dk_at dksX0_firstFree_0 17 rfl rfl)
theorem dX0_firstFree_19 : decode cX0_firstFree 19 = .ok (.iconst 2, 1) := dk_5 (dk_at dksX0_firstFree_0 19 rfl rfl)
theorem dX0_firstFree_20 : decode cX0_firstFree 20 = .ok (.ireturn, 1) := dk_172 (dk_at dksX0_firstFree_0 20 rfl rfl)
theorem dX0_firstFree_21 : decode cX0_firstFree 21 = .ok (.astore 4, 2) := dk_58 4 (dk_at dksX0_firstFree_0 21 rfl rfl)
theorem dX0_firstFree_23 : decode cX0_firstFree 23 = .ok (.iconst 3, 1) := dk_6 (dk_at dksX0_firstFree_0 23 rfl rfl)
theorem dX0_firstFree_24 : decode cX0_firstFree 24 = .ok (.ireturn, 1) := dk_172 (dk_at dksX0_firstFree_1 0 rfl rfl)
theorem dX0_firstFree_25 : decode cX0_firstFree 25 = .ok (.iconst 0, 1) := dk_3 (dk_at dksX0_firstFree_1 1 rfl rfl)
theorem dX0_firstFree_26 : decode cX0_firstFree 26 = .ok (.ireturn, 1) := dk_172 (dk_at dksX0_firstFree_1 2 rfl rfl)
abbrev cX0_firstFreeByGaps : ByteArray := method_25_code
def yX0_firstFreeByGaps : MethodName := ⟨RX0, "firstFreeByGaps", "(LSlidePark;II[J)I"⟩
def dkwX0_firstFreeByGaps_1 : List UInt8 := [172, 3, 172]
abbrev dktX0_firstFreeByGaps_1 : List UInt8 := dkwX0_firstFreeByGaps_1 ++ []
def dkwX0_firstFreeByGaps_0 : List UInt8 := [45, 3, 42, 27, 28, 182, 0, 91, 133, 80, 167, 0, 15, 58, 4, 4, 172, 58, 4, 5, 172, 58, 4, 6]
abbrev dktX0_firstFreeByGaps_0 : List UInt8 := dkwX0_firstFreeByGaps_0 ++ dktX0_firstFreeByGaps_1
theorem dksX0_firstFreeByGaps_0 : cX0_firstFreeByGaps.data.toList.drop 0 = dktX0_firstFreeByGaps_0 := by decide +kernel
theorem dksX0_firstFreeByGaps_1 : cX0_firstFreeByGaps.data.toList.drop 24 = dktX0_firstFreeByGaps_1 := dk_seg dksX0_firstFreeByGaps_0 24 rfl rfl
theorem dX0_firstFreeByGaps_0 : decode cX0_firstFreeByGaps 0 = .ok (.aload_n 3, 1) := dk_45 (dk_at dksX0_firstFreeByGaps_0 0 rfl rfl)
theorem dX0_firstFreeByGaps_1 : decode cX0_firstFreeByGaps 1 = .ok (.iconst 0, 1) := dk_3 (dk_at dksX0_firstFreeByGaps_0 1 rfl rfl)
theorem dX0_firstFreeByGaps_2 : decode cX0_firstFreeByGaps 2 = .ok (.aload_n 0, 1) := dk_42 (dk_at dksX0_firstFreeByGaps_0 2 rfl rfl)
theorem dX0_firstFreeByGaps_3 : decode cX0_firstFreeByGaps 3 = .ok (.iload_n 1, 1) := dk_27 (dk_at dksX0_firstFreeByGaps_0 3 rfl rfl)
theorem dX0_firstFreeByGaps_4 : decode cX0_firstFreeByGaps 4 = .ok (.iload_n 2, 1) := dk_28 (dk_at dksX0_firstFreeByGaps_0 4 rfl rfl)
theorem dX0_firstFreeByGaps_5 : decode cX0_firstFreeByGaps 5 = .ok (.invokevirtual 91, 3) := dk_182 0 91 (dk_at dksX0_firstFreeByGaps_0 5 rfl rfl)
theorem dX0_firstFreeByGaps_8 : decode cX0_firstFreeByGaps 8 = .ok (.i2l, 1) := dk_133 (dk_at dksX0_firstFreeByGaps_0 8 rfl rfl)
theorem dX0_firstFreeByGaps_9 : decode cX0_firstFreeByGaps 9 = .ok (.lastore, 1) := dk_80 (dk_at dksX0_firstFreeByGaps_0 9 rfl rfl)
theorem dX0_firstFreeByGaps_10 : decode cX0_firstFreeByGaps 10 = .ok (.goto 15, 3) := dk_167 0 15 (dk_at dksX0_firstFreeByGaps_0 10 rfl rfl)
theorem dX0_firstFreeByGaps_13 : decode cX0_firstFreeByGaps 13 = .ok (.astore 4, 2) := dk_58 4 (dk_at dksX0_firstFreeByGaps_0 13 rfl rfl)
theorem dX0_firstFreeByGaps_15 : decode cX0_firstFreeByGaps 15 = .ok (.iconst 1, 1) := dk_4 (dk_at dksX0_firstFreeByGaps_0 15 rfl rfl)
theorem dX0_firstFreeByGaps_16 : decode cX0_firstFreeByGaps 16 = .ok (.ireturn, 1) := dk_172 (dk_at dksX0_firstFreeByGaps_0 16 rfl rfl)
theorem dX0_firstFreeByGaps_17 : decode cX0_firstFreeByGaps 17 = .ok (.astore 4, 2) := dk_58 4 (dk_at dksX0_firstFreeByGaps_0 17 rfl rfl)
theorem dX0_firstFreeByGaps_19 : decode cX0_firstFreeByGaps 19 = .ok (.iconst 2, 1) := dk_5 (dk_at dksX0_firstFreeByGaps_0 19 rfl rfl)
theorem dX0_firstFreeByGaps_20 : decode cX0_firstFreeByGaps 20 = .ok (.ireturn, 1) := dk_172 (dk_at dksX0_firstFreeByGaps_0 20 rfl rfl)
theorem dX0_firstFreeByGaps_21 : decode cX0_firstFreeByGaps 21 = .ok (.astore 4, 2) := dk_58 4 (dk_at dksX0_firstFreeByGaps_0 21 rfl rfl)
theorem dX0_firstFreeByGaps_23 : decode cX0_firstFreeByGaps 23 = .ok (.iconst 3, 1) := dk_6 (dk_at dksX0_firstFreeByGaps_0 23 rfl rfl)
theorem dX0_firstFreeByGaps_24 : decode cX0_firstFreeByGaps 24 = .ok (.ireturn, 1) := dk_172 (dk_at dksX0_firstFreeByGaps_1 0 rfl rfl)
theorem dX0_firstFreeByGaps_25 : decode cX0_firstFreeByGaps 25 = .ok (.iconst 0, 1) := dk_3 (dk_at dksX0_firstFreeByGaps_1 1 rfl rfl)
theorem dX0_firstFreeByGaps_26 : decode cX0_firstFreeByGaps 26 = .ok (.ireturn, 1) := dk_172 (dk_at dksX0_firstFreeByGaps_1 2 rfl rfl)
abbrev cX0_finishedGuest : ByteArray := method_26_code
def yX0_finishedGuest : MethodName := ⟨RX0, "finishedGuest", "(LSlidePark;I[J)I"⟩
def dkwX0_finishedGuest_0 : List UInt8 := [44, 3, 42, 27, 182, 0, 94, 133, 80, 167, 0, 6, 78, 4, 172, 3, 172]
abbrev dktX0_finishedGuest_0 : List UInt8 := dkwX0_finishedGuest_0 ++ []
theorem dksX0_finishedGuest_0 : cX0_finishedGuest.data.toList.drop 0 = dktX0_finishedGuest_0 := by decide +kernel
theorem dX0_finishedGuest_0 : decode cX0_finishedGuest 0 = .ok (.aload_n 2, 1) := dk_44 (dk_at dksX0_finishedGuest_0 0 rfl rfl)
theorem dX0_finishedGuest_1 : decode cX0_finishedGuest 1 = .ok (.iconst 0, 1) := dk_3 (dk_at dksX0_finishedGuest_0 1 rfl rfl)
theorem dX0_finishedGuest_2 : decode cX0_finishedGuest 2 = .ok (.aload_n 0, 1) := dk_42 (dk_at dksX0_finishedGuest_0 2 rfl rfl)
theorem dX0_finishedGuest_3 : decode cX0_finishedGuest 3 = .ok (.iload_n 1, 1) := dk_27 (dk_at dksX0_finishedGuest_0 3 rfl rfl)
theorem dX0_finishedGuest_4 : decode cX0_finishedGuest 4 = .ok (.invokevirtual 94, 3) := dk_182 0 94 (dk_at dksX0_finishedGuest_0 4 rfl rfl)
theorem dX0_finishedGuest_7 : decode cX0_finishedGuest 7 = .ok (.i2l, 1) := dk_133 (dk_at dksX0_finishedGuest_0 7 rfl rfl)
theorem dX0_finishedGuest_8 : decode cX0_finishedGuest 8 = .ok (.lastore, 1) := dk_80 (dk_at dksX0_finishedGuest_0 8 rfl rfl)
theorem dX0_finishedGuest_9 : decode cX0_finishedGuest 9 = .ok (.goto 6, 3) := dk_167 0 6 (dk_at dksX0_finishedGuest_0 9 rfl rfl)
theorem dX0_finishedGuest_12 : decode cX0_finishedGuest 12 = .ok (.astore_n 3, 1) := dk_78 (dk_at dksX0_finishedGuest_0 12 rfl rfl)
theorem dX0_finishedGuest_13 : decode cX0_finishedGuest 13 = .ok (.iconst 1, 1) := dk_4 (dk_at dksX0_finishedGuest_0 13 rfl rfl)
theorem dX0_finishedGuest_14 : decode cX0_finishedGuest 14 = .ok (.ireturn, 1) := dk_172 (dk_at dksX0_finishedGuest_0 14 rfl rfl)
theorem dX0_finishedGuest_15 : decode cX0_finishedGuest 15 = .ok (.iconst 0, 1) := dk_3 (dk_at dksX0_finishedGuest_0 15 rfl rfl)
theorem dX0_finishedGuest_16 : decode cX0_finishedGuest 16 = .ok (.ireturn, 1) := dk_172 (dk_at dksX0_finishedGuest_0 16 rfl rfl)
abbrev cX0_finishedSlide : ByteArray := method_27_code
def yX0_finishedSlide : MethodName := ⟨RX0, "finishedSlide", "(LSlidePark;I[J)I"⟩
def dkwX0_finishedSlide_0 : List UInt8 := [44, 3, 42, 27, 182, 0, 97, 133, 80, 167, 0, 6, 78, 4, 172, 3, 172]
abbrev dktX0_finishedSlide_0 : List UInt8 := dkwX0_finishedSlide_0 ++ []
theorem dksX0_finishedSlide_0 : cX0_finishedSlide.data.toList.drop 0 = dktX0_finishedSlide_0 := by decide +kernel
theorem dX0_finishedSlide_0 : decode cX0_finishedSlide 0 = .ok (.aload_n 2, 1) := dk_44 (dk_at dksX0_finishedSlide_0 0 rfl rfl)
theorem dX0_finishedSlide_1 : decode cX0_finishedSlide 1 = .ok (.iconst 0, 1) := dk_3 (dk_at dksX0_finishedSlide_0 1 rfl rfl)
theorem dX0_finishedSlide_2 : decode cX0_finishedSlide 2 = .ok (.aload_n 0, 1) := dk_42 (dk_at dksX0_finishedSlide_0 2 rfl rfl)
theorem dX0_finishedSlide_3 : decode cX0_finishedSlide 3 = .ok (.iload_n 1, 1) := dk_27 (dk_at dksX0_finishedSlide_0 3 rfl rfl)
theorem dX0_finishedSlide_4 : decode cX0_finishedSlide 4 = .ok (.invokevirtual 97, 3) := dk_182 0 97 (dk_at dksX0_finishedSlide_0 4 rfl rfl)
theorem dX0_finishedSlide_7 : decode cX0_finishedSlide 7 = .ok (.i2l, 1) := dk_133 (dk_at dksX0_finishedSlide_0 7 rfl rfl)
theorem dX0_finishedSlide_8 : decode cX0_finishedSlide 8 = .ok (.lastore, 1) := dk_80 (dk_at dksX0_finishedSlide_0 8 rfl rfl)
theorem dX0_finishedSlide_9 : decode cX0_finishedSlide 9 = .ok (.goto 6, 3) := dk_167 0 6 (dk_at dksX0_finishedSlide_0 9 rfl rfl)
theorem dX0_finishedSlide_12 : decode cX0_finishedSlide 12 = .ok (.astore_n 3, 1) := dk_78 (dk_at dksX0_finishedSlide_0 12 rfl rfl)
theorem dX0_finishedSlide_13 : decode cX0_finishedSlide 13 = .ok (.iconst 1, 1) := dk_4 (dk_at dksX0_finishedSlide_0 13 rfl rfl)
theorem dX0_finishedSlide_14 : decode cX0_finishedSlide 14 = .ok (.ireturn, 1) := dk_172 (dk_at dksX0_finishedSlide_0 14 rfl rfl)
theorem dX0_finishedSlide_15 : decode cX0_finishedSlide 15 = .ok (.iconst 0, 1) := dk_3 (dk_at dksX0_finishedSlide_0 15 rfl rfl)
theorem dX0_finishedSlide_16 : decode cX0_finishedSlide 16 = .ok (.ireturn, 1) := dk_172 (dk_at dksX0_finishedSlide_0 16 rfl rfl)
abbrev cX0_finishMinute : ByteArray := method_28_code
def yX0_finishMinute : MethodName := ⟨RX0, "finishMinute", "(LSlidePark;I[J)I"⟩
def dkwX0_finishMinute_0 : List UInt8 := [44, 3, 42, 27, 182, 0, 100, 133, 80, 167, 0, 6, 78, 4, 172, 3, 172]
abbrev dktX0_finishMinute_0 : List UInt8 := dkwX0_finishMinute_0 ++ []
theorem dksX0_finishMinute_0 : cX0_finishMinute.data.toList.drop 0 = dktX0_finishMinute_0 := by decide +kernel
theorem dX0_finishMinute_0 : decode cX0_finishMinute 0 = .ok (.aload_n 2, 1) := dk_44 (dk_at dksX0_finishMinute_0 0 rfl rfl)
theorem dX0_finishMinute_1 : decode cX0_finishMinute 1 = .ok (.iconst 0, 1) := dk_3 (dk_at dksX0_finishMinute_0 1 rfl rfl)
theorem dX0_finishMinute_2 : decode cX0_finishMinute 2 = .ok (.aload_n 0, 1) := dk_42 (dk_at dksX0_finishMinute_0 2 rfl rfl)
theorem dX0_finishMinute_3 : decode cX0_finishMinute 3 = .ok (.iload_n 1, 1) := dk_27 (dk_at dksX0_finishMinute_0 3 rfl rfl)
theorem dX0_finishMinute_4 : decode cX0_finishMinute 4 = .ok (.invokevirtual 100, 3) := dk_182 0 100 (dk_at dksX0_finishMinute_0 4 rfl rfl)
theorem dX0_finishMinute_7 : decode cX0_finishMinute 7 = .ok (.i2l, 1) := dk_133 (dk_at dksX0_finishMinute_0 7 rfl rfl)
theorem dX0_finishMinute_8 : decode cX0_finishMinute 8 = .ok (.lastore, 1) := dk_80 (dk_at dksX0_finishMinute_0 8 rfl rfl)
theorem dX0_finishMinute_9 : decode cX0_finishMinute 9 = .ok (.goto 6, 3) := dk_167 0 6 (dk_at dksX0_finishMinute_0 9 rfl rfl)
theorem dX0_finishMinute_12 : decode cX0_finishMinute 12 = .ok (.astore_n 3, 1) := dk_78 (dk_at dksX0_finishMinute_0 12 rfl rfl)
theorem dX0_finishMinute_13 : decode cX0_finishMinute 13 = .ok (.iconst 1, 1) := dk_4 (dk_at dksX0_finishMinute_0 13 rfl rfl)
theorem dX0_finishMinute_14 : decode cX0_finishMinute 14 = .ok (.ireturn, 1) := dk_172 (dk_at dksX0_finishMinute_0 14 rfl rfl)
theorem dX0_finishMinute_15 : decode cX0_finishMinute 15 = .ok (.iconst 0, 1) := dk_3 (dk_at dksX0_finishMinute_0 15 rfl rfl)
theorem dX0_finishMinute_16 : decode cX0_finishMinute 16 = .ok (.ireturn, 1) := dk_172 (dk_at dksX0_finishMinute_0 16 rfl rfl)
abbrev cX0_rides : ByteArray := method_29_code
def yX0_rides : MethodName := ⟨RX0, "rides", "(LSlidePark;I[J)I"⟩
def dkwX0_rides_0 : List UInt8 := [44, 3, 42, 27, 182, 0, 103, 133, 80, 167, 0, 6, 78, 4, 172, 3, 172]
abbrev dktX0_rides_0 : List UInt8 := dkwX0_rides_0 ++ []
theorem dksX0_rides_0 : cX0_rides.data.toList.drop 0 = dktX0_rides_0 := by decide +kernel
theorem dX0_rides_0 : decode cX0_rides 0 = .ok (.aload_n 2, 1) := dk_44 (dk_at dksX0_rides_0 0 rfl rfl)
theorem dX0_rides_1 : decode cX0_rides 1 = .ok (.iconst 0, 1) := dk_3 (dk_at dksX0_rides_0 1 rfl rfl)
theorem dX0_rides_2 : decode cX0_rides 2 = .ok (.aload_n 0, 1) := dk_42 (dk_at dksX0_rides_0 2 rfl rfl)
theorem dX0_rides_3 : decode cX0_rides 3 = .ok (.iload_n 1, 1) := dk_27 (dk_at dksX0_rides_0 3 rfl rfl)
theorem dX0_rides_4 : decode cX0_rides 4 = .ok (.invokevirtual 103, 3) := dk_182 0 103 (dk_at dksX0_rides_0 4 rfl rfl)
theorem dX0_rides_7 : decode cX0_rides 7 = .ok (.i2l, 1) := dk_133 (dk_at dksX0_rides_0 7 rfl rfl)
theorem dX0_rides_8 : decode cX0_rides 8 = .ok (.lastore, 1) := dk_80 (dk_at dksX0_rides_0 8 rfl rfl)
theorem dX0_rides_9 : decode cX0_rides 9 = .ok (.goto 6, 3) := dk_167 0 6 (dk_at dksX0_rides_0 9 rfl rfl)
theorem dX0_rides_12 : decode cX0_rides 12 = .ok (.astore_n 3, 1) := dk_78 (dk_at dksX0_rides_0 12 rfl rfl)
theorem dX0_rides_13 : decode cX0_rides 13 = .ok (.iconst 1, 1) := dk_4 (dk_at dksX0_rides_0 13 rfl rfl)
theorem dX0_rides_14 : decode cX0_rides 14 = .ok (.ireturn, 1) := dk_172 (dk_at dksX0_rides_0 14 rfl rfl)
theorem dX0_rides_15 : decode cX0_rides 15 = .ok (.iconst 0, 1) := dk_3 (dk_at dksX0_rides_0 15 rfl rfl)
theorem dX0_rides_16 : decode cX0_rides 16 = .ok (.ireturn, 1) := dk_172 (dk_at dksX0_rides_0 16 rfl rfl)
abbrev cX0_guestByRides : ByteArray := method_30_code
def yX0_guestByRides : MethodName := ⟨RX0, "guestByRides", "(LSlidePark;I[J)I"⟩
def dkwX0_guestByRides_0 : List UInt8 := [44, 3, 42, 27, 182, 0, 106, 133, 80, 167, 0, 6, 78, 4, 172, 3, 172]
abbrev dktX0_guestByRides_0 : List UInt8 := dkwX0_guestByRides_0 ++ []
theorem dksX0_guestByRides_0 : cX0_guestByRides.data.toList.drop 0 = dktX0_guestByRides_0 := by decide +kernel
theorem dX0_guestByRides_0 : decode cX0_guestByRides 0 = .ok (.aload_n 2, 1) := dk_44 (dk_at dksX0_guestByRides_0 0 rfl rfl)
theorem dX0_guestByRides_1 : decode cX0_guestByRides 1 = .ok (.iconst 0, 1) := dk_3 (dk_at dksX0_guestByRides_0 1 rfl rfl)
theorem dX0_guestByRides_2 : decode cX0_guestByRides 2 = .ok (.aload_n 0, 1) := dk_42 (dk_at dksX0_guestByRides_0 2 rfl rfl)
theorem dX0_guestByRides_3 : decode cX0_guestByRides 3 = .ok (.iload_n 1, 1) := dk_27 (dk_at dksX0_guestByRides_0 3 rfl rfl)
theorem dX0_guestByRides_4 : decode cX0_guestByRides 4 = .ok (.invokevirtual 106, 3) := dk_182 0 106 (dk_at dksX0_guestByRides_0 4 rfl rfl)
theorem dX0_guestByRides_7 : decode cX0_guestByRides 7 = .ok (.i2l, 1) := dk_133 (dk_at dksX0_guestByRides_0 7 rfl rfl)
theorem dX0_guestByRides_8 : decode cX0_guestByRides 8 = .ok (.lastore, 1) := dk_80 (dk_at dksX0_guestByRides_0 8 rfl rfl)
theorem dX0_guestByRides_9 : decode cX0_guestByRides 9 = .ok (.goto 6, 3) := dk_167 0 6 (dk_at dksX0_guestByRides_0 9 rfl rfl)
theorem dX0_guestByRides_12 : decode cX0_guestByRides 12 = .ok (.astore_n 3, 1) := dk_78 (dk_at dksX0_guestByRides_0 12 rfl rfl)
theorem dX0_guestByRides_13 : decode cX0_guestByRides 13 = .ok (.iconst 1, 1) := dk_4 (dk_at dksX0_guestByRides_0 13 rfl rfl)
theorem dX0_guestByRides_14 : decode cX0_guestByRides 14 = .ok (.ireturn, 1) := dk_172 (dk_at dksX0_guestByRides_0 14 rfl rfl)
theorem dX0_guestByRides_15 : decode cX0_guestByRides 15 = .ok (.iconst 0, 1) := dk_3 (dk_at dksX0_guestByRides_0 15 rfl rfl)
theorem dX0_guestByRides_16 : decode cX0_guestByRides 16 = .ok (.ireturn, 1) := dk_172 (dk_at dksX0_guestByRides_0 16 rfl rfl)
abbrev cX0_slideByWetness : ByteArray := method_31_code
def yX0_slideByWetness : MethodName := ⟨RX0, "slideByWetness", "(LSlidePark;I[J)I"⟩
def dkwX0_slideByWetness_0 : List UInt8 := [44, 3, 42, 27, 182, 0, 109, 133, 80, 167, 0, 6, 78, 4, 172, 3, 172]
abbrev dktX0_slideByWetness_0 : List UInt8 := dkwX0_slideByWetness_0 ++ []
theorem dksX0_slideByWetness_0 : cX0_slideByWetness.data.toList.drop 0 = dktX0_slideByWetness_0 := by decide +kernel
theorem dX0_slideByWetness_0 : decode cX0_slideByWetness 0 = .ok (.aload_n 2, 1) := dk_44 (dk_at dksX0_slideByWetness_0 0 rfl rfl)
theorem dX0_slideByWetness_1 : decode cX0_slideByWetness 1 = .ok (.iconst 0, 1) := dk_3 (dk_at dksX0_slideByWetness_0 1 rfl rfl)
theorem dX0_slideByWetness_2 : decode cX0_slideByWetness 2 = .ok (.aload_n 0, 1) := dk_42 (dk_at dksX0_slideByWetness_0 2 rfl rfl)
theorem dX0_slideByWetness_3 : decode cX0_slideByWetness 3 = .ok (.iload_n 1, 1) := dk_27 (dk_at dksX0_slideByWetness_0 3 rfl rfl)
theorem dX0_slideByWetness_4 : decode cX0_slideByWetness 4 = .ok (.invokevirtual 109, 3) := dk_182 0 109 (dk_at dksX0_slideByWetness_0 4 rfl rfl)
theorem dX0_slideByWetness_7 : decode cX0_slideByWetness 7 = .ok (.i2l, 1) := dk_133 (dk_at dksX0_slideByWetness_0 7 rfl rfl)
theorem dX0_slideByWetness_8 : decode cX0_slideByWetness 8 = .ok (.lastore, 1) := dk_80 (dk_at dksX0_slideByWetness_0 8 rfl rfl)
theorem dX0_slideByWetness_9 : decode cX0_slideByWetness 9 = .ok (.goto 6, 3) := dk_167 0 6 (dk_at dksX0_slideByWetness_0 9 rfl rfl)
theorem dX0_slideByWetness_12 : decode cX0_slideByWetness 12 = .ok (.astore_n 3, 1) := dk_78 (dk_at dksX0_slideByWetness_0 12 rfl rfl)
theorem dX0_slideByWetness_13 : decode cX0_slideByWetness 13 = .ok (.iconst 1, 1) := dk_4 (dk_at dksX0_slideByWetness_0 13 rfl rfl)
theorem dX0_slideByWetness_14 : decode cX0_slideByWetness 14 = .ok (.ireturn, 1) := dk_172 (dk_at dksX0_slideByWetness_0 14 rfl rfl)
theorem dX0_slideByWetness_15 : decode cX0_slideByWetness 15 = .ok (.iconst 0, 1) := dk_3 (dk_at dksX0_slideByWetness_0 15 rfl rfl)
theorem dX0_slideByWetness_16 : decode cX0_slideByWetness 16 = .ok (.ireturn, 1) := dk_172 (dk_at dksX0_slideByWetness_0 16 rfl rfl)
abbrev cX0_meanCoins : ByteArray := method_32_code
def yX0_meanCoins : MethodName := ⟨RX0, "meanCoins", "(LSlidePark;[D)I"⟩
def dkwX0_meanCoins_0 : List UInt8 := [43, 3, 42, 182, 0, 112, 82, 167, 0, 6, 77, 4, 172, 3, 172]
abbrev dktX0_meanCoins_0 : List UInt8 := dkwX0_meanCoins_0 ++ []
theorem dksX0_meanCoins_0 : cX0_meanCoins.data.toList.drop 0 = dktX0_meanCoins_0 := by decide +kernel
theorem dX0_meanCoins_0 : decode cX0_meanCoins 0 = .ok (.aload_n 1, 1) := dk_43 (dk_at dksX0_meanCoins_0 0 rfl rfl)
theorem dX0_meanCoins_1 : decode cX0_meanCoins 1 = .ok (.iconst 0, 1) := dk_3 (dk_at dksX0_meanCoins_0 1 rfl rfl)
theorem dX0_meanCoins_2 : decode cX0_meanCoins 2 = .ok (.aload_n 0, 1) := dk_42 (dk_at dksX0_meanCoins_0 2 rfl rfl)
theorem dX0_meanCoins_3 : decode cX0_meanCoins 3 = .ok (.invokevirtual 112, 3) := dk_182 0 112 (dk_at dksX0_meanCoins_0 3 rfl rfl)
theorem dX0_meanCoins_6 : decode cX0_meanCoins 6 = .ok (.dastore, 1) := dk_82 (dk_at dksX0_meanCoins_0 6 rfl rfl)
theorem dX0_meanCoins_7 : decode cX0_meanCoins 7 = .ok (.goto 6, 3) := dk_167 0 6 (dk_at dksX0_meanCoins_0 7 rfl rfl)
theorem dX0_meanCoins_10 : decode cX0_meanCoins 10 = .ok (.astore_n 2, 1) := dk_77 (dk_at dksX0_meanCoins_0 10 rfl rfl)
theorem dX0_meanCoins_11 : decode cX0_meanCoins 11 = .ok (.iconst 1, 1) := dk_4 (dk_at dksX0_meanCoins_0 11 rfl rfl)
theorem dX0_meanCoins_12 : decode cX0_meanCoins 12 = .ok (.ireturn, 1) := dk_172 (dk_at dksX0_meanCoins_0 12 rfl rfl)
theorem dX0_meanCoins_13 : decode cX0_meanCoins 13 = .ok (.iconst 0, 1) := dk_3 (dk_at dksX0_meanCoins_0 13 rfl rfl)
theorem dX0_meanCoins_14 : decode cX0_meanCoins 14 = .ok (.ireturn, 1) := dk_172 (dk_at dksX0_meanCoins_0 14 rfl rfl)
abbrev cX0_busyShare : ByteArray := method_33_code
def yX0_busyShare : MethodName := ⟨RX0, "busyShare", "(LSlidePark;[D)I"⟩
def dkwX0_busyShare_0 : List UInt8 := [43, 3, 42, 182, 0, 118, 141, 82, 167, 0, 6, 77, 4, 172, 3, 172]
abbrev dktX0_busyShare_0 : List UInt8 := dkwX0_busyShare_0 ++ []
theorem dksX0_busyShare_0 : cX0_busyShare.data.toList.drop 0 = dktX0_busyShare_0 := by decide +kernel
theorem dX0_busyShare_0 : decode cX0_busyShare 0 = .ok (.aload_n 1, 1) := dk_43 (dk_at dksX0_busyShare_0 0 rfl rfl)
theorem dX0_busyShare_1 : decode cX0_busyShare 1 = .ok (.iconst 0, 1) := dk_3 (dk_at dksX0_busyShare_0 1 rfl rfl)
theorem dX0_busyShare_2 : decode cX0_busyShare 2 = .ok (.aload_n 0, 1) := dk_42 (dk_at dksX0_busyShare_0 2 rfl rfl)
theorem dX0_busyShare_3 : decode cX0_busyShare 3 = .ok (.invokevirtual 118, 3) := dk_182 0 118 (dk_at dksX0_busyShare_0 3 rfl rfl)
theorem dX0_busyShare_6 : decode cX0_busyShare 6 = .ok (.f2d, 1) := dk_141 (dk_at dksX0_busyShare_0 6 rfl rfl)
theorem dX0_busyShare_7 : decode cX0_busyShare 7 = .ok (.dastore, 1) := dk_82 (dk_at dksX0_busyShare_0 7 rfl rfl)
theorem dX0_busyShare_8 : decode cX0_busyShare 8 = .ok (.goto 6, 3) := dk_167 0 6 (dk_at dksX0_busyShare_0 8 rfl rfl)
theorem dX0_busyShare_11 : decode cX0_busyShare 11 = .ok (.astore_n 2, 1) := dk_77 (dk_at dksX0_busyShare_0 11 rfl rfl)
theorem dX0_busyShare_12 : decode cX0_busyShare 12 = .ok (.iconst 1, 1) := dk_4 (dk_at dksX0_busyShare_0 12 rfl rfl)
theorem dX0_busyShare_13 : decode cX0_busyShare 13 = .ok (.ireturn, 1) := dk_172 (dk_at dksX0_busyShare_0 13 rfl rfl)
theorem dX0_busyShare_14 : decode cX0_busyShare 14 = .ok (.iconst 0, 1) := dk_3 (dk_at dksX0_busyShare_0 14 rfl rfl)
theorem dX0_busyShare_15 : decode cX0_busyShare 15 = .ok (.ireturn, 1) := dk_172 (dk_at dksX0_busyShare_0 15 rfl rfl)
abbrev cX0_feed : ByteArray := method_34_code
def yX0_feed : MethodName := ⟨RX0, "feed", "(LSlidePark;C[J)I"⟩
def dkwX0_feed_0 : List UInt8 := [44, 3, 42, 27, 182, 0, 122, 133, 80, 167, 0, 6, 78, 4, 172, 3, 172]
abbrev dktX0_feed_0 : List UInt8 := dkwX0_feed_0 ++ []
theorem dksX0_feed_0 : cX0_feed.data.toList.drop 0 = dktX0_feed_0 := by decide +kernel
theorem dX0_feed_0 : decode cX0_feed 0 = .ok (.aload_n 2, 1) := dk_44 (dk_at dksX0_feed_0 0 rfl rfl)
theorem dX0_feed_1 : decode cX0_feed 1 = .ok (.iconst 0, 1) := dk_3 (dk_at dksX0_feed_0 1 rfl rfl)
theorem dX0_feed_2 : decode cX0_feed 2 = .ok (.aload_n 0, 1) := dk_42 (dk_at dksX0_feed_0 2 rfl rfl)
theorem dX0_feed_3 : decode cX0_feed 3 = .ok (.iload_n 1, 1) := dk_27 (dk_at dksX0_feed_0 3 rfl rfl)
theorem dX0_feed_4 : decode cX0_feed 4 = .ok (.invokevirtual 122, 3) := dk_182 0 122 (dk_at dksX0_feed_0 4 rfl rfl)
theorem dX0_feed_7 : decode cX0_feed 7 = .ok (.i2l, 1) := dk_133 (dk_at dksX0_feed_0 7 rfl rfl)
theorem dX0_feed_8 : decode cX0_feed 8 = .ok (.lastore, 1) := dk_80 (dk_at dksX0_feed_0 8 rfl rfl)
theorem dX0_feed_9 : decode cX0_feed 9 = .ok (.goto 6, 3) := dk_167 0 6 (dk_at dksX0_feed_0 9 rfl rfl)
theorem dX0_feed_12 : decode cX0_feed 12 = .ok (.astore_n 3, 1) := dk_78 (dk_at dksX0_feed_0 12 rfl rfl)
theorem dX0_feed_13 : decode cX0_feed 13 = .ok (.iconst 1, 1) := dk_4 (dk_at dksX0_feed_0 13 rfl rfl)
theorem dX0_feed_14 : decode cX0_feed 14 = .ok (.ireturn, 1) := dk_172 (dk_at dksX0_feed_0 14 rfl rfl)
theorem dX0_feed_15 : decode cX0_feed 15 = .ok (.iconst 0, 1) := dk_3 (dk_at dksX0_feed_0 15 rfl rfl)
theorem dX0_feed_16 : decode cX0_feed 16 = .ok (.ireturn, 1) := dk_172 (dk_at dksX0_feed_0 16 rfl rfl)
abbrev cX0_runCommands : ByteArray := method_35_code
def yX0_runCommands : MethodName := ⟨RX0, "runCommands", "(LSlidePark;[J)I"⟩
def dkwX0_runCommands_0 : List UInt8 := [43, 3, 42, 182, 0, 126, 133, 80, 167, 0, 9, 77, 4, 172, 77, 5, 172, 3, 172]
abbrev dktX0_runCommands_0 : List UInt8 := dkwX0_runCommands_0 ++ []
theorem dksX0_runCommands_0 : cX0_runCommands.data.toList.drop 0 = dktX0_runCommands_0 := by decide +kernel
theorem dX0_runCommands_0 : decode cX0_runCommands 0 = .ok (.aload_n 1, 1) := dk_43 (dk_at dksX0_runCommands_0 0 rfl rfl)
theorem dX0_runCommands_1 : decode cX0_runCommands 1 = .ok (.iconst 0, 1) := dk_3 (dk_at dksX0_runCommands_0 1 rfl rfl)
theorem dX0_runCommands_2 : decode cX0_runCommands 2 = .ok (.aload_n 0, 1) := dk_42 (dk_at dksX0_runCommands_0 2 rfl rfl)
theorem dX0_runCommands_3 : decode cX0_runCommands 3 = .ok (.invokevirtual 126, 3) := dk_182 0 126 (dk_at dksX0_runCommands_0 3 rfl rfl)
theorem dX0_runCommands_6 : decode cX0_runCommands 6 = .ok (.i2l, 1) := dk_133 (dk_at dksX0_runCommands_0 6 rfl rfl)
theorem dX0_runCommands_7 : decode cX0_runCommands 7 = .ok (.lastore, 1) := dk_80 (dk_at dksX0_runCommands_0 7 rfl rfl)
theorem dX0_runCommands_8 : decode cX0_runCommands 8 = .ok (.goto 9, 3) := dk_167 0 9 (dk_at dksX0_runCommands_0 8 rfl rfl)
theorem dX0_runCommands_11 : decode cX0_runCommands 11 = .ok (.astore_n 2, 1) := dk_77 (dk_at dksX0_runCommands_0 11 rfl rfl)
theorem dX0_runCommands_12 : decode cX0_runCommands 12 = .ok (.iconst 1, 1) := dk_4 (dk_at dksX0_runCommands_0 12 rfl rfl)
theorem dX0_runCommands_13 : decode cX0_runCommands 13 = .ok (.ireturn, 1) := dk_172 (dk_at dksX0_runCommands_0 13 rfl rfl)
theorem dX0_runCommands_14 : decode cX0_runCommands 14 = .ok (.astore_n 2, 1) := dk_77 (dk_at dksX0_runCommands_0 14 rfl rfl)
theorem dX0_runCommands_15 : decode cX0_runCommands 15 = .ok (.iconst 2, 1) := dk_5 (dk_at dksX0_runCommands_0 15 rfl rfl)
theorem dX0_runCommands_16 : decode cX0_runCommands 16 = .ok (.ireturn, 1) := dk_172 (dk_at dksX0_runCommands_0 16 rfl rfl)
theorem dX0_runCommands_17 : decode cX0_runCommands 17 = .ok (.iconst 0, 1) := dk_3 (dk_at dksX0_runCommands_0 17 rfl rfl)
theorem dX0_runCommands_18 : decode cX0_runCommands 18 = .ok (.ireturn, 1) := dk_172 (dk_at dksX0_runCommands_0 18 rfl rfl)
abbrev cX0_errorPosition : ByteArray := method_36_code
def yX0_errorPosition : MethodName := ⟨RX0, "errorPosition", "(LSlidePark;[J)I"⟩
def dkwX0_errorPosition_0 : List UInt8 := [43, 3, 42, 182, 0, 129, 133, 80, 167, 0, 6, 77, 4, 172, 3, 172]
abbrev dktX0_errorPosition_0 : List UInt8 := dkwX0_errorPosition_0 ++ []
theorem dksX0_errorPosition_0 : cX0_errorPosition.data.toList.drop 0 = dktX0_errorPosition_0 := by decide +kernel
theorem dX0_errorPosition_0 : decode cX0_errorPosition 0 = .ok (.aload_n 1, 1) := dk_43 (dk_at dksX0_errorPosition_0 0 rfl rfl)
theorem dX0_errorPosition_1 : decode cX0_errorPosition 1 = .ok (.iconst 0, 1) := dk_3 (dk_at dksX0_errorPosition_0 1 rfl rfl)
theorem dX0_errorPosition_2 : decode cX0_errorPosition 2 = .ok (.aload_n 0, 1) := dk_42 (dk_at dksX0_errorPosition_0 2 rfl rfl)
theorem dX0_errorPosition_3 : decode cX0_errorPosition 3 = .ok (.invokevirtual 129, 3) := dk_182 0 129 (dk_at dksX0_errorPosition_0 3 rfl rfl)
theorem dX0_errorPosition_6 : decode cX0_errorPosition 6 = .ok (.i2l, 1) := dk_133 (dk_at dksX0_errorPosition_0 6 rfl rfl)
theorem dX0_errorPosition_7 : decode cX0_errorPosition 7 = .ok (.lastore, 1) := dk_80 (dk_at dksX0_errorPosition_0 7 rfl rfl)
theorem dX0_errorPosition_8 : decode cX0_errorPosition 8 = .ok (.goto 6, 3) := dk_167 0 6 (dk_at dksX0_errorPosition_0 8 rfl rfl)
theorem dX0_errorPosition_11 : decode cX0_errorPosition 11 = .ok (.astore_n 2, 1) := dk_77 (dk_at dksX0_errorPosition_0 11 rfl rfl)
theorem dX0_errorPosition_12 : decode cX0_errorPosition 12 = .ok (.iconst 1, 1) := dk_4 (dk_at dksX0_errorPosition_0 12 rfl rfl)
theorem dX0_errorPosition_13 : decode cX0_errorPosition 13 = .ok (.ireturn, 1) := dk_172 (dk_at dksX0_errorPosition_0 13 rfl rfl)
theorem dX0_errorPosition_14 : decode cX0_errorPosition 14 = .ok (.iconst 0, 1) := dk_3 (dk_at dksX0_errorPosition_0 14 rfl rfl)
theorem dX0_errorPosition_15 : decode cX0_errorPosition 15 = .ok (.ireturn, 1) := dk_172 (dk_at dksX0_errorPosition_0 15 rfl rfl)
abbrev cX0_failedCommand : ByteArray := method_37_code
def yX0_failedCommand : MethodName := ⟨RX0, "failedCommand", "(LSlidePark;[J)I"⟩
def dkwX0_failedCommand_0 : List UInt8 := [43, 3, 42, 182, 0, 132, 133, 80, 167, 0, 6, 77, 4, 172, 3, 172]
abbrev dktX0_failedCommand_0 : List UInt8 := dkwX0_failedCommand_0 ++ []
theorem dksX0_failedCommand_0 : cX0_failedCommand.data.toList.drop 0 = dktX0_failedCommand_0 := by decide +kernel
theorem dX0_failedCommand_0 : decode cX0_failedCommand 0 = .ok (.aload_n 1, 1) := dk_43 (dk_at dksX0_failedCommand_0 0 rfl rfl)
theorem dX0_failedCommand_1 : decode cX0_failedCommand 1 = .ok (.iconst 0, 1) := dk_3 (dk_at dksX0_failedCommand_0 1 rfl rfl)
theorem dX0_failedCommand_2 : decode cX0_failedCommand 2 = .ok (.aload_n 0, 1) := dk_42 (dk_at dksX0_failedCommand_0 2 rfl rfl)
theorem dX0_failedCommand_3 : decode cX0_failedCommand 3 = .ok (.invokevirtual 132, 3) := dk_182 0 132 (dk_at dksX0_failedCommand_0 3 rfl rfl)
theorem dX0_failedCommand_6 : decode cX0_failedCommand 6 = .ok (.i2l, 1) := dk_133 (dk_at dksX0_failedCommand_0 6 rfl rfl)
theorem dX0_failedCommand_7 : decode cX0_failedCommand 7 = .ok (.lastore, 1) := dk_80 (dk_at dksX0_failedCommand_0 7 rfl rfl)
theorem dX0_failedCommand_8 : decode cX0_failedCommand 8 = .ok (.goto 6, 3) := dk_167 0 6 (dk_at dksX0_failedCommand_0 8 rfl rfl)
theorem dX0_failedCommand_11 : decode cX0_failedCommand 11 = .ok (.astore_n 2, 1) := dk_77 (dk_at dksX0_failedCommand_0 11 rfl rfl)
theorem dX0_failedCommand_12 : decode cX0_failedCommand 12 = .ok (.iconst 1, 1) := dk_4 (dk_at dksX0_failedCommand_0 12 rfl rfl)
theorem dX0_failedCommand_13 : decode cX0_failedCommand 13 = .ok (.ireturn, 1) := dk_172 (dk_at dksX0_failedCommand_0 13 rfl rfl)
theorem dX0_failedCommand_14 : decode cX0_failedCommand 14 = .ok (.iconst 0, 1) := dk_3 (dk_at dksX0_failedCommand_0 14 rfl rfl)
theorem dX0_failedCommand_15 : decode cX0_failedCommand 15 = .ok (.ireturn, 1) := dk_172 (dk_at dksX0_failedCommand_0 15 rfl rfl)
abbrev cX0_writeSlide : ByteArray := method_38_code
def yX0_writeSlide : MethodName := ⟨RX0, "writeSlide", "(LSlidePark;I[J)I"⟩
def dkwX0_writeSlide_0 : List UInt8 := [44, 3, 42, 27, 182, 0, 135, 133, 80, 167, 0, 6, 78, 4, 172, 3, 172]
abbrev dktX0_writeSlide_0 : List UInt8 := dkwX0_writeSlide_0 ++ []
theorem dksX0_writeSlide_0 : cX0_writeSlide.data.toList.drop 0 = dktX0_writeSlide_0 := by decide +kernel
theorem dX0_writeSlide_0 : decode cX0_writeSlide 0 = .ok (.aload_n 2, 1) := dk_44 (dk_at dksX0_writeSlide_0 0 rfl rfl)
theorem dX0_writeSlide_1 : decode cX0_writeSlide 1 = .ok (.iconst 0, 1) := dk_3 (dk_at dksX0_writeSlide_0 1 rfl rfl)
theorem dX0_writeSlide_2 : decode cX0_writeSlide 2 = .ok (.aload_n 0, 1) := dk_42 (dk_at dksX0_writeSlide_0 2 rfl rfl)
theorem dX0_writeSlide_3 : decode cX0_writeSlide 3 = .ok (.iload_n 1, 1) := dk_27 (dk_at dksX0_writeSlide_0 3 rfl rfl)
theorem dX0_writeSlide_4 : decode cX0_writeSlide 4 = .ok (.invokevirtual 135, 3) := dk_182 0 135 (dk_at dksX0_writeSlide_0 4 rfl rfl)
theorem dX0_writeSlide_7 : decode cX0_writeSlide 7 = .ok (.i2l, 1) := dk_133 (dk_at dksX0_writeSlide_0 7 rfl rfl)
theorem dX0_writeSlide_8 : decode cX0_writeSlide 8 = .ok (.lastore, 1) := dk_80 (dk_at dksX0_writeSlide_0 8 rfl rfl)
theorem dX0_writeSlide_9 : decode cX0_writeSlide 9 = .ok (.goto 6, 3) := dk_167 0 6 (dk_at dksX0_writeSlide_0 9 rfl rfl)
theorem dX0_writeSlide_12 : decode cX0_writeSlide 12 = .ok (.astore_n 3, 1) := dk_78 (dk_at dksX0_writeSlide_0 12 rfl rfl)
theorem dX0_writeSlide_13 : decode cX0_writeSlide 13 = .ok (.iconst 1, 1) := dk_4 (dk_at dksX0_writeSlide_0 13 rfl rfl)
theorem dX0_writeSlide_14 : decode cX0_writeSlide 14 = .ok (.ireturn, 1) := dk_172 (dk_at dksX0_writeSlide_0 14 rfl rfl)
theorem dX0_writeSlide_15 : decode cX0_writeSlide 15 = .ok (.iconst 0, 1) := dk_3 (dk_at dksX0_writeSlide_0 15 rfl rfl)
theorem dX0_writeSlide_16 : decode cX0_writeSlide 16 = .ok (.ireturn, 1) := dk_172 (dk_at dksX0_writeSlide_0 16 rfl rfl)
abbrev cX0_outputChar : ByteArray := method_39_code
def yX0_outputChar : MethodName := ⟨RX0, "outputChar", "(LSlidePark;I[J)I"⟩
def dkwX0_outputChar_0 : List UInt8 := [44, 3, 42, 27, 182, 0, 138, 133, 80, 167, 0, 6, 78, 4, 172, 3, 172]
abbrev dktX0_outputChar_0 : List UInt8 := dkwX0_outputChar_0 ++ []
theorem dksX0_outputChar_0 : cX0_outputChar.data.toList.drop 0 = dktX0_outputChar_0 := by decide +kernel
theorem dX0_outputChar_0 : decode cX0_outputChar 0 = .ok (.aload_n 2, 1) := dk_44 (dk_at dksX0_outputChar_0 0 rfl rfl)
theorem dX0_outputChar_1 : decode cX0_outputChar 1 = .ok (.iconst 0, 1) := dk_3 (dk_at dksX0_outputChar_0 1 rfl rfl)
theorem dX0_outputChar_2 : decode cX0_outputChar 2 = .ok (.aload_n 0, 1) := dk_42 (dk_at dksX0_outputChar_0 2 rfl rfl)
theorem dX0_outputChar_3 : decode cX0_outputChar 3 = .ok (.iload_n 1, 1) := dk_27 (dk_at dksX0_outputChar_0 3 rfl rfl)
theorem dX0_outputChar_4 : decode cX0_outputChar 4 = .ok (.invokevirtual 138, 3) := dk_182 0 138 (dk_at dksX0_outputChar_0 4 rfl rfl)
theorem dX0_outputChar_7 : decode cX0_outputChar 7 = .ok (.i2l, 1) := dk_133 (dk_at dksX0_outputChar_0 7 rfl rfl)
theorem dX0_outputChar_8 : decode cX0_outputChar 8 = .ok (.lastore, 1) := dk_80 (dk_at dksX0_outputChar_0 8 rfl rfl)
theorem dX0_outputChar_9 : decode cX0_outputChar 9 = .ok (.goto 6, 3) := dk_167 0 6 (dk_at dksX0_outputChar_0 9 rfl rfl)
theorem dX0_outputChar_12 : decode cX0_outputChar 12 = .ok (.astore_n 3, 1) := dk_78 (dk_at dksX0_outputChar_0 12 rfl rfl)
theorem dX0_outputChar_13 : decode cX0_outputChar 13 = .ok (.iconst 1, 1) := dk_4 (dk_at dksX0_outputChar_0 13 rfl rfl)
theorem dX0_outputChar_14 : decode cX0_outputChar 14 = .ok (.ireturn, 1) := dk_172 (dk_at dksX0_outputChar_0 14 rfl rfl)
theorem dX0_outputChar_15 : decode cX0_outputChar 15 = .ok (.iconst 0, 1) := dk_3 (dk_at dksX0_outputChar_0 15 rfl rfl)
theorem dX0_outputChar_16 : decode cX0_outputChar 16 = .ok (.ireturn, 1) := dk_172 (dk_at dksX0_outputChar_0 16 rfl rfl)
abbrev cX0_undo : ByteArray := method_40_code
def yX0_undo : MethodName := ⟨RX0, "undo", "(LSlidePark;[J)I"⟩
def dkwX0_undo_0 : List UInt8 := [43, 3, 42, 182, 0, 142, 133, 80, 167, 0, 6, 77, 4, 172, 3, 172]
abbrev dktX0_undo_0 : List UInt8 := dkwX0_undo_0 ++ []
theorem dksX0_undo_0 : cX0_undo.data.toList.drop 0 = dktX0_undo_0 := by decide +kernel
theorem dX0_undo_0 : decode cX0_undo 0 = .ok (.aload_n 1, 1) := dk_43 (dk_at dksX0_undo_0 0 rfl rfl)
theorem dX0_undo_1 : decode cX0_undo 1 = .ok (.iconst 0, 1) := dk_3 (dk_at dksX0_undo_0 1 rfl rfl)
theorem dX0_undo_2 : decode cX0_undo 2 = .ok (.aload_n 0, 1) := dk_42 (dk_at dksX0_undo_0 2 rfl rfl)
theorem dX0_undo_3 : decode cX0_undo 3 = .ok (.invokevirtual 142, 3) := dk_182 0 142 (dk_at dksX0_undo_0 3 rfl rfl)
theorem dX0_undo_6 : decode cX0_undo 6 = .ok (.i2l, 1) := dk_133 (dk_at dksX0_undo_0 6 rfl rfl)
theorem dX0_undo_7 : decode cX0_undo 7 = .ok (.lastore, 1) := dk_80 (dk_at dksX0_undo_0 7 rfl rfl)
theorem dX0_undo_8 : decode cX0_undo 8 = .ok (.goto 6, 3) := dk_167 0 6 (dk_at dksX0_undo_0 8 rfl rfl)
theorem dX0_undo_11 : decode cX0_undo 11 = .ok (.astore_n 2, 1) := dk_77 (dk_at dksX0_undo_0 11 rfl rfl)
theorem dX0_undo_12 : decode cX0_undo 12 = .ok (.iconst 1, 1) := dk_4 (dk_at dksX0_undo_0 12 rfl rfl)
theorem dX0_undo_13 : decode cX0_undo 13 = .ok (.ireturn, 1) := dk_172 (dk_at dksX0_undo_0 13 rfl rfl)
theorem dX0_undo_14 : decode cX0_undo 14 = .ok (.iconst 0, 1) := dk_3 (dk_at dksX0_undo_0 14 rfl rfl)
theorem dX0_undo_15 : decode cX0_undo 15 = .ok (.ireturn, 1) := dk_172 (dk_at dksX0_undo_0 15 rfl rfl)
abbrev cX0_restore : ByteArray := method_41_code
def yX0_restore : MethodName := ⟨RX0, "restore", "(LSlidePark;[J)I"⟩
def dkwX0_restore_0 : List UInt8 := [43, 3, 42, 182, 0, 145, 133, 80, 167, 0, 6, 77, 4, 172, 3, 172]
abbrev dktX0_restore_0 : List UInt8 := dkwX0_restore_0 ++ []
theorem dksX0_restore_0 : cX0_restore.data.toList.drop 0 = dktX0_restore_0 := by decide +kernel
theorem dX0_restore_0 : decode cX0_restore 0 = .ok (.aload_n 1, 1) := dk_43 (dk_at dksX0_restore_0 0 rfl rfl)
theorem dX0_restore_1 : decode cX0_restore 1 = .ok (.iconst 0, 1) := dk_3 (dk_at dksX0_restore_0 1 rfl rfl)
theorem dX0_restore_2 : decode cX0_restore 2 = .ok (.aload_n 0, 1) := dk_42 (dk_at dksX0_restore_0 2 rfl rfl)
theorem dX0_restore_3 : decode cX0_restore 3 = .ok (.invokevirtual 145, 3) := dk_182 0 145 (dk_at dksX0_restore_0 3 rfl rfl)
theorem dX0_restore_6 : decode cX0_restore 6 = .ok (.i2l, 1) := dk_133 (dk_at dksX0_restore_0 6 rfl rfl)
theorem dX0_restore_7 : decode cX0_restore 7 = .ok (.lastore, 1) := dk_80 (dk_at dksX0_restore_0 7 rfl rfl)
theorem dX0_restore_8 : decode cX0_restore 8 = .ok (.goto 6, 3) := dk_167 0 6 (dk_at dksX0_restore_0 8 rfl rfl)
theorem dX0_restore_11 : decode cX0_restore 11 = .ok (.astore_n 2, 1) := dk_77 (dk_at dksX0_restore_0 11 rfl rfl)
theorem dX0_restore_12 : decode cX0_restore 12 = .ok (.iconst 1, 1) := dk_4 (dk_at dksX0_restore_0 12 rfl rfl)
theorem dX0_restore_13 : decode cX0_restore 13 = .ok (.ireturn, 1) := dk_172 (dk_at dksX0_restore_0 13 rfl rfl)
theorem dX0_restore_14 : decode cX0_restore 14 = .ok (.iconst 0, 1) := dk_3 (dk_at dksX0_restore_0 14 rfl rfl)
theorem dX0_restore_15 : decode cX0_restore 15 = .ok (.ireturn, 1) := dk_172 (dk_at dksX0_restore_0 15 rfl rfl)
theorem q65 : (Jvm.Cond.initialized "SlideParkLaw") ∈ lw_all := lw_g (lw_at lw_m1 0 rfl) rfl
theorem q106 : (Jvm.Cond.classLink "SlideParkLaw" (8 : Nat) "SlidePark") ∈ lw_all := lw_g (lw_at lw_m1 41 rfl) rfl
theorem q108 : (Jvm.Cond.methodLink "SlideParkLaw" (148 : Nat) ({ cls := "SlidePark", name := "<init>", desc := "()V" } : Jvm.MethodName)) ∈ lw_all := lw_g (lw_at lw_m1 43 rfl) rfl
theorem q261 : (Jvm.Cond.methodLink "SlideParkLaw" (182 : Nat) ({ cls := "SlidePark", name := "minute", desc := "()I" } : Jvm.MethodName)) ∈ lw_all := lw_g (lw_at lw_m1 196 rfl) rfl
theorem q265 : (Jvm.Cond.methodLink "SlideParkLaw" (186 : Nat) ({ cls := "SlidePark", name := "slideCount", desc := "()I" } : Jvm.MethodName)) ∈ lw_all := lw_g (lw_at lw_m1 200 rfl) rfl
theorem q273 : (Jvm.Cond.methodLink "SlideParkLaw" (202 : Nat) ({ cls := "SlidePark", name := "guestCount", desc := "()I" } : Jvm.MethodName)) ∈ lw_all := lw_g (lw_at lw_m1 208 rfl) rfl
theorem q277 : (Jvm.Cond.methodLink "SlideParkLaw" (218 : Nat) ({ cls := "SlidePark", name := "bookingCount", desc := "()I" } : Jvm.MethodName)) ∈ lw_all := lw_g (lw_at lw_m1 212 rfl) rfl
theorem q281 : (Jvm.Cond.methodLink "SlideParkLaw" (246 : Nat) ({ cls := "SlidePark", name := "mostWatched", desc := "()I" } : Jvm.MethodName)) ∈ lw_all := lw_g (lw_at lw_m1 216 rfl) rfl
theorem q309 : (Jvm.Cond.methodLink "SlideParkLaw" (250 : Nat) ({ cls := "SlidePark", name := "mostWatchedByTable", desc := "()I" } : Jvm.MethodName)) ∈ lw_all := lw_g (lw_at lw_m2 4 rfl) rfl
theorem q433 : (Jvm.Cond.methodLink "SlideParkLaw" (254 : Nat) ({ cls := "SlidePark", name := "mostAtOnce", desc := "()I" } : Jvm.MethodName)) ∈ lw_all := lw_g (lw_at lw_m2 128 rfl) rfl
theorem q448 : (Jvm.Cond.methodLink "SlideParkLaw" (258 : Nat) ({ cls := "SlidePark", name := "mostAtOnceBySweep", desc := "()I" } : Jvm.MethodName)) ∈ lw_all := lw_g (lw_at lw_m2 143 rfl) rfl
theorem q456 : (Jvm.Cond.methodLink "SlideParkLaw" (262 : Nat) ({ cls := "SlidePark", name := "finishCount", desc := "()I" } : Jvm.MethodName)) ∈ lw_all := lw_g (lw_at lw_m2 151 rfl) rfl
theorem q465 : (Jvm.Cond.methodLink "SlideParkLaw" (275 : Nat) ({ cls := "SlidePark", name := "photoFinishes", desc := "()I" } : Jvm.MethodName)) ∈ lw_all := lw_g (lw_at lw_m2 160 rfl) rfl
theorem q480 : (Jvm.Cond.methodLink "SlideParkLaw" (279 : Nat) ({ cls := "SlidePark", name := "photoFinishesByRuns", desc := "()I" } : Jvm.MethodName)) ∈ lw_all := lw_g (lw_at lw_m2 175 rfl) rfl
theorem q488 : (Jvm.Cond.methodLink "SlideParkLaw" (283 : Nat) ({ cls := "SlidePark", name := "splashes", desc := "()I" } : Jvm.MethodName)) ∈ lw_all := lw_g (lw_at lw_m2 183 rfl) rfl
theorem q492 : (Jvm.Cond.methodLink "SlideParkLaw" (287 : Nat) ({ cls := "SlidePark", name := "refundedCoins", desc := "()I" } : Jvm.MethodName)) ∈ lw_all := lw_g (lw_at lw_m2 187 rfl) rfl
theorem q496 : (Jvm.Cond.methodLink "SlideParkLaw" (291 : Nat) ({ cls := "SlidePark", name := "officeCoins", desc := "()I" } : Jvm.MethodName)) ∈ lw_all := lw_g (lw_at lw_m2 191 rfl) rfl
theorem q500 : (Jvm.Cond.methodLink "SlideParkLaw" (311 : Nat) ({ cls := "SlidePark", name := "isConsistent", desc := "()Z" } : Jvm.MethodName)) ∈ lw_all := lw_g (lw_at lw_m2 195 rfl) rfl
theorem q557 : (Jvm.Cond.methodLink "SlideParkLaw" (335 : Nat) ({ cls := "SlidePark", name := "undoCount", desc := "()I" } : Jvm.MethodName)) ∈ lw_all := lw_g (lw_at lw_m3 12 rfl) rfl
theorem q561 : (Jvm.Cond.methodLink "SlideParkLaw" (342 : Nat) ({ cls := "SlidePark", name := "save", desc := "()I" } : Jvm.MethodName)) ∈ lw_all := lw_g (lw_at lw_m3 16 rfl) rfl
theorem q759 : (Jvm.Cond.methodLink "SlideParkLaw" (152 : Nat) ({ cls := "SlideParkLaw", name := "buildSlide", desc := "(LSlidePark;II[J)I" } : Jvm.MethodName)) ∈ lw_all := lw_g (lw_at lw_m3 214 rfl) rfl
theorem q760 : (Jvm.Cond.static ({ cls := "SlideParkLaw", name := "buildSlide", desc := "(LSlidePark;II[J)I" } : Jvm.MethodName)) ∈ lw_all := lw_g (lw_at lw_m3 215 rfl) rfl
theorem q761 : (Jvm.Cond.codeWith ({ cls := "SlideParkLaw", name := "buildSlide", desc := "(LSlidePark;II[J)I" } : Jvm.MethodName) method_3_code (5 : Nat) (Option.some Jvm.ClassFile.FieldType.int) [((0 : Nat), (10 : Nat), (13 : Nat), (13 : Nat)), ((0 : Nat), (10 : Nat), (17 : Nat), (15 : Nat))]) ∈ lw_all := lw_g (lw_at lw_m3 216 rfl) rfl
theorem q762 : (Jvm.Cond.classLink "SlideParkLaw" (13 : Nat) "java/lang/IllegalArgumentException") ∈ lw_all := lw_g (lw_at lw_m3 217 rfl) rfl
theorem q763 : (Jvm.Cond.classLink "SlideParkLaw" (15 : Nat) "java/lang/IllegalStateException") ∈ lw_all := lw_g (lw_at lw_m3 218 rfl) rfl
theorem q764 : (Jvm.Cond.methodLink "SlideParkLaw" (7 : Nat) ({ cls := "SlidePark", name := "buildSlide", desc := "(II)I" } : Jvm.MethodName)) ∈ lw_all := lw_g (lw_at lw_m3 219 rfl) rfl
theorem q830 : (Jvm.Cond.methodLink "SlideParkLaw" (161 : Nat) ({ cls := "SlideParkLaw", name := "addGuest", desc := "(LSlidePark;[J)I" } : Jvm.MethodName)) ∈ lw_all := lw_g (lw_at lw_m4 45 rfl) rfl
theorem q831 : (Jvm.Cond.static ({ cls := "SlideParkLaw", name := "addGuest", desc := "(LSlidePark;[J)I" } : Jvm.MethodName)) ∈ lw_all := lw_g (lw_at lw_m4 46 rfl) rfl
theorem q832 : (Jvm.Cond.codeWith ({ cls := "SlideParkLaw", name := "addGuest", desc := "(LSlidePark;[J)I" } : Jvm.MethodName) method_4_code (3 : Nat) (Option.some Jvm.ClassFile.FieldType.int) [((0 : Nat), (8 : Nat), (11 : Nat), (15 : Nat))]) ∈ lw_all := lw_g (lw_at lw_m4 47 rfl) rfl
theorem q833 : (Jvm.Cond.methodLink "SlideParkLaw" (17 : Nat) ({ cls := "SlidePark", name := "addGuest", desc := "()I" } : Jvm.MethodName)) ∈ lw_all := lw_g (lw_at lw_m4 48 rfl) rfl
theorem q843 : (Jvm.Cond.methodLink "SlideParkLaw" (165 : Nat) ({ cls := "SlideParkLaw", name := "book", desc := "(LSlidePark;III[J)I" } : Jvm.MethodName)) ∈ lw_all := lw_g (lw_at lw_m4 58 rfl) rfl
theorem q844 : (Jvm.Cond.static ({ cls := "SlideParkLaw", name := "book", desc := "(LSlidePark;III[J)I" } : Jvm.MethodName)) ∈ lw_all := lw_g (lw_at lw_m4 59 rfl) rfl
theorem q845 : (Jvm.Cond.codeWith ({ cls := "SlideParkLaw", name := "book", desc := "(LSlidePark;III[J)I" } : Jvm.MethodName) method_5_code (6 : Nat) (Option.some Jvm.ClassFile.FieldType.int) [((0 : Nat), (12 : Nat), (15 : Nat), (25 : Nat)), ((0 : Nat), (12 : Nat), (19 : Nat), (13 : Nat)), ((0 : Nat), (12 : Nat), (23 : Nat), (15 : Nat)), ((0 : Nat), (12 : Nat), (27 : Nat), (27 : Nat))]) ∈ lw_all := lw_g (lw_at lw_m4 60 rfl) rfl
theorem q846 : (Jvm.Cond.classLink "SlideParkLaw" (25 : Nat) "java/lang/IndexOutOfBoundsException") ∈ lw_all := lw_g (lw_at lw_m4 61 rfl) rfl
theorem q878 : (Jvm.Cond.classLink "SlideParkLaw" (27 : Nat) "java/lang/UnsupportedOperationException") ∈ lw_all := lw_g (lw_at lw_m4 93 rfl) rfl
theorem q879 : (Jvm.Cond.methodLink "SlideParkLaw" (21 : Nat) ({ cls := "SlidePark", name := "book", desc := "(III)I" } : Jvm.MethodName)) ∈ lw_all := lw_g (lw_at lw_m4 94 rfl) rfl
theorem q988 : (Jvm.Cond.methodLink "SlideParkLaw" (169 : Nat) ({ cls := "SlideParkLaw", name := "cancel", desc := "(LSlidePark;I[J)I" } : Jvm.MethodName)) ∈ lw_all := lw_g (lw_at lw_m4 203 rfl) rfl
theorem q989 : (Jvm.Cond.static ({ cls := "SlideParkLaw", name := "cancel", desc := "(LSlidePark;I[J)I" } : Jvm.MethodName)) ∈ lw_all := lw_g (lw_at lw_m4 204 rfl) rfl
theorem q990 : (Jvm.Cond.codeWith ({ cls := "SlideParkLaw", name := "cancel", desc := "(LSlidePark;I[J)I" } : Jvm.MethodName) method_6_code (4 : Nat) (Option.some Jvm.ClassFile.FieldType.int) [((0 : Nat), (9 : Nat), (12 : Nat), (25 : Nat)), ((0 : Nat), (9 : Nat), (15 : Nat), (15 : Nat))]) ∈ lw_all := lw_g (lw_at lw_m4 205 rfl) rfl
theorem q991 : (Jvm.Cond.methodLink "SlideParkLaw" (29 : Nat) ({ cls := "SlidePark", name := "cancel", desc := "(I)I" } : Jvm.MethodName)) ∈ lw_all := lw_g (lw_at lw_m4 206 rfl) rfl
theorem q1008 : (Jvm.Cond.methodLink "SlideParkLaw" (173 : Nat) ({ cls := "SlideParkLaw", name := "joinQueue", desc := "(LSlidePark;II[J)I" } : Jvm.MethodName)) ∈ lw_all := lw_g (lw_at lw_m4 223 rfl) rfl
theorem q1009 : (Jvm.Cond.static ({ cls := "SlideParkLaw", name := "joinQueue", desc := "(LSlidePark;II[J)I" } : Jvm.MethodName)) ∈ lw_all := lw_g (lw_at lw_m4 224 rfl) rfl
theorem q1010 : (Jvm.Cond.codeWith ({ cls := "SlideParkLaw", name := "joinQueue", desc := "(LSlidePark;II[J)I" } : Jvm.MethodName) method_7_code (5 : Nat) (Option.some Jvm.ClassFile.FieldType.int) [((0 : Nat), (10 : Nat), (13 : Nat), (25 : Nat)), ((0 : Nat), (10 : Nat), (17 : Nat), (15 : Nat)), ((0 : Nat), (10 : Nat), (21 : Nat), (27 : Nat))]) ∈ lw_all := lw_g (lw_at lw_m4 225 rfl) rfl
theorem q1011 : (Jvm.Cond.methodLink "SlideParkLaw" (33 : Nat) ({ cls := "SlidePark", name := "joinQueue", desc := "(II)I" } : Jvm.MethodName)) ∈ lw_all := lw_g (lw_at lw_m4 226 rfl) rfl
theorem q1106 : (Jvm.Cond.methodLink "SlideParkLaw" (176 : Nat) ({ cls := "SlideParkLaw", name := "leaveQueue", desc := "(LSlidePark;I[J)I" } : Jvm.MethodName)) ∈ lw_all := lw_g (lw_at lw_m5 81 rfl) rfl
theorem q1107 : (Jvm.Cond.static ({ cls := "SlideParkLaw", name := "leaveQueue", desc := "(LSlidePark;I[J)I" } : Jvm.MethodName)) ∈ lw_all := lw_g (lw_at lw_m5 82 rfl) rfl
theorem q1108 : (Jvm.Cond.codeWith ({ cls := "SlideParkLaw", name := "leaveQueue", desc := "(LSlidePark;I[J)I" } : Jvm.MethodName) method_8_code (4 : Nat) (Option.some Jvm.ClassFile.FieldType.int) [((0 : Nat), (9 : Nat), (12 : Nat), (25 : Nat)), ((0 : Nat), (9 : Nat), (15 : Nat), (39 : Nat))]) ∈ lw_all := lw_g (lw_at lw_m5 83 rfl) rfl
theorem q1109 : (Jvm.Cond.classLink "SlideParkLaw" (39 : Nat) "java/util/NoSuchElementException") ∈ lw_all := lw_g (lw_at lw_m5 84 rfl) rfl
theorem q1110 : (Jvm.Cond.methodLink "SlideParkLaw" (36 : Nat) ({ cls := "SlidePark", name := "leaveQueue", desc := "(I)I" } : Jvm.MethodName)) ∈ lw_all := lw_g (lw_at lw_m5 85 rfl) rfl
theorem q1129 : (Jvm.Cond.methodLink "SlideParkLaw" (179 : Nat) ({ cls := "SlideParkLaw", name := "passMinutes", desc := "(LSlidePark;I[J)I" } : Jvm.MethodName)) ∈ lw_all := lw_g (lw_at lw_m5 104 rfl) rfl
theorem q1130 : (Jvm.Cond.static ({ cls := "SlideParkLaw", name := "passMinutes", desc := "(LSlidePark;I[J)I" } : Jvm.MethodName)) ∈ lw_all := lw_g (lw_at lw_m5 105 rfl) rfl
theorem q1131 : (Jvm.Cond.codeWith ({ cls := "SlideParkLaw", name := "passMinutes", desc := "(LSlidePark;I[J)I" } : Jvm.MethodName) method_9_code (4 : Nat) (Option.some Jvm.ClassFile.FieldType.int) [((0 : Nat), (9 : Nat), (12 : Nat), (13 : Nat))]) ∈ lw_all := lw_g (lw_at lw_m5 106 rfl) rfl
theorem q1132 : (Jvm.Cond.methodLink "SlideParkLaw" (41 : Nat) ({ cls := "SlidePark", name := "passMinutes", desc := "(I)I" } : Jvm.MethodName)) ∈ lw_all := lw_g (lw_at lw_m5 107 rfl) rfl
theorem q1213 : (Jvm.Cond.methodLink "SlideParkLaw" (190 : Nat) ({ cls := "SlideParkLaw", name := "duration", desc := "(LSlidePark;I[J)I" } : Jvm.MethodName)) ∈ lw_all := lw_g (lw_at lw_m5 188 rfl) rfl
theorem q1214 : (Jvm.Cond.static ({ cls := "SlideParkLaw", name := "duration", desc := "(LSlidePark;I[J)I" } : Jvm.MethodName)) ∈ lw_all := lw_g (lw_at lw_m5 189 rfl) rfl
theorem q1215 : (Jvm.Cond.codeWith ({ cls := "SlideParkLaw", name := "duration", desc := "(LSlidePark;I[J)I" } : Jvm.MethodName) method_10_code (4 : Nat) (Option.some Jvm.ClassFile.FieldType.int) [((0 : Nat), (9 : Nat), (12 : Nat), (25 : Nat))]) ∈ lw_all := lw_g (lw_at lw_m5 190 rfl) rfl
theorem q1216 : (Jvm.Cond.methodLink "SlideParkLaw" (44 : Nat) ({ cls := "SlidePark", name := "duration", desc := "(I)I" } : Jvm.MethodName)) ∈ lw_all := lw_g (lw_at lw_m5 191 rfl) rfl
theorem q1221 : (Jvm.Cond.methodLink "SlideParkLaw" (193 : Nat) ({ cls := "SlideParkLaw", name := "price", desc := "(LSlidePark;I[J)I" } : Jvm.MethodName)) ∈ lw_all := lw_g (lw_at lw_m5 196 rfl) rfl
theorem q1222 : (Jvm.Cond.static ({ cls := "SlideParkLaw", name := "price", desc := "(LSlidePark;I[J)I" } : Jvm.MethodName)) ∈ lw_all := lw_g (lw_at lw_m5 197 rfl) rfl
theorem q1223 : (Jvm.Cond.codeWith ({ cls := "SlideParkLaw", name := "price", desc := "(LSlidePark;I[J)I" } : Jvm.MethodName) method_11_code (4 : Nat) (Option.some Jvm.ClassFile.FieldType.int) [((0 : Nat), (9 : Nat), (12 : Nat), (25 : Nat))]) ∈ lw_all := lw_g (lw_at lw_m5 198 rfl) rfl
theorem q1224 : (Jvm.Cond.methodLink "SlideParkLaw" (47 : Nat) ({ cls := "SlidePark", name := "price", desc := "(I)I" } : Jvm.MethodName)) ∈ lw_all := lw_g (lw_at lw_m5 199 rfl) rfl
theorem q1228 : (Jvm.Cond.methodLink "SlideParkLaw" (196 : Nat) ({ cls := "SlideParkLaw", name := "wetness", desc := "(LSlidePark;I[J)I" } : Jvm.MethodName)) ∈ lw_all := lw_g (lw_at lw_m5 203 rfl) rfl
theorem q1229 : (Jvm.Cond.static ({ cls := "SlideParkLaw", name := "wetness", desc := "(LSlidePark;I[J)I" } : Jvm.MethodName)) ∈ lw_all := lw_g (lw_at lw_m5 204 rfl) rfl
theorem q1230 : (Jvm.Cond.codeWith ({ cls := "SlideParkLaw", name := "wetness", desc := "(LSlidePark;I[J)I" } : Jvm.MethodName) method_12_code (4 : Nat) (Option.some Jvm.ClassFile.FieldType.int) [((0 : Nat), (9 : Nat), (12 : Nat), (25 : Nat))]) ∈ lw_all := lw_g (lw_at lw_m5 205 rfl) rfl
theorem q1231 : (Jvm.Cond.methodLink "SlideParkLaw" (50 : Nat) ({ cls := "SlidePark", name := "wetness", desc := "(I)I" } : Jvm.MethodName)) ∈ lw_all := lw_g (lw_at lw_m5 206 rfl) rfl
theorem q1235 : (Jvm.Cond.methodLink "SlideParkLaw" (199 : Nat) ({ cls := "SlideParkLaw", name := "rider", desc := "(LSlidePark;I[J)I" } : Jvm.MethodName)) ∈ lw_all := lw_g (lw_at lw_m5 210 rfl) rfl
theorem q1236 : (Jvm.Cond.static ({ cls := "SlideParkLaw", name := "rider", desc := "(LSlidePark;I[J)I" } : Jvm.MethodName)) ∈ lw_all := lw_g (lw_at lw_m5 211 rfl) rfl
theorem q1237 : (Jvm.Cond.codeWith ({ cls := "SlideParkLaw", name := "rider", desc := "(LSlidePark;I[J)I" } : Jvm.MethodName) method_13_code (4 : Nat) (Option.some Jvm.ClassFile.FieldType.int) [((0 : Nat), (9 : Nat), (12 : Nat), (25 : Nat)), ((0 : Nat), (9 : Nat), (15 : Nat), (39 : Nat))]) ∈ lw_all := lw_g (lw_at lw_m5 212 rfl) rfl
theorem q1238 : (Jvm.Cond.methodLink "SlideParkLaw" (53 : Nat) ({ cls := "SlidePark", name := "rider", desc := "(I)I" } : Jvm.MethodName)) ∈ lw_all := lw_g (lw_at lw_m5 213 rfl) rfl
theorem q1244 : (Jvm.Cond.methodLink "SlideParkLaw" (206 : Nat) ({ cls := "SlideParkLaw", name := "coins", desc := "(LSlidePark;I[J)I" } : Jvm.MethodName)) ∈ lw_all := lw_g (lw_at lw_m5 219 rfl) rfl
theorem q1245 : (Jvm.Cond.static ({ cls := "SlideParkLaw", name := "coins", desc := "(LSlidePark;I[J)I" } : Jvm.MethodName)) ∈ lw_all := lw_g (lw_at lw_m5 220 rfl) rfl
theorem q1246 : (Jvm.Cond.codeWith ({ cls := "SlideParkLaw", name := "coins", desc := "(LSlidePark;I[J)I" } : Jvm.MethodName) method_14_code (4 : Nat) (Option.some Jvm.ClassFile.FieldType.int) [((0 : Nat), (9 : Nat), (12 : Nat), (25 : Nat))]) ∈ lw_all := lw_g (lw_at lw_m5 221 rfl) rfl
theorem q1247 : (Jvm.Cond.methodLink "SlideParkLaw" (56 : Nat) ({ cls := "SlidePark", name := "coins", desc := "(I)I" } : Jvm.MethodName)) ∈ lw_all := lw_g (lw_at lw_m5 222 rfl) rfl
theorem q1252 : (Jvm.Cond.methodLink "SlideParkLaw" (209 : Nat) ({ cls := "SlideParkLaw", name := "queueOf", desc := "(LSlidePark;I[J)I" } : Jvm.MethodName)) ∈ lw_all := lw_g (lw_at lw_m5 227 rfl) rfl
theorem q1253 : (Jvm.Cond.static ({ cls := "SlideParkLaw", name := "queueOf", desc := "(LSlidePark;I[J)I" } : Jvm.MethodName)) ∈ lw_all := lw_g (lw_at lw_m5 228 rfl) rfl
theorem q1254 : (Jvm.Cond.codeWith ({ cls := "SlideParkLaw", name := "queueOf", desc := "(LSlidePark;I[J)I" } : Jvm.MethodName) method_15_code (4 : Nat) (Option.some Jvm.ClassFile.FieldType.int) [((0 : Nat), (9 : Nat), (12 : Nat), (25 : Nat)), ((0 : Nat), (9 : Nat), (15 : Nat), (39 : Nat))]) ∈ lw_all := lw_g (lw_at lw_m5 229 rfl) rfl
theorem q1255 : (Jvm.Cond.methodLink "SlideParkLaw" (59 : Nat) ({ cls := "SlidePark", name := "queueOf", desc := "(I)I" } : Jvm.MethodName)) ∈ lw_all := lw_g (lw_at lw_m5 230 rfl) rfl
theorem q1260 : (Jvm.Cond.methodLink "SlideParkLaw" (212 : Nat) ({ cls := "SlideParkLaw", name := "queueLength", desc := "(LSlidePark;I[J)I" } : Jvm.MethodName)) ∈ lw_all := lw_g (lw_at lw_m5 235 rfl) rfl
theorem q1261 : (Jvm.Cond.static ({ cls := "SlideParkLaw", name := "queueLength", desc := "(LSlidePark;I[J)I" } : Jvm.MethodName)) ∈ lw_all := lw_g (lw_at lw_m5 236 rfl) rfl
theorem q1262 : (Jvm.Cond.codeWith ({ cls := "SlideParkLaw", name := "queueLength", desc := "(LSlidePark;I[J)I" } : Jvm.MethodName) method_16_code (4 : Nat) (Option.some Jvm.ClassFile.FieldType.int) [((0 : Nat), (9 : Nat), (12 : Nat), (25 : Nat))]) ∈ lw_all := lw_g (lw_at lw_m5 237 rfl) rfl
theorem q1263 : (Jvm.Cond.methodLink "SlideParkLaw" (62 : Nat) ({ cls := "SlidePark", name := "queueLength", desc := "(I)I" } : Jvm.MethodName)) ∈ lw_all := lw_g (lw_at lw_m5 238 rfl) rfl
theorem q1268 : (Jvm.Cond.methodLink "SlideParkLaw" (215 : Nat) ({ cls := "SlideParkLaw", name := "queuedGuest", desc := "(LSlidePark;II[J)I" } : Jvm.MethodName)) ∈ lw_all := lw_g (lw_at lw_m6 3 rfl) rfl
theorem q1269 : (Jvm.Cond.static ({ cls := "SlideParkLaw", name := "queuedGuest", desc := "(LSlidePark;II[J)I" } : Jvm.MethodName)) ∈ lw_all := lw_g (lw_at lw_m6 4 rfl) rfl
theorem q1270 : (Jvm.Cond.codeWith ({ cls := "SlideParkLaw", name := "queuedGuest", desc := "(LSlidePark;II[J)I" } : Jvm.MethodName) method_17_code (5 : Nat) (Option.some Jvm.ClassFile.FieldType.int) [((0 : Nat), (10 : Nat), (13 : Nat), (25 : Nat)), ((0 : Nat), (10 : Nat), (17 : Nat), (39 : Nat))]) ∈ lw_all := lw_g (lw_at lw_m6 5 rfl) rfl
theorem q1271 : (Jvm.Cond.methodLink "SlideParkLaw" (65 : Nat) ({ cls := "SlidePark", name := "queuedGuest", desc := "(II)I" } : Jvm.MethodName)) ∈ lw_all := lw_g (lw_at lw_m6 6 rfl) rfl
theorem q1283 : (Jvm.Cond.methodLink "SlideParkLaw" (222 : Nat) ({ cls := "SlideParkLaw", name := "bookedGuest", desc := "(LSlidePark;I[J)I" } : Jvm.MethodName)) ∈ lw_all := lw_g (lw_at lw_m6 18 rfl) rfl
theorem q1284 : (Jvm.Cond.static ({ cls := "SlideParkLaw", name := "bookedGuest", desc := "(LSlidePark;I[J)I" } : Jvm.MethodName)) ∈ lw_all := lw_g (lw_at lw_m6 19 rfl) rfl
theorem q1285 : (Jvm.Cond.codeWith ({ cls := "SlideParkLaw", name := "bookedGuest", desc := "(LSlidePark;I[J)I" } : Jvm.MethodName) method_18_code (4 : Nat) (Option.some Jvm.ClassFile.FieldType.int) [((0 : Nat), (9 : Nat), (12 : Nat), (25 : Nat))]) ∈ lw_all := lw_g (lw_at lw_m6 20 rfl) rfl
theorem q1286 : (Jvm.Cond.methodLink "SlideParkLaw" (68 : Nat) ({ cls := "SlidePark", name := "bookedGuest", desc := "(I)I" } : Jvm.MethodName)) ∈ lw_all := lw_g (lw_at lw_m6 21 rfl) rfl
theorem q1291 : (Jvm.Cond.methodLink "SlideParkLaw" (225 : Nat) ({ cls := "SlideParkLaw", name := "bookedSlide", desc := "(LSlidePark;I[J)I" } : Jvm.MethodName)) ∈ lw_all := lw_g (lw_at lw_m6 26 rfl) rfl
theorem q1292 : (Jvm.Cond.static ({ cls := "SlideParkLaw", name := "bookedSlide", desc := "(LSlidePark;I[J)I" } : Jvm.MethodName)) ∈ lw_all := lw_g (lw_at lw_m6 27 rfl) rfl
theorem q1293 : (Jvm.Cond.codeWith ({ cls := "SlideParkLaw", name := "bookedSlide", desc := "(LSlidePark;I[J)I" } : Jvm.MethodName) method_19_code (4 : Nat) (Option.some Jvm.ClassFile.FieldType.int) [((0 : Nat), (9 : Nat), (12 : Nat), (25 : Nat))]) ∈ lw_all := lw_g (lw_at lw_m6 28 rfl) rfl
theorem q1294 : (Jvm.Cond.methodLink "SlideParkLaw" (71 : Nat) ({ cls := "SlidePark", name := "bookedSlide", desc := "(I)I" } : Jvm.MethodName)) ∈ lw_all := lw_g (lw_at lw_m6 29 rfl) rfl
theorem q1298 : (Jvm.Cond.methodLink "SlideParkLaw" (228 : Nat) ({ cls := "SlideParkLaw", name := "start", desc := "(LSlidePark;I[J)I" } : Jvm.MethodName)) ∈ lw_all := lw_g (lw_at lw_m6 33 rfl) rfl
theorem q1299 : (Jvm.Cond.static ({ cls := "SlideParkLaw", name := "start", desc := "(LSlidePark;I[J)I" } : Jvm.MethodName)) ∈ lw_all := lw_g (lw_at lw_m6 34 rfl) rfl
theorem q1300 : (Jvm.Cond.codeWith ({ cls := "SlideParkLaw", name := "start", desc := "(LSlidePark;I[J)I" } : Jvm.MethodName) method_20_code (4 : Nat) (Option.some Jvm.ClassFile.FieldType.int) [((0 : Nat), (9 : Nat), (12 : Nat), (25 : Nat))]) ∈ lw_all := lw_g (lw_at lw_m6 35 rfl) rfl
theorem q1301 : (Jvm.Cond.methodLink "SlideParkLaw" (74 : Nat) ({ cls := "SlidePark", name := "start", desc := "(I)I" } : Jvm.MethodName)) ∈ lw_all := lw_g (lw_at lw_m6 36 rfl) rfl
theorem q1305 : (Jvm.Cond.methodLink "SlideParkLaw" (231 : Nat) ({ cls := "SlideParkLaw", name := "hasStarted", desc := "(LSlidePark;I[J)I" } : Jvm.MethodName)) ∈ lw_all := lw_g (lw_at lw_m6 40 rfl) rfl
theorem q1306 : (Jvm.Cond.static ({ cls := "SlideParkLaw", name := "hasStarted", desc := "(LSlidePark;I[J)I" } : Jvm.MethodName)) ∈ lw_all := lw_g (lw_at lw_m6 41 rfl) rfl
theorem q1307 : (Jvm.Cond.codeWith ({ cls := "SlideParkLaw", name := "hasStarted", desc := "(LSlidePark;I[J)I" } : Jvm.MethodName) method_21_code (4 : Nat) (Option.some Jvm.ClassFile.FieldType.int) [((0 : Nat), (16 : Nat), (19 : Nat), (25 : Nat))]) ∈ lw_all := lw_g (lw_at lw_m6 42 rfl) rfl
theorem q1308 : (Jvm.Cond.methodLink "SlideParkLaw" (77 : Nat) ({ cls := "SlidePark", name := "hasStarted", desc := "(I)Z" } : Jvm.MethodName)) ∈ lw_all := lw_g (lw_at lw_m6 43 rfl) rfl
theorem q1312 : (Jvm.Cond.methodLink "SlideParkLaw" (234 : Nat) ({ cls := "SlideParkLaw", name := "bookingByStart", desc := "(LSlidePark;I[J)I" } : Jvm.MethodName)) ∈ lw_all := lw_g (lw_at lw_m6 47 rfl) rfl
theorem q1313 : (Jvm.Cond.static ({ cls := "SlideParkLaw", name := "bookingByStart", desc := "(LSlidePark;I[J)I" } : Jvm.MethodName)) ∈ lw_all := lw_g (lw_at lw_m6 48 rfl) rfl
theorem q1314 : (Jvm.Cond.codeWith ({ cls := "SlideParkLaw", name := "bookingByStart", desc := "(LSlidePark;I[J)I" } : Jvm.MethodName) method_22_code (4 : Nat) (Option.some Jvm.ClassFile.FieldType.int) [((0 : Nat), (9 : Nat), (12 : Nat), (39 : Nat))]) ∈ lw_all := lw_g (lw_at lw_m6 49 rfl) rfl
theorem q1315 : (Jvm.Cond.methodLink "SlideParkLaw" (81 : Nat) ({ cls := "SlidePark", name := "bookingByStart", desc := "(I)I" } : Jvm.MethodName)) ∈ lw_all := lw_g (lw_at lw_m6 50 rfl) rfl
theorem q1320 : (Jvm.Cond.methodLink "SlideParkLaw" (237 : Nat) ({ cls := "SlideParkLaw", name := "isFree", desc := "(LSlidePark;II[J)I" } : Jvm.MethodName)) ∈ lw_all := lw_g (lw_at lw_m6 55 rfl) rfl
theorem q1321 : (Jvm.Cond.static ({ cls := "SlideParkLaw", name := "isFree", desc := "(LSlidePark;II[J)I" } : Jvm.MethodName)) ∈ lw_all := lw_g (lw_at lw_m6 56 rfl) rfl
theorem q1322 : (Jvm.Cond.codeWith ({ cls := "SlideParkLaw", name := "isFree", desc := "(LSlidePark;II[J)I" } : Jvm.MethodName) method_23_code (5 : Nat) (Option.some Jvm.ClassFile.FieldType.int) [((0 : Nat), (17 : Nat), (20 : Nat), (25 : Nat)), ((0 : Nat), (17 : Nat), (24 : Nat), (13 : Nat))]) ∈ lw_all := lw_g (lw_at lw_m6 57 rfl) rfl
theorem q1323 : (Jvm.Cond.methodLink "SlideParkLaw" (84 : Nat) ({ cls := "SlidePark", name := "isFree", desc := "(II)Z" } : Jvm.MethodName)) ∈ lw_all := lw_g (lw_at lw_m6 58 rfl) rfl
theorem q1329 : (Jvm.Cond.methodLink "SlideParkLaw" (240 : Nat) ({ cls := "SlideParkLaw", name := "firstFree", desc := "(LSlidePark;II[J)I" } : Jvm.MethodName)) ∈ lw_all := lw_g (lw_at lw_m6 64 rfl) rfl
theorem q1330 : (Jvm.Cond.static ({ cls := "SlideParkLaw", name := "firstFree", desc := "(LSlidePark;II[J)I" } : Jvm.MethodName)) ∈ lw_all := lw_g (lw_at lw_m6 65 rfl) rfl
theorem q1331 : (Jvm.Cond.codeWith ({ cls := "SlideParkLaw", name := "firstFree", desc := "(LSlidePark;II[J)I" } : Jvm.MethodName) method_24_code (5 : Nat) (Option.some Jvm.ClassFile.FieldType.int) [((0 : Nat), (10 : Nat), (13 : Nat), (25 : Nat)), ((0 : Nat), (10 : Nat), (17 : Nat), (13 : Nat)), ((0 : Nat), (10 : Nat), (21 : Nat), (39 : Nat))]) ∈ lw_all := lw_g (lw_at lw_m6 66 rfl) rfl
theorem q1332 : (Jvm.Cond.methodLink "SlideParkLaw" (88 : Nat) ({ cls := "SlidePark", name := "firstFree", desc := "(II)I" } : Jvm.MethodName)) ∈ lw_all := lw_g (lw_at lw_m6 67 rfl) rfl
theorem q1343 : (Jvm.Cond.methodLink "SlideParkLaw" (243 : Nat) ({ cls := "SlideParkLaw", name := "firstFreeByGaps", desc := "(LSlidePark;II[J)I" } : Jvm.MethodName)) ∈ lw_all := lw_g (lw_at lw_m6 78 rfl) rfl
theorem q1344 : (Jvm.Cond.static ({ cls := "SlideParkLaw", name := "firstFreeByGaps", desc := "(LSlidePark;II[J)I" } : Jvm.MethodName)) ∈ lw_all := lw_g (lw_at lw_m6 79 rfl) rfl
theorem q1345 : (Jvm.Cond.codeWith ({ cls := "SlideParkLaw", name := "firstFreeByGaps", desc := "(LSlidePark;II[J)I" } : Jvm.MethodName) method_25_code (5 : Nat) (Option.some Jvm.ClassFile.FieldType.int) [((0 : Nat), (10 : Nat), (13 : Nat), (25 : Nat)), ((0 : Nat), (10 : Nat), (17 : Nat), (13 : Nat)), ((0 : Nat), (10 : Nat), (21 : Nat), (39 : Nat))]) ∈ lw_all := lw_g (lw_at lw_m6 80 rfl) rfl
theorem q1346 : (Jvm.Cond.methodLink "SlideParkLaw" (91 : Nat) ({ cls := "SlidePark", name := "firstFreeByGaps", desc := "(II)I" } : Jvm.MethodName)) ∈ lw_all := lw_g (lw_at lw_m6 81 rfl) rfl
theorem q1358 : (Jvm.Cond.methodLink "SlideParkLaw" (266 : Nat) ({ cls := "SlideParkLaw", name := "finishedGuest", desc := "(LSlidePark;I[J)I" } : Jvm.MethodName)) ∈ lw_all := lw_g (lw_at lw_m6 93 rfl) rfl
theorem q1359 : (Jvm.Cond.static ({ cls := "SlideParkLaw", name := "finishedGuest", desc := "(LSlidePark;I[J)I" } : Jvm.MethodName)) ∈ lw_all := lw_g (lw_at lw_m6 94 rfl) rfl
theorem q1360 : (Jvm.Cond.codeWith ({ cls := "SlideParkLaw", name := "finishedGuest", desc := "(LSlidePark;I[J)I" } : Jvm.MethodName) method_26_code (4 : Nat) (Option.some Jvm.ClassFile.FieldType.int) [((0 : Nat), (9 : Nat), (12 : Nat), (39 : Nat))]) ∈ lw_all := lw_g (lw_at lw_m6 95 rfl) rfl
theorem q1361 : (Jvm.Cond.methodLink "SlideParkLaw" (94 : Nat) ({ cls := "SlidePark", name := "finishedGuest", desc := "(I)I" } : Jvm.MethodName)) ∈ lw_all := lw_g (lw_at lw_m6 96 rfl) rfl
theorem q1372 : (Jvm.Cond.methodLink "SlideParkLaw" (269 : Nat) ({ cls := "SlideParkLaw", name := "finishedSlide", desc := "(LSlidePark;I[J)I" } : Jvm.MethodName)) ∈ lw_all := lw_g (lw_at lw_m6 107 rfl) rfl
theorem q1373 : (Jvm.Cond.static ({ cls := "SlideParkLaw", name := "finishedSlide", desc := "(LSlidePark;I[J)I" } : Jvm.MethodName)) ∈ lw_all := lw_g (lw_at lw_m6 108 rfl) rfl
theorem q1374 : (Jvm.Cond.codeWith ({ cls := "SlideParkLaw", name := "finishedSlide", desc := "(LSlidePark;I[J)I" } : Jvm.MethodName) method_27_code (4 : Nat) (Option.some Jvm.ClassFile.FieldType.int) [((0 : Nat), (9 : Nat), (12 : Nat), (39 : Nat))]) ∈ lw_all := lw_g (lw_at lw_m6 109 rfl) rfl
theorem q1375 : (Jvm.Cond.methodLink "SlideParkLaw" (97 : Nat) ({ cls := "SlidePark", name := "finishedSlide", desc := "(I)I" } : Jvm.MethodName)) ∈ lw_all := lw_g (lw_at lw_m6 110 rfl) rfl
theorem q1379 : (Jvm.Cond.methodLink "SlideParkLaw" (272 : Nat) ({ cls := "SlideParkLaw", name := "finishMinute", desc := "(LSlidePark;I[J)I" } : Jvm.MethodName)) ∈ lw_all := lw_g (lw_at lw_m6 114 rfl) rfl
theorem q1380 : (Jvm.Cond.static ({ cls := "SlideParkLaw", name := "finishMinute", desc := "(LSlidePark;I[J)I" } : Jvm.MethodName)) ∈ lw_all := lw_g (lw_at lw_m6 115 rfl) rfl
theorem q1381 : (Jvm.Cond.codeWith ({ cls := "SlideParkLaw", name := "finishMinute", desc := "(LSlidePark;I[J)I" } : Jvm.MethodName) method_28_code (4 : Nat) (Option.some Jvm.ClassFile.FieldType.int) [((0 : Nat), (9 : Nat), (12 : Nat), (39 : Nat))]) ∈ lw_all := lw_g (lw_at lw_m6 116 rfl) rfl
theorem q1382 : (Jvm.Cond.methodLink "SlideParkLaw" (100 : Nat) ({ cls := "SlidePark", name := "finishMinute", desc := "(I)I" } : Jvm.MethodName)) ∈ lw_all := lw_g (lw_at lw_m6 117 rfl) rfl
theorem q1386 : (Jvm.Cond.methodLink "SlideParkLaw" (295 : Nat) ({ cls := "SlideParkLaw", name := "rides", desc := "(LSlidePark;I[J)I" } : Jvm.MethodName)) ∈ lw_all := lw_g (lw_at lw_m6 121 rfl) rfl
theorem q1387 : (Jvm.Cond.static ({ cls := "SlideParkLaw", name := "rides", desc := "(LSlidePark;I[J)I" } : Jvm.MethodName)) ∈ lw_all := lw_g (lw_at lw_m6 122 rfl) rfl
theorem q1388 : (Jvm.Cond.codeWith ({ cls := "SlideParkLaw", name := "rides", desc := "(LSlidePark;I[J)I" } : Jvm.MethodName) method_29_code (4 : Nat) (Option.some Jvm.ClassFile.FieldType.int) [((0 : Nat), (9 : Nat), (12 : Nat), (25 : Nat))]) ∈ lw_all := lw_g (lw_at lw_m6 123 rfl) rfl
theorem q1389 : (Jvm.Cond.methodLink "SlideParkLaw" (103 : Nat) ({ cls := "SlidePark", name := "rides", desc := "(I)I" } : Jvm.MethodName)) ∈ lw_all := lw_g (lw_at lw_m6 124 rfl) rfl
theorem q1393 : (Jvm.Cond.methodLink "SlideParkLaw" (298 : Nat) ({ cls := "SlideParkLaw", name := "guestByRides", desc := "(LSlidePark;I[J)I" } : Jvm.MethodName)) ∈ lw_all := lw_g (lw_at lw_m6 128 rfl) rfl
theorem q1394 : (Jvm.Cond.static ({ cls := "SlideParkLaw", name := "guestByRides", desc := "(LSlidePark;I[J)I" } : Jvm.MethodName)) ∈ lw_all := lw_g (lw_at lw_m6 129 rfl) rfl
theorem q1395 : (Jvm.Cond.codeWith ({ cls := "SlideParkLaw", name := "guestByRides", desc := "(LSlidePark;I[J)I" } : Jvm.MethodName) method_30_code (4 : Nat) (Option.some Jvm.ClassFile.FieldType.int) [((0 : Nat), (9 : Nat), (12 : Nat), (39 : Nat))]) ∈ lw_all := lw_g (lw_at lw_m6 130 rfl) rfl
theorem q1396 : (Jvm.Cond.methodLink "SlideParkLaw" (106 : Nat) ({ cls := "SlidePark", name := "guestByRides", desc := "(I)I" } : Jvm.MethodName)) ∈ lw_all := lw_g (lw_at lw_m6 131 rfl) rfl
theorem q1400 : (Jvm.Cond.methodLink "SlideParkLaw" (301 : Nat) ({ cls := "SlideParkLaw", name := "slideByWetness", desc := "(LSlidePark;I[J)I" } : Jvm.MethodName)) ∈ lw_all := lw_g (lw_at lw_m6 135 rfl) rfl
theorem q1401 : (Jvm.Cond.static ({ cls := "SlideParkLaw", name := "slideByWetness", desc := "(LSlidePark;I[J)I" } : Jvm.MethodName)) ∈ lw_all := lw_g (lw_at lw_m6 136 rfl) rfl
theorem q1402 : (Jvm.Cond.codeWith ({ cls := "SlideParkLaw", name := "slideByWetness", desc := "(LSlidePark;I[J)I" } : Jvm.MethodName) method_31_code (4 : Nat) (Option.some Jvm.ClassFile.FieldType.int) [((0 : Nat), (9 : Nat), (12 : Nat), (39 : Nat))]) ∈ lw_all := lw_g (lw_at lw_m6 137 rfl) rfl
theorem q1403 : (Jvm.Cond.methodLink "SlideParkLaw" (109 : Nat) ({ cls := "SlidePark", name := "slideByWetness", desc := "(I)I" } : Jvm.MethodName)) ∈ lw_all := lw_g (lw_at lw_m6 138 rfl) rfl
theorem q1407 : (Jvm.Cond.methodLink "SlideParkLaw" (304 : Nat) ({ cls := "SlideParkLaw", name := "meanCoins", desc := "(LSlidePark;[D)I" } : Jvm.MethodName)) ∈ lw_all := lw_g (lw_at lw_m6 142 rfl) rfl
theorem q1408 : (Jvm.Cond.static ({ cls := "SlideParkLaw", name := "meanCoins", desc := "(LSlidePark;[D)I" } : Jvm.MethodName)) ∈ lw_all := lw_g (lw_at lw_m6 143 rfl) rfl
theorem q1409 : (Jvm.Cond.codeWith ({ cls := "SlideParkLaw", name := "meanCoins", desc := "(LSlidePark;[D)I" } : Jvm.MethodName) method_32_code (3 : Nat) (Option.some Jvm.ClassFile.FieldType.int) [((0 : Nat), (7 : Nat), (10 : Nat), (116 : Nat))]) ∈ lw_all := lw_g (lw_at lw_m6 144 rfl) rfl
theorem q1410 : (Jvm.Cond.classLink "SlideParkLaw" (116 : Nat) "java/lang/ArithmeticException") ∈ lw_all := lw_g (lw_at lw_m6 145 rfl) rfl
theorem q1424 : (Jvm.Cond.methodLink "SlideParkLaw" (112 : Nat) ({ cls := "SlidePark", name := "meanCoins", desc := "()D" } : Jvm.MethodName)) ∈ lw_all := lw_g (lw_at lw_m6 159 rfl) rfl
theorem q1436 : (Jvm.Cond.methodLink "SlideParkLaw" (308 : Nat) ({ cls := "SlideParkLaw", name := "busyShare", desc := "(LSlidePark;[D)I" } : Jvm.MethodName)) ∈ lw_all := lw_g (lw_at lw_m6 171 rfl) rfl
theorem q1437 : (Jvm.Cond.static ({ cls := "SlideParkLaw", name := "busyShare", desc := "(LSlidePark;[D)I" } : Jvm.MethodName)) ∈ lw_all := lw_g (lw_at lw_m6 172 rfl) rfl
theorem q1438 : (Jvm.Cond.codeWith ({ cls := "SlideParkLaw", name := "busyShare", desc := "(LSlidePark;[D)I" } : Jvm.MethodName) method_33_code (3 : Nat) (Option.some Jvm.ClassFile.FieldType.int) [((0 : Nat), (8 : Nat), (11 : Nat), (116 : Nat))]) ∈ lw_all := lw_g (lw_at lw_m6 173 rfl) rfl
theorem q1439 : (Jvm.Cond.methodLink "SlideParkLaw" (118 : Nat) ({ cls := "SlidePark", name := "busyShare", desc := "()F" } : Jvm.MethodName)) ∈ lw_all := lw_g (lw_at lw_m6 174 rfl) rfl
theorem q1443 : (Jvm.Cond.methodLink "SlideParkLaw" (316 : Nat) ({ cls := "SlideParkLaw", name := "feed", desc := "(LSlidePark;C[J)I" } : Jvm.MethodName)) ∈ lw_all := lw_g (lw_at lw_m6 178 rfl) rfl
theorem q1444 : (Jvm.Cond.static ({ cls := "SlideParkLaw", name := "feed", desc := "(LSlidePark;C[J)I" } : Jvm.MethodName)) ∈ lw_all := lw_g (lw_at lw_m6 179 rfl) rfl
theorem q1445 : (Jvm.Cond.codeWith ({ cls := "SlideParkLaw", name := "feed", desc := "(LSlidePark;C[J)I" } : Jvm.MethodName) method_34_code (4 : Nat) (Option.some Jvm.ClassFile.FieldType.int) [((0 : Nat), (9 : Nat), (12 : Nat), (15 : Nat))]) ∈ lw_all := lw_g (lw_at lw_m6 180 rfl) rfl
theorem q1446 : (Jvm.Cond.methodLink "SlideParkLaw" (122 : Nat) ({ cls := "SlidePark", name := "feed", desc := "(C)I" } : Jvm.MethodName)) ∈ lw_all := lw_g (lw_at lw_m6 181 rfl) rfl
theorem q1451 : (Jvm.Cond.methodLink "SlideParkLaw" (320 : Nat) ({ cls := "SlideParkLaw", name := "runCommands", desc := "(LSlidePark;[J)I" } : Jvm.MethodName)) ∈ lw_all := lw_g (lw_at lw_m6 186 rfl) rfl
theorem q1452 : (Jvm.Cond.static ({ cls := "SlideParkLaw", name := "runCommands", desc := "(LSlidePark;[J)I" } : Jvm.MethodName)) ∈ lw_all := lw_g (lw_at lw_m6 187 rfl) rfl
theorem q1453 : (Jvm.Cond.codeWith ({ cls := "SlideParkLaw", name := "runCommands", desc := "(LSlidePark;[J)I" } : Jvm.MethodName) method_35_code (3 : Nat) (Option.some Jvm.ClassFile.FieldType.int) [((0 : Nat), (8 : Nat), (11 : Nat), (13 : Nat)), ((0 : Nat), (8 : Nat), (14 : Nat), (27 : Nat))]) ∈ lw_all := lw_g (lw_at lw_m6 188 rfl) rfl
theorem q1454 : (Jvm.Cond.methodLink "SlideParkLaw" (126 : Nat) ({ cls := "SlidePark", name := "runCommands", desc := "()I" } : Jvm.MethodName)) ∈ lw_all := lw_g (lw_at lw_m6 189 rfl) rfl
theorem q1606 : (Jvm.Cond.methodLink "SlideParkLaw" (323 : Nat) ({ cls := "SlideParkLaw", name := "errorPosition", desc := "(LSlidePark;[J)I" } : Jvm.MethodName)) ∈ lw_all := lw_g (lw_at lw_m7 101 rfl) rfl
theorem q1607 : (Jvm.Cond.static ({ cls := "SlideParkLaw", name := "errorPosition", desc := "(LSlidePark;[J)I" } : Jvm.MethodName)) ∈ lw_all := lw_g (lw_at lw_m7 102 rfl) rfl
theorem q1608 : (Jvm.Cond.codeWith ({ cls := "SlideParkLaw", name := "errorPosition", desc := "(LSlidePark;[J)I" } : Jvm.MethodName) method_36_code (3 : Nat) (Option.some Jvm.ClassFile.FieldType.int) [((0 : Nat), (8 : Nat), (11 : Nat), (39 : Nat))]) ∈ lw_all := lw_g (lw_at lw_m7 103 rfl) rfl
theorem q1609 : (Jvm.Cond.methodLink "SlideParkLaw" (129 : Nat) ({ cls := "SlidePark", name := "errorPosition", desc := "()I" } : Jvm.MethodName)) ∈ lw_all := lw_g (lw_at lw_m7 104 rfl) rfl
theorem q1613 : (Jvm.Cond.methodLink "SlideParkLaw" (326 : Nat) ({ cls := "SlideParkLaw", name := "failedCommand", desc := "(LSlidePark;[J)I" } : Jvm.MethodName)) ∈ lw_all := lw_g (lw_at lw_m7 108 rfl) rfl
theorem q1614 : (Jvm.Cond.static ({ cls := "SlideParkLaw", name := "failedCommand", desc := "(LSlidePark;[J)I" } : Jvm.MethodName)) ∈ lw_all := lw_g (lw_at lw_m7 109 rfl) rfl
theorem q1615 : (Jvm.Cond.codeWith ({ cls := "SlideParkLaw", name := "failedCommand", desc := "(LSlidePark;[J)I" } : Jvm.MethodName) method_37_code (3 : Nat) (Option.some Jvm.ClassFile.FieldType.int) [((0 : Nat), (8 : Nat), (11 : Nat), (39 : Nat))]) ∈ lw_all := lw_g (lw_at lw_m7 110 rfl) rfl
theorem q1616 : (Jvm.Cond.methodLink "SlideParkLaw" (132 : Nat) ({ cls := "SlidePark", name := "failedCommand", desc := "()I" } : Jvm.MethodName)) ∈ lw_all := lw_g (lw_at lw_m7 111 rfl) rfl
theorem q1620 : (Jvm.Cond.methodLink "SlideParkLaw" (329 : Nat) ({ cls := "SlideParkLaw", name := "writeSlide", desc := "(LSlidePark;I[J)I" } : Jvm.MethodName)) ∈ lw_all := lw_g (lw_at lw_m7 115 rfl) rfl
theorem q1621 : (Jvm.Cond.static ({ cls := "SlideParkLaw", name := "writeSlide", desc := "(LSlidePark;I[J)I" } : Jvm.MethodName)) ∈ lw_all := lw_g (lw_at lw_m7 116 rfl) rfl
theorem q1622 : (Jvm.Cond.codeWith ({ cls := "SlideParkLaw", name := "writeSlide", desc := "(LSlidePark;I[J)I" } : Jvm.MethodName) method_38_code (4 : Nat) (Option.some Jvm.ClassFile.FieldType.int) [((0 : Nat), (9 : Nat), (12 : Nat), (25 : Nat))]) ∈ lw_all := lw_g (lw_at lw_m7 117 rfl) rfl
theorem q1623 : (Jvm.Cond.methodLink "SlideParkLaw" (135 : Nat) ({ cls := "SlidePark", name := "writeSlide", desc := "(I)I" } : Jvm.MethodName)) ∈ lw_all := lw_g (lw_at lw_m7 118 rfl) rfl
theorem q1867 : (Jvm.Cond.methodLink "SlideParkLaw" (332 : Nat) ({ cls := "SlideParkLaw", name := "outputChar", desc := "(LSlidePark;I[J)I" } : Jvm.MethodName)) ∈ lw_all := lw_g (lw_at lw_m8 122 rfl) rfl
theorem q1868 : (Jvm.Cond.static ({ cls := "SlideParkLaw", name := "outputChar", desc := "(LSlidePark;I[J)I" } : Jvm.MethodName)) ∈ lw_all := lw_g (lw_at lw_m8 123 rfl) rfl
theorem q1869 : (Jvm.Cond.codeWith ({ cls := "SlideParkLaw", name := "outputChar", desc := "(LSlidePark;I[J)I" } : Jvm.MethodName) method_39_code (4 : Nat) (Option.some Jvm.ClassFile.FieldType.int) [((0 : Nat), (9 : Nat), (12 : Nat), (25 : Nat))]) ∈ lw_all := lw_g (lw_at lw_m8 124 rfl) rfl
theorem q1870 : (Jvm.Cond.methodLink "SlideParkLaw" (138 : Nat) ({ cls := "SlidePark", name := "outputChar", desc := "(I)C" } : Jvm.MethodName)) ∈ lw_all := lw_g (lw_at lw_m8 125 rfl) rfl
theorem q1884 : (Jvm.Cond.methodLink "SlideParkLaw" (339 : Nat) ({ cls := "SlideParkLaw", name := "undo", desc := "(LSlidePark;[J)I" } : Jvm.MethodName)) ∈ lw_all := lw_g (lw_at lw_m8 139 rfl) rfl
theorem q1885 : (Jvm.Cond.static ({ cls := "SlideParkLaw", name := "undo", desc := "(LSlidePark;[J)I" } : Jvm.MethodName)) ∈ lw_all := lw_g (lw_at lw_m8 140 rfl) rfl
theorem q1886 : (Jvm.Cond.codeWith ({ cls := "SlideParkLaw", name := "undo", desc := "(LSlidePark;[J)I" } : Jvm.MethodName) method_40_code (3 : Nat) (Option.some Jvm.ClassFile.FieldType.int) [((0 : Nat), (8 : Nat), (11 : Nat), (15 : Nat))]) ∈ lw_all := lw_g (lw_at lw_m8 141 rfl) rfl
theorem q1887 : (Jvm.Cond.methodLink "SlideParkLaw" (142 : Nat) ({ cls := "SlidePark", name := "undo", desc := "()I" } : Jvm.MethodName)) ∈ lw_all := lw_g (lw_at lw_m8 142 rfl) rfl
theorem q1895 : (Jvm.Cond.methodLink "SlideParkLaw" (346 : Nat) ({ cls := "SlideParkLaw", name := "restore", desc := "(LSlidePark;[J)I" } : Jvm.MethodName)) ∈ lw_all := lw_g (lw_at lw_m8 150 rfl) rfl
theorem q1896 : (Jvm.Cond.static ({ cls := "SlideParkLaw", name := "restore", desc := "(LSlidePark;[J)I" } : Jvm.MethodName)) ∈ lw_all := lw_g (lw_at lw_m8 151 rfl) rfl
theorem q1897 : (Jvm.Cond.codeWith ({ cls := "SlideParkLaw", name := "restore", desc := "(LSlidePark;[J)I" } : Jvm.MethodName) method_41_code (3 : Nat) (Option.some Jvm.ClassFile.FieldType.int) [((0 : Nat), (8 : Nat), (11 : Nat), (15 : Nat))]) ∈ lw_all := lw_g (lw_at lw_m8 152 rfl) rfl
theorem q1898 : (Jvm.Cond.methodLink "SlideParkLaw" (145 : Nat) ({ cls := "SlidePark", name := "restore", desc := "()I" } : Jvm.MethodName)) ∈ lw_all := lw_g (lw_at lw_m8 153 rfl) rfl
theorem q1910 : (Jvm.Cond.classLink "SlideParkLaw" (149 : Nat) "SlideParkModel") ∈ lw_all := lw_g (lw_at lw_m8 165 rfl) rfl
theorem q1912 : (Jvm.Cond.methodLink "SlideParkLaw" (151 : Nat) ({ cls := "SlideParkModel", name := "<init>", desc := "()V" } : Jvm.MethodName)) ∈ lw_all := lw_g (lw_at lw_m8 167 rfl) rfl
theorem q1968 : (Jvm.Cond.methodLink "SlideParkLaw" (158 : Nat) ({ cls := "SlideParkModel", name := "thrown", desc := "()I" } : Jvm.MethodName)) ∈ lw_all := lw_g (lw_at lw_m8 223 rfl) rfl
theorem q1972 : (Jvm.Cond.methodLink "SlideParkLaw" (157 : Nat) ({ cls := "SlideParkModel", name := "buildSlide", desc := "(II)I" } : Jvm.MethodName)) ∈ lw_all := lw_g (lw_at lw_m8 227 rfl) rfl
theorem q1996 : (Jvm.Cond.methodLink "SlideParkLaw" (164 : Nat) ({ cls := "SlideParkModel", name := "addGuest", desc := "()I" } : Jvm.MethodName)) ∈ lw_all := lw_g (lw_at lw_m9 11 rfl) rfl
theorem q2004 : (Jvm.Cond.methodLink "SlideParkLaw" (168 : Nat) ({ cls := "SlideParkModel", name := "book", desc := "(III)I" } : Jvm.MethodName)) ∈ lw_all := lw_g (lw_at lw_m9 19 rfl) rfl
theorem q2056 : (Jvm.Cond.methodLink "SlideParkLaw" (172 : Nat) ({ cls := "SlideParkModel", name := "cancel", desc := "(I)I" } : Jvm.MethodName)) ∈ lw_all := lw_g (lw_at lw_m9 71 rfl) rfl
theorem q2072 : (Jvm.Cond.methodLink "SlideParkLaw" (175 : Nat) ({ cls := "SlideParkModel", name := "joinQueue", desc := "(II)I" } : Jvm.MethodName)) ∈ lw_all := lw_g (lw_at lw_m9 87 rfl) rfl
theorem q2080 : (Jvm.Cond.methodLink "SlideParkLaw" (178 : Nat) ({ cls := "SlideParkModel", name := "leaveQueue", desc := "(I)I" } : Jvm.MethodName)) ∈ lw_all := lw_g (lw_at lw_m9 95 rfl) rfl
theorem q2088 : (Jvm.Cond.methodLink "SlideParkLaw" (181 : Nat) ({ cls := "SlideParkModel", name := "passMinutes", desc := "(I)I" } : Jvm.MethodName)) ∈ lw_all := lw_g (lw_at lw_m9 103 rfl) rfl
theorem q2122 : (Jvm.Cond.methodLink "SlideParkLaw" (185 : Nat) ({ cls := "SlideParkModel", name := "minute", desc := "()I" } : Jvm.MethodName)) ∈ lw_all := lw_g (lw_at lw_m9 137 rfl) rfl
theorem q2126 : (Jvm.Cond.methodLink "SlideParkLaw" (189 : Nat) ({ cls := "SlideParkModel", name := "slideCount", desc := "()I" } : Jvm.MethodName)) ∈ lw_all := lw_g (lw_at lw_m9 141 rfl) rfl
theorem q2130 : (Jvm.Cond.methodLink "SlideParkLaw" (192 : Nat) ({ cls := "SlideParkModel", name := "duration", desc := "(I)I" } : Jvm.MethodName)) ∈ lw_all := lw_g (lw_at lw_m9 145 rfl) rfl
theorem q2138 : (Jvm.Cond.methodLink "SlideParkLaw" (195 : Nat) ({ cls := "SlideParkModel", name := "price", desc := "(I)I" } : Jvm.MethodName)) ∈ lw_all := lw_g (lw_at lw_m9 153 rfl) rfl
theorem q2142 : (Jvm.Cond.methodLink "SlideParkLaw" (198 : Nat) ({ cls := "SlideParkModel", name := "wetness", desc := "(I)I" } : Jvm.MethodName)) ∈ lw_all := lw_g (lw_at lw_m9 157 rfl) rfl
theorem q2146 : (Jvm.Cond.methodLink "SlideParkLaw" (201 : Nat) ({ cls := "SlideParkModel", name := "rider", desc := "(I)I" } : Jvm.MethodName)) ∈ lw_all := lw_g (lw_at lw_m9 161 rfl) rfl
theorem q2150 : (Jvm.Cond.methodLink "SlideParkLaw" (205 : Nat) ({ cls := "SlideParkModel", name := "guestCount", desc := "()I" } : Jvm.MethodName)) ∈ lw_all := lw_g (lw_at lw_m9 165 rfl) rfl
theorem q2154 : (Jvm.Cond.methodLink "SlideParkLaw" (208 : Nat) ({ cls := "SlideParkModel", name := "coins", desc := "(I)I" } : Jvm.MethodName)) ∈ lw_all := lw_g (lw_at lw_m9 169 rfl) rfl
theorem q2158 : (Jvm.Cond.methodLink "SlideParkLaw" (211 : Nat) ({ cls := "SlideParkModel", name := "queueOf", desc := "(I)I" } : Jvm.MethodName)) ∈ lw_all := lw_g (lw_at lw_m9 173 rfl) rfl
theorem q2162 : (Jvm.Cond.methodLink "SlideParkLaw" (214 : Nat) ({ cls := "SlideParkModel", name := "queueLength", desc := "(I)I" } : Jvm.MethodName)) ∈ lw_all := lw_g (lw_at lw_m9 177 rfl) rfl
theorem q2166 : (Jvm.Cond.methodLink "SlideParkLaw" (217 : Nat) ({ cls := "SlideParkModel", name := "queuedGuest", desc := "(II)I" } : Jvm.MethodName)) ∈ lw_all := lw_g (lw_at lw_m9 181 rfl) rfl
theorem q2170 : (Jvm.Cond.methodLink "SlideParkLaw" (221 : Nat) ({ cls := "SlideParkModel", name := "bookingCount", desc := "()I" } : Jvm.MethodName)) ∈ lw_all := lw_g (lw_at lw_m9 185 rfl) rfl
theorem q2174 : (Jvm.Cond.methodLink "SlideParkLaw" (224 : Nat) ({ cls := "SlideParkModel", name := "bookedGuest", desc := "(I)I" } : Jvm.MethodName)) ∈ lw_all := lw_g (lw_at lw_m9 189 rfl) rfl
theorem q2178 : (Jvm.Cond.methodLink "SlideParkLaw" (227 : Nat) ({ cls := "SlideParkModel", name := "bookedSlide", desc := "(I)I" } : Jvm.MethodName)) ∈ lw_all := lw_g (lw_at lw_m9 193 rfl) rfl
theorem q2182 : (Jvm.Cond.methodLink "SlideParkLaw" (230 : Nat) ({ cls := "SlideParkModel", name := "start", desc := "(I)I" } : Jvm.MethodName)) ∈ lw_all := lw_g (lw_at lw_m9 197 rfl) rfl
theorem q2186 : (Jvm.Cond.methodLink "SlideParkLaw" (233 : Nat) ({ cls := "SlideParkModel", name := "hasStarted", desc := "(I)Z" } : Jvm.MethodName)) ∈ lw_all := lw_g (lw_at lw_m9 201 rfl) rfl
theorem q2190 : (Jvm.Cond.methodLink "SlideParkLaw" (236 : Nat) ({ cls := "SlideParkModel", name := "bookingByStart", desc := "(I)I" } : Jvm.MethodName)) ∈ lw_all := lw_g (lw_at lw_m9 205 rfl) rfl
theorem q2198 : (Jvm.Cond.methodLink "SlideParkLaw" (239 : Nat) ({ cls := "SlideParkModel", name := "isFree", desc := "(II)Z" } : Jvm.MethodName)) ∈ lw_all := lw_g (lw_at lw_m9 213 rfl) rfl
theorem q2202 : (Jvm.Cond.methodLink "SlideParkLaw" (242 : Nat) ({ cls := "SlideParkModel", name := "firstFree", desc := "(II)I" } : Jvm.MethodName)) ∈ lw_all := lw_g (lw_at lw_m9 217 rfl) rfl
theorem q2206 : (Jvm.Cond.methodLink "SlideParkLaw" (245 : Nat) ({ cls := "SlideParkModel", name := "firstFreeByGaps", desc := "(II)I" } : Jvm.MethodName)) ∈ lw_all := lw_g (lw_at lw_m9 221 rfl) rfl
theorem q2211 : (Jvm.Cond.methodLink "SlideParkLaw" (249 : Nat) ({ cls := "SlideParkModel", name := "mostWatched", desc := "()I" } : Jvm.MethodName)) ∈ lw_all := lw_g (lw_at lw_m9 226 rfl) rfl
theorem q2216 : (Jvm.Cond.methodLink "SlideParkLaw" (253 : Nat) ({ cls := "SlideParkModel", name := "mostWatchedByTable", desc := "()I" } : Jvm.MethodName)) ∈ lw_all := lw_g (lw_at lw_m9 231 rfl) rfl
theorem q2221 : (Jvm.Cond.methodLink "SlideParkLaw" (257 : Nat) ({ cls := "SlideParkModel", name := "mostAtOnce", desc := "()I" } : Jvm.MethodName)) ∈ lw_all := lw_g (lw_at lw_m9 236 rfl) rfl
theorem q2225 : (Jvm.Cond.methodLink "SlideParkLaw" (261 : Nat) ({ cls := "SlideParkModel", name := "mostAtOnceBySweep", desc := "()I" } : Jvm.MethodName)) ∈ lw_all := lw_g (lw_at lw_m10 0 rfl) rfl
theorem q2230 : (Jvm.Cond.methodLink "SlideParkLaw" (265 : Nat) ({ cls := "SlideParkModel", name := "finishCount", desc := "()I" } : Jvm.MethodName)) ∈ lw_all := lw_g (lw_at lw_m10 5 rfl) rfl
theorem q2234 : (Jvm.Cond.methodLink "SlideParkLaw" (268 : Nat) ({ cls := "SlideParkModel", name := "finishedGuest", desc := "(I)I" } : Jvm.MethodName)) ∈ lw_all := lw_g (lw_at lw_m10 9 rfl) rfl
theorem q2242 : (Jvm.Cond.methodLink "SlideParkLaw" (271 : Nat) ({ cls := "SlideParkModel", name := "finishedSlide", desc := "(I)I" } : Jvm.MethodName)) ∈ lw_all := lw_g (lw_at lw_m10 17 rfl) rfl
theorem q2246 : (Jvm.Cond.methodLink "SlideParkLaw" (274 : Nat) ({ cls := "SlideParkModel", name := "finishMinute", desc := "(I)I" } : Jvm.MethodName)) ∈ lw_all := lw_g (lw_at lw_m10 21 rfl) rfl
theorem q2250 : (Jvm.Cond.methodLink "SlideParkLaw" (278 : Nat) ({ cls := "SlideParkModel", name := "photoFinishes", desc := "()I" } : Jvm.MethodName)) ∈ lw_all := lw_g (lw_at lw_m10 25 rfl) rfl
theorem q2254 : (Jvm.Cond.methodLink "SlideParkLaw" (282 : Nat) ({ cls := "SlideParkModel", name := "photoFinishesByRuns", desc := "()I" } : Jvm.MethodName)) ∈ lw_all := lw_g (lw_at lw_m10 29 rfl) rfl
theorem q2259 : (Jvm.Cond.methodLink "SlideParkLaw" (286 : Nat) ({ cls := "SlideParkModel", name := "splashes", desc := "()I" } : Jvm.MethodName)) ∈ lw_all := lw_g (lw_at lw_m10 34 rfl) rfl
theorem q2263 : (Jvm.Cond.methodLink "SlideParkLaw" (290 : Nat) ({ cls := "SlideParkModel", name := "refundedCoins", desc := "()I" } : Jvm.MethodName)) ∈ lw_all := lw_g (lw_at lw_m10 38 rfl) rfl
theorem q2267 : (Jvm.Cond.methodLink "SlideParkLaw" (294 : Nat) ({ cls := "SlideParkModel", name := "officeCoins", desc := "()I" } : Jvm.MethodName)) ∈ lw_all := lw_g (lw_at lw_m10 42 rfl) rfl
theorem q2271 : (Jvm.Cond.methodLink "SlideParkLaw" (297 : Nat) ({ cls := "SlideParkModel", name := "rides", desc := "(I)I" } : Jvm.MethodName)) ∈ lw_all := lw_g (lw_at lw_m10 46 rfl) rfl
theorem q2275 : (Jvm.Cond.methodLink "SlideParkLaw" (300 : Nat) ({ cls := "SlideParkModel", name := "guestByRides", desc := "(I)I" } : Jvm.MethodName)) ∈ lw_all := lw_g (lw_at lw_m10 50 rfl) rfl
theorem q2279 : (Jvm.Cond.methodLink "SlideParkLaw" (303 : Nat) ({ cls := "SlideParkModel", name := "slideByWetness", desc := "(I)I" } : Jvm.MethodName)) ∈ lw_all := lw_g (lw_at lw_m10 54 rfl) rfl
theorem q2283 : (Jvm.Cond.methodLink "SlideParkLaw" (307 : Nat) ({ cls := "SlideParkModel", name := "meanCoins", desc := "()D" } : Jvm.MethodName)) ∈ lw_all := lw_g (lw_at lw_m10 58 rfl) rfl
theorem q2287 : (Jvm.Cond.methodLink "SlideParkLaw" (310 : Nat) ({ cls := "SlideParkModel", name := "busyShare", desc := "()F" } : Jvm.MethodName)) ∈ lw_all := lw_g (lw_at lw_m10 62 rfl) rfl
theorem q2291 : (Jvm.Cond.methodLink "SlideParkLaw" (315 : Nat) ({ cls := "SlideParkModel", name := "isConsistent", desc := "()Z" } : Jvm.MethodName)) ∈ lw_all := lw_g (lw_at lw_m10 66 rfl) rfl
theorem q2295 : (Jvm.Cond.methodLink "SlideParkLaw" (331 : Nat) ({ cls := "SlideParkModel", name := "writeSlide", desc := "(I)I" } : Jvm.MethodName)) ∈ lw_all := lw_g (lw_at lw_m10 70 rfl) rfl
theorem q2307 : (Jvm.Cond.methodLink "SlideParkLaw" (334 : Nat) ({ cls := "SlideParkModel", name := "outputChar", desc := "(I)C" } : Jvm.MethodName)) ∈ lw_all := lw_g (lw_at lw_m10 82 rfl) rfl
theorem q2311 : (Jvm.Cond.methodLink "SlideParkLaw" (319 : Nat) ({ cls := "SlideParkModel", name := "feed", desc := "(C)I" } : Jvm.MethodName)) ∈ lw_all := lw_g (lw_at lw_m10 86 rfl) rfl
theorem q2315 : (Jvm.Cond.methodLink "SlideParkLaw" (322 : Nat) ({ cls := "SlideParkModel", name := "runCommands", desc := "()I" } : Jvm.MethodName)) ∈ lw_all := lw_g (lw_at lw_m10 90 rfl) rfl
theorem q2353 : (Jvm.Cond.methodLink "SlideParkLaw" (325 : Nat) ({ cls := "SlideParkModel", name := "errorPosition", desc := "()I" } : Jvm.MethodName)) ∈ lw_all := lw_g (lw_at lw_m10 128 rfl) rfl
theorem q2357 : (Jvm.Cond.methodLink "SlideParkLaw" (328 : Nat) ({ cls := "SlideParkModel", name := "failedCommand", desc := "()I" } : Jvm.MethodName)) ∈ lw_all := lw_g (lw_at lw_m10 132 rfl) rfl
theorem q2361 : (Jvm.Cond.methodLink "SlideParkLaw" (338 : Nat) ({ cls := "SlideParkModel", name := "undoCount", desc := "()I" } : Jvm.MethodName)) ∈ lw_all := lw_g (lw_at lw_m10 136 rfl) rfl
theorem q2365 : (Jvm.Cond.methodLink "SlideParkLaw" (341 : Nat) ({ cls := "SlideParkModel", name := "undo", desc := "()I" } : Jvm.MethodName)) ∈ lw_all := lw_g (lw_at lw_m10 140 rfl) rfl
theorem q2369 : (Jvm.Cond.methodLink "SlideParkLaw" (345 : Nat) ({ cls := "SlideParkModel", name := "save", desc := "()I" } : Jvm.MethodName)) ∈ lw_all := lw_g (lw_at lw_m10 144 rfl) rfl
theorem q2373 : (Jvm.Cond.methodLink "SlideParkLaw" (348 : Nat) ({ cls := "SlideParkModel", name := "restore", desc := "()I" } : Jvm.MethodName)) ∈ lw_all := lw_g (lw_at lw_m10 148 rfl) rfl

/-! SlidePark -/
set_option maxRecDepth 100000
def RX1 : String := "SlidePark"
def TX1 : u_T := fun k => match k with
  | 0 => ("SlidePark", "state", "LSlidePark$State;", false)
  | 1 => ("SlidePark", "history", "LSlidePark$Latest;", true)
  | 2 => ("SlidePark", "saved", "LSlidePark$State;", false)
  | 3 => ("SlidePark", "input", "[C", true)
  | 4 => ("SlidePark", "inputLength", "I", false)
  | 5 => ("SlidePark", "errorPosition", "I", false)
  | 6 => ("SlidePark", "failedCommand", "I", false)
  | _ => ("SlidePark", "output", "Ljava/lang/StringBuilder;", true)
def tyX1 : Nat → FieldType := fun k => match k with
  | 0 => .object "SlidePark$State"
  | 1 => .object "SlidePark$Latest"
  | 2 => .object "SlidePark$State"
  | 3 => .array .char
  | 4 => .int
  | 5 => .int
  | 6 => .int
  | _ => .object "java/lang/StringBuilder"
abbrev wsX10 : List Cond := u_ws RX1 TX1 8
theorem nmX1 : ∀ a, a < 8 → ∀ b, b < 8 → a ≠ b → (TX1 a).2.1 ≠ (TX1 b).2.1 := by decide +kernel
theorem tyX1_ok : ∀ k, k < 8 → parseFieldDescriptor (TX1 k).2.2.1 = some (tyX1 k) := by decide +kernel
abbrev cX1_init : ByteArray := prog_1_method_1_code
def yX1_init : MethodName := ⟨RX1, "<init>", "()V"⟩
def dkwX1_init_2 : List UInt8 := [42, 187, 0, 36, 89, 183, 0, 38, 181, 0, 39, 177]
abbrev dktX1_init_2 : List UInt8 := dkwX1_init_2 ++ []
def dkwX1_init_1 : List UInt8 := [183, 0, 18, 181, 0, 21, 42, 16, 60, 188, 5, 181, 0, 25, 42, 2, 181, 0, 29, 42, 2, 181, 0, 33]
abbrev dktX1_init_1 : List UInt8 := dkwX1_init_1 ++ dktX1_init_2
def dkwX1_init_0 : List UInt8 := [42, 183, 0, 1, 42, 187, 0, 7, 89, 183, 0, 9, 181, 0, 10, 42, 187, 0, 16, 89, 16, 8]
abbrev dktX1_init_0 : List UInt8 := dkwX1_init_0 ++ dktX1_init_1
theorem dksX1_init_0 : cX1_init.data.toList.drop 0 = dktX1_init_0 := by decide +kernel
theorem dksX1_init_1 : cX1_init.data.toList.drop 22 = dktX1_init_1 := dk_seg dksX1_init_0 22 rfl rfl
theorem dksX1_init_2 : cX1_init.data.toList.drop 46 = dktX1_init_2 := dk_seg dksX1_init_1 24 rfl rfl
theorem dX1_init_0 : decode cX1_init 0 = .ok (.aload_n 0, 1) := dk_42 (dk_at dksX1_init_0 0 rfl rfl)
theorem dX1_init_1 : decode cX1_init 1 = .ok (.invokespecial 1, 3) := dk_183 0 1 (dk_at dksX1_init_0 1 rfl rfl)
theorem dX1_init_4 : decode cX1_init 4 = .ok (.aload_n 0, 1) := dk_42 (dk_at dksX1_init_0 4 rfl rfl)
theorem dX1_init_5 : decode cX1_init 5 = .ok (.new 7, 3) := dk_187 0 7 (dk_at dksX1_init_0 5 rfl rfl)
theorem dX1_init_8 : decode cX1_init 8 = .ok (.dup, 1) := dk_89 (dk_at dksX1_init_0 8 rfl rfl)
theorem dX1_init_9 : decode cX1_init 9 = .ok (.invokespecial 9, 3) := dk_183 0 9 (dk_at dksX1_init_0 9 rfl rfl)
theorem dX1_init_12 : decode cX1_init 12 = .ok (.putfield 10, 3) := dk_181 0 10 (dk_at dksX1_init_0 12 rfl rfl)
theorem dX1_init_15 : decode cX1_init 15 = .ok (.aload_n 0, 1) := dk_42 (dk_at dksX1_init_0 15 rfl rfl)
theorem dX1_init_16 : decode cX1_init 16 = .ok (.new 16, 3) := dk_187 0 16 (dk_at dksX1_init_0 16 rfl rfl)
theorem dX1_init_19 : decode cX1_init 19 = .ok (.dup, 1) := dk_89 (dk_at dksX1_init_0 19 rfl rfl)
theorem dX1_init_20 : decode cX1_init 20 = .ok (.bipush 8, 2) := dk_16 8 (dk_at dksX1_init_0 20 rfl rfl)
theorem dX1_init_22 : decode cX1_init 22 = .ok (.invokespecial 18, 3) := dk_183 0 18 (dk_at dksX1_init_1 0 rfl rfl)
theorem dX1_init_25 : decode cX1_init 25 = .ok (.putfield 21, 3) := dk_181 0 21 (dk_at dksX1_init_1 3 rfl rfl)
theorem dX1_init_28 : decode cX1_init 28 = .ok (.aload_n 0, 1) := dk_42 (dk_at dksX1_init_1 6 rfl rfl)
theorem dX1_init_29 : decode cX1_init 29 = .ok (.bipush 60, 2) := dk_16 60 (dk_at dksX1_init_1 7 rfl rfl)
theorem dX1_init_31 : decode cX1_init 31 = .ok (.newarray .char, 2) := dk_188_5 (dk_at dksX1_init_1 9 rfl rfl)
theorem dX1_init_33 : decode cX1_init 33 = .ok (.putfield 25, 3) := dk_181 0 25 (dk_at dksX1_init_1 11 rfl rfl)
theorem dX1_init_36 : decode cX1_init 36 = .ok (.aload_n 0, 1) := dk_42 (dk_at dksX1_init_1 14 rfl rfl)
theorem dX1_init_37 : decode cX1_init 37 = .ok (.iconst (-1), 1) := dk_2 (dk_at dksX1_init_1 15 rfl rfl)
theorem dX1_init_38 : decode cX1_init 38 = .ok (.putfield 29, 3) := dk_181 0 29 (dk_at dksX1_init_1 16 rfl rfl)
theorem dX1_init_41 : decode cX1_init 41 = .ok (.aload_n 0, 1) := dk_42 (dk_at dksX1_init_1 19 rfl rfl)
theorem dX1_init_42 : decode cX1_init 42 = .ok (.iconst (-1), 1) := dk_2 (dk_at dksX1_init_1 20 rfl rfl)
theorem dX1_init_43 : decode cX1_init 43 = .ok (.putfield 33, 3) := dk_181 0 33 (dk_at dksX1_init_1 21 rfl rfl)
theorem dX1_init_46 : decode cX1_init 46 = .ok (.aload_n 0, 1) := dk_42 (dk_at dksX1_init_2 0 rfl rfl)
theorem dX1_init_47 : decode cX1_init 47 = .ok (.new 36, 3) := dk_187 0 36 (dk_at dksX1_init_2 1 rfl rfl)
theorem dX1_init_50 : decode cX1_init 50 = .ok (.dup, 1) := dk_89 (dk_at dksX1_init_2 4 rfl rfl)
theorem dX1_init_51 : decode cX1_init 51 = .ok (.invokespecial 38, 3) := dk_183 0 38 (dk_at dksX1_init_2 5 rfl rfl)
theorem dX1_init_54 : decode cX1_init 54 = .ok (.putfield 39, 3) := dk_181 0 39 (dk_at dksX1_init_2 8 rfl rfl)
theorem dX1_init_57 : decode cX1_init 57 = .ok (.return_, 1) := dk_177 (dk_at dksX1_init_2 11 rfl rfl)
abbrev cX1_minute : ByteArray := prog_1_method_20_code
def yX1_minute : MethodName := ⟨RX1, "minute", "()I"⟩
def dkwX1_minute_0 : List UInt8 := [42, 180, 0, 10, 180, 0, 130, 172]
abbrev dktX1_minute_0 : List UInt8 := dkwX1_minute_0 ++ []
theorem dksX1_minute_0 : cX1_minute.data.toList.drop 0 = dktX1_minute_0 := by decide +kernel
theorem dX1_minute_0 : decode cX1_minute 0 = .ok (.aload_n 0, 1) := dk_42 (dk_at dksX1_minute_0 0 rfl rfl)
theorem dX1_minute_1 : decode cX1_minute 1 = .ok (.getfield 10, 3) := dk_180 0 10 (dk_at dksX1_minute_0 1 rfl rfl)
theorem dX1_minute_4 : decode cX1_minute 4 = .ok (.getfield 130, 3) := dk_180 0 130 (dk_at dksX1_minute_0 4 rfl rfl)
theorem dX1_minute_7 : decode cX1_minute 7 = .ok (.ireturn, 1) := dk_172 (dk_at dksX1_minute_0 7 rfl rfl)
abbrev cX1_slideCount : ByteArray := prog_1_method_21_code
def yX1_slideCount : MethodName := ⟨RX1, "slideCount", "()I"⟩
def dkwX1_slideCount_0 : List UInt8 := [42, 180, 0, 10, 180, 0, 133, 182, 0, 64, 172]
abbrev dktX1_slideCount_0 : List UInt8 := dkwX1_slideCount_0 ++ []
theorem dksX1_slideCount_0 : cX1_slideCount.data.toList.drop 0 = dktX1_slideCount_0 := by decide +kernel
theorem dX1_slideCount_0 : decode cX1_slideCount 0 = .ok (.aload_n 0, 1) := dk_42 (dk_at dksX1_slideCount_0 0 rfl rfl)
theorem dX1_slideCount_1 : decode cX1_slideCount 1 = .ok (.getfield 10, 3) := dk_180 0 10 (dk_at dksX1_slideCount_0 1 rfl rfl)
theorem dX1_slideCount_4 : decode cX1_slideCount 4 = .ok (.getfield 133, 3) := dk_180 0 133 (dk_at dksX1_slideCount_0 4 rfl rfl)
theorem dX1_slideCount_7 : decode cX1_slideCount 7 = .ok (.invokevirtual 64, 3) := dk_182 0 64 (dk_at dksX1_slideCount_0 7 rfl rfl)
theorem dX1_slideCount_10 : decode cX1_slideCount 10 = .ok (.ireturn, 1) := dk_172 (dk_at dksX1_slideCount_0 10 rfl rfl)
abbrev cX1_guestCount : ByteArray := prog_1_method_26_code
def yX1_guestCount : MethodName := ⟨RX1, "guestCount", "()I"⟩
def dkwX1_guestCount_0 : List UInt8 := [42, 180, 0, 10, 180, 0, 164, 182, 0, 64, 172]
abbrev dktX1_guestCount_0 : List UInt8 := dkwX1_guestCount_0 ++ []
theorem dksX1_guestCount_0 : cX1_guestCount.data.toList.drop 0 = dktX1_guestCount_0 := by decide +kernel
theorem dX1_guestCount_0 : decode cX1_guestCount 0 = .ok (.aload_n 0, 1) := dk_42 (dk_at dksX1_guestCount_0 0 rfl rfl)
theorem dX1_guestCount_1 : decode cX1_guestCount 1 = .ok (.getfield 10, 3) := dk_180 0 10 (dk_at dksX1_guestCount_0 1 rfl rfl)
theorem dX1_guestCount_4 : decode cX1_guestCount 4 = .ok (.getfield 164, 3) := dk_180 0 164 (dk_at dksX1_guestCount_0 4 rfl rfl)
theorem dX1_guestCount_7 : decode cX1_guestCount 7 = .ok (.invokevirtual 64, 3) := dk_182 0 64 (dk_at dksX1_guestCount_0 7 rfl rfl)
theorem dX1_guestCount_10 : decode cX1_guestCount 10 = .ok (.ireturn, 1) := dk_172 (dk_at dksX1_guestCount_0 10 rfl rfl)
abbrev cX1_bookingCount : ByteArray := prog_1_method_32_code
def yX1_bookingCount : MethodName := ⟨RX1, "bookingCount", "()I"⟩
def dkwX1_bookingCount_0 : List UInt8 := [42, 180, 0, 10, 180, 0, 196, 182, 0, 64, 172]
abbrev dktX1_bookingCount_0 : List UInt8 := dkwX1_bookingCount_0 ++ []
theorem dksX1_bookingCount_0 : cX1_bookingCount.data.toList.drop 0 = dktX1_bookingCount_0 := by decide +kernel
theorem dX1_bookingCount_0 : decode cX1_bookingCount 0 = .ok (.aload_n 0, 1) := dk_42 (dk_at dksX1_bookingCount_0 0 rfl rfl)
theorem dX1_bookingCount_1 : decode cX1_bookingCount 1 = .ok (.getfield 10, 3) := dk_180 0 10 (dk_at dksX1_bookingCount_0 1 rfl rfl)
theorem dX1_bookingCount_4 : decode cX1_bookingCount 4 = .ok (.getfield 196, 3) := dk_180 0 196 (dk_at dksX1_bookingCount_0 4 rfl rfl)
theorem dX1_bookingCount_7 : decode cX1_bookingCount 7 = .ok (.invokevirtual 64, 3) := dk_182 0 64 (dk_at dksX1_bookingCount_0 7 rfl rfl)
theorem dX1_bookingCount_10 : decode cX1_bookingCount 10 = .ok (.ireturn, 1) := dk_172 (dk_at dksX1_bookingCount_0 10 rfl rfl)
abbrev cX1_mostWatched : ByteArray := prog_1_method_42_code
def yX1_mostWatched : MethodName := ⟨RX1, "mostWatched", "()I"⟩
def dkwX1_mostWatched_0 : List UInt8 := [42, 180, 0, 10, 182, 0, 228, 172]
abbrev dktX1_mostWatched_0 : List UInt8 := dkwX1_mostWatched_0 ++ []
theorem dksX1_mostWatched_0 : cX1_mostWatched.data.toList.drop 0 = dktX1_mostWatched_0 := by decide +kernel
theorem dX1_mostWatched_0 : decode cX1_mostWatched 0 = .ok (.aload_n 0, 1) := dk_42 (dk_at dksX1_mostWatched_0 0 rfl rfl)
theorem dX1_mostWatched_1 : decode cX1_mostWatched 1 = .ok (.getfield 10, 3) := dk_180 0 10 (dk_at dksX1_mostWatched_0 1 rfl rfl)
theorem dX1_mostWatched_4 : decode cX1_mostWatched 4 = .ok (.invokevirtual 228, 3) := dk_182 0 228 (dk_at dksX1_mostWatched_0 4 rfl rfl)
theorem dX1_mostWatched_7 : decode cX1_mostWatched 7 = .ok (.ireturn, 1) := dk_172 (dk_at dksX1_mostWatched_0 7 rfl rfl)
abbrev cX1_mostWatchedByTable : ByteArray := prog_1_method_43_code
def yX1_mostWatchedByTable : MethodName := ⟨RX1, "mostWatchedByTable", "()I"⟩
def dkwX1_mostWatchedByTable_0 : List UInt8 := [42, 180, 0, 10, 182, 0, 231, 172]
abbrev dktX1_mostWatchedByTable_0 : List UInt8 := dkwX1_mostWatchedByTable_0 ++ []
theorem dksX1_mostWatchedByTable_0 : cX1_mostWatchedByTable.data.toList.drop 0 = dktX1_mostWatchedByTable_0 := by decide +kernel
theorem dX1_mostWatchedByTable_0 : decode cX1_mostWatchedByTable 0 = .ok (.aload_n 0, 1) := dk_42 (dk_at dksX1_mostWatchedByTable_0 0 rfl rfl)
theorem dX1_mostWatchedByTable_1 : decode cX1_mostWatchedByTable 1 = .ok (.getfield 10, 3) := dk_180 0 10 (dk_at dksX1_mostWatchedByTable_0 1 rfl rfl)
theorem dX1_mostWatchedByTable_4 : decode cX1_mostWatchedByTable 4 = .ok (.invokevirtual 231, 3) := dk_182 0 231 (dk_at dksX1_mostWatchedByTable_0 4 rfl rfl)
theorem dX1_mostWatchedByTable_7 : decode cX1_mostWatchedByTable 7 = .ok (.ireturn, 1) := dk_172 (dk_at dksX1_mostWatchedByTable_0 7 rfl rfl)
abbrev cX1_atRank : ByteArray := prog_1_method_10_code
def yX1_atRank : MethodName := ⟨RX1, "atRank", "(Ljava/util/ArrayList;I)I"⟩
def dkwX1_atRank_4 : List UInt8 := [183, 0, 54, 191]
abbrev dktX1_atRank_4 : List UInt8 := dkwX1_atRank_4 ++ []
def dkwX1_atRank_3 : List UInt8 := [132, 4, 1, 167, 255, 197, 29, 27, 160, 0, 5, 28, 172, 132, 2, 1, 167, 255, 171, 187, 0, 52, 89]
abbrev dktX1_atRank_3 : List UInt8 := dkwX1_atRank_3 ++ dktX1_atRank_4
def dkwX1_atRank_2 : List UInt8 := [162, 0, 7, 4, 167, 0, 4, 3, 185, 0, 84, 3, 0, 153, 0, 7, 4, 167, 0, 4, 3, 96, 62]
abbrev dktX1_atRank_2 : List UInt8 := dkwX1_atRank_2 ++ dktX1_atRank_3
def dkwX1_atRank_1 : List UInt8 := [29, 21, 4, 28, 159, 0, 40, 42, 21, 4, 182, 0, 68, 192, 0, 82, 42, 28, 182, 0, 68, 21, 4, 28]
abbrev dktX1_atRank_1 : List UInt8 := dkwX1_atRank_1 ++ dktX1_atRank_2
def dkwX1_atRank_0 : List UInt8 := [3, 61, 28, 42, 182, 0, 64, 162, 0, 83, 3, 62, 3, 54, 4, 21, 4, 42, 182, 0, 64, 162, 0, 56]
abbrev dktX1_atRank_0 : List UInt8 := dkwX1_atRank_0 ++ dktX1_atRank_1
theorem dksX1_atRank_0 : cX1_atRank.data.toList.drop 0 = dktX1_atRank_0 := by decide +kernel
theorem dksX1_atRank_1 : cX1_atRank.data.toList.drop 24 = dktX1_atRank_1 := dk_seg dksX1_atRank_0 24 rfl rfl
theorem dksX1_atRank_2 : cX1_atRank.data.toList.drop 48 = dktX1_atRank_2 := dk_seg dksX1_atRank_1 24 rfl rfl
theorem dksX1_atRank_3 : cX1_atRank.data.toList.drop 71 = dktX1_atRank_3 := dk_seg dksX1_atRank_2 23 rfl rfl
theorem dksX1_atRank_4 : cX1_atRank.data.toList.drop 94 = dktX1_atRank_4 := dk_seg dksX1_atRank_3 23 rfl rfl
theorem dX1_atRank_0 : decode cX1_atRank 0 = .ok (.iconst 0, 1) := dk_3 (dk_at dksX1_atRank_0 0 rfl rfl)
theorem dX1_atRank_1 : decode cX1_atRank 1 = .ok (.istore_n 2, 1) := dk_61 (dk_at dksX1_atRank_0 1 rfl rfl)
theorem dX1_atRank_2 : decode cX1_atRank 2 = .ok (.iload_n 2, 1) := dk_28 (dk_at dksX1_atRank_0 2 rfl rfl)
theorem dX1_atRank_3 : decode cX1_atRank 3 = .ok (.aload_n 0, 1) := dk_42 (dk_at dksX1_atRank_0 3 rfl rfl)
theorem dX1_atRank_4 : decode cX1_atRank 4 = .ok (.invokevirtual 64, 3) := dk_182 0 64 (dk_at dksX1_atRank_0 4 rfl rfl)
theorem dX1_atRank_7 : decode cX1_atRank 7 = .ok (.if_icmp .ge 83, 3) := dk_162 0 83 (dk_at dksX1_atRank_0 7 rfl rfl)
theorem dX1_atRank_10 : decode cX1_atRank 10 = .ok (.iconst 0, 1) := dk_3 (dk_at dksX1_atRank_0 10 rfl rfl)
theorem dX1_atRank_11 : decode cX1_atRank 11 = .ok (.istore_n 3, 1) := dk_62 (dk_at dksX1_atRank_0 11 rfl rfl)
theorem dX1_atRank_12 : decode cX1_atRank 12 = .ok (.iconst 0, 1) := dk_3 (dk_at dksX1_atRank_0 12 rfl rfl)
theorem dX1_atRank_13 : decode cX1_atRank 13 = .ok (.istore 4, 2) := dk_54 4 (dk_at dksX1_atRank_0 13 rfl rfl)
theorem dX1_atRank_15 : decode cX1_atRank 15 = .ok (.iload 4, 2) := dk_21 4 (dk_at dksX1_atRank_0 15 rfl rfl)
theorem dX1_atRank_17 : decode cX1_atRank 17 = .ok (.aload_n 0, 1) := dk_42 (dk_at dksX1_atRank_0 17 rfl rfl)
theorem dX1_atRank_18 : decode cX1_atRank 18 = .ok (.invokevirtual 64, 3) := dk_182 0 64 (dk_at dksX1_atRank_0 18 rfl rfl)
theorem dX1_atRank_21 : decode cX1_atRank 21 = .ok (.if_icmp .ge 56, 3) := dk_162 0 56 (dk_at dksX1_atRank_0 21 rfl rfl)
theorem dX1_atRank_24 : decode cX1_atRank 24 = .ok (.iload_n 3, 1) := dk_29 (dk_at dksX1_atRank_1 0 rfl rfl)
theorem dX1_atRank_25 : decode cX1_atRank 25 = .ok (.iload 4, 2) := dk_21 4 (dk_at dksX1_atRank_1 1 rfl rfl)
theorem dX1_atRank_27 : decode cX1_atRank 27 = .ok (.iload_n 2, 1) := dk_28 (dk_at dksX1_atRank_1 3 rfl rfl)
theorem dX1_atRank_28 : decode cX1_atRank 28 = .ok (.if_icmp .eq 40, 3) := dk_159 0 40 (dk_at dksX1_atRank_1 4 rfl rfl)
theorem dX1_atRank_31 : decode cX1_atRank 31 = .ok (.aload_n 0, 1) := dk_42 (dk_at dksX1_atRank_1 7 rfl rfl)
theorem dX1_atRank_32 : decode cX1_atRank 32 = .ok (.iload 4, 2) := dk_21 4 (dk_at dksX1_atRank_1 8 rfl rfl)
theorem dX1_atRank_34 : decode cX1_atRank 34 = .ok (.invokevirtual 68, 3) := dk_182 0 68 (dk_at dksX1_atRank_1 10 rfl rfl)
theorem dX1_atRank_37 : decode cX1_atRank 37 = .ok (.checkcast 82, 3) := dk_192 0 82 (dk_at dksX1_atRank_1 13 rfl rfl)
theorem dX1_atRank_40 : decode cX1_atRank 40 = .ok (.aload_n 0, 1) := dk_42 (dk_at dksX1_atRank_1 16 rfl rfl)
theorem dX1_atRank_41 : decode cX1_atRank 41 = .ok (.iload_n 2, 1) := dk_28 (dk_at dksX1_atRank_1 17 rfl rfl)
theorem dX1_atRank_42 : decode cX1_atRank 42 = .ok (.invokevirtual 68, 3) := dk_182 0 68 (dk_at dksX1_atRank_1 18 rfl rfl)
theorem dX1_atRank_45 : decode cX1_atRank 45 = .ok (.iload 4, 2) := dk_21 4 (dk_at dksX1_atRank_1 21 rfl rfl)
theorem dX1_atRank_47 : decode cX1_atRank 47 = .ok (.iload_n 2, 1) := dk_28 (dk_at dksX1_atRank_1 23 rfl rfl)
theorem dX1_atRank_48 : decode cX1_atRank 48 = .ok (.if_icmp .ge 7, 3) := dk_162 0 7 (dk_at dksX1_atRank_2 0 rfl rfl)
theorem dX1_atRank_51 : decode cX1_atRank 51 = .ok (.iconst 1, 1) := dk_4 (dk_at dksX1_atRank_2 3 rfl rfl)
theorem dX1_atRank_52 : decode cX1_atRank 52 = .ok (.goto 4, 3) := dk_167 0 4 (dk_at dksX1_atRank_2 4 rfl rfl)
theorem dX1_atRank_55 : decode cX1_atRank 55 = .ok (.iconst 0, 1) := dk_3 (dk_at dksX1_atRank_2 7 rfl rfl)
theorem dX1_atRank_56 : decode cX1_atRank 56 = .ok (.invokeinterface 84 3, 5) := by decide +kernel
theorem dX1_atRank_61 : decode cX1_atRank 61 = .ok (.ifCond .eq 7, 3) := dk_153 0 7 (dk_at dksX1_atRank_2 13 rfl rfl)
theorem dX1_atRank_64 : decode cX1_atRank 64 = .ok (.iconst 1, 1) := dk_4 (dk_at dksX1_atRank_2 16 rfl rfl)
theorem dX1_atRank_65 : decode cX1_atRank 65 = .ok (.goto 4, 3) := dk_167 0 4 (dk_at dksX1_atRank_2 17 rfl rfl)
theorem dX1_atRank_68 : decode cX1_atRank 68 = .ok (.iconst 0, 1) := dk_3 (dk_at dksX1_atRank_2 20 rfl rfl)
theorem dX1_atRank_69 : decode cX1_atRank 69 = .ok (.iadd, 1) := dk_96 (dk_at dksX1_atRank_2 21 rfl rfl)
theorem dX1_atRank_70 : decode cX1_atRank 70 = .ok (.istore_n 3, 1) := dk_62 (dk_at dksX1_atRank_2 22 rfl rfl)
theorem dX1_atRank_71 : decode cX1_atRank 71 = .ok (.iinc 4 1, 3) := dk_132 4 1 (dk_at dksX1_atRank_3 0 rfl rfl)
theorem dX1_atRank_74 : decode cX1_atRank 74 = .ok (.goto (-59), 3) := dk_167 255 197 (dk_at dksX1_atRank_3 3 rfl rfl)
theorem dX1_atRank_77 : decode cX1_atRank 77 = .ok (.iload_n 3, 1) := dk_29 (dk_at dksX1_atRank_3 6 rfl rfl)
theorem dX1_atRank_78 : decode cX1_atRank 78 = .ok (.iload_n 1, 1) := dk_27 (dk_at dksX1_atRank_3 7 rfl rfl)
theorem dX1_atRank_79 : decode cX1_atRank 79 = .ok (.if_icmp .ne 5, 3) := dk_160 0 5 (dk_at dksX1_atRank_3 8 rfl rfl)
theorem dX1_atRank_82 : decode cX1_atRank 82 = .ok (.iload_n 2, 1) := dk_28 (dk_at dksX1_atRank_3 11 rfl rfl)
theorem dX1_atRank_83 : decode cX1_atRank 83 = .ok (.ireturn, 1) := dk_172 (dk_at dksX1_atRank_3 12 rfl rfl)
theorem dX1_atRank_84 : decode cX1_atRank 84 = .ok (.iinc 2 1, 3) := dk_132 2 1 (dk_at dksX1_atRank_3 13 rfl rfl)
theorem dX1_atRank_87 : decode cX1_atRank 87 = .ok (.goto (-85), 3) := dk_167 255 171 (dk_at dksX1_atRank_3 16 rfl rfl)
theorem dX1_atRank_90 : decode cX1_atRank 90 = .ok (.new 52, 3) := dk_187 0 52 (dk_at dksX1_atRank_3 19 rfl rfl)
theorem dX1_atRank_93 : decode cX1_atRank 93 = .ok (.dup, 1) := dk_89 (dk_at dksX1_atRank_3 22 rfl rfl)
theorem dX1_atRank_94 : decode cX1_atRank 94 = .ok (.invokespecial 54, 3) := dk_183 0 54 (dk_at dksX1_atRank_4 0 rfl rfl)
theorem dX1_atRank_97 : decode cX1_atRank 97 = .ok (.athrow, 1) := dk_191 (dk_at dksX1_atRank_4 3 rfl rfl)
abbrev cX1_mostAtOnce : ByteArray := prog_1_method_44_code
def yX1_mostAtOnce : MethodName := ⟨RX1, "mostAtOnce", "()I"⟩
def dkwX1_mostAtOnce_0 : List UInt8 := [42, 180, 0, 10, 182, 0, 234, 172]
abbrev dktX1_mostAtOnce_0 : List UInt8 := dkwX1_mostAtOnce_0 ++ []
theorem dksX1_mostAtOnce_0 : cX1_mostAtOnce.data.toList.drop 0 = dktX1_mostAtOnce_0 := by decide +kernel
theorem dX1_mostAtOnce_0 : decode cX1_mostAtOnce 0 = .ok (.aload_n 0, 1) := dk_42 (dk_at dksX1_mostAtOnce_0 0 rfl rfl)
theorem dX1_mostAtOnce_1 : decode cX1_mostAtOnce 1 = .ok (.getfield 10, 3) := dk_180 0 10 (dk_at dksX1_mostAtOnce_0 1 rfl rfl)
theorem dX1_mostAtOnce_4 : decode cX1_mostAtOnce 4 = .ok (.invokevirtual 234, 3) := dk_182 0 234 (dk_at dksX1_mostAtOnce_0 4 rfl rfl)
theorem dX1_mostAtOnce_7 : decode cX1_mostAtOnce 7 = .ok (.ireturn, 1) := dk_172 (dk_at dksX1_mostAtOnce_0 7 rfl rfl)
abbrev cX1_isBetween : ByteArray := prog_1_method_2_code
def yX1_isBetween : MethodName := ⟨RX1, "isBetween", "(III)Z"⟩
def dkwX1_isBetween_0 : List UInt8 := [26, 27, 161, 0, 12, 26, 28, 163, 0, 7, 4, 167, 0, 4, 3, 172]
abbrev dktX1_isBetween_0 : List UInt8 := dkwX1_isBetween_0 ++ []
theorem dksX1_isBetween_0 : cX1_isBetween.data.toList.drop 0 = dktX1_isBetween_0 := by decide +kernel
theorem dX1_isBetween_0 : decode cX1_isBetween 0 = .ok (.iload_n 0, 1) := dk_26 (dk_at dksX1_isBetween_0 0 rfl rfl)
theorem dX1_isBetween_1 : decode cX1_isBetween 1 = .ok (.iload_n 1, 1) := dk_27 (dk_at dksX1_isBetween_0 1 rfl rfl)
theorem dX1_isBetween_2 : decode cX1_isBetween 2 = .ok (.if_icmp .lt 12, 3) := dk_161 0 12 (dk_at dksX1_isBetween_0 2 rfl rfl)
theorem dX1_isBetween_5 : decode cX1_isBetween 5 = .ok (.iload_n 0, 1) := dk_26 (dk_at dksX1_isBetween_0 5 rfl rfl)
theorem dX1_isBetween_6 : decode cX1_isBetween 6 = .ok (.iload_n 2, 1) := dk_28 (dk_at dksX1_isBetween_0 6 rfl rfl)
theorem dX1_isBetween_7 : decode cX1_isBetween 7 = .ok (.if_icmp .gt 7, 3) := dk_163 0 7 (dk_at dksX1_isBetween_0 7 rfl rfl)
theorem dX1_isBetween_10 : decode cX1_isBetween 10 = .ok (.iconst 1, 1) := dk_4 (dk_at dksX1_isBetween_0 10 rfl rfl)
theorem dX1_isBetween_11 : decode cX1_isBetween 11 = .ok (.goto 4, 3) := dk_167 0 4 (dk_at dksX1_isBetween_0 11 rfl rfl)
theorem dX1_isBetween_14 : decode cX1_isBetween 14 = .ok (.iconst 0, 1) := dk_3 (dk_at dksX1_isBetween_0 14 rfl rfl)
theorem dX1_isBetween_15 : decode cX1_isBetween 15 = .ok (.ireturn, 1) := dk_172 (dk_at dksX1_isBetween_0 15 rfl rfl)
abbrev cX1_mostAtOnceBySweep : ByteArray := prog_1_method_45_code
def yX1_mostAtOnceBySweep : MethodName := ⟨RX1, "mostAtOnceBySweep", "()I"⟩
def dkwX1_mostAtOnceBySweep_0 : List UInt8 := [42, 180, 0, 10, 182, 0, 237, 172]
abbrev dktX1_mostAtOnceBySweep_0 : List UInt8 := dkwX1_mostAtOnceBySweep_0 ++ []
theorem dksX1_mostAtOnceBySweep_0 : cX1_mostAtOnceBySweep.data.toList.drop 0 = dktX1_mostAtOnceBySweep_0 := by decide +kernel
theorem dX1_mostAtOnceBySweep_0 : decode cX1_mostAtOnceBySweep 0 = .ok (.aload_n 0, 1) := dk_42 (dk_at dksX1_mostAtOnceBySweep_0 0 rfl rfl)
theorem dX1_mostAtOnceBySweep_1 : decode cX1_mostAtOnceBySweep 1 = .ok (.getfield 10, 3) := dk_180 0 10 (dk_at dksX1_mostAtOnceBySweep_0 1 rfl rfl)
theorem dX1_mostAtOnceBySweep_4 : decode cX1_mostAtOnceBySweep 4 = .ok (.invokevirtual 237, 3) := dk_182 0 237 (dk_at dksX1_mostAtOnceBySweep_0 4 rfl rfl)
theorem dX1_mostAtOnceBySweep_7 : decode cX1_mostAtOnceBySweep 7 = .ok (.ireturn, 1) := dk_172 (dk_at dksX1_mostAtOnceBySweep_0 7 rfl rfl)
abbrev cX1_finishCount : ByteArray := prog_1_method_46_code
def yX1_finishCount : MethodName := ⟨RX1, "finishCount", "()I"⟩
def dkwX1_finishCount_0 : List UInt8 := [42, 180, 0, 10, 180, 0, 240, 182, 0, 243, 172]
abbrev dktX1_finishCount_0 : List UInt8 := dkwX1_finishCount_0 ++ []
theorem dksX1_finishCount_0 : cX1_finishCount.data.toList.drop 0 = dktX1_finishCount_0 := by decide +kernel
theorem dX1_finishCount_0 : decode cX1_finishCount 0 = .ok (.aload_n 0, 1) := dk_42 (dk_at dksX1_finishCount_0 0 rfl rfl)
theorem dX1_finishCount_1 : decode cX1_finishCount 1 = .ok (.getfield 10, 3) := dk_180 0 10 (dk_at dksX1_finishCount_0 1 rfl rfl)
theorem dX1_finishCount_4 : decode cX1_finishCount 4 = .ok (.getfield 240, 3) := dk_180 0 240 (dk_at dksX1_finishCount_0 4 rfl rfl)
theorem dX1_finishCount_7 : decode cX1_finishCount 7 = .ok (.invokevirtual 243, 3) := dk_182 0 243 (dk_at dksX1_finishCount_0 7 rfl rfl)
theorem dX1_finishCount_10 : decode cX1_finishCount 10 = .ok (.ireturn, 1) := dk_172 (dk_at dksX1_finishCount_0 10 rfl rfl)
abbrev cX1_photoFinishes : ByteArray := prog_1_method_50_code
def yX1_photoFinishes : MethodName := ⟨RX1, "photoFinishes", "()I"⟩
def dkwX1_photoFinishes_0 : List UInt8 := [42, 180, 0, 10, 182, 0, 252, 172]
abbrev dktX1_photoFinishes_0 : List UInt8 := dkwX1_photoFinishes_0 ++ []
theorem dksX1_photoFinishes_0 : cX1_photoFinishes.data.toList.drop 0 = dktX1_photoFinishes_0 := by decide +kernel
theorem dX1_photoFinishes_0 : decode cX1_photoFinishes 0 = .ok (.aload_n 0, 1) := dk_42 (dk_at dksX1_photoFinishes_0 0 rfl rfl)
theorem dX1_photoFinishes_1 : decode cX1_photoFinishes 1 = .ok (.getfield 10, 3) := dk_180 0 10 (dk_at dksX1_photoFinishes_0 1 rfl rfl)
theorem dX1_photoFinishes_4 : decode cX1_photoFinishes 4 = .ok (.invokevirtual 252, 3) := dk_182 0 252 (dk_at dksX1_photoFinishes_0 4 rfl rfl)
theorem dX1_photoFinishes_7 : decode cX1_photoFinishes 7 = .ok (.ireturn, 1) := dk_172 (dk_at dksX1_photoFinishes_0 7 rfl rfl)
abbrev cX1_photoFinishesByRuns : ByteArray := prog_1_method_51_code
def yX1_photoFinishesByRuns : MethodName := ⟨RX1, "photoFinishesByRuns", "()I"⟩
def dkwX1_photoFinishesByRuns_0 : List UInt8 := [42, 180, 0, 10, 182, 0, 255, 172]
abbrev dktX1_photoFinishesByRuns_0 : List UInt8 := dkwX1_photoFinishesByRuns_0 ++ []
theorem dksX1_photoFinishesByRuns_0 : cX1_photoFinishesByRuns.data.toList.drop 0 = dktX1_photoFinishesByRuns_0 := by decide +kernel
theorem dX1_photoFinishesByRuns_0 : decode cX1_photoFinishesByRuns 0 = .ok (.aload_n 0, 1) := dk_42 (dk_at dksX1_photoFinishesByRuns_0 0 rfl rfl)
theorem dX1_photoFinishesByRuns_1 : decode cX1_photoFinishesByRuns 1 = .ok (.getfield 10, 3) := dk_180 0 10 (dk_at dksX1_photoFinishesByRuns_0 1 rfl rfl)
theorem dX1_photoFinishesByRuns_4 : decode cX1_photoFinishesByRuns 4 = .ok (.invokevirtual 255, 3) := dk_182 0 255 (dk_at dksX1_photoFinishesByRuns_0 4 rfl rfl)
theorem dX1_photoFinishesByRuns_7 : decode cX1_photoFinishesByRuns 7 = .ok (.ireturn, 1) := dk_172 (dk_at dksX1_photoFinishesByRuns_0 7 rfl rfl)
abbrev cX1_splashes : ByteArray := prog_1_method_52_code
def yX1_splashes : MethodName := ⟨RX1, "splashes", "()I"⟩
def dkwX1_splashes_0 : List UInt8 := [42, 180, 0, 10, 180, 1, 2, 172]
abbrev dktX1_splashes_0 : List UInt8 := dkwX1_splashes_0 ++ []
theorem dksX1_splashes_0 : cX1_splashes.data.toList.drop 0 = dktX1_splashes_0 := by decide +kernel
theorem dX1_splashes_0 : decode cX1_splashes 0 = .ok (.aload_n 0, 1) := dk_42 (dk_at dksX1_splashes_0 0 rfl rfl)
theorem dX1_splashes_1 : decode cX1_splashes 1 = .ok (.getfield 10, 3) := dk_180 0 10 (dk_at dksX1_splashes_0 1 rfl rfl)
theorem dX1_splashes_4 : decode cX1_splashes 4 = .ok (.getfield 258, 3) := dk_180 1 2 (dk_at dksX1_splashes_0 4 rfl rfl)
theorem dX1_splashes_7 : decode cX1_splashes 7 = .ok (.ireturn, 1) := dk_172 (dk_at dksX1_splashes_0 7 rfl rfl)
abbrev cX1_refundedCoins : ByteArray := prog_1_method_53_code
def yX1_refundedCoins : MethodName := ⟨RX1, "refundedCoins", "()I"⟩
def dkwX1_refundedCoins_0 : List UInt8 := [42, 180, 0, 10, 180, 1, 5, 172]
abbrev dktX1_refundedCoins_0 : List UInt8 := dkwX1_refundedCoins_0 ++ []
theorem dksX1_refundedCoins_0 : cX1_refundedCoins.data.toList.drop 0 = dktX1_refundedCoins_0 := by decide +kernel
theorem dX1_refundedCoins_0 : decode cX1_refundedCoins 0 = .ok (.aload_n 0, 1) := dk_42 (dk_at dksX1_refundedCoins_0 0 rfl rfl)
theorem dX1_refundedCoins_1 : decode cX1_refundedCoins 1 = .ok (.getfield 10, 3) := dk_180 0 10 (dk_at dksX1_refundedCoins_0 1 rfl rfl)
theorem dX1_refundedCoins_4 : decode cX1_refundedCoins 4 = .ok (.getfield 261, 3) := dk_180 1 5 (dk_at dksX1_refundedCoins_0 4 rfl rfl)
theorem dX1_refundedCoins_7 : decode cX1_refundedCoins 7 = .ok (.ireturn, 1) := dk_172 (dk_at dksX1_refundedCoins_0 7 rfl rfl)
abbrev cX1_officeCoins : ByteArray := prog_1_method_54_code
def yX1_officeCoins : MethodName := ⟨RX1, "officeCoins", "()I"⟩
def dkwX1_officeCoins_0 : List UInt8 := [42, 180, 0, 10, 180, 1, 8, 172]
abbrev dktX1_officeCoins_0 : List UInt8 := dkwX1_officeCoins_0 ++ []
theorem dksX1_officeCoins_0 : cX1_officeCoins.data.toList.drop 0 = dktX1_officeCoins_0 := by decide +kernel
theorem dX1_officeCoins_0 : decode cX1_officeCoins 0 = .ok (.aload_n 0, 1) := dk_42 (dk_at dksX1_officeCoins_0 0 rfl rfl)
theorem dX1_officeCoins_1 : decode cX1_officeCoins 1 = .ok (.getfield 10, 3) := dk_180 0 10 (dk_at dksX1_officeCoins_0 1 rfl rfl)
theorem dX1_officeCoins_4 : decode cX1_officeCoins 4 = .ok (.getfield 264, 3) := dk_180 1 8 (dk_at dksX1_officeCoins_0 4 rfl rfl)
theorem dX1_officeCoins_7 : decode cX1_officeCoins 7 = .ok (.ireturn, 1) := dk_172 (dk_at dksX1_officeCoins_0 7 rfl rfl)
abbrev cX1_isConsistent : ByteArray := prog_1_method_60_code
def yX1_isConsistent : MethodName := ⟨RX1, "isConsistent", "()Z"⟩
def dkwX1_isConsistent_4 : List UInt8 := [182, 0, 252, 42, 180, 0, 10, 182, 0, 255, 160, 0, 7, 4, 167, 0, 4, 3, 172]
abbrev dktX1_isConsistent_4 : List UInt8 := dkwX1_isConsistent_4 ++ []
def dkwX1_isConsistent_3 : List UInt8 := [180, 0, 10, 182, 0, 237, 160, 0, 7, 4, 167, 0, 4, 3, 126, 60, 27, 153, 0, 24, 42, 180, 0, 10]
abbrev dktX1_isConsistent_3 : List UInt8 := dkwX1_isConsistent_3 ++ dktX1_isConsistent_4
def dkwX1_isConsistent_2 : List UInt8 := [182, 0, 231, 160, 0, 7, 4, 167, 0, 4, 3, 126, 60, 27, 42, 180, 0, 10, 182, 0, 234, 42]
abbrev dktX1_isConsistent_2 : List UInt8 := dkwX1_isConsistent_2 ++ dktX1_isConsistent_3
def dkwX1_isConsistent_1 : List UInt8 := [104, 160, 0, 7, 4, 167, 0, 4, 3, 60, 27, 42, 180, 0, 10, 182, 0, 228, 42, 180, 0, 10]
abbrev dktX1_isConsistent_1 : List UInt8 := dkwX1_isConsistent_1 ++ dktX1_isConsistent_2
def dkwX1_isConsistent_0 : List UInt8 := [42, 182, 1, 27, 42, 180, 0, 10, 180, 1, 8, 96, 16, 50, 42, 180, 0, 10, 180, 0, 164, 182, 0, 64]
abbrev dktX1_isConsistent_0 : List UInt8 := dkwX1_isConsistent_0 ++ dktX1_isConsistent_1
theorem dksX1_isConsistent_0 : cX1_isConsistent.data.toList.drop 0 = dktX1_isConsistent_0 := by decide +kernel
theorem dksX1_isConsistent_1 : cX1_isConsistent.data.toList.drop 24 = dktX1_isConsistent_1 := dk_seg dksX1_isConsistent_0 24 rfl rfl
theorem dksX1_isConsistent_2 : cX1_isConsistent.data.toList.drop 46 = dktX1_isConsistent_2 := dk_seg dksX1_isConsistent_1 22 rfl rfl
theorem dksX1_isConsistent_3 : cX1_isConsistent.data.toList.drop 68 = dktX1_isConsistent_3 := dk_seg dksX1_isConsistent_2 22 rfl rfl
theorem dksX1_isConsistent_4 : cX1_isConsistent.data.toList.drop 92 = dktX1_isConsistent_4 := dk_seg dksX1_isConsistent_3 24 rfl rfl
theorem dX1_isConsistent_0 : decode cX1_isConsistent 0 = .ok (.aload_n 0, 1) := dk_42 (dk_at dksX1_isConsistent_0 0 rfl rfl)
theorem dX1_isConsistent_1 : decode cX1_isConsistent 1 = .ok (.invokevirtual 283, 3) := dk_182 1 27 (dk_at dksX1_isConsistent_0 1 rfl rfl)
theorem dX1_isConsistent_4 : decode cX1_isConsistent 4 = .ok (.aload_n 0, 1) := dk_42 (dk_at dksX1_isConsistent_0 4 rfl rfl)
theorem dX1_isConsistent_5 : decode cX1_isConsistent 5 = .ok (.getfield 10, 3) := dk_180 0 10 (dk_at dksX1_isConsistent_0 5 rfl rfl)
theorem dX1_isConsistent_8 : decode cX1_isConsistent 8 = .ok (.getfield 264, 3) := dk_180 1 8 (dk_at dksX1_isConsistent_0 8 rfl rfl)
theorem dX1_isConsistent_11 : decode cX1_isConsistent 11 = .ok (.iadd, 1) := dk_96 (dk_at dksX1_isConsistent_0 11 rfl rfl)
theorem dX1_isConsistent_12 : decode cX1_isConsistent 12 = .ok (.bipush 50, 2) := dk_16 50 (dk_at dksX1_isConsistent_0 12 rfl rfl)
theorem dX1_isConsistent_14 : decode cX1_isConsistent 14 = .ok (.aload_n 0, 1) := dk_42 (dk_at dksX1_isConsistent_0 14 rfl rfl)
theorem dX1_isConsistent_15 : decode cX1_isConsistent 15 = .ok (.getfield 10, 3) := dk_180 0 10 (dk_at dksX1_isConsistent_0 15 rfl rfl)
theorem dX1_isConsistent_18 : decode cX1_isConsistent 18 = .ok (.getfield 164, 3) := dk_180 0 164 (dk_at dksX1_isConsistent_0 18 rfl rfl)
theorem dX1_isConsistent_21 : decode cX1_isConsistent 21 = .ok (.invokevirtual 64, 3) := dk_182 0 64 (dk_at dksX1_isConsistent_0 21 rfl rfl)
theorem dX1_isConsistent_24 : decode cX1_isConsistent 24 = .ok (.imul, 1) := dk_104 (dk_at dksX1_isConsistent_1 0 rfl rfl)
theorem dX1_isConsistent_25 : decode cX1_isConsistent 25 = .ok (.if_icmp .ne 7, 3) := dk_160 0 7 (dk_at dksX1_isConsistent_1 1 rfl rfl)
theorem dX1_isConsistent_28 : decode cX1_isConsistent 28 = .ok (.iconst 1, 1) := dk_4 (dk_at dksX1_isConsistent_1 4 rfl rfl)
theorem dX1_isConsistent_29 : decode cX1_isConsistent 29 = .ok (.goto 4, 3) := dk_167 0 4 (dk_at dksX1_isConsistent_1 5 rfl rfl)
theorem dX1_isConsistent_32 : decode cX1_isConsistent 32 = .ok (.iconst 0, 1) := dk_3 (dk_at dksX1_isConsistent_1 8 rfl rfl)
theorem dX1_isConsistent_33 : decode cX1_isConsistent 33 = .ok (.istore_n 1, 1) := dk_60 (dk_at dksX1_isConsistent_1 9 rfl rfl)
theorem dX1_isConsistent_34 : decode cX1_isConsistent 34 = .ok (.iload_n 1, 1) := dk_27 (dk_at dksX1_isConsistent_1 10 rfl rfl)
theorem dX1_isConsistent_35 : decode cX1_isConsistent 35 = .ok (.aload_n 0, 1) := dk_42 (dk_at dksX1_isConsistent_1 11 rfl rfl)
theorem dX1_isConsistent_36 : decode cX1_isConsistent 36 = .ok (.getfield 10, 3) := dk_180 0 10 (dk_at dksX1_isConsistent_1 12 rfl rfl)
theorem dX1_isConsistent_39 : decode cX1_isConsistent 39 = .ok (.invokevirtual 228, 3) := dk_182 0 228 (dk_at dksX1_isConsistent_1 15 rfl rfl)
theorem dX1_isConsistent_42 : decode cX1_isConsistent 42 = .ok (.aload_n 0, 1) := dk_42 (dk_at dksX1_isConsistent_1 18 rfl rfl)
theorem dX1_isConsistent_43 : decode cX1_isConsistent 43 = .ok (.getfield 10, 3) := dk_180 0 10 (dk_at dksX1_isConsistent_1 19 rfl rfl)
theorem dX1_isConsistent_46 : decode cX1_isConsistent 46 = .ok (.invokevirtual 231, 3) := dk_182 0 231 (dk_at dksX1_isConsistent_2 0 rfl rfl)
theorem dX1_isConsistent_49 : decode cX1_isConsistent 49 = .ok (.if_icmp .ne 7, 3) := dk_160 0 7 (dk_at dksX1_isConsistent_2 3 rfl rfl)
theorem dX1_isConsistent_52 : decode cX1_isConsistent 52 = .ok (.iconst 1, 1) := dk_4 (dk_at dksX1_isConsistent_2 6 rfl rfl)
theorem dX1_isConsistent_53 : decode cX1_isConsistent 53 = .ok (.goto 4, 3) := dk_167 0 4 (dk_at dksX1_isConsistent_2 7 rfl rfl)
theorem dX1_isConsistent_56 : decode cX1_isConsistent 56 = .ok (.iconst 0, 1) := dk_3 (dk_at dksX1_isConsistent_2 10 rfl rfl)
theorem dX1_isConsistent_57 : decode cX1_isConsistent 57 = .ok (.iand, 1) := dk_126 (dk_at dksX1_isConsistent_2 11 rfl rfl)
theorem dX1_isConsistent_58 : decode cX1_isConsistent 58 = .ok (.istore_n 1, 1) := dk_60 (dk_at dksX1_isConsistent_2 12 rfl rfl)
theorem dX1_isConsistent_59 : decode cX1_isConsistent 59 = .ok (.iload_n 1, 1) := dk_27 (dk_at dksX1_isConsistent_2 13 rfl rfl)
theorem dX1_isConsistent_60 : decode cX1_isConsistent 60 = .ok (.aload_n 0, 1) := dk_42 (dk_at dksX1_isConsistent_2 14 rfl rfl)
theorem dX1_isConsistent_61 : decode cX1_isConsistent 61 = .ok (.getfield 10, 3) := dk_180 0 10 (dk_at dksX1_isConsistent_2 15 rfl rfl)
theorem dX1_isConsistent_64 : decode cX1_isConsistent 64 = .ok (.invokevirtual 234, 3) := dk_182 0 234 (dk_at dksX1_isConsistent_2 18 rfl rfl)
theorem dX1_isConsistent_67 : decode cX1_isConsistent 67 = .ok (.aload_n 0, 1) := dk_42 (dk_at dksX1_isConsistent_2 21 rfl rfl)
theorem dX1_isConsistent_68 : decode cX1_isConsistent 68 = .ok (.getfield 10, 3) := dk_180 0 10 (dk_at dksX1_isConsistent_3 0 rfl rfl)
theorem dX1_isConsistent_71 : decode cX1_isConsistent 71 = .ok (.invokevirtual 237, 3) := dk_182 0 237 (dk_at dksX1_isConsistent_3 3 rfl rfl)
theorem dX1_isConsistent_74 : decode cX1_isConsistent 74 = .ok (.if_icmp .ne 7, 3) := dk_160 0 7 (dk_at dksX1_isConsistent_3 6 rfl rfl)
theorem dX1_isConsistent_77 : decode cX1_isConsistent 77 = .ok (.iconst 1, 1) := dk_4 (dk_at dksX1_isConsistent_3 9 rfl rfl)
theorem dX1_isConsistent_78 : decode cX1_isConsistent 78 = .ok (.goto 4, 3) := dk_167 0 4 (dk_at dksX1_isConsistent_3 10 rfl rfl)
theorem dX1_isConsistent_81 : decode cX1_isConsistent 81 = .ok (.iconst 0, 1) := dk_3 (dk_at dksX1_isConsistent_3 13 rfl rfl)
theorem dX1_isConsistent_82 : decode cX1_isConsistent 82 = .ok (.iand, 1) := dk_126 (dk_at dksX1_isConsistent_3 14 rfl rfl)
theorem dX1_isConsistent_83 : decode cX1_isConsistent 83 = .ok (.istore_n 1, 1) := dk_60 (dk_at dksX1_isConsistent_3 15 rfl rfl)
theorem dX1_isConsistent_84 : decode cX1_isConsistent 84 = .ok (.iload_n 1, 1) := dk_27 (dk_at dksX1_isConsistent_3 16 rfl rfl)
theorem dX1_isConsistent_85 : decode cX1_isConsistent 85 = .ok (.ifCond .eq 24, 3) := dk_153 0 24 (dk_at dksX1_isConsistent_3 17 rfl rfl)
theorem dX1_isConsistent_88 : decode cX1_isConsistent 88 = .ok (.aload_n 0, 1) := dk_42 (dk_at dksX1_isConsistent_3 20 rfl rfl)
theorem dX1_isConsistent_89 : decode cX1_isConsistent 89 = .ok (.getfield 10, 3) := dk_180 0 10 (dk_at dksX1_isConsistent_3 21 rfl rfl)
theorem dX1_isConsistent_92 : decode cX1_isConsistent 92 = .ok (.invokevirtual 252, 3) := dk_182 0 252 (dk_at dksX1_isConsistent_4 0 rfl rfl)
theorem dX1_isConsistent_95 : decode cX1_isConsistent 95 = .ok (.aload_n 0, 1) := dk_42 (dk_at dksX1_isConsistent_4 3 rfl rfl)
theorem dX1_isConsistent_96 : decode cX1_isConsistent 96 = .ok (.getfield 10, 3) := dk_180 0 10 (dk_at dksX1_isConsistent_4 4 rfl rfl)
theorem dX1_isConsistent_99 : decode cX1_isConsistent 99 = .ok (.invokevirtual 255, 3) := dk_182 0 255 (dk_at dksX1_isConsistent_4 7 rfl rfl)
theorem dX1_isConsistent_102 : decode cX1_isConsistent 102 = .ok (.if_icmp .ne 7, 3) := dk_160 0 7 (dk_at dksX1_isConsistent_4 10 rfl rfl)
theorem dX1_isConsistent_105 : decode cX1_isConsistent 105 = .ok (.iconst 1, 1) := dk_4 (dk_at dksX1_isConsistent_4 13 rfl rfl)
theorem dX1_isConsistent_106 : decode cX1_isConsistent 106 = .ok (.goto 4, 3) := dk_167 0 4 (dk_at dksX1_isConsistent_4 14 rfl rfl)
theorem dX1_isConsistent_109 : decode cX1_isConsistent 109 = .ok (.iconst 0, 1) := dk_3 (dk_at dksX1_isConsistent_4 17 rfl rfl)
theorem dX1_isConsistent_110 : decode cX1_isConsistent 110 = .ok (.ireturn, 1) := dk_172 (dk_at dksX1_isConsistent_4 18 rfl rfl)
abbrev cX1_sumOfCoins : ByteArray := prog_1_method_57_code
def yX1_sumOfCoins : MethodName := ⟨RX1, "sumOfCoins", "()I"⟩
def dkwX1_sumOfCoins_1 : List UInt8 := [185, 1, 21, 1, 0, 192, 0, 171, 78, 27, 45, 180, 0, 170, 96, 60, 167, 255, 230, 27, 172]
abbrev dktX1_sumOfCoins_1 : List UInt8 := dkwX1_sumOfCoins_1 ++ []
def dkwX1_sumOfCoins_0 : List UInt8 := [3, 60, 42, 180, 0, 10, 180, 0, 164, 182, 1, 11, 77, 44, 185, 1, 15, 1, 0, 153, 0, 23, 44]
abbrev dktX1_sumOfCoins_0 : List UInt8 := dkwX1_sumOfCoins_0 ++ dktX1_sumOfCoins_1
theorem dksX1_sumOfCoins_0 : cX1_sumOfCoins.data.toList.drop 0 = dktX1_sumOfCoins_0 := by decide +kernel
theorem dksX1_sumOfCoins_1 : cX1_sumOfCoins.data.toList.drop 23 = dktX1_sumOfCoins_1 := dk_seg dksX1_sumOfCoins_0 23 rfl rfl
theorem dX1_sumOfCoins_0 : decode cX1_sumOfCoins 0 = .ok (.iconst 0, 1) := dk_3 (dk_at dksX1_sumOfCoins_0 0 rfl rfl)
theorem dX1_sumOfCoins_1 : decode cX1_sumOfCoins 1 = .ok (.istore_n 1, 1) := dk_60 (dk_at dksX1_sumOfCoins_0 1 rfl rfl)
theorem dX1_sumOfCoins_2 : decode cX1_sumOfCoins 2 = .ok (.aload_n 0, 1) := dk_42 (dk_at dksX1_sumOfCoins_0 2 rfl rfl)
theorem dX1_sumOfCoins_3 : decode cX1_sumOfCoins 3 = .ok (.getfield 10, 3) := dk_180 0 10 (dk_at dksX1_sumOfCoins_0 3 rfl rfl)
theorem dX1_sumOfCoins_6 : decode cX1_sumOfCoins 6 = .ok (.getfield 164, 3) := dk_180 0 164 (dk_at dksX1_sumOfCoins_0 6 rfl rfl)
theorem dX1_sumOfCoins_9 : decode cX1_sumOfCoins 9 = .ok (.invokevirtual 267, 3) := dk_182 1 11 (dk_at dksX1_sumOfCoins_0 9 rfl rfl)
theorem dX1_sumOfCoins_12 : decode cX1_sumOfCoins 12 = .ok (.astore_n 2, 1) := dk_77 (dk_at dksX1_sumOfCoins_0 12 rfl rfl)
theorem dX1_sumOfCoins_13 : decode cX1_sumOfCoins 13 = .ok (.aload_n 2, 1) := dk_44 (dk_at dksX1_sumOfCoins_0 13 rfl rfl)
theorem dX1_sumOfCoins_14 : decode cX1_sumOfCoins 14 = .ok (.invokeinterface 271 1, 5) := by decide +kernel
theorem dX1_sumOfCoins_19 : decode cX1_sumOfCoins 19 = .ok (.ifCond .eq 23, 3) := dk_153 0 23 (dk_at dksX1_sumOfCoins_0 19 rfl rfl)
theorem dX1_sumOfCoins_22 : decode cX1_sumOfCoins 22 = .ok (.aload_n 2, 1) := dk_44 (dk_at dksX1_sumOfCoins_0 22 rfl rfl)
theorem dX1_sumOfCoins_23 : decode cX1_sumOfCoins 23 = .ok (.invokeinterface 277 1, 5) := by decide +kernel
theorem dX1_sumOfCoins_28 : decode cX1_sumOfCoins 28 = .ok (.checkcast 171, 3) := dk_192 0 171 (dk_at dksX1_sumOfCoins_1 5 rfl rfl)
theorem dX1_sumOfCoins_31 : decode cX1_sumOfCoins 31 = .ok (.astore_n 3, 1) := dk_78 (dk_at dksX1_sumOfCoins_1 8 rfl rfl)
theorem dX1_sumOfCoins_32 : decode cX1_sumOfCoins 32 = .ok (.iload_n 1, 1) := dk_27 (dk_at dksX1_sumOfCoins_1 9 rfl rfl)
theorem dX1_sumOfCoins_33 : decode cX1_sumOfCoins 33 = .ok (.aload_n 3, 1) := dk_45 (dk_at dksX1_sumOfCoins_1 10 rfl rfl)
theorem dX1_sumOfCoins_34 : decode cX1_sumOfCoins 34 = .ok (.getfield 170, 3) := dk_180 0 170 (dk_at dksX1_sumOfCoins_1 11 rfl rfl)
theorem dX1_sumOfCoins_37 : decode cX1_sumOfCoins 37 = .ok (.iadd, 1) := dk_96 (dk_at dksX1_sumOfCoins_1 14 rfl rfl)
theorem dX1_sumOfCoins_38 : decode cX1_sumOfCoins 38 = .ok (.istore_n 1, 1) := dk_60 (dk_at dksX1_sumOfCoins_1 15 rfl rfl)
theorem dX1_sumOfCoins_39 : decode cX1_sumOfCoins 39 = .ok (.goto (-26), 3) := dk_167 255 230 (dk_at dksX1_sumOfCoins_1 16 rfl rfl)
theorem dX1_sumOfCoins_42 : decode cX1_sumOfCoins 42 = .ok (.iload_n 1, 1) := dk_27 (dk_at dksX1_sumOfCoins_1 19 rfl rfl)
theorem dX1_sumOfCoins_43 : decode cX1_sumOfCoins 43 = .ok (.ireturn, 1) := dk_172 (dk_at dksX1_sumOfCoins_1 20 rfl rfl)
abbrev cX1_undoCount : ByteArray := prog_1_method_67_code
def yX1_undoCount : MethodName := ⟨RX1, "undoCount", "()I"⟩
def dkwX1_undoCount_0 : List UInt8 := [42, 180, 0, 21, 182, 0, 243, 172]
abbrev dktX1_undoCount_0 : List UInt8 := dkwX1_undoCount_0 ++ []
theorem dksX1_undoCount_0 : cX1_undoCount.data.toList.drop 0 = dktX1_undoCount_0 := by decide +kernel
theorem dX1_undoCount_0 : decode cX1_undoCount 0 = .ok (.aload_n 0, 1) := dk_42 (dk_at dksX1_undoCount_0 0 rfl rfl)
theorem dX1_undoCount_1 : decode cX1_undoCount 1 = .ok (.getfield 21, 3) := dk_180 0 21 (dk_at dksX1_undoCount_0 1 rfl rfl)
theorem dX1_undoCount_4 : decode cX1_undoCount 4 = .ok (.invokevirtual 243, 3) := dk_182 0 243 (dk_at dksX1_undoCount_0 4 rfl rfl)
theorem dX1_undoCount_7 : decode cX1_undoCount 7 = .ok (.ireturn, 1) := dk_172 (dk_at dksX1_undoCount_0 7 rfl rfl)
abbrev cX1_save : ByteArray := prog_1_method_69_code
def yX1_save : MethodName := ⟨RX1, "save", "()I"⟩
def dkwX1_save_0 : List UInt8 := [42, 42, 180, 0, 10, 182, 0, 99, 181, 1, 74, 42, 180, 0, 10, 180, 0, 196, 182, 0, 64, 172]
abbrev dktX1_save_0 : List UInt8 := dkwX1_save_0 ++ []
theorem dksX1_save_0 : cX1_save.data.toList.drop 0 = dktX1_save_0 := by decide +kernel
theorem dX1_save_0 : decode cX1_save 0 = .ok (.aload_n 0, 1) := dk_42 (dk_at dksX1_save_0 0 rfl rfl)
theorem dX1_save_1 : decode cX1_save 1 = .ok (.aload_n 0, 1) := dk_42 (dk_at dksX1_save_0 1 rfl rfl)
theorem dX1_save_2 : decode cX1_save 2 = .ok (.getfield 10, 3) := dk_180 0 10 (dk_at dksX1_save_0 2 rfl rfl)
theorem dX1_save_5 : decode cX1_save 5 = .ok (.invokevirtual 99, 3) := dk_182 0 99 (dk_at dksX1_save_0 5 rfl rfl)
theorem dX1_save_8 : decode cX1_save 8 = .ok (.putfield 330, 3) := dk_181 1 74 (dk_at dksX1_save_0 8 rfl rfl)
theorem dX1_save_11 : decode cX1_save 11 = .ok (.aload_n 0, 1) := dk_42 (dk_at dksX1_save_0 11 rfl rfl)
theorem dX1_save_12 : decode cX1_save 12 = .ok (.getfield 10, 3) := dk_180 0 10 (dk_at dksX1_save_0 12 rfl rfl)
theorem dX1_save_15 : decode cX1_save 15 = .ok (.getfield 196, 3) := dk_180 0 196 (dk_at dksX1_save_0 15 rfl rfl)
theorem dX1_save_18 : decode cX1_save 18 = .ok (.invokevirtual 64, 3) := dk_182 0 64 (dk_at dksX1_save_0 18 rfl rfl)
theorem dX1_save_21 : decode cX1_save 21 = .ok (.ireturn, 1) := dk_172 (dk_at dksX1_save_0 21 rfl rfl)
abbrev cX1_copyAll : ByteArray := prog_1_method_9_code
def yX1_copyAll : MethodName := ⟨RX1, "copyAll", "(Ljava/util/ArrayList;)Ljava/util/ArrayList;"⟩
def dkwX1_copyAll_1 : List UInt8 := [192, 0, 72, 185, 0, 74, 1, 0, 192, 0, 72, 182, 0, 78, 87, 132, 2, 1, 167, 255, 224, 43, 176]
abbrev dktX1_copyAll_1 : List UInt8 := dkwX1_copyAll_1 ++ []
def dkwX1_copyAll_0 : List UInt8 := [187, 0, 61, 89, 183, 0, 63, 76, 3, 61, 28, 42, 182, 0, 64, 162, 0, 30, 43, 42, 28, 182, 0, 68]
abbrev dktX1_copyAll_0 : List UInt8 := dkwX1_copyAll_0 ++ dktX1_copyAll_1
theorem dksX1_copyAll_0 : cX1_copyAll.data.toList.drop 0 = dktX1_copyAll_0 := by decide +kernel
theorem dksX1_copyAll_1 : cX1_copyAll.data.toList.drop 24 = dktX1_copyAll_1 := dk_seg dksX1_copyAll_0 24 rfl rfl
theorem dX1_copyAll_0 : decode cX1_copyAll 0 = .ok (.new 61, 3) := dk_187 0 61 (dk_at dksX1_copyAll_0 0 rfl rfl)
theorem dX1_copyAll_3 : decode cX1_copyAll 3 = .ok (.dup, 1) := dk_89 (dk_at dksX1_copyAll_0 3 rfl rfl)
theorem dX1_copyAll_4 : decode cX1_copyAll 4 = .ok (.invokespecial 63, 3) := dk_183 0 63 (dk_at dksX1_copyAll_0 4 rfl rfl)
theorem dX1_copyAll_7 : decode cX1_copyAll 7 = .ok (.astore_n 1, 1) := dk_76 (dk_at dksX1_copyAll_0 7 rfl rfl)
theorem dX1_copyAll_8 : decode cX1_copyAll 8 = .ok (.iconst 0, 1) := dk_3 (dk_at dksX1_copyAll_0 8 rfl rfl)
theorem dX1_copyAll_9 : decode cX1_copyAll 9 = .ok (.istore_n 2, 1) := dk_61 (dk_at dksX1_copyAll_0 9 rfl rfl)
theorem dX1_copyAll_10 : decode cX1_copyAll 10 = .ok (.iload_n 2, 1) := dk_28 (dk_at dksX1_copyAll_0 10 rfl rfl)
theorem dX1_copyAll_11 : decode cX1_copyAll 11 = .ok (.aload_n 0, 1) := dk_42 (dk_at dksX1_copyAll_0 11 rfl rfl)
theorem dX1_copyAll_12 : decode cX1_copyAll 12 = .ok (.invokevirtual 64, 3) := dk_182 0 64 (dk_at dksX1_copyAll_0 12 rfl rfl)
theorem dX1_copyAll_15 : decode cX1_copyAll 15 = .ok (.if_icmp .ge 30, 3) := dk_162 0 30 (dk_at dksX1_copyAll_0 15 rfl rfl)
theorem dX1_copyAll_18 : decode cX1_copyAll 18 = .ok (.aload_n 1, 1) := dk_43 (dk_at dksX1_copyAll_0 18 rfl rfl)
theorem dX1_copyAll_19 : decode cX1_copyAll 19 = .ok (.aload_n 0, 1) := dk_42 (dk_at dksX1_copyAll_0 19 rfl rfl)
theorem dX1_copyAll_20 : decode cX1_copyAll 20 = .ok (.iload_n 2, 1) := dk_28 (dk_at dksX1_copyAll_0 20 rfl rfl)
theorem dX1_copyAll_21 : decode cX1_copyAll 21 = .ok (.invokevirtual 68, 3) := dk_182 0 68 (dk_at dksX1_copyAll_0 21 rfl rfl)
theorem dX1_copyAll_24 : decode cX1_copyAll 24 = .ok (.checkcast 72, 3) := dk_192 0 72 (dk_at dksX1_copyAll_1 0 rfl rfl)
theorem dX1_copyAll_27 : decode cX1_copyAll 27 = .ok (.invokeinterface 74 1, 5) := by decide +kernel
theorem dX1_copyAll_32 : decode cX1_copyAll 32 = .ok (.checkcast 72, 3) := dk_192 0 72 (dk_at dksX1_copyAll_1 8 rfl rfl)
theorem dX1_copyAll_35 : decode cX1_copyAll 35 = .ok (.invokevirtual 78, 3) := dk_182 0 78 (dk_at dksX1_copyAll_1 11 rfl rfl)
theorem dX1_copyAll_38 : decode cX1_copyAll 38 = .ok (.pop, 1) := dk_87 (dk_at dksX1_copyAll_1 14 rfl rfl)
theorem dX1_copyAll_39 : decode cX1_copyAll 39 = .ok (.iinc 2 1, 3) := dk_132 2 1 (dk_at dksX1_copyAll_1 15 rfl rfl)
theorem dX1_copyAll_42 : decode cX1_copyAll 42 = .ok (.goto (-32), 3) := dk_167 255 224 (dk_at dksX1_copyAll_1 18 rfl rfl)
theorem dX1_copyAll_45 : decode cX1_copyAll 45 = .ok (.aload_n 1, 1) := dk_43 (dk_at dksX1_copyAll_1 21 rfl rfl)
theorem dX1_copyAll_46 : decode cX1_copyAll 46 = .ok (.areturn, 1) := dk_176 (dk_at dksX1_copyAll_1 22 rfl rfl)
abbrev cX1_buildSlide : ByteArray := prog_1_method_13_code
def yX1_buildSlide : MethodName := ⟨RX1, "buildSlide", "(II)I"⟩
def dkwX1_buildSlide_0 : List UInt8 := [42, 180, 0, 10, 182, 0, 99, 78, 42, 45, 45, 27, 28, 182, 0, 102, 182, 0, 106, 172]
abbrev dktX1_buildSlide_0 : List UInt8 := dkwX1_buildSlide_0 ++ []
theorem dksX1_buildSlide_0 : cX1_buildSlide.data.toList.drop 0 = dktX1_buildSlide_0 := by decide +kernel
theorem dX1_buildSlide_0 : decode cX1_buildSlide 0 = .ok (.aload_n 0, 1) := dk_42 (dk_at dksX1_buildSlide_0 0 rfl rfl)
theorem dX1_buildSlide_1 : decode cX1_buildSlide 1 = .ok (.getfield 10, 3) := dk_180 0 10 (dk_at dksX1_buildSlide_0 1 rfl rfl)
theorem dX1_buildSlide_4 : decode cX1_buildSlide 4 = .ok (.invokevirtual 99, 3) := dk_182 0 99 (dk_at dksX1_buildSlide_0 4 rfl rfl)
theorem dX1_buildSlide_7 : decode cX1_buildSlide 7 = .ok (.astore_n 3, 1) := dk_78 (dk_at dksX1_buildSlide_0 7 rfl rfl)
theorem dX1_buildSlide_8 : decode cX1_buildSlide 8 = .ok (.aload_n 0, 1) := dk_42 (dk_at dksX1_buildSlide_0 8 rfl rfl)
theorem dX1_buildSlide_9 : decode cX1_buildSlide 9 = .ok (.aload_n 3, 1) := dk_45 (dk_at dksX1_buildSlide_0 9 rfl rfl)
theorem dX1_buildSlide_10 : decode cX1_buildSlide 10 = .ok (.aload_n 3, 1) := dk_45 (dk_at dksX1_buildSlide_0 10 rfl rfl)
theorem dX1_buildSlide_11 : decode cX1_buildSlide 11 = .ok (.iload_n 1, 1) := dk_27 (dk_at dksX1_buildSlide_0 11 rfl rfl)
theorem dX1_buildSlide_12 : decode cX1_buildSlide 12 = .ok (.iload_n 2, 1) := dk_28 (dk_at dksX1_buildSlide_0 12 rfl rfl)
theorem dX1_buildSlide_13 : decode cX1_buildSlide 13 = .ok (.invokevirtual 102, 3) := dk_182 0 102 (dk_at dksX1_buildSlide_0 13 rfl rfl)
theorem dX1_buildSlide_16 : decode cX1_buildSlide 16 = .ok (.invokevirtual 106, 3) := dk_182 0 106 (dk_at dksX1_buildSlide_0 16 rfl rfl)
theorem dX1_buildSlide_19 : decode cX1_buildSlide 19 = .ok (.ireturn, 1) := dk_172 (dk_at dksX1_buildSlide_0 19 rfl rfl)
abbrev cX1_requireArgument : ByteArray := prog_1_method_4_code
def yX1_requireArgument : MethodName := ⟨RX1, "requireArgument", "(Z)V"⟩
def dkwX1_requireArgument_0 : List UInt8 := [26, 154, 0, 11, 187, 0, 46, 89, 183, 0, 48, 191, 177]
abbrev dktX1_requireArgument_0 : List UInt8 := dkwX1_requireArgument_0 ++ []
theorem dksX1_requireArgument_0 : cX1_requireArgument.data.toList.drop 0 = dktX1_requireArgument_0 := by decide +kernel
theorem dX1_requireArgument_0 : decode cX1_requireArgument 0 = .ok (.iload_n 0, 1) := dk_26 (dk_at dksX1_requireArgument_0 0 rfl rfl)
theorem dX1_requireArgument_1 : decode cX1_requireArgument 1 = .ok (.ifCond .ne 11, 3) := dk_154 0 11 (dk_at dksX1_requireArgument_0 1 rfl rfl)
theorem dX1_requireArgument_4 : decode cX1_requireArgument 4 = .ok (.new 46, 3) := dk_187 0 46 (dk_at dksX1_requireArgument_0 4 rfl rfl)
theorem dX1_requireArgument_7 : decode cX1_requireArgument 7 = .ok (.dup, 1) := dk_89 (dk_at dksX1_requireArgument_0 7 rfl rfl)
theorem dX1_requireArgument_8 : decode cX1_requireArgument 8 = .ok (.invokespecial 48, 3) := dk_183 0 48 (dk_at dksX1_requireArgument_0 8 rfl rfl)
theorem dX1_requireArgument_11 : decode cX1_requireArgument 11 = .ok (.athrow, 1) := dk_191 (dk_at dksX1_requireArgument_0 11 rfl rfl)
theorem dX1_requireArgument_12 : decode cX1_requireArgument 12 = .ok (.return_, 1) := dk_177 (dk_at dksX1_requireArgument_0 12 rfl rfl)
abbrev cX1_requireState : ByteArray := prog_1_method_5_code
def yX1_requireState : MethodName := ⟨RX1, "requireState", "(Z)V"⟩
def dkwX1_requireState_0 : List UInt8 := [26, 154, 0, 11, 187, 0, 49, 89, 183, 0, 51, 191, 177]
abbrev dktX1_requireState_0 : List UInt8 := dkwX1_requireState_0 ++ []
theorem dksX1_requireState_0 : cX1_requireState.data.toList.drop 0 = dktX1_requireState_0 := by decide +kernel
theorem dX1_requireState_0 : decode cX1_requireState 0 = .ok (.iload_n 0, 1) := dk_26 (dk_at dksX1_requireState_0 0 rfl rfl)
theorem dX1_requireState_1 : decode cX1_requireState 1 = .ok (.ifCond .ne 11, 3) := dk_154 0 11 (dk_at dksX1_requireState_0 1 rfl rfl)
theorem dX1_requireState_4 : decode cX1_requireState 4 = .ok (.new 49, 3) := dk_187 0 49 (dk_at dksX1_requireState_0 4 rfl rfl)
theorem dX1_requireState_7 : decode cX1_requireState 7 = .ok (.dup, 1) := dk_89 (dk_at dksX1_requireState_0 7 rfl rfl)
theorem dX1_requireState_8 : decode cX1_requireState 8 = .ok (.invokespecial 51, 3) := dk_183 0 51 (dk_at dksX1_requireState_0 8 rfl rfl)
theorem dX1_requireState_11 : decode cX1_requireState 11 = .ok (.athrow, 1) := dk_191 (dk_at dksX1_requireState_0 11 rfl rfl)
theorem dX1_requireState_12 : decode cX1_requireState 12 = .ok (.return_, 1) := dk_177 (dk_at dksX1_requireState_0 12 rfl rfl)
abbrev cX1_record : ByteArray := prog_1_method_12_code
def yX1_record : MethodName := ⟨RX1, "record", "(LSlidePark$State;I)I"⟩
def dkwX1_record_0 : List UInt8 := [42, 180, 0, 21, 42, 180, 0, 10, 182, 0, 96, 42, 43, 181, 0, 10, 28, 172]
abbrev dktX1_record_0 : List UInt8 := dkwX1_record_0 ++ []
theorem dksX1_record_0 : cX1_record.data.toList.drop 0 = dktX1_record_0 := by decide +kernel
theorem dX1_record_0 : decode cX1_record 0 = .ok (.aload_n 0, 1) := dk_42 (dk_at dksX1_record_0 0 rfl rfl)
theorem dX1_record_1 : decode cX1_record 1 = .ok (.getfield 21, 3) := dk_180 0 21 (dk_at dksX1_record_0 1 rfl rfl)
theorem dX1_record_4 : decode cX1_record 4 = .ok (.aload_n 0, 1) := dk_42 (dk_at dksX1_record_0 4 rfl rfl)
theorem dX1_record_5 : decode cX1_record 5 = .ok (.getfield 10, 3) := dk_180 0 10 (dk_at dksX1_record_0 5 rfl rfl)
theorem dX1_record_8 : decode cX1_record 8 = .ok (.invokevirtual 96, 3) := dk_182 0 96 (dk_at dksX1_record_0 8 rfl rfl)
theorem dX1_record_11 : decode cX1_record 11 = .ok (.aload_n 0, 1) := dk_42 (dk_at dksX1_record_0 11 rfl rfl)
theorem dX1_record_12 : decode cX1_record 12 = .ok (.aload_n 1, 1) := dk_43 (dk_at dksX1_record_0 12 rfl rfl)
theorem dX1_record_13 : decode cX1_record 13 = .ok (.putfield 10, 3) := dk_181 0 10 (dk_at dksX1_record_0 13 rfl rfl)
theorem dX1_record_16 : decode cX1_record 16 = .ok (.iload_n 2, 1) := dk_28 (dk_at dksX1_record_0 16 rfl rfl)
theorem dX1_record_17 : decode cX1_record 17 = .ok (.ireturn, 1) := dk_172 (dk_at dksX1_record_0 17 rfl rfl)
abbrev cX1_addGuest : ByteArray := prog_1_method_14_code
def yX1_addGuest : MethodName := ⟨RX1, "addGuest", "()I"⟩
def dkwX1_addGuest_0 : List UInt8 := [42, 180, 0, 10, 182, 0, 99, 76, 42, 43, 43, 182, 0, 110, 182, 0, 106, 172]
abbrev dktX1_addGuest_0 : List UInt8 := dkwX1_addGuest_0 ++ []
theorem dksX1_addGuest_0 : cX1_addGuest.data.toList.drop 0 = dktX1_addGuest_0 := by decide +kernel
theorem dX1_addGuest_0 : decode cX1_addGuest 0 = .ok (.aload_n 0, 1) := dk_42 (dk_at dksX1_addGuest_0 0 rfl rfl)
theorem dX1_addGuest_1 : decode cX1_addGuest 1 = .ok (.getfield 10, 3) := dk_180 0 10 (dk_at dksX1_addGuest_0 1 rfl rfl)
theorem dX1_addGuest_4 : decode cX1_addGuest 4 = .ok (.invokevirtual 99, 3) := dk_182 0 99 (dk_at dksX1_addGuest_0 4 rfl rfl)
theorem dX1_addGuest_7 : decode cX1_addGuest 7 = .ok (.astore_n 1, 1) := dk_76 (dk_at dksX1_addGuest_0 7 rfl rfl)
theorem dX1_addGuest_8 : decode cX1_addGuest 8 = .ok (.aload_n 0, 1) := dk_42 (dk_at dksX1_addGuest_0 8 rfl rfl)
theorem dX1_addGuest_9 : decode cX1_addGuest 9 = .ok (.aload_n 1, 1) := dk_43 (dk_at dksX1_addGuest_0 9 rfl rfl)
theorem dX1_addGuest_10 : decode cX1_addGuest 10 = .ok (.aload_n 1, 1) := dk_43 (dk_at dksX1_addGuest_0 10 rfl rfl)
theorem dX1_addGuest_11 : decode cX1_addGuest 11 = .ok (.invokevirtual 110, 3) := dk_182 0 110 (dk_at dksX1_addGuest_0 11 rfl rfl)
theorem dX1_addGuest_14 : decode cX1_addGuest 14 = .ok (.invokevirtual 106, 3) := dk_182 0 106 (dk_at dksX1_addGuest_0 14 rfl rfl)
theorem dX1_addGuest_17 : decode cX1_addGuest 17 = .ok (.ireturn, 1) := dk_172 (dk_at dksX1_addGuest_0 17 rfl rfl)
abbrev cX1_book : ByteArray := prog_1_method_15_code
def yX1_book : MethodName := ⟨RX1, "book", "(III)I"⟩
def dkwX1_book_0 : List UInt8 := [42, 180, 0, 10, 182, 0, 99, 58, 4, 42, 25, 4, 25, 4, 27, 28, 29, 182, 0, 113, 182, 0, 106, 172]
abbrev dktX1_book_0 : List UInt8 := dkwX1_book_0 ++ []
theorem dksX1_book_0 : cX1_book.data.toList.drop 0 = dktX1_book_0 := by decide +kernel
theorem dX1_book_0 : decode cX1_book 0 = .ok (.aload_n 0, 1) := dk_42 (dk_at dksX1_book_0 0 rfl rfl)
theorem dX1_book_1 : decode cX1_book 1 = .ok (.getfield 10, 3) := dk_180 0 10 (dk_at dksX1_book_0 1 rfl rfl)
theorem dX1_book_4 : decode cX1_book 4 = .ok (.invokevirtual 99, 3) := dk_182 0 99 (dk_at dksX1_book_0 4 rfl rfl)
theorem dX1_book_7 : decode cX1_book 7 = .ok (.astore 4, 2) := dk_58 4 (dk_at dksX1_book_0 7 rfl rfl)
theorem dX1_book_9 : decode cX1_book 9 = .ok (.aload_n 0, 1) := dk_42 (dk_at dksX1_book_0 9 rfl rfl)
theorem dX1_book_10 : decode cX1_book 10 = .ok (.aload 4, 2) := dk_25 4 (dk_at dksX1_book_0 10 rfl rfl)
theorem dX1_book_12 : decode cX1_book 12 = .ok (.aload 4, 2) := dk_25 4 (dk_at dksX1_book_0 12 rfl rfl)
theorem dX1_book_14 : decode cX1_book 14 = .ok (.iload_n 1, 1) := dk_27 (dk_at dksX1_book_0 14 rfl rfl)
theorem dX1_book_15 : decode cX1_book 15 = .ok (.iload_n 2, 1) := dk_28 (dk_at dksX1_book_0 15 rfl rfl)
theorem dX1_book_16 : decode cX1_book 16 = .ok (.iload_n 3, 1) := dk_29 (dk_at dksX1_book_0 16 rfl rfl)
theorem dX1_book_17 : decode cX1_book 17 = .ok (.invokevirtual 113, 3) := dk_182 0 113 (dk_at dksX1_book_0 17 rfl rfl)
theorem dX1_book_20 : decode cX1_book 20 = .ok (.invokevirtual 106, 3) := dk_182 0 106 (dk_at dksX1_book_0 20 rfl rfl)
theorem dX1_book_23 : decode cX1_book 23 = .ok (.ireturn, 1) := dk_172 (dk_at dksX1_book_0 23 rfl rfl)
abbrev cX1_item : ByteArray := prog_1_method_11_code
def yX1_item : MethodName := ⟨RX1, "item", "(Ljava/util/ArrayList;I)Ljava/lang/Object;"⟩
def dkwX1_item_0 : List UInt8 := [27, 3, 42, 182, 0, 64, 4, 100, 184, 0, 88, 184, 0, 92, 42, 27, 182, 0, 68, 176]
abbrev dktX1_item_0 : List UInt8 := dkwX1_item_0 ++ []
theorem dksX1_item_0 : cX1_item.data.toList.drop 0 = dktX1_item_0 := by decide +kernel
theorem dX1_item_0 : decode cX1_item 0 = .ok (.iload_n 1, 1) := dk_27 (dk_at dksX1_item_0 0 rfl rfl)
theorem dX1_item_1 : decode cX1_item 1 = .ok (.iconst 0, 1) := dk_3 (dk_at dksX1_item_0 1 rfl rfl)
theorem dX1_item_2 : decode cX1_item 2 = .ok (.aload_n 0, 1) := dk_42 (dk_at dksX1_item_0 2 rfl rfl)
theorem dX1_item_3 : decode cX1_item 3 = .ok (.invokevirtual 64, 3) := dk_182 0 64 (dk_at dksX1_item_0 3 rfl rfl)
theorem dX1_item_6 : decode cX1_item 6 = .ok (.iconst 1, 1) := dk_4 (dk_at dksX1_item_0 6 rfl rfl)
theorem dX1_item_7 : decode cX1_item 7 = .ok (.isub, 1) := dk_100 (dk_at dksX1_item_0 7 rfl rfl)
theorem dX1_item_8 : decode cX1_item 8 = .ok (.invokestatic 88, 3) := dk_184 0 88 (dk_at dksX1_item_0 8 rfl rfl)
theorem dX1_item_11 : decode cX1_item 11 = .ok (.invokestatic 92, 3) := dk_184 0 92 (dk_at dksX1_item_0 11 rfl rfl)
theorem dX1_item_14 : decode cX1_item 14 = .ok (.aload_n 0, 1) := dk_42 (dk_at dksX1_item_0 14 rfl rfl)
theorem dX1_item_15 : decode cX1_item 15 = .ok (.iload_n 1, 1) := dk_27 (dk_at dksX1_item_0 15 rfl rfl)
theorem dX1_item_16 : decode cX1_item 16 = .ok (.invokevirtual 68, 3) := dk_182 0 68 (dk_at dksX1_item_0 16 rfl rfl)
theorem dX1_item_19 : decode cX1_item 19 = .ok (.areturn, 1) := dk_176 (dk_at dksX1_item_0 19 rfl rfl)
abbrev cX1_requireIndex : ByteArray := prog_1_method_3_code
def yX1_requireIndex : MethodName := ⟨RX1, "requireIndex", "(Z)V"⟩
def dkwX1_requireIndex_0 : List UInt8 := [26, 154, 0, 11, 187, 0, 43, 89, 183, 0, 45, 191, 177]
abbrev dktX1_requireIndex_0 : List UInt8 := dkwX1_requireIndex_0 ++ []
theorem dksX1_requireIndex_0 : cX1_requireIndex.data.toList.drop 0 = dktX1_requireIndex_0 := by decide +kernel
theorem dX1_requireIndex_0 : decode cX1_requireIndex 0 = .ok (.iload_n 0, 1) := dk_26 (dk_at dksX1_requireIndex_0 0 rfl rfl)
theorem dX1_requireIndex_1 : decode cX1_requireIndex 1 = .ok (.ifCond .ne 11, 3) := dk_154 0 11 (dk_at dksX1_requireIndex_0 1 rfl rfl)
theorem dX1_requireIndex_4 : decode cX1_requireIndex 4 = .ok (.new 43, 3) := dk_187 0 43 (dk_at dksX1_requireIndex_0 4 rfl rfl)
theorem dX1_requireIndex_7 : decode cX1_requireIndex 7 = .ok (.dup, 1) := dk_89 (dk_at dksX1_requireIndex_0 7 rfl rfl)
theorem dX1_requireIndex_8 : decode cX1_requireIndex 8 = .ok (.invokespecial 45, 3) := dk_183 0 45 (dk_at dksX1_requireIndex_0 8 rfl rfl)
theorem dX1_requireIndex_11 : decode cX1_requireIndex 11 = .ok (.athrow, 1) := dk_191 (dk_at dksX1_requireIndex_0 11 rfl rfl)
theorem dX1_requireIndex_12 : decode cX1_requireIndex 12 = .ok (.return_, 1) := dk_177 (dk_at dksX1_requireIndex_0 12 rfl rfl)
abbrev cX1_requireSupported : ByteArray := prog_1_method_7_code
def yX1_requireSupported : MethodName := ⟨RX1, "requireSupported", "(Z)V"⟩
def dkwX1_requireSupported_0 : List UInt8 := [26, 154, 0, 11, 187, 0, 55, 89, 183, 0, 57, 191, 177]
abbrev dktX1_requireSupported_0 : List UInt8 := dkwX1_requireSupported_0 ++ []
theorem dksX1_requireSupported_0 : cX1_requireSupported.data.toList.drop 0 = dktX1_requireSupported_0 := by decide +kernel
theorem dX1_requireSupported_0 : decode cX1_requireSupported 0 = .ok (.iload_n 0, 1) := dk_26 (dk_at dksX1_requireSupported_0 0 rfl rfl)
theorem dX1_requireSupported_1 : decode cX1_requireSupported 1 = .ok (.ifCond .ne 11, 3) := dk_154 0 11 (dk_at dksX1_requireSupported_0 1 rfl rfl)
theorem dX1_requireSupported_4 : decode cX1_requireSupported 4 = .ok (.new 55, 3) := dk_187 0 55 (dk_at dksX1_requireSupported_0 4 rfl rfl)
theorem dX1_requireSupported_7 : decode cX1_requireSupported 7 = .ok (.dup, 1) := dk_89 (dk_at dksX1_requireSupported_0 7 rfl rfl)
theorem dX1_requireSupported_8 : decode cX1_requireSupported 8 = .ok (.invokespecial 57, 3) := dk_183 0 57 (dk_at dksX1_requireSupported_0 8 rfl rfl)
theorem dX1_requireSupported_11 : decode cX1_requireSupported 11 = .ok (.athrow, 1) := dk_191 (dk_at dksX1_requireSupported_0 11 rfl rfl)
theorem dX1_requireSupported_12 : decode cX1_requireSupported 12 = .ok (.return_, 1) := dk_177 (dk_at dksX1_requireSupported_0 12 rfl rfl)
abbrev cX1_cancel : ByteArray := prog_1_method_16_code
def yX1_cancel : MethodName := ⟨RX1, "cancel", "(I)I"⟩
def dkwX1_cancel_0 : List UInt8 := [42, 180, 0, 10, 182, 0, 99, 77, 42, 44, 44, 27, 182, 0, 117, 182, 0, 106, 172]
abbrev dktX1_cancel_0 : List UInt8 := dkwX1_cancel_0 ++ []
theorem dksX1_cancel_0 : cX1_cancel.data.toList.drop 0 = dktX1_cancel_0 := by decide +kernel
theorem dX1_cancel_0 : decode cX1_cancel 0 = .ok (.aload_n 0, 1) := dk_42 (dk_at dksX1_cancel_0 0 rfl rfl)
theorem dX1_cancel_1 : decode cX1_cancel 1 = .ok (.getfield 10, 3) := dk_180 0 10 (dk_at dksX1_cancel_0 1 rfl rfl)
theorem dX1_cancel_4 : decode cX1_cancel 4 = .ok (.invokevirtual 99, 3) := dk_182 0 99 (dk_at dksX1_cancel_0 4 rfl rfl)
theorem dX1_cancel_7 : decode cX1_cancel 7 = .ok (.astore_n 2, 1) := dk_77 (dk_at dksX1_cancel_0 7 rfl rfl)
theorem dX1_cancel_8 : decode cX1_cancel 8 = .ok (.aload_n 0, 1) := dk_42 (dk_at dksX1_cancel_0 8 rfl rfl)
theorem dX1_cancel_9 : decode cX1_cancel 9 = .ok (.aload_n 2, 1) := dk_44 (dk_at dksX1_cancel_0 9 rfl rfl)
theorem dX1_cancel_10 : decode cX1_cancel 10 = .ok (.aload_n 2, 1) := dk_44 (dk_at dksX1_cancel_0 10 rfl rfl)
theorem dX1_cancel_11 : decode cX1_cancel 11 = .ok (.iload_n 1, 1) := dk_27 (dk_at dksX1_cancel_0 11 rfl rfl)
theorem dX1_cancel_12 : decode cX1_cancel 12 = .ok (.invokevirtual 117, 3) := dk_182 0 117 (dk_at dksX1_cancel_0 12 rfl rfl)
theorem dX1_cancel_15 : decode cX1_cancel 15 = .ok (.invokevirtual 106, 3) := dk_182 0 106 (dk_at dksX1_cancel_0 15 rfl rfl)
theorem dX1_cancel_18 : decode cX1_cancel 18 = .ok (.ireturn, 1) := dk_172 (dk_at dksX1_cancel_0 18 rfl rfl)
abbrev cX1_joinQueue : ByteArray := prog_1_method_17_code
def yX1_joinQueue : MethodName := ⟨RX1, "joinQueue", "(II)I"⟩
def dkwX1_joinQueue_0 : List UInt8 := [42, 180, 0, 10, 182, 0, 99, 78, 42, 45, 45, 27, 28, 182, 0, 121, 182, 0, 106, 172]
abbrev dktX1_joinQueue_0 : List UInt8 := dkwX1_joinQueue_0 ++ []
theorem dksX1_joinQueue_0 : cX1_joinQueue.data.toList.drop 0 = dktX1_joinQueue_0 := by decide +kernel
theorem dX1_joinQueue_0 : decode cX1_joinQueue 0 = .ok (.aload_n 0, 1) := dk_42 (dk_at dksX1_joinQueue_0 0 rfl rfl)
theorem dX1_joinQueue_1 : decode cX1_joinQueue 1 = .ok (.getfield 10, 3) := dk_180 0 10 (dk_at dksX1_joinQueue_0 1 rfl rfl)
theorem dX1_joinQueue_4 : decode cX1_joinQueue 4 = .ok (.invokevirtual 99, 3) := dk_182 0 99 (dk_at dksX1_joinQueue_0 4 rfl rfl)
theorem dX1_joinQueue_7 : decode cX1_joinQueue 7 = .ok (.astore_n 3, 1) := dk_78 (dk_at dksX1_joinQueue_0 7 rfl rfl)
theorem dX1_joinQueue_8 : decode cX1_joinQueue 8 = .ok (.aload_n 0, 1) := dk_42 (dk_at dksX1_joinQueue_0 8 rfl rfl)
theorem dX1_joinQueue_9 : decode cX1_joinQueue 9 = .ok (.aload_n 3, 1) := dk_45 (dk_at dksX1_joinQueue_0 9 rfl rfl)
theorem dX1_joinQueue_10 : decode cX1_joinQueue 10 = .ok (.aload_n 3, 1) := dk_45 (dk_at dksX1_joinQueue_0 10 rfl rfl)
theorem dX1_joinQueue_11 : decode cX1_joinQueue 11 = .ok (.iload_n 1, 1) := dk_27 (dk_at dksX1_joinQueue_0 11 rfl rfl)
theorem dX1_joinQueue_12 : decode cX1_joinQueue 12 = .ok (.iload_n 2, 1) := dk_28 (dk_at dksX1_joinQueue_0 12 rfl rfl)
theorem dX1_joinQueue_13 : decode cX1_joinQueue 13 = .ok (.invokevirtual 121, 3) := dk_182 0 121 (dk_at dksX1_joinQueue_0 13 rfl rfl)
theorem dX1_joinQueue_16 : decode cX1_joinQueue 16 = .ok (.invokevirtual 106, 3) := dk_182 0 106 (dk_at dksX1_joinQueue_0 16 rfl rfl)
theorem dX1_joinQueue_19 : decode cX1_joinQueue 19 = .ok (.ireturn, 1) := dk_172 (dk_at dksX1_joinQueue_0 19 rfl rfl)
abbrev cX1_leaveQueue : ByteArray := prog_1_method_18_code
def yX1_leaveQueue : MethodName := ⟨RX1, "leaveQueue", "(I)I"⟩
def dkwX1_leaveQueue_0 : List UInt8 := [42, 180, 0, 10, 182, 0, 99, 77, 42, 44, 44, 27, 182, 0, 124, 182, 0, 106, 172]
abbrev dktX1_leaveQueue_0 : List UInt8 := dkwX1_leaveQueue_0 ++ []
theorem dksX1_leaveQueue_0 : cX1_leaveQueue.data.toList.drop 0 = dktX1_leaveQueue_0 := by decide +kernel
theorem dX1_leaveQueue_0 : decode cX1_leaveQueue 0 = .ok (.aload_n 0, 1) := dk_42 (dk_at dksX1_leaveQueue_0 0 rfl rfl)
theorem dX1_leaveQueue_1 : decode cX1_leaveQueue 1 = .ok (.getfield 10, 3) := dk_180 0 10 (dk_at dksX1_leaveQueue_0 1 rfl rfl)
theorem dX1_leaveQueue_4 : decode cX1_leaveQueue 4 = .ok (.invokevirtual 99, 3) := dk_182 0 99 (dk_at dksX1_leaveQueue_0 4 rfl rfl)
theorem dX1_leaveQueue_7 : decode cX1_leaveQueue 7 = .ok (.astore_n 2, 1) := dk_77 (dk_at dksX1_leaveQueue_0 7 rfl rfl)
theorem dX1_leaveQueue_8 : decode cX1_leaveQueue 8 = .ok (.aload_n 0, 1) := dk_42 (dk_at dksX1_leaveQueue_0 8 rfl rfl)
theorem dX1_leaveQueue_9 : decode cX1_leaveQueue 9 = .ok (.aload_n 2, 1) := dk_44 (dk_at dksX1_leaveQueue_0 9 rfl rfl)
theorem dX1_leaveQueue_10 : decode cX1_leaveQueue 10 = .ok (.aload_n 2, 1) := dk_44 (dk_at dksX1_leaveQueue_0 10 rfl rfl)
theorem dX1_leaveQueue_11 : decode cX1_leaveQueue 11 = .ok (.iload_n 1, 1) := dk_27 (dk_at dksX1_leaveQueue_0 11 rfl rfl)
theorem dX1_leaveQueue_12 : decode cX1_leaveQueue 12 = .ok (.invokevirtual 124, 3) := dk_182 0 124 (dk_at dksX1_leaveQueue_0 12 rfl rfl)
theorem dX1_leaveQueue_15 : decode cX1_leaveQueue 15 = .ok (.invokevirtual 106, 3) := dk_182 0 106 (dk_at dksX1_leaveQueue_0 15 rfl rfl)
theorem dX1_leaveQueue_18 : decode cX1_leaveQueue 18 = .ok (.ireturn, 1) := dk_172 (dk_at dksX1_leaveQueue_0 18 rfl rfl)
abbrev cX1_requireElement : ByteArray := prog_1_method_6_code
def yX1_requireElement : MethodName := ⟨RX1, "requireElement", "(Z)V"⟩
def dkwX1_requireElement_0 : List UInt8 := [26, 154, 0, 11, 187, 0, 52, 89, 183, 0, 54, 191, 177]
abbrev dktX1_requireElement_0 : List UInt8 := dkwX1_requireElement_0 ++ []
theorem dksX1_requireElement_0 : cX1_requireElement.data.toList.drop 0 = dktX1_requireElement_0 := by decide +kernel
theorem dX1_requireElement_0 : decode cX1_requireElement 0 = .ok (.iload_n 0, 1) := dk_26 (dk_at dksX1_requireElement_0 0 rfl rfl)
theorem dX1_requireElement_1 : decode cX1_requireElement 1 = .ok (.ifCond .ne 11, 3) := dk_154 0 11 (dk_at dksX1_requireElement_0 1 rfl rfl)
theorem dX1_requireElement_4 : decode cX1_requireElement 4 = .ok (.new 52, 3) := dk_187 0 52 (dk_at dksX1_requireElement_0 4 rfl rfl)
theorem dX1_requireElement_7 : decode cX1_requireElement 7 = .ok (.dup, 1) := dk_89 (dk_at dksX1_requireElement_0 7 rfl rfl)
theorem dX1_requireElement_8 : decode cX1_requireElement 8 = .ok (.invokespecial 54, 3) := dk_183 0 54 (dk_at dksX1_requireElement_0 8 rfl rfl)
theorem dX1_requireElement_11 : decode cX1_requireElement 11 = .ok (.athrow, 1) := dk_191 (dk_at dksX1_requireElement_0 11 rfl rfl)
theorem dX1_requireElement_12 : decode cX1_requireElement 12 = .ok (.return_, 1) := dk_177 (dk_at dksX1_requireElement_0 12 rfl rfl)
abbrev cX1_passMinutes : ByteArray := prog_1_method_19_code
def yX1_passMinutes : MethodName := ⟨RX1, "passMinutes", "(I)I"⟩
def dkwX1_passMinutes_0 : List UInt8 := [42, 180, 0, 10, 182, 0, 99, 77, 42, 44, 44, 27, 182, 0, 127, 182, 0, 106, 172]
abbrev dktX1_passMinutes_0 : List UInt8 := dkwX1_passMinutes_0 ++ []
theorem dksX1_passMinutes_0 : cX1_passMinutes.data.toList.drop 0 = dktX1_passMinutes_0 := by decide +kernel
theorem dX1_passMinutes_0 : decode cX1_passMinutes 0 = .ok (.aload_n 0, 1) := dk_42 (dk_at dksX1_passMinutes_0 0 rfl rfl)
theorem dX1_passMinutes_1 : decode cX1_passMinutes 1 = .ok (.getfield 10, 3) := dk_180 0 10 (dk_at dksX1_passMinutes_0 1 rfl rfl)
theorem dX1_passMinutes_4 : decode cX1_passMinutes 4 = .ok (.invokevirtual 99, 3) := dk_182 0 99 (dk_at dksX1_passMinutes_0 4 rfl rfl)
theorem dX1_passMinutes_7 : decode cX1_passMinutes 7 = .ok (.astore_n 2, 1) := dk_77 (dk_at dksX1_passMinutes_0 7 rfl rfl)
theorem dX1_passMinutes_8 : decode cX1_passMinutes 8 = .ok (.aload_n 0, 1) := dk_42 (dk_at dksX1_passMinutes_0 8 rfl rfl)
theorem dX1_passMinutes_9 : decode cX1_passMinutes 9 = .ok (.aload_n 2, 1) := dk_44 (dk_at dksX1_passMinutes_0 9 rfl rfl)
theorem dX1_passMinutes_10 : decode cX1_passMinutes 10 = .ok (.aload_n 2, 1) := dk_44 (dk_at dksX1_passMinutes_0 10 rfl rfl)
theorem dX1_passMinutes_11 : decode cX1_passMinutes 11 = .ok (.iload_n 1, 1) := dk_27 (dk_at dksX1_passMinutes_0 11 rfl rfl)
theorem dX1_passMinutes_12 : decode cX1_passMinutes 12 = .ok (.invokevirtual 127, 3) := dk_182 0 127 (dk_at dksX1_passMinutes_0 12 rfl rfl)
theorem dX1_passMinutes_15 : decode cX1_passMinutes 15 = .ok (.invokevirtual 106, 3) := dk_182 0 106 (dk_at dksX1_passMinutes_0 15 rfl rfl)
theorem dX1_passMinutes_18 : decode cX1_passMinutes 18 = .ok (.ireturn, 1) := dk_172 (dk_at dksX1_passMinutes_0 18 rfl rfl)
abbrev cX1_duration : ByteArray := prog_1_method_22_code
def yX1_duration : MethodName := ⟨RX1, "duration", "(I)I"⟩
def dkwX1_duration_0 : List UInt8 := [42, 180, 0, 10, 27, 182, 0, 137, 180, 0, 141, 172]
abbrev dktX1_duration_0 : List UInt8 := dkwX1_duration_0 ++ []
theorem dksX1_duration_0 : cX1_duration.data.toList.drop 0 = dktX1_duration_0 := by decide +kernel
theorem dX1_duration_0 : decode cX1_duration 0 = .ok (.aload_n 0, 1) := dk_42 (dk_at dksX1_duration_0 0 rfl rfl)
theorem dX1_duration_1 : decode cX1_duration 1 = .ok (.getfield 10, 3) := dk_180 0 10 (dk_at dksX1_duration_0 1 rfl rfl)
theorem dX1_duration_4 : decode cX1_duration 4 = .ok (.iload_n 1, 1) := dk_27 (dk_at dksX1_duration_0 4 rfl rfl)
theorem dX1_duration_5 : decode cX1_duration 5 = .ok (.invokevirtual 137, 3) := dk_182 0 137 (dk_at dksX1_duration_0 5 rfl rfl)
theorem dX1_duration_8 : decode cX1_duration 8 = .ok (.getfield 141, 3) := dk_180 0 141 (dk_at dksX1_duration_0 8 rfl rfl)
theorem dX1_duration_11 : decode cX1_duration 11 = .ok (.ireturn, 1) := dk_172 (dk_at dksX1_duration_0 11 rfl rfl)
abbrev cX1_price : ByteArray := prog_1_method_23_code
def yX1_price : MethodName := ⟨RX1, "price", "(I)I"⟩
def dkwX1_price_0 : List UInt8 := [42, 180, 0, 10, 27, 182, 0, 137, 180, 0, 146, 172]
abbrev dktX1_price_0 : List UInt8 := dkwX1_price_0 ++ []
theorem dksX1_price_0 : cX1_price.data.toList.drop 0 = dktX1_price_0 := by decide +kernel
theorem dX1_price_0 : decode cX1_price 0 = .ok (.aload_n 0, 1) := dk_42 (dk_at dksX1_price_0 0 rfl rfl)
theorem dX1_price_1 : decode cX1_price 1 = .ok (.getfield 10, 3) := dk_180 0 10 (dk_at dksX1_price_0 1 rfl rfl)
theorem dX1_price_4 : decode cX1_price 4 = .ok (.iload_n 1, 1) := dk_27 (dk_at dksX1_price_0 4 rfl rfl)
theorem dX1_price_5 : decode cX1_price 5 = .ok (.invokevirtual 137, 3) := dk_182 0 137 (dk_at dksX1_price_0 5 rfl rfl)
theorem dX1_price_8 : decode cX1_price 8 = .ok (.getfield 146, 3) := dk_180 0 146 (dk_at dksX1_price_0 8 rfl rfl)
theorem dX1_price_11 : decode cX1_price 11 = .ok (.ireturn, 1) := dk_172 (dk_at dksX1_price_0 11 rfl rfl)
abbrev cX1_wetness : ByteArray := prog_1_method_24_code
def yX1_wetness : MethodName := ⟨RX1, "wetness", "(I)I"⟩
def dkwX1_wetness_0 : List UInt8 := [42, 180, 0, 10, 27, 182, 0, 137, 180, 0, 149, 172]
abbrev dktX1_wetness_0 : List UInt8 := dkwX1_wetness_0 ++ []
theorem dksX1_wetness_0 : cX1_wetness.data.toList.drop 0 = dktX1_wetness_0 := by decide +kernel
theorem dX1_wetness_0 : decode cX1_wetness 0 = .ok (.aload_n 0, 1) := dk_42 (dk_at dksX1_wetness_0 0 rfl rfl)
theorem dX1_wetness_1 : decode cX1_wetness 1 = .ok (.getfield 10, 3) := dk_180 0 10 (dk_at dksX1_wetness_0 1 rfl rfl)
theorem dX1_wetness_4 : decode cX1_wetness 4 = .ok (.iload_n 1, 1) := dk_27 (dk_at dksX1_wetness_0 4 rfl rfl)
theorem dX1_wetness_5 : decode cX1_wetness 5 = .ok (.invokevirtual 137, 3) := dk_182 0 137 (dk_at dksX1_wetness_0 5 rfl rfl)
theorem dX1_wetness_8 : decode cX1_wetness 8 = .ok (.getfield 149, 3) := dk_180 0 149 (dk_at dksX1_wetness_0 8 rfl rfl)
theorem dX1_wetness_11 : decode cX1_wetness 11 = .ok (.ireturn, 1) := dk_172 (dk_at dksX1_wetness_0 11 rfl rfl)
abbrev cX1_rider : ByteArray := prog_1_method_25_code
def yX1_rider : MethodName := ⟨RX1, "rider", "(I)I"⟩
def dkwX1_rider_1 : List UInt8 := [77, 44, 198, 0, 7, 4, 167, 0, 4, 3, 184, 0, 156, 44, 180, 0, 159, 172]
abbrev dktX1_rider_1 : List UInt8 := dkwX1_rider_1 ++ []
def dkwX1_rider_0 : List UInt8 := [42, 180, 0, 10, 27, 182, 0, 137, 87, 42, 180, 0, 10, 27, 42, 180, 0, 10, 180, 0, 130, 182, 0, 152]
abbrev dktX1_rider_0 : List UInt8 := dkwX1_rider_0 ++ dktX1_rider_1
theorem dksX1_rider_0 : cX1_rider.data.toList.drop 0 = dktX1_rider_0 := by decide +kernel
theorem dksX1_rider_1 : cX1_rider.data.toList.drop 24 = dktX1_rider_1 := dk_seg dksX1_rider_0 24 rfl rfl
theorem dX1_rider_0 : decode cX1_rider 0 = .ok (.aload_n 0, 1) := dk_42 (dk_at dksX1_rider_0 0 rfl rfl)
theorem dX1_rider_1 : decode cX1_rider 1 = .ok (.getfield 10, 3) := dk_180 0 10 (dk_at dksX1_rider_0 1 rfl rfl)
theorem dX1_rider_4 : decode cX1_rider 4 = .ok (.iload_n 1, 1) := dk_27 (dk_at dksX1_rider_0 4 rfl rfl)
theorem dX1_rider_5 : decode cX1_rider 5 = .ok (.invokevirtual 137, 3) := dk_182 0 137 (dk_at dksX1_rider_0 5 rfl rfl)
theorem dX1_rider_8 : decode cX1_rider 8 = .ok (.pop, 1) := dk_87 (dk_at dksX1_rider_0 8 rfl rfl)
theorem dX1_rider_9 : decode cX1_rider 9 = .ok (.aload_n 0, 1) := dk_42 (dk_at dksX1_rider_0 9 rfl rfl)
theorem dX1_rider_10 : decode cX1_rider 10 = .ok (.getfield 10, 3) := dk_180 0 10 (dk_at dksX1_rider_0 10 rfl rfl)
theorem dX1_rider_13 : decode cX1_rider 13 = .ok (.iload_n 1, 1) := dk_27 (dk_at dksX1_rider_0 13 rfl rfl)
theorem dX1_rider_14 : decode cX1_rider 14 = .ok (.aload_n 0, 1) := dk_42 (dk_at dksX1_rider_0 14 rfl rfl)
theorem dX1_rider_15 : decode cX1_rider 15 = .ok (.getfield 10, 3) := dk_180 0 10 (dk_at dksX1_rider_0 15 rfl rfl)
theorem dX1_rider_18 : decode cX1_rider 18 = .ok (.getfield 130, 3) := dk_180 0 130 (dk_at dksX1_rider_0 18 rfl rfl)
theorem dX1_rider_21 : decode cX1_rider 21 = .ok (.invokevirtual 152, 3) := dk_182 0 152 (dk_at dksX1_rider_0 21 rfl rfl)
theorem dX1_rider_24 : decode cX1_rider 24 = .ok (.astore_n 2, 1) := dk_77 (dk_at dksX1_rider_1 0 rfl rfl)
theorem dX1_rider_25 : decode cX1_rider 25 = .ok (.aload_n 2, 1) := dk_44 (dk_at dksX1_rider_1 1 rfl rfl)
theorem dX1_rider_26 : decode cX1_rider 26 = .ok (.ifnull 7, 3) := dk_198 0 7 (dk_at dksX1_rider_1 2 rfl rfl)
theorem dX1_rider_29 : decode cX1_rider 29 = .ok (.iconst 1, 1) := dk_4 (dk_at dksX1_rider_1 5 rfl rfl)
theorem dX1_rider_30 : decode cX1_rider 30 = .ok (.goto 4, 3) := dk_167 0 4 (dk_at dksX1_rider_1 6 rfl rfl)
theorem dX1_rider_33 : decode cX1_rider 33 = .ok (.iconst 0, 1) := dk_3 (dk_at dksX1_rider_1 9 rfl rfl)
theorem dX1_rider_34 : decode cX1_rider 34 = .ok (.invokestatic 156, 3) := dk_184 0 156 (dk_at dksX1_rider_1 10 rfl rfl)
theorem dX1_rider_37 : decode cX1_rider 37 = .ok (.aload_n 2, 1) := dk_44 (dk_at dksX1_rider_1 13 rfl rfl)
theorem dX1_rider_38 : decode cX1_rider 38 = .ok (.getfield 159, 3) := dk_180 0 159 (dk_at dksX1_rider_1 14 rfl rfl)
theorem dX1_rider_41 : decode cX1_rider 41 = .ok (.ireturn, 1) := dk_172 (dk_at dksX1_rider_1 17 rfl rfl)
abbrev cX1_coins : ByteArray := prog_1_method_27_code
def yX1_coins : MethodName := ⟨RX1, "coins", "(I)I"⟩
def dkwX1_coins_0 : List UInt8 := [42, 180, 0, 10, 27, 182, 0, 167, 180, 0, 170, 172]
abbrev dktX1_coins_0 : List UInt8 := dkwX1_coins_0 ++ []
theorem dksX1_coins_0 : cX1_coins.data.toList.drop 0 = dktX1_coins_0 := by decide +kernel
theorem dX1_coins_0 : decode cX1_coins 0 = .ok (.aload_n 0, 1) := dk_42 (dk_at dksX1_coins_0 0 rfl rfl)
theorem dX1_coins_1 : decode cX1_coins 1 = .ok (.getfield 10, 3) := dk_180 0 10 (dk_at dksX1_coins_0 1 rfl rfl)
theorem dX1_coins_4 : decode cX1_coins 4 = .ok (.iload_n 1, 1) := dk_27 (dk_at dksX1_coins_0 4 rfl rfl)
theorem dX1_coins_5 : decode cX1_coins 5 = .ok (.invokevirtual 167, 3) := dk_182 0 167 (dk_at dksX1_coins_0 5 rfl rfl)
theorem dX1_coins_8 : decode cX1_coins 8 = .ok (.getfield 170, 3) := dk_180 0 170 (dk_at dksX1_coins_0 8 rfl rfl)
theorem dX1_coins_11 : decode cX1_coins 11 = .ok (.ireturn, 1) := dk_172 (dk_at dksX1_coins_0 11 rfl rfl)
abbrev cX1_queueOf : ByteArray := prog_1_method_29_code
def yX1_queueOf : MethodName := ⟨RX1, "queueOf", "(I)I"⟩
def dkwX1_queueOf_1 : List UInt8 := [167, 0, 4, 3, 184, 0, 156, 28, 172]
abbrev dktX1_queueOf_1 : List UInt8 := dkwX1_queueOf_1 ++ []
def dkwX1_queueOf_0 : List UInt8 := [42, 180, 0, 10, 27, 182, 0, 167, 87, 42, 180, 0, 10, 27, 182, 0, 178, 61, 28, 2, 159, 0, 7, 4]
abbrev dktX1_queueOf_0 : List UInt8 := dkwX1_queueOf_0 ++ dktX1_queueOf_1
theorem dksX1_queueOf_0 : cX1_queueOf.data.toList.drop 0 = dktX1_queueOf_0 := by decide +kernel
theorem dksX1_queueOf_1 : cX1_queueOf.data.toList.drop 24 = dktX1_queueOf_1 := dk_seg dksX1_queueOf_0 24 rfl rfl
theorem dX1_queueOf_0 : decode cX1_queueOf 0 = .ok (.aload_n 0, 1) := dk_42 (dk_at dksX1_queueOf_0 0 rfl rfl)
theorem dX1_queueOf_1 : decode cX1_queueOf 1 = .ok (.getfield 10, 3) := dk_180 0 10 (dk_at dksX1_queueOf_0 1 rfl rfl)
theorem dX1_queueOf_4 : decode cX1_queueOf 4 = .ok (.iload_n 1, 1) := dk_27 (dk_at dksX1_queueOf_0 4 rfl rfl)
theorem dX1_queueOf_5 : decode cX1_queueOf 5 = .ok (.invokevirtual 167, 3) := dk_182 0 167 (dk_at dksX1_queueOf_0 5 rfl rfl)
theorem dX1_queueOf_8 : decode cX1_queueOf 8 = .ok (.pop, 1) := dk_87 (dk_at dksX1_queueOf_0 8 rfl rfl)
theorem dX1_queueOf_9 : decode cX1_queueOf 9 = .ok (.aload_n 0, 1) := dk_42 (dk_at dksX1_queueOf_0 9 rfl rfl)
theorem dX1_queueOf_10 : decode cX1_queueOf 10 = .ok (.getfield 10, 3) := dk_180 0 10 (dk_at dksX1_queueOf_0 10 rfl rfl)
theorem dX1_queueOf_13 : decode cX1_queueOf 13 = .ok (.iload_n 1, 1) := dk_27 (dk_at dksX1_queueOf_0 13 rfl rfl)
theorem dX1_queueOf_14 : decode cX1_queueOf 14 = .ok (.invokevirtual 178, 3) := dk_182 0 178 (dk_at dksX1_queueOf_0 14 rfl rfl)
theorem dX1_queueOf_17 : decode cX1_queueOf 17 = .ok (.istore_n 2, 1) := dk_61 (dk_at dksX1_queueOf_0 17 rfl rfl)
theorem dX1_queueOf_18 : decode cX1_queueOf 18 = .ok (.iload_n 2, 1) := dk_28 (dk_at dksX1_queueOf_0 18 rfl rfl)
theorem dX1_queueOf_19 : decode cX1_queueOf 19 = .ok (.iconst (-1), 1) := dk_2 (dk_at dksX1_queueOf_0 19 rfl rfl)
theorem dX1_queueOf_20 : decode cX1_queueOf 20 = .ok (.if_icmp .eq 7, 3) := dk_159 0 7 (dk_at dksX1_queueOf_0 20 rfl rfl)
theorem dX1_queueOf_23 : decode cX1_queueOf 23 = .ok (.iconst 1, 1) := dk_4 (dk_at dksX1_queueOf_0 23 rfl rfl)
theorem dX1_queueOf_24 : decode cX1_queueOf 24 = .ok (.goto 4, 3) := dk_167 0 4 (dk_at dksX1_queueOf_1 0 rfl rfl)
theorem dX1_queueOf_27 : decode cX1_queueOf 27 = .ok (.iconst 0, 1) := dk_3 (dk_at dksX1_queueOf_1 3 rfl rfl)
theorem dX1_queueOf_28 : decode cX1_queueOf 28 = .ok (.invokestatic 156, 3) := dk_184 0 156 (dk_at dksX1_queueOf_1 4 rfl rfl)
theorem dX1_queueOf_31 : decode cX1_queueOf 31 = .ok (.iload_n 2, 1) := dk_28 (dk_at dksX1_queueOf_1 7 rfl rfl)
theorem dX1_queueOf_32 : decode cX1_queueOf 32 = .ok (.ireturn, 1) := dk_172 (dk_at dksX1_queueOf_1 8 rfl rfl)
abbrev cX1_queueLength : ByteArray := prog_1_method_30_code
def yX1_queueLength : MethodName := ⟨RX1, "queueLength", "(I)I"⟩
def dkwX1_queueLength_0 : List UInt8 := [42, 180, 0, 10, 27, 182, 0, 137, 180, 0, 181, 182, 0, 185, 172]
abbrev dktX1_queueLength_0 : List UInt8 := dkwX1_queueLength_0 ++ []
theorem dksX1_queueLength_0 : cX1_queueLength.data.toList.drop 0 = dktX1_queueLength_0 := by decide +kernel
theorem dX1_queueLength_0 : decode cX1_queueLength 0 = .ok (.aload_n 0, 1) := dk_42 (dk_at dksX1_queueLength_0 0 rfl rfl)
theorem dX1_queueLength_1 : decode cX1_queueLength 1 = .ok (.getfield 10, 3) := dk_180 0 10 (dk_at dksX1_queueLength_0 1 rfl rfl)
theorem dX1_queueLength_4 : decode cX1_queueLength 4 = .ok (.iload_n 1, 1) := dk_27 (dk_at dksX1_queueLength_0 4 rfl rfl)
theorem dX1_queueLength_5 : decode cX1_queueLength 5 = .ok (.invokevirtual 137, 3) := dk_182 0 137 (dk_at dksX1_queueLength_0 5 rfl rfl)
theorem dX1_queueLength_8 : decode cX1_queueLength 8 = .ok (.getfield 181, 3) := dk_180 0 181 (dk_at dksX1_queueLength_0 8 rfl rfl)
theorem dX1_queueLength_11 : decode cX1_queueLength 11 = .ok (.invokevirtual 185, 3) := dk_182 0 185 (dk_at dksX1_queueLength_0 11 rfl rfl)
theorem dX1_queueLength_14 : decode cX1_queueLength 14 = .ok (.ireturn, 1) := dk_172 (dk_at dksX1_queueLength_0 14 rfl rfl)
abbrev cX1_queuedGuest : ByteArray := prog_1_method_31_code
def yX1_queuedGuest : MethodName := ⟨RX1, "queuedGuest", "(II)I"⟩
def dkwX1_queuedGuest_0 : List UInt8 := [42, 180, 0, 10, 27, 182, 0, 137, 180, 0, 181, 28, 182, 0, 188, 192, 0, 191, 182, 0, 193, 172]
abbrev dktX1_queuedGuest_0 : List UInt8 := dkwX1_queuedGuest_0 ++ []
theorem dksX1_queuedGuest_0 : cX1_queuedGuest.data.toList.drop 0 = dktX1_queuedGuest_0 := by decide +kernel
theorem dX1_queuedGuest_0 : decode cX1_queuedGuest 0 = .ok (.aload_n 0, 1) := dk_42 (dk_at dksX1_queuedGuest_0 0 rfl rfl)
theorem dX1_queuedGuest_1 : decode cX1_queuedGuest 1 = .ok (.getfield 10, 3) := dk_180 0 10 (dk_at dksX1_queuedGuest_0 1 rfl rfl)
theorem dX1_queuedGuest_4 : decode cX1_queuedGuest 4 = .ok (.iload_n 1, 1) := dk_27 (dk_at dksX1_queuedGuest_0 4 rfl rfl)
theorem dX1_queuedGuest_5 : decode cX1_queuedGuest 5 = .ok (.invokevirtual 137, 3) := dk_182 0 137 (dk_at dksX1_queuedGuest_0 5 rfl rfl)
theorem dX1_queuedGuest_8 : decode cX1_queuedGuest 8 = .ok (.getfield 181, 3) := dk_180 0 181 (dk_at dksX1_queuedGuest_0 8 rfl rfl)
theorem dX1_queuedGuest_11 : decode cX1_queuedGuest 11 = .ok (.iload_n 2, 1) := dk_28 (dk_at dksX1_queuedGuest_0 11 rfl rfl)
theorem dX1_queuedGuest_12 : decode cX1_queuedGuest 12 = .ok (.invokevirtual 188, 3) := dk_182 0 188 (dk_at dksX1_queuedGuest_0 12 rfl rfl)
theorem dX1_queuedGuest_15 : decode cX1_queuedGuest 15 = .ok (.checkcast 191, 3) := dk_192 0 191 (dk_at dksX1_queuedGuest_0 15 rfl rfl)
theorem dX1_queuedGuest_18 : decode cX1_queuedGuest 18 = .ok (.invokevirtual 193, 3) := dk_182 0 193 (dk_at dksX1_queuedGuest_0 18 rfl rfl)
theorem dX1_queuedGuest_21 : decode cX1_queuedGuest 21 = .ok (.ireturn, 1) := dk_172 (dk_at dksX1_queuedGuest_0 21 rfl rfl)
abbrev cX1_bookedGuest : ByteArray := prog_1_method_33_code
def yX1_bookedGuest : MethodName := ⟨RX1, "bookedGuest", "(I)I"⟩
def dkwX1_bookedGuest_0 : List UInt8 := [42, 180, 0, 10, 27, 182, 0, 199, 180, 0, 159, 172]
abbrev dktX1_bookedGuest_0 : List UInt8 := dkwX1_bookedGuest_0 ++ []
theorem dksX1_bookedGuest_0 : cX1_bookedGuest.data.toList.drop 0 = dktX1_bookedGuest_0 := by decide +kernel
theorem dX1_bookedGuest_0 : decode cX1_bookedGuest 0 = .ok (.aload_n 0, 1) := dk_42 (dk_at dksX1_bookedGuest_0 0 rfl rfl)
theorem dX1_bookedGuest_1 : decode cX1_bookedGuest 1 = .ok (.getfield 10, 3) := dk_180 0 10 (dk_at dksX1_bookedGuest_0 1 rfl rfl)
theorem dX1_bookedGuest_4 : decode cX1_bookedGuest 4 = .ok (.iload_n 1, 1) := dk_27 (dk_at dksX1_bookedGuest_0 4 rfl rfl)
theorem dX1_bookedGuest_5 : decode cX1_bookedGuest 5 = .ok (.invokevirtual 199, 3) := dk_182 0 199 (dk_at dksX1_bookedGuest_0 5 rfl rfl)
theorem dX1_bookedGuest_8 : decode cX1_bookedGuest 8 = .ok (.getfield 159, 3) := dk_180 0 159 (dk_at dksX1_bookedGuest_0 8 rfl rfl)
theorem dX1_bookedGuest_11 : decode cX1_bookedGuest 11 = .ok (.ireturn, 1) := dk_172 (dk_at dksX1_bookedGuest_0 11 rfl rfl)
abbrev cX1_bookedSlide : ByteArray := prog_1_method_34_code
def yX1_bookedSlide : MethodName := ⟨RX1, "bookedSlide", "(I)I"⟩
def dkwX1_bookedSlide_0 : List UInt8 := [42, 180, 0, 10, 27, 182, 0, 199, 180, 0, 203, 172]
abbrev dktX1_bookedSlide_0 : List UInt8 := dkwX1_bookedSlide_0 ++ []
theorem dksX1_bookedSlide_0 : cX1_bookedSlide.data.toList.drop 0 = dktX1_bookedSlide_0 := by decide +kernel
theorem dX1_bookedSlide_0 : decode cX1_bookedSlide 0 = .ok (.aload_n 0, 1) := dk_42 (dk_at dksX1_bookedSlide_0 0 rfl rfl)
theorem dX1_bookedSlide_1 : decode cX1_bookedSlide 1 = .ok (.getfield 10, 3) := dk_180 0 10 (dk_at dksX1_bookedSlide_0 1 rfl rfl)
theorem dX1_bookedSlide_4 : decode cX1_bookedSlide 4 = .ok (.iload_n 1, 1) := dk_27 (dk_at dksX1_bookedSlide_0 4 rfl rfl)
theorem dX1_bookedSlide_5 : decode cX1_bookedSlide 5 = .ok (.invokevirtual 199, 3) := dk_182 0 199 (dk_at dksX1_bookedSlide_0 5 rfl rfl)
theorem dX1_bookedSlide_8 : decode cX1_bookedSlide 8 = .ok (.getfield 203, 3) := dk_180 0 203 (dk_at dksX1_bookedSlide_0 8 rfl rfl)
theorem dX1_bookedSlide_11 : decode cX1_bookedSlide 11 = .ok (.ireturn, 1) := dk_172 (dk_at dksX1_bookedSlide_0 11 rfl rfl)
abbrev cX1_start : ByteArray := prog_1_method_35_code
def yX1_start : MethodName := ⟨RX1, "start", "(I)I"⟩
def dkwX1_start_0 : List UInt8 := [42, 180, 0, 10, 27, 182, 0, 199, 180, 0, 205, 172]
abbrev dktX1_start_0 : List UInt8 := dkwX1_start_0 ++ []
theorem dksX1_start_0 : cX1_start.data.toList.drop 0 = dktX1_start_0 := by decide +kernel
theorem dX1_start_0 : decode cX1_start 0 = .ok (.aload_n 0, 1) := dk_42 (dk_at dksX1_start_0 0 rfl rfl)
theorem dX1_start_1 : decode cX1_start 1 = .ok (.getfield 10, 3) := dk_180 0 10 (dk_at dksX1_start_0 1 rfl rfl)
theorem dX1_start_4 : decode cX1_start 4 = .ok (.iload_n 1, 1) := dk_27 (dk_at dksX1_start_0 4 rfl rfl)
theorem dX1_start_5 : decode cX1_start 5 = .ok (.invokevirtual 199, 3) := dk_182 0 199 (dk_at dksX1_start_0 5 rfl rfl)
theorem dX1_start_8 : decode cX1_start 8 = .ok (.getfield 205, 3) := dk_180 0 205 (dk_at dksX1_start_0 8 rfl rfl)
theorem dX1_start_11 : decode cX1_start 11 = .ok (.ireturn, 1) := dk_172 (dk_at dksX1_start_0 11 rfl rfl)
abbrev cX1_hasStarted : ByteArray := prog_1_method_36_code
def yX1_hasStarted : MethodName := ⟨RX1, "hasStarted", "(I)Z"⟩
def dkwX1_hasStarted_1 : List UInt8 := [167, 0, 4, 3, 172]
abbrev dktX1_hasStarted_1 : List UInt8 := dkwX1_hasStarted_1 ++ []
def dkwX1_hasStarted_0 : List UInt8 := [42, 180, 0, 10, 27, 182, 0, 199, 180, 0, 205, 42, 180, 0, 10, 180, 0, 130, 163, 0, 7, 4]
abbrev dktX1_hasStarted_0 : List UInt8 := dkwX1_hasStarted_0 ++ dktX1_hasStarted_1
theorem dksX1_hasStarted_0 : cX1_hasStarted.data.toList.drop 0 = dktX1_hasStarted_0 := by decide +kernel
theorem dksX1_hasStarted_1 : cX1_hasStarted.data.toList.drop 22 = dktX1_hasStarted_1 := dk_seg dksX1_hasStarted_0 22 rfl rfl
theorem dX1_hasStarted_0 : decode cX1_hasStarted 0 = .ok (.aload_n 0, 1) := dk_42 (dk_at dksX1_hasStarted_0 0 rfl rfl)
theorem dX1_hasStarted_1 : decode cX1_hasStarted 1 = .ok (.getfield 10, 3) := dk_180 0 10 (dk_at dksX1_hasStarted_0 1 rfl rfl)
theorem dX1_hasStarted_4 : decode cX1_hasStarted 4 = .ok (.iload_n 1, 1) := dk_27 (dk_at dksX1_hasStarted_0 4 rfl rfl)
theorem dX1_hasStarted_5 : decode cX1_hasStarted 5 = .ok (.invokevirtual 199, 3) := dk_182 0 199 (dk_at dksX1_hasStarted_0 5 rfl rfl)
theorem dX1_hasStarted_8 : decode cX1_hasStarted 8 = .ok (.getfield 205, 3) := dk_180 0 205 (dk_at dksX1_hasStarted_0 8 rfl rfl)
theorem dX1_hasStarted_11 : decode cX1_hasStarted 11 = .ok (.aload_n 0, 1) := dk_42 (dk_at dksX1_hasStarted_0 11 rfl rfl)
theorem dX1_hasStarted_12 : decode cX1_hasStarted 12 = .ok (.getfield 10, 3) := dk_180 0 10 (dk_at dksX1_hasStarted_0 12 rfl rfl)
theorem dX1_hasStarted_15 : decode cX1_hasStarted 15 = .ok (.getfield 130, 3) := dk_180 0 130 (dk_at dksX1_hasStarted_0 15 rfl rfl)
theorem dX1_hasStarted_18 : decode cX1_hasStarted 18 = .ok (.if_icmp .gt 7, 3) := dk_163 0 7 (dk_at dksX1_hasStarted_0 18 rfl rfl)
theorem dX1_hasStarted_21 : decode cX1_hasStarted 21 = .ok (.iconst 1, 1) := dk_4 (dk_at dksX1_hasStarted_0 21 rfl rfl)
theorem dX1_hasStarted_22 : decode cX1_hasStarted 22 = .ok (.goto 4, 3) := dk_167 0 4 (dk_at dksX1_hasStarted_1 0 rfl rfl)
theorem dX1_hasStarted_25 : decode cX1_hasStarted 25 = .ok (.iconst 0, 1) := dk_3 (dk_at dksX1_hasStarted_1 3 rfl rfl)
theorem dX1_hasStarted_26 : decode cX1_hasStarted 26 = .ok (.ireturn, 1) := dk_172 (dk_at dksX1_hasStarted_1 4 rfl rfl)
abbrev cX1_bookingByStart : ByteArray := prog_1_method_37_code
def yX1_bookingByStart : MethodName := ⟨RX1, "bookingByStart", "(I)I"⟩
def dkwX1_bookingByStart_0 : List UInt8 := [42, 180, 0, 10, 180, 0, 196, 27, 184, 0, 208, 172]
abbrev dktX1_bookingByStart_0 : List UInt8 := dkwX1_bookingByStart_0 ++ []
theorem dksX1_bookingByStart_0 : cX1_bookingByStart.data.toList.drop 0 = dktX1_bookingByStart_0 := by decide +kernel
theorem dX1_bookingByStart_0 : decode cX1_bookingByStart 0 = .ok (.aload_n 0, 1) := dk_42 (dk_at dksX1_bookingByStart_0 0 rfl rfl)
theorem dX1_bookingByStart_1 : decode cX1_bookingByStart 1 = .ok (.getfield 10, 3) := dk_180 0 10 (dk_at dksX1_bookingByStart_0 1 rfl rfl)
theorem dX1_bookingByStart_4 : decode cX1_bookingByStart 4 = .ok (.getfield 196, 3) := dk_180 0 196 (dk_at dksX1_bookingByStart_0 4 rfl rfl)
theorem dX1_bookingByStart_7 : decode cX1_bookingByStart 7 = .ok (.iload_n 1, 1) := dk_27 (dk_at dksX1_bookingByStart_0 7 rfl rfl)
theorem dX1_bookingByStart_8 : decode cX1_bookingByStart 8 = .ok (.invokestatic 208, 3) := dk_184 0 208 (dk_at dksX1_bookingByStart_0 8 rfl rfl)
theorem dX1_bookingByStart_11 : decode cX1_bookingByStart 11 = .ok (.ireturn, 1) := dk_172 (dk_at dksX1_bookingByStart_0 11 rfl rfl)
abbrev cX1_isFree : ByteArray := prog_1_method_38_code
def yX1_isFree : MethodName := ⟨RX1, "isFree", "(II)Z"⟩
def dkwX1_isFree_1 : List UInt8 := [182, 0, 215, 172]
abbrev dktX1_isFree_1 : List UInt8 := dkwX1_isFree_1 ++ []
def dkwX1_isFree_0 : List UInt8 := [42, 180, 0, 10, 27, 182, 0, 137, 87, 42, 180, 0, 10, 28, 182, 0, 212, 42, 180, 0, 10, 27, 28]
abbrev dktX1_isFree_0 : List UInt8 := dkwX1_isFree_0 ++ dktX1_isFree_1
theorem dksX1_isFree_0 : cX1_isFree.data.toList.drop 0 = dktX1_isFree_0 := by decide +kernel
theorem dksX1_isFree_1 : cX1_isFree.data.toList.drop 23 = dktX1_isFree_1 := dk_seg dksX1_isFree_0 23 rfl rfl
theorem dX1_isFree_0 : decode cX1_isFree 0 = .ok (.aload_n 0, 1) := dk_42 (dk_at dksX1_isFree_0 0 rfl rfl)
theorem dX1_isFree_1 : decode cX1_isFree 1 = .ok (.getfield 10, 3) := dk_180 0 10 (dk_at dksX1_isFree_0 1 rfl rfl)
theorem dX1_isFree_4 : decode cX1_isFree 4 = .ok (.iload_n 1, 1) := dk_27 (dk_at dksX1_isFree_0 4 rfl rfl)
theorem dX1_isFree_5 : decode cX1_isFree 5 = .ok (.invokevirtual 137, 3) := dk_182 0 137 (dk_at dksX1_isFree_0 5 rfl rfl)
theorem dX1_isFree_8 : decode cX1_isFree 8 = .ok (.pop, 1) := dk_87 (dk_at dksX1_isFree_0 8 rfl rfl)
theorem dX1_isFree_9 : decode cX1_isFree 9 = .ok (.aload_n 0, 1) := dk_42 (dk_at dksX1_isFree_0 9 rfl rfl)
theorem dX1_isFree_10 : decode cX1_isFree 10 = .ok (.getfield 10, 3) := dk_180 0 10 (dk_at dksX1_isFree_0 10 rfl rfl)
theorem dX1_isFree_13 : decode cX1_isFree 13 = .ok (.iload_n 2, 1) := dk_28 (dk_at dksX1_isFree_0 13 rfl rfl)
theorem dX1_isFree_14 : decode cX1_isFree 14 = .ok (.invokevirtual 212, 3) := dk_182 0 212 (dk_at dksX1_isFree_0 14 rfl rfl)
theorem dX1_isFree_17 : decode cX1_isFree 17 = .ok (.aload_n 0, 1) := dk_42 (dk_at dksX1_isFree_0 17 rfl rfl)
theorem dX1_isFree_18 : decode cX1_isFree 18 = .ok (.getfield 10, 3) := dk_180 0 10 (dk_at dksX1_isFree_0 18 rfl rfl)
theorem dX1_isFree_21 : decode cX1_isFree 21 = .ok (.iload_n 1, 1) := dk_27 (dk_at dksX1_isFree_0 21 rfl rfl)
theorem dX1_isFree_22 : decode cX1_isFree 22 = .ok (.iload_n 2, 1) := dk_28 (dk_at dksX1_isFree_0 22 rfl rfl)
theorem dX1_isFree_23 : decode cX1_isFree 23 = .ok (.invokevirtual 215, 3) := dk_182 0 215 (dk_at dksX1_isFree_1 0 rfl rfl)
theorem dX1_isFree_26 : decode cX1_isFree 26 = .ok (.ireturn, 1) := dk_172 (dk_at dksX1_isFree_1 3 rfl rfl)
abbrev cX1_firstFree : ByteArray := prog_1_method_40_code
def yX1_firstFree : MethodName := ⟨RX1, "firstFree", "(II)I"⟩
def dkwX1_firstFree_1 : List UInt8 := [182, 0, 219, 184, 0, 222, 172]
abbrev dktX1_firstFree_1 : List UInt8 := dkwX1_firstFree_1 ++ []
def dkwX1_firstFree_0 : List UInt8 := [42, 180, 0, 10, 27, 182, 0, 137, 87, 42, 180, 0, 10, 28, 182, 0, 212, 42, 180, 0, 10, 27, 28]
abbrev dktX1_firstFree_0 : List UInt8 := dkwX1_firstFree_0 ++ dktX1_firstFree_1
theorem dksX1_firstFree_0 : cX1_firstFree.data.toList.drop 0 = dktX1_firstFree_0 := by decide +kernel
theorem dksX1_firstFree_1 : cX1_firstFree.data.toList.drop 23 = dktX1_firstFree_1 := dk_seg dksX1_firstFree_0 23 rfl rfl
theorem dX1_firstFree_0 : decode cX1_firstFree 0 = .ok (.aload_n 0, 1) := dk_42 (dk_at dksX1_firstFree_0 0 rfl rfl)
theorem dX1_firstFree_1 : decode cX1_firstFree 1 = .ok (.getfield 10, 3) := dk_180 0 10 (dk_at dksX1_firstFree_0 1 rfl rfl)
theorem dX1_firstFree_4 : decode cX1_firstFree 4 = .ok (.iload_n 1, 1) := dk_27 (dk_at dksX1_firstFree_0 4 rfl rfl)
theorem dX1_firstFree_5 : decode cX1_firstFree 5 = .ok (.invokevirtual 137, 3) := dk_182 0 137 (dk_at dksX1_firstFree_0 5 rfl rfl)
theorem dX1_firstFree_8 : decode cX1_firstFree 8 = .ok (.pop, 1) := dk_87 (dk_at dksX1_firstFree_0 8 rfl rfl)
theorem dX1_firstFree_9 : decode cX1_firstFree 9 = .ok (.aload_n 0, 1) := dk_42 (dk_at dksX1_firstFree_0 9 rfl rfl)
theorem dX1_firstFree_10 : decode cX1_firstFree 10 = .ok (.getfield 10, 3) := dk_180 0 10 (dk_at dksX1_firstFree_0 10 rfl rfl)
theorem dX1_firstFree_13 : decode cX1_firstFree 13 = .ok (.iload_n 2, 1) := dk_28 (dk_at dksX1_firstFree_0 13 rfl rfl)
theorem dX1_firstFree_14 : decode cX1_firstFree 14 = .ok (.invokevirtual 212, 3) := dk_182 0 212 (dk_at dksX1_firstFree_0 14 rfl rfl)
theorem dX1_firstFree_17 : decode cX1_firstFree 17 = .ok (.aload_n 0, 1) := dk_42 (dk_at dksX1_firstFree_0 17 rfl rfl)
theorem dX1_firstFree_18 : decode cX1_firstFree 18 = .ok (.getfield 10, 3) := dk_180 0 10 (dk_at dksX1_firstFree_0 18 rfl rfl)
theorem dX1_firstFree_21 : decode cX1_firstFree 21 = .ok (.iload_n 1, 1) := dk_27 (dk_at dksX1_firstFree_0 21 rfl rfl)
theorem dX1_firstFree_22 : decode cX1_firstFree 22 = .ok (.iload_n 2, 1) := dk_28 (dk_at dksX1_firstFree_0 22 rfl rfl)
theorem dX1_firstFree_23 : decode cX1_firstFree 23 = .ok (.invokevirtual 219, 3) := dk_182 0 219 (dk_at dksX1_firstFree_1 0 rfl rfl)
theorem dX1_firstFree_26 : decode cX1_firstFree 26 = .ok (.invokestatic 222, 3) := dk_184 0 222 (dk_at dksX1_firstFree_1 3 rfl rfl)
theorem dX1_firstFree_29 : decode cX1_firstFree 29 = .ok (.ireturn, 1) := dk_172 (dk_at dksX1_firstFree_1 6 rfl rfl)
abbrev cX1_requireMinute : ByteArray := prog_1_method_39_code
def yX1_requireMinute : MethodName := ⟨RX1, "requireMinute", "(I)I"⟩
def dkwX1_requireMinute_0 : List UInt8 := [26, 2, 159, 0, 7, 4, 167, 0, 4, 3, 184, 0, 156, 26, 172]
abbrev dktX1_requireMinute_0 : List UInt8 := dkwX1_requireMinute_0 ++ []
theorem dksX1_requireMinute_0 : cX1_requireMinute.data.toList.drop 0 = dktX1_requireMinute_0 := by decide +kernel
theorem dX1_requireMinute_0 : decode cX1_requireMinute 0 = .ok (.iload_n 0, 1) := dk_26 (dk_at dksX1_requireMinute_0 0 rfl rfl)
theorem dX1_requireMinute_1 : decode cX1_requireMinute 1 = .ok (.iconst (-1), 1) := dk_2 (dk_at dksX1_requireMinute_0 1 rfl rfl)
theorem dX1_requireMinute_2 : decode cX1_requireMinute 2 = .ok (.if_icmp .eq 7, 3) := dk_159 0 7 (dk_at dksX1_requireMinute_0 2 rfl rfl)
theorem dX1_requireMinute_5 : decode cX1_requireMinute 5 = .ok (.iconst 1, 1) := dk_4 (dk_at dksX1_requireMinute_0 5 rfl rfl)
theorem dX1_requireMinute_6 : decode cX1_requireMinute 6 = .ok (.goto 4, 3) := dk_167 0 4 (dk_at dksX1_requireMinute_0 6 rfl rfl)
theorem dX1_requireMinute_9 : decode cX1_requireMinute 9 = .ok (.iconst 0, 1) := dk_3 (dk_at dksX1_requireMinute_0 9 rfl rfl)
theorem dX1_requireMinute_10 : decode cX1_requireMinute 10 = .ok (.invokestatic 156, 3) := dk_184 0 156 (dk_at dksX1_requireMinute_0 10 rfl rfl)
theorem dX1_requireMinute_13 : decode cX1_requireMinute 13 = .ok (.iload_n 0, 1) := dk_26 (dk_at dksX1_requireMinute_0 13 rfl rfl)
theorem dX1_requireMinute_14 : decode cX1_requireMinute 14 = .ok (.ireturn, 1) := dk_172 (dk_at dksX1_requireMinute_0 14 rfl rfl)
abbrev cX1_firstFreeByGaps : ByteArray := prog_1_method_41_code
def yX1_firstFreeByGaps : MethodName := ⟨RX1, "firstFreeByGaps", "(II)I"⟩
def dkwX1_firstFreeByGaps_1 : List UInt8 := [182, 0, 225, 184, 0, 222, 172]
abbrev dktX1_firstFreeByGaps_1 : List UInt8 := dkwX1_firstFreeByGaps_1 ++ []
def dkwX1_firstFreeByGaps_0 : List UInt8 := [42, 180, 0, 10, 27, 182, 0, 137, 87, 42, 180, 0, 10, 28, 182, 0, 212, 42, 180, 0, 10, 27, 28]
abbrev dktX1_firstFreeByGaps_0 : List UInt8 := dkwX1_firstFreeByGaps_0 ++ dktX1_firstFreeByGaps_1
theorem dksX1_firstFreeByGaps_0 : cX1_firstFreeByGaps.data.toList.drop 0 = dktX1_firstFreeByGaps_0 := by decide +kernel
theorem dksX1_firstFreeByGaps_1 : cX1_firstFreeByGaps.data.toList.drop 23 = dktX1_firstFreeByGaps_1 := dk_seg dksX1_firstFreeByGaps_0 23 rfl rfl
theorem dX1_firstFreeByGaps_0 : decode cX1_firstFreeByGaps 0 = .ok (.aload_n 0, 1) := dk_42 (dk_at dksX1_firstFreeByGaps_0 0 rfl rfl)
theorem dX1_firstFreeByGaps_1 : decode cX1_firstFreeByGaps 1 = .ok (.getfield 10, 3) := dk_180 0 10 (dk_at dksX1_firstFreeByGaps_0 1 rfl rfl)
theorem dX1_firstFreeByGaps_4 : decode cX1_firstFreeByGaps 4 = .ok (.iload_n 1, 1) := dk_27 (dk_at dksX1_firstFreeByGaps_0 4 rfl rfl)
theorem dX1_firstFreeByGaps_5 : decode cX1_firstFreeByGaps 5 = .ok (.invokevirtual 137, 3) := dk_182 0 137 (dk_at dksX1_firstFreeByGaps_0 5 rfl rfl)
theorem dX1_firstFreeByGaps_8 : decode cX1_firstFreeByGaps 8 = .ok (.pop, 1) := dk_87 (dk_at dksX1_firstFreeByGaps_0 8 rfl rfl)
theorem dX1_firstFreeByGaps_9 : decode cX1_firstFreeByGaps 9 = .ok (.aload_n 0, 1) := dk_42 (dk_at dksX1_firstFreeByGaps_0 9 rfl rfl)
theorem dX1_firstFreeByGaps_10 : decode cX1_firstFreeByGaps 10 = .ok (.getfield 10, 3) := dk_180 0 10 (dk_at dksX1_firstFreeByGaps_0 10 rfl rfl)
theorem dX1_firstFreeByGaps_13 : decode cX1_firstFreeByGaps 13 = .ok (.iload_n 2, 1) := dk_28 (dk_at dksX1_firstFreeByGaps_0 13 rfl rfl)
theorem dX1_firstFreeByGaps_14 : decode cX1_firstFreeByGaps 14 = .ok (.invokevirtual 212, 3) := dk_182 0 212 (dk_at dksX1_firstFreeByGaps_0 14 rfl rfl)
theorem dX1_firstFreeByGaps_17 : decode cX1_firstFreeByGaps 17 = .ok (.aload_n 0, 1) := dk_42 (dk_at dksX1_firstFreeByGaps_0 17 rfl rfl)
theorem dX1_firstFreeByGaps_18 : decode cX1_firstFreeByGaps 18 = .ok (.getfield 10, 3) := dk_180 0 10 (dk_at dksX1_firstFreeByGaps_0 18 rfl rfl)
theorem dX1_firstFreeByGaps_21 : decode cX1_firstFreeByGaps 21 = .ok (.iload_n 1, 1) := dk_27 (dk_at dksX1_firstFreeByGaps_0 21 rfl rfl)
theorem dX1_firstFreeByGaps_22 : decode cX1_firstFreeByGaps 22 = .ok (.iload_n 2, 1) := dk_28 (dk_at dksX1_firstFreeByGaps_0 22 rfl rfl)
theorem dX1_firstFreeByGaps_23 : decode cX1_firstFreeByGaps 23 = .ok (.invokevirtual 225, 3) := dk_182 0 225 (dk_at dksX1_firstFreeByGaps_1 0 rfl rfl)
theorem dX1_firstFreeByGaps_26 : decode cX1_firstFreeByGaps 26 = .ok (.invokestatic 222, 3) := dk_184 0 222 (dk_at dksX1_firstFreeByGaps_1 3 rfl rfl)
theorem dX1_firstFreeByGaps_29 : decode cX1_firstFreeByGaps 29 = .ok (.ireturn, 1) := dk_172 (dk_at dksX1_firstFreeByGaps_1 6 rfl rfl)
abbrev cX1_finishedGuest : ByteArray := prog_1_method_47_code
def yX1_finishedGuest : MethodName := ⟨RX1, "finishedGuest", "(I)I"⟩
def dkwX1_finishedGuest_0 : List UInt8 := [42, 180, 0, 10, 180, 0, 240, 27, 182, 0, 244, 192, 0, 247, 180, 0, 249, 172]
abbrev dktX1_finishedGuest_0 : List UInt8 := dkwX1_finishedGuest_0 ++ []
theorem dksX1_finishedGuest_0 : cX1_finishedGuest.data.toList.drop 0 = dktX1_finishedGuest_0 := by decide +kernel
theorem dX1_finishedGuest_0 : decode cX1_finishedGuest 0 = .ok (.aload_n 0, 1) := dk_42 (dk_at dksX1_finishedGuest_0 0 rfl rfl)
theorem dX1_finishedGuest_1 : decode cX1_finishedGuest 1 = .ok (.getfield 10, 3) := dk_180 0 10 (dk_at dksX1_finishedGuest_0 1 rfl rfl)
theorem dX1_finishedGuest_4 : decode cX1_finishedGuest 4 = .ok (.getfield 240, 3) := dk_180 0 240 (dk_at dksX1_finishedGuest_0 4 rfl rfl)
theorem dX1_finishedGuest_7 : decode cX1_finishedGuest 7 = .ok (.iload_n 1, 1) := dk_27 (dk_at dksX1_finishedGuest_0 7 rfl rfl)
theorem dX1_finishedGuest_8 : decode cX1_finishedGuest 8 = .ok (.invokevirtual 244, 3) := dk_182 0 244 (dk_at dksX1_finishedGuest_0 8 rfl rfl)
theorem dX1_finishedGuest_11 : decode cX1_finishedGuest 11 = .ok (.checkcast 247, 3) := dk_192 0 247 (dk_at dksX1_finishedGuest_0 11 rfl rfl)
theorem dX1_finishedGuest_14 : decode cX1_finishedGuest 14 = .ok (.getfield 249, 3) := dk_180 0 249 (dk_at dksX1_finishedGuest_0 14 rfl rfl)
theorem dX1_finishedGuest_17 : decode cX1_finishedGuest 17 = .ok (.ireturn, 1) := dk_172 (dk_at dksX1_finishedGuest_0 17 rfl rfl)
abbrev cX1_finishedSlide : ByteArray := prog_1_method_48_code
def yX1_finishedSlide : MethodName := ⟨RX1, "finishedSlide", "(I)I"⟩
def dkwX1_finishedSlide_0 : List UInt8 := [42, 180, 0, 10, 180, 0, 240, 27, 182, 0, 244, 192, 0, 247, 180, 0, 250, 172]
abbrev dktX1_finishedSlide_0 : List UInt8 := dkwX1_finishedSlide_0 ++ []
theorem dksX1_finishedSlide_0 : cX1_finishedSlide.data.toList.drop 0 = dktX1_finishedSlide_0 := by decide +kernel
theorem dX1_finishedSlide_0 : decode cX1_finishedSlide 0 = .ok (.aload_n 0, 1) := dk_42 (dk_at dksX1_finishedSlide_0 0 rfl rfl)
theorem dX1_finishedSlide_1 : decode cX1_finishedSlide 1 = .ok (.getfield 10, 3) := dk_180 0 10 (dk_at dksX1_finishedSlide_0 1 rfl rfl)
theorem dX1_finishedSlide_4 : decode cX1_finishedSlide 4 = .ok (.getfield 240, 3) := dk_180 0 240 (dk_at dksX1_finishedSlide_0 4 rfl rfl)
theorem dX1_finishedSlide_7 : decode cX1_finishedSlide 7 = .ok (.iload_n 1, 1) := dk_27 (dk_at dksX1_finishedSlide_0 7 rfl rfl)
theorem dX1_finishedSlide_8 : decode cX1_finishedSlide 8 = .ok (.invokevirtual 244, 3) := dk_182 0 244 (dk_at dksX1_finishedSlide_0 8 rfl rfl)
theorem dX1_finishedSlide_11 : decode cX1_finishedSlide 11 = .ok (.checkcast 247, 3) := dk_192 0 247 (dk_at dksX1_finishedSlide_0 11 rfl rfl)
theorem dX1_finishedSlide_14 : decode cX1_finishedSlide 14 = .ok (.getfield 250, 3) := dk_180 0 250 (dk_at dksX1_finishedSlide_0 14 rfl rfl)
theorem dX1_finishedSlide_17 : decode cX1_finishedSlide 17 = .ok (.ireturn, 1) := dk_172 (dk_at dksX1_finishedSlide_0 17 rfl rfl)
abbrev cX1_finishMinute : ByteArray := prog_1_method_49_code
def yX1_finishMinute : MethodName := ⟨RX1, "finishMinute", "(I)I"⟩
def dkwX1_finishMinute_0 : List UInt8 := [42, 180, 0, 10, 180, 0, 240, 27, 182, 0, 244, 192, 0, 247, 180, 0, 251, 172]
abbrev dktX1_finishMinute_0 : List UInt8 := dkwX1_finishMinute_0 ++ []
theorem dksX1_finishMinute_0 : cX1_finishMinute.data.toList.drop 0 = dktX1_finishMinute_0 := by decide +kernel
theorem dX1_finishMinute_0 : decode cX1_finishMinute 0 = .ok (.aload_n 0, 1) := dk_42 (dk_at dksX1_finishMinute_0 0 rfl rfl)
theorem dX1_finishMinute_1 : decode cX1_finishMinute 1 = .ok (.getfield 10, 3) := dk_180 0 10 (dk_at dksX1_finishMinute_0 1 rfl rfl)
theorem dX1_finishMinute_4 : decode cX1_finishMinute 4 = .ok (.getfield 240, 3) := dk_180 0 240 (dk_at dksX1_finishMinute_0 4 rfl rfl)
theorem dX1_finishMinute_7 : decode cX1_finishMinute 7 = .ok (.iload_n 1, 1) := dk_27 (dk_at dksX1_finishMinute_0 7 rfl rfl)
theorem dX1_finishMinute_8 : decode cX1_finishMinute 8 = .ok (.invokevirtual 244, 3) := dk_182 0 244 (dk_at dksX1_finishMinute_0 8 rfl rfl)
theorem dX1_finishMinute_11 : decode cX1_finishMinute 11 = .ok (.checkcast 247, 3) := dk_192 0 247 (dk_at dksX1_finishMinute_0 11 rfl rfl)
theorem dX1_finishMinute_14 : decode cX1_finishMinute 14 = .ok (.getfield 251, 3) := dk_180 0 251 (dk_at dksX1_finishMinute_0 14 rfl rfl)
theorem dX1_finishMinute_17 : decode cX1_finishMinute 17 = .ok (.ireturn, 1) := dk_172 (dk_at dksX1_finishMinute_0 17 rfl rfl)
abbrev cX1_rides : ByteArray := prog_1_method_28_code
def yX1_rides : MethodName := ⟨RX1, "rides", "(I)I"⟩
def dkwX1_rides_0 : List UInt8 := [42, 180, 0, 10, 27, 182, 0, 167, 180, 0, 175, 172]
abbrev dktX1_rides_0 : List UInt8 := dkwX1_rides_0 ++ []
theorem dksX1_rides_0 : cX1_rides.data.toList.drop 0 = dktX1_rides_0 := by decide +kernel
theorem dX1_rides_0 : decode cX1_rides 0 = .ok (.aload_n 0, 1) := dk_42 (dk_at dksX1_rides_0 0 rfl rfl)
theorem dX1_rides_1 : decode cX1_rides 1 = .ok (.getfield 10, 3) := dk_180 0 10 (dk_at dksX1_rides_0 1 rfl rfl)
theorem dX1_rides_4 : decode cX1_rides 4 = .ok (.iload_n 1, 1) := dk_27 (dk_at dksX1_rides_0 4 rfl rfl)
theorem dX1_rides_5 : decode cX1_rides 5 = .ok (.invokevirtual 167, 3) := dk_182 0 167 (dk_at dksX1_rides_0 5 rfl rfl)
theorem dX1_rides_8 : decode cX1_rides 8 = .ok (.getfield 175, 3) := dk_180 0 175 (dk_at dksX1_rides_0 8 rfl rfl)
theorem dX1_rides_11 : decode cX1_rides 11 = .ok (.ireturn, 1) := dk_172 (dk_at dksX1_rides_0 11 rfl rfl)
abbrev cX1_guestByRides : ByteArray := prog_1_method_55_code
def yX1_guestByRides : MethodName := ⟨RX1, "guestByRides", "(I)I"⟩
def dkwX1_guestByRides_0 : List UInt8 := [42, 180, 0, 10, 180, 0, 164, 27, 184, 0, 208, 172]
abbrev dktX1_guestByRides_0 : List UInt8 := dkwX1_guestByRides_0 ++ []
theorem dksX1_guestByRides_0 : cX1_guestByRides.data.toList.drop 0 = dktX1_guestByRides_0 := by decide +kernel
theorem dX1_guestByRides_0 : decode cX1_guestByRides 0 = .ok (.aload_n 0, 1) := dk_42 (dk_at dksX1_guestByRides_0 0 rfl rfl)
theorem dX1_guestByRides_1 : decode cX1_guestByRides 1 = .ok (.getfield 10, 3) := dk_180 0 10 (dk_at dksX1_guestByRides_0 1 rfl rfl)
theorem dX1_guestByRides_4 : decode cX1_guestByRides 4 = .ok (.getfield 164, 3) := dk_180 0 164 (dk_at dksX1_guestByRides_0 4 rfl rfl)
theorem dX1_guestByRides_7 : decode cX1_guestByRides 7 = .ok (.iload_n 1, 1) := dk_27 (dk_at dksX1_guestByRides_0 7 rfl rfl)
theorem dX1_guestByRides_8 : decode cX1_guestByRides 8 = .ok (.invokestatic 208, 3) := dk_184 0 208 (dk_at dksX1_guestByRides_0 8 rfl rfl)
theorem dX1_guestByRides_11 : decode cX1_guestByRides 11 = .ok (.ireturn, 1) := dk_172 (dk_at dksX1_guestByRides_0 11 rfl rfl)
abbrev cX1_slideByWetness : ByteArray := prog_1_method_56_code
def yX1_slideByWetness : MethodName := ⟨RX1, "slideByWetness", "(I)I"⟩
def dkwX1_slideByWetness_0 : List UInt8 := [42, 180, 0, 10, 180, 0, 133, 27, 184, 0, 208, 172]
abbrev dktX1_slideByWetness_0 : List UInt8 := dkwX1_slideByWetness_0 ++ []
theorem dksX1_slideByWetness_0 : cX1_slideByWetness.data.toList.drop 0 = dktX1_slideByWetness_0 := by decide +kernel
theorem dX1_slideByWetness_0 : decode cX1_slideByWetness 0 = .ok (.aload_n 0, 1) := dk_42 (dk_at dksX1_slideByWetness_0 0 rfl rfl)
theorem dX1_slideByWetness_1 : decode cX1_slideByWetness 1 = .ok (.getfield 10, 3) := dk_180 0 10 (dk_at dksX1_slideByWetness_0 1 rfl rfl)
theorem dX1_slideByWetness_4 : decode cX1_slideByWetness 4 = .ok (.getfield 133, 3) := dk_180 0 133 (dk_at dksX1_slideByWetness_0 4 rfl rfl)
theorem dX1_slideByWetness_7 : decode cX1_slideByWetness 7 = .ok (.iload_n 1, 1) := dk_27 (dk_at dksX1_slideByWetness_0 7 rfl rfl)
theorem dX1_slideByWetness_8 : decode cX1_slideByWetness 8 = .ok (.invokestatic 208, 3) := dk_184 0 208 (dk_at dksX1_slideByWetness_0 8 rfl rfl)
theorem dX1_slideByWetness_11 : decode cX1_slideByWetness 11 = .ok (.ireturn, 1) := dk_172 (dk_at dksX1_slideByWetness_0 11 rfl rfl)
abbrev cX1_meanCoins : ByteArray := prog_1_method_58_code
def yX1_meanCoins : MethodName := ⟨RX1, "meanCoins", "()D"⟩
def dkwX1_meanCoins_1 : List UInt8 := [180, 0, 164, 182, 0, 64, 135, 111, 175]
abbrev dktX1_meanCoins_1 : List UInt8 := dkwX1_meanCoins_1 ++ []
def dkwX1_meanCoins_0 : List UInt8 := [42, 180, 0, 10, 180, 0, 164, 182, 0, 64, 184, 1, 24, 42, 182, 1, 27, 135, 42, 180, 0, 10]
abbrev dktX1_meanCoins_0 : List UInt8 := dkwX1_meanCoins_0 ++ dktX1_meanCoins_1
theorem dksX1_meanCoins_0 : cX1_meanCoins.data.toList.drop 0 = dktX1_meanCoins_0 := by decide +kernel
theorem dksX1_meanCoins_1 : cX1_meanCoins.data.toList.drop 22 = dktX1_meanCoins_1 := dk_seg dksX1_meanCoins_0 22 rfl rfl
theorem dX1_meanCoins_0 : decode cX1_meanCoins 0 = .ok (.aload_n 0, 1) := dk_42 (dk_at dksX1_meanCoins_0 0 rfl rfl)
theorem dX1_meanCoins_1 : decode cX1_meanCoins 1 = .ok (.getfield 10, 3) := dk_180 0 10 (dk_at dksX1_meanCoins_0 1 rfl rfl)
theorem dX1_meanCoins_4 : decode cX1_meanCoins 4 = .ok (.getfield 164, 3) := dk_180 0 164 (dk_at dksX1_meanCoins_0 4 rfl rfl)
theorem dX1_meanCoins_7 : decode cX1_meanCoins 7 = .ok (.invokevirtual 64, 3) := dk_182 0 64 (dk_at dksX1_meanCoins_0 7 rfl rfl)
theorem dX1_meanCoins_10 : decode cX1_meanCoins 10 = .ok (.invokestatic 280, 3) := dk_184 1 24 (dk_at dksX1_meanCoins_0 10 rfl rfl)
theorem dX1_meanCoins_13 : decode cX1_meanCoins 13 = .ok (.aload_n 0, 1) := dk_42 (dk_at dksX1_meanCoins_0 13 rfl rfl)
theorem dX1_meanCoins_14 : decode cX1_meanCoins 14 = .ok (.invokevirtual 283, 3) := dk_182 1 27 (dk_at dksX1_meanCoins_0 14 rfl rfl)
theorem dX1_meanCoins_17 : decode cX1_meanCoins 17 = .ok (.i2d, 1) := dk_135 (dk_at dksX1_meanCoins_0 17 rfl rfl)
theorem dX1_meanCoins_18 : decode cX1_meanCoins 18 = .ok (.aload_n 0, 1) := dk_42 (dk_at dksX1_meanCoins_0 18 rfl rfl)
theorem dX1_meanCoins_19 : decode cX1_meanCoins 19 = .ok (.getfield 10, 3) := dk_180 0 10 (dk_at dksX1_meanCoins_0 19 rfl rfl)
theorem dX1_meanCoins_22 : decode cX1_meanCoins 22 = .ok (.getfield 164, 3) := dk_180 0 164 (dk_at dksX1_meanCoins_1 0 rfl rfl)
theorem dX1_meanCoins_25 : decode cX1_meanCoins 25 = .ok (.invokevirtual 64, 3) := dk_182 0 64 (dk_at dksX1_meanCoins_1 3 rfl rfl)
theorem dX1_meanCoins_28 : decode cX1_meanCoins 28 = .ok (.i2d, 1) := dk_135 (dk_at dksX1_meanCoins_1 6 rfl rfl)
theorem dX1_meanCoins_29 : decode cX1_meanCoins 29 = .ok (.ddiv, 1) := dk_111 (dk_at dksX1_meanCoins_1 7 rfl rfl)
theorem dX1_meanCoins_30 : decode cX1_meanCoins 30 = .ok (.dreturn, 1) := dk_175 (dk_at dksX1_meanCoins_1 8 rfl rfl)
abbrev cX1_requireNonZero : ByteArray := prog_1_method_8_code
def yX1_requireNonZero : MethodName := ⟨RX1, "requireNonZero", "(I)V"⟩
def dkwX1_requireNonZero_0 : List UInt8 := [26, 154, 0, 11, 187, 0, 58, 89, 183, 0, 60, 191, 177]
abbrev dktX1_requireNonZero_0 : List UInt8 := dkwX1_requireNonZero_0 ++ []
theorem dksX1_requireNonZero_0 : cX1_requireNonZero.data.toList.drop 0 = dktX1_requireNonZero_0 := by decide +kernel
theorem dX1_requireNonZero_0 : decode cX1_requireNonZero 0 = .ok (.iload_n 0, 1) := dk_26 (dk_at dksX1_requireNonZero_0 0 rfl rfl)
theorem dX1_requireNonZero_1 : decode cX1_requireNonZero 1 = .ok (.ifCond .ne 11, 3) := dk_154 0 11 (dk_at dksX1_requireNonZero_0 1 rfl rfl)
theorem dX1_requireNonZero_4 : decode cX1_requireNonZero 4 = .ok (.new 58, 3) := dk_187 0 58 (dk_at dksX1_requireNonZero_0 4 rfl rfl)
theorem dX1_requireNonZero_7 : decode cX1_requireNonZero 7 = .ok (.dup, 1) := dk_89 (dk_at dksX1_requireNonZero_0 7 rfl rfl)
theorem dX1_requireNonZero_8 : decode cX1_requireNonZero 8 = .ok (.invokespecial 60, 3) := dk_183 0 60 (dk_at dksX1_requireNonZero_0 8 rfl rfl)
theorem dX1_requireNonZero_11 : decode cX1_requireNonZero 11 = .ok (.athrow, 1) := dk_191 (dk_at dksX1_requireNonZero_0 11 rfl rfl)
theorem dX1_requireNonZero_12 : decode cX1_requireNonZero 12 = .ok (.return_, 1) := dk_177 (dk_at dksX1_requireNonZero_0 12 rfl rfl)
abbrev cX1_busyShare : ByteArray := prog_1_method_59_code
def yX1_busyShare : MethodName := ⟨RX1, "busyShare", "()F"⟩
def dkwX1_busyShare_3 : List UInt8 := [180, 0, 10, 180, 0, 133, 182, 0, 64, 134, 110, 174]
abbrev dktX1_busyShare_3 : List UInt8 := dkwX1_busyShare_3 ++ []
def dkwX1_busyShare_2 : List UInt8 := [182, 0, 152, 198, 0, 7, 4, 167, 0, 4, 3, 96, 60, 132, 2, 1, 167, 255, 213, 27, 134, 42]
abbrev dktX1_busyShare_2 : List UInt8 := dkwX1_busyShare_2 ++ dktX1_busyShare_3
def dkwX1_busyShare_1 : List UInt8 := [180, 0, 133, 182, 0, 64, 162, 0, 35, 27, 42, 180, 0, 10, 28, 42, 180, 0, 10, 180, 0, 130]
abbrev dktX1_busyShare_1 : List UInt8 := dkwX1_busyShare_1 ++ dktX1_busyShare_2
def dkwX1_busyShare_0 : List UInt8 := [42, 180, 0, 10, 180, 0, 133, 182, 0, 64, 184, 1, 24, 3, 60, 3, 61, 28, 42, 180, 0, 10]
abbrev dktX1_busyShare_0 : List UInt8 := dkwX1_busyShare_0 ++ dktX1_busyShare_1
theorem dksX1_busyShare_0 : cX1_busyShare.data.toList.drop 0 = dktX1_busyShare_0 := by decide +kernel
theorem dksX1_busyShare_1 : cX1_busyShare.data.toList.drop 22 = dktX1_busyShare_1 := dk_seg dksX1_busyShare_0 22 rfl rfl
theorem dksX1_busyShare_2 : cX1_busyShare.data.toList.drop 44 = dktX1_busyShare_2 := dk_seg dksX1_busyShare_1 22 rfl rfl
theorem dksX1_busyShare_3 : cX1_busyShare.data.toList.drop 66 = dktX1_busyShare_3 := dk_seg dksX1_busyShare_2 22 rfl rfl
theorem dX1_busyShare_0 : decode cX1_busyShare 0 = .ok (.aload_n 0, 1) := dk_42 (dk_at dksX1_busyShare_0 0 rfl rfl)
theorem dX1_busyShare_1 : decode cX1_busyShare 1 = .ok (.getfield 10, 3) := dk_180 0 10 (dk_at dksX1_busyShare_0 1 rfl rfl)
theorem dX1_busyShare_4 : decode cX1_busyShare 4 = .ok (.getfield 133, 3) := dk_180 0 133 (dk_at dksX1_busyShare_0 4 rfl rfl)
theorem dX1_busyShare_7 : decode cX1_busyShare 7 = .ok (.invokevirtual 64, 3) := dk_182 0 64 (dk_at dksX1_busyShare_0 7 rfl rfl)
theorem dX1_busyShare_10 : decode cX1_busyShare 10 = .ok (.invokestatic 280, 3) := dk_184 1 24 (dk_at dksX1_busyShare_0 10 rfl rfl)
theorem dX1_busyShare_13 : decode cX1_busyShare 13 = .ok (.iconst 0, 1) := dk_3 (dk_at dksX1_busyShare_0 13 rfl rfl)
theorem dX1_busyShare_14 : decode cX1_busyShare 14 = .ok (.istore_n 1, 1) := dk_60 (dk_at dksX1_busyShare_0 14 rfl rfl)
theorem dX1_busyShare_15 : decode cX1_busyShare 15 = .ok (.iconst 0, 1) := dk_3 (dk_at dksX1_busyShare_0 15 rfl rfl)
theorem dX1_busyShare_16 : decode cX1_busyShare 16 = .ok (.istore_n 2, 1) := dk_61 (dk_at dksX1_busyShare_0 16 rfl rfl)
theorem dX1_busyShare_17 : decode cX1_busyShare 17 = .ok (.iload_n 2, 1) := dk_28 (dk_at dksX1_busyShare_0 17 rfl rfl)
theorem dX1_busyShare_18 : decode cX1_busyShare 18 = .ok (.aload_n 0, 1) := dk_42 (dk_at dksX1_busyShare_0 18 rfl rfl)
theorem dX1_busyShare_19 : decode cX1_busyShare 19 = .ok (.getfield 10, 3) := dk_180 0 10 (dk_at dksX1_busyShare_0 19 rfl rfl)
theorem dX1_busyShare_22 : decode cX1_busyShare 22 = .ok (.getfield 133, 3) := dk_180 0 133 (dk_at dksX1_busyShare_1 0 rfl rfl)
theorem dX1_busyShare_25 : decode cX1_busyShare 25 = .ok (.invokevirtual 64, 3) := dk_182 0 64 (dk_at dksX1_busyShare_1 3 rfl rfl)
theorem dX1_busyShare_28 : decode cX1_busyShare 28 = .ok (.if_icmp .ge 35, 3) := dk_162 0 35 (dk_at dksX1_busyShare_1 6 rfl rfl)
theorem dX1_busyShare_31 : decode cX1_busyShare 31 = .ok (.iload_n 1, 1) := dk_27 (dk_at dksX1_busyShare_1 9 rfl rfl)
theorem dX1_busyShare_32 : decode cX1_busyShare 32 = .ok (.aload_n 0, 1) := dk_42 (dk_at dksX1_busyShare_1 10 rfl rfl)
theorem dX1_busyShare_33 : decode cX1_busyShare 33 = .ok (.getfield 10, 3) := dk_180 0 10 (dk_at dksX1_busyShare_1 11 rfl rfl)
theorem dX1_busyShare_36 : decode cX1_busyShare 36 = .ok (.iload_n 2, 1) := dk_28 (dk_at dksX1_busyShare_1 14 rfl rfl)
theorem dX1_busyShare_37 : decode cX1_busyShare 37 = .ok (.aload_n 0, 1) := dk_42 (dk_at dksX1_busyShare_1 15 rfl rfl)
theorem dX1_busyShare_38 : decode cX1_busyShare 38 = .ok (.getfield 10, 3) := dk_180 0 10 (dk_at dksX1_busyShare_1 16 rfl rfl)
theorem dX1_busyShare_41 : decode cX1_busyShare 41 = .ok (.getfield 130, 3) := dk_180 0 130 (dk_at dksX1_busyShare_1 19 rfl rfl)
theorem dX1_busyShare_44 : decode cX1_busyShare 44 = .ok (.invokevirtual 152, 3) := dk_182 0 152 (dk_at dksX1_busyShare_2 0 rfl rfl)
theorem dX1_busyShare_47 : decode cX1_busyShare 47 = .ok (.ifnull 7, 3) := dk_198 0 7 (dk_at dksX1_busyShare_2 3 rfl rfl)
theorem dX1_busyShare_50 : decode cX1_busyShare 50 = .ok (.iconst 1, 1) := dk_4 (dk_at dksX1_busyShare_2 6 rfl rfl)
theorem dX1_busyShare_51 : decode cX1_busyShare 51 = .ok (.goto 4, 3) := dk_167 0 4 (dk_at dksX1_busyShare_2 7 rfl rfl)
theorem dX1_busyShare_54 : decode cX1_busyShare 54 = .ok (.iconst 0, 1) := dk_3 (dk_at dksX1_busyShare_2 10 rfl rfl)
theorem dX1_busyShare_55 : decode cX1_busyShare 55 = .ok (.iadd, 1) := dk_96 (dk_at dksX1_busyShare_2 11 rfl rfl)
theorem dX1_busyShare_56 : decode cX1_busyShare 56 = .ok (.istore_n 1, 1) := dk_60 (dk_at dksX1_busyShare_2 12 rfl rfl)
theorem dX1_busyShare_57 : decode cX1_busyShare 57 = .ok (.iinc 2 1, 3) := dk_132 2 1 (dk_at dksX1_busyShare_2 13 rfl rfl)
theorem dX1_busyShare_60 : decode cX1_busyShare 60 = .ok (.goto (-43), 3) := dk_167 255 213 (dk_at dksX1_busyShare_2 16 rfl rfl)
theorem dX1_busyShare_63 : decode cX1_busyShare 63 = .ok (.iload_n 1, 1) := dk_27 (dk_at dksX1_busyShare_2 19 rfl rfl)
theorem dX1_busyShare_64 : decode cX1_busyShare 64 = .ok (.i2f, 1) := dk_134 (dk_at dksX1_busyShare_2 20 rfl rfl)
theorem dX1_busyShare_65 : decode cX1_busyShare 65 = .ok (.aload_n 0, 1) := dk_42 (dk_at dksX1_busyShare_2 21 rfl rfl)
theorem dX1_busyShare_66 : decode cX1_busyShare 66 = .ok (.getfield 10, 3) := dk_180 0 10 (dk_at dksX1_busyShare_3 0 rfl rfl)
theorem dX1_busyShare_69 : decode cX1_busyShare 69 = .ok (.getfield 133, 3) := dk_180 0 133 (dk_at dksX1_busyShare_3 3 rfl rfl)
theorem dX1_busyShare_72 : decode cX1_busyShare 72 = .ok (.invokevirtual 64, 3) := dk_182 0 64 (dk_at dksX1_busyShare_3 6 rfl rfl)
theorem dX1_busyShare_75 : decode cX1_busyShare 75 = .ok (.i2f, 1) := dk_134 (dk_at dksX1_busyShare_3 9 rfl rfl)
theorem dX1_busyShare_76 : decode cX1_busyShare 76 = .ok (.fdiv, 1) := dk_110 (dk_at dksX1_busyShare_3 10 rfl rfl)
theorem dX1_busyShare_77 : decode cX1_busyShare 77 = .ok (.freturn, 1) := dk_174 (dk_at dksX1_busyShare_3 11 rfl rfl)
abbrev cX1_feed : ByteArray := prog_1_method_61_code
def yX1_feed : MethodName := ⟨RX1, "feed", "(C)I"⟩
def dkwX1_feed_1 : List UInt8 := [180, 1, 30, 27, 85, 42, 89, 180, 1, 30, 4, 96, 181, 1, 30, 42, 180, 1, 30, 172]
abbrev dktX1_feed_1 : List UInt8 := dkwX1_feed_1 ++ []
def dkwX1_feed_0 : List UInt8 := [42, 180, 1, 30, 16, 60, 162, 0, 7, 4, 167, 0, 4, 3, 184, 1, 33, 42, 180, 0, 25, 42]
abbrev dktX1_feed_0 : List UInt8 := dkwX1_feed_0 ++ dktX1_feed_1
theorem dksX1_feed_0 : cX1_feed.data.toList.drop 0 = dktX1_feed_0 := by decide +kernel
theorem dksX1_feed_1 : cX1_feed.data.toList.drop 22 = dktX1_feed_1 := dk_seg dksX1_feed_0 22 rfl rfl
theorem dX1_feed_0 : decode cX1_feed 0 = .ok (.aload_n 0, 1) := dk_42 (dk_at dksX1_feed_0 0 rfl rfl)
theorem dX1_feed_1 : decode cX1_feed 1 = .ok (.getfield 286, 3) := dk_180 1 30 (dk_at dksX1_feed_0 1 rfl rfl)
theorem dX1_feed_4 : decode cX1_feed 4 = .ok (.bipush 60, 2) := dk_16 60 (dk_at dksX1_feed_0 4 rfl rfl)
theorem dX1_feed_6 : decode cX1_feed 6 = .ok (.if_icmp .ge 7, 3) := dk_162 0 7 (dk_at dksX1_feed_0 6 rfl rfl)
theorem dX1_feed_9 : decode cX1_feed 9 = .ok (.iconst 1, 1) := dk_4 (dk_at dksX1_feed_0 9 rfl rfl)
theorem dX1_feed_10 : decode cX1_feed 10 = .ok (.goto 4, 3) := dk_167 0 4 (dk_at dksX1_feed_0 10 rfl rfl)
theorem dX1_feed_13 : decode cX1_feed 13 = .ok (.iconst 0, 1) := dk_3 (dk_at dksX1_feed_0 13 rfl rfl)
theorem dX1_feed_14 : decode cX1_feed 14 = .ok (.invokestatic 289, 3) := dk_184 1 33 (dk_at dksX1_feed_0 14 rfl rfl)
theorem dX1_feed_17 : decode cX1_feed 17 = .ok (.aload_n 0, 1) := dk_42 (dk_at dksX1_feed_0 17 rfl rfl)
theorem dX1_feed_18 : decode cX1_feed 18 = .ok (.getfield 25, 3) := dk_180 0 25 (dk_at dksX1_feed_0 18 rfl rfl)
theorem dX1_feed_21 : decode cX1_feed 21 = .ok (.aload_n 0, 1) := dk_42 (dk_at dksX1_feed_0 21 rfl rfl)
theorem dX1_feed_22 : decode cX1_feed 22 = .ok (.getfield 286, 3) := dk_180 1 30 (dk_at dksX1_feed_1 0 rfl rfl)
theorem dX1_feed_25 : decode cX1_feed 25 = .ok (.iload_n 1, 1) := dk_27 (dk_at dksX1_feed_1 3 rfl rfl)
theorem dX1_feed_26 : decode cX1_feed 26 = .ok (.castore, 1) := dk_85 (dk_at dksX1_feed_1 4 rfl rfl)
theorem dX1_feed_27 : decode cX1_feed 27 = .ok (.aload_n 0, 1) := dk_42 (dk_at dksX1_feed_1 5 rfl rfl)
theorem dX1_feed_28 : decode cX1_feed 28 = .ok (.dup, 1) := dk_89 (dk_at dksX1_feed_1 6 rfl rfl)
theorem dX1_feed_29 : decode cX1_feed 29 = .ok (.getfield 286, 3) := dk_180 1 30 (dk_at dksX1_feed_1 7 rfl rfl)
theorem dX1_feed_32 : decode cX1_feed 32 = .ok (.iconst 1, 1) := dk_4 (dk_at dksX1_feed_1 10 rfl rfl)
theorem dX1_feed_33 : decode cX1_feed 33 = .ok (.iadd, 1) := dk_96 (dk_at dksX1_feed_1 11 rfl rfl)
theorem dX1_feed_34 : decode cX1_feed 34 = .ok (.putfield 286, 3) := dk_181 1 30 (dk_at dksX1_feed_1 12 rfl rfl)
theorem dX1_feed_37 : decode cX1_feed 37 = .ok (.aload_n 0, 1) := dk_42 (dk_at dksX1_feed_1 15 rfl rfl)
theorem dX1_feed_38 : decode cX1_feed 38 = .ok (.getfield 286, 3) := dk_180 1 30 (dk_at dksX1_feed_1 16 rfl rfl)
theorem dX1_feed_41 : decode cX1_feed 41 = .ok (.ireturn, 1) := dk_172 (dk_at dksX1_feed_1 19 rfl rfl)
abbrev cX1_runCommands : ByteArray := prog_1_method_62_code
def yX1_runCommands : MethodName := ⟨RX1, "runCommands", "()I"⟩
def dkwX1_runCommands_3 : List UInt8 := [25, 4, 191]
abbrev dktX1_runCommands_3 : List UInt8 := dkwX1_runCommands_3 ++ []
def dkwX1_runCommands_2 : List UInt8 := [76, 42, 43, 180, 1, 47, 181, 0, 29, 187, 0, 46, 89, 183, 0, 48, 191, 58, 4, 42, 3, 181, 1, 30]
abbrev dktX1_runCommands_2 : List UInt8 := dkwX1_runCommands_2 ++ dktX1_runCommands_3
def dkwX1_runCommands_1 : List UInt8 := [89, 42, 183, 1, 38, 43, 182, 1, 41, 61, 42, 43, 28, 182, 0, 106, 62, 42, 3, 181, 1, 30, 29, 172]
abbrev dktX1_runCommands_1 : List UInt8 := dkwX1_runCommands_1 ++ dktX1_runCommands_2
def dkwX1_runCommands_0 : List UInt8 := [187, 1, 36, 89, 42, 183, 1, 38, 1, 182, 1, 41, 87, 42, 180, 0, 10, 182, 0, 99, 76, 187, 1, 36]
abbrev dktX1_runCommands_0 : List UInt8 := dkwX1_runCommands_0 ++ dktX1_runCommands_1
theorem dksX1_runCommands_0 : cX1_runCommands.data.toList.drop 0 = dktX1_runCommands_0 := by decide +kernel
theorem dksX1_runCommands_1 : cX1_runCommands.data.toList.drop 24 = dktX1_runCommands_1 := dk_seg dksX1_runCommands_0 24 rfl rfl
theorem dksX1_runCommands_2 : cX1_runCommands.data.toList.drop 48 = dktX1_runCommands_2 := dk_seg dksX1_runCommands_1 24 rfl rfl
theorem dksX1_runCommands_3 : cX1_runCommands.data.toList.drop 72 = dktX1_runCommands_3 := dk_seg dksX1_runCommands_2 24 rfl rfl
theorem dX1_runCommands_0 : decode cX1_runCommands 0 = .ok (.new 292, 3) := dk_187 1 36 (dk_at dksX1_runCommands_0 0 rfl rfl)
theorem dX1_runCommands_3 : decode cX1_runCommands 3 = .ok (.dup, 1) := dk_89 (dk_at dksX1_runCommands_0 3 rfl rfl)
theorem dX1_runCommands_4 : decode cX1_runCommands 4 = .ok (.aload_n 0, 1) := dk_42 (dk_at dksX1_runCommands_0 4 rfl rfl)
theorem dX1_runCommands_5 : decode cX1_runCommands 5 = .ok (.invokespecial 294, 3) := dk_183 1 38 (dk_at dksX1_runCommands_0 5 rfl rfl)
theorem dX1_runCommands_8 : decode cX1_runCommands 8 = .ok (.aconst_null, 1) := dk_1 (dk_at dksX1_runCommands_0 8 rfl rfl)
theorem dX1_runCommands_9 : decode cX1_runCommands 9 = .ok (.invokevirtual 297, 3) := dk_182 1 41 (dk_at dksX1_runCommands_0 9 rfl rfl)
theorem dX1_runCommands_12 : decode cX1_runCommands 12 = .ok (.pop, 1) := dk_87 (dk_at dksX1_runCommands_0 12 rfl rfl)
theorem dX1_runCommands_13 : decode cX1_runCommands 13 = .ok (.aload_n 0, 1) := dk_42 (dk_at dksX1_runCommands_0 13 rfl rfl)
theorem dX1_runCommands_14 : decode cX1_runCommands 14 = .ok (.getfield 10, 3) := dk_180 0 10 (dk_at dksX1_runCommands_0 14 rfl rfl)
theorem dX1_runCommands_17 : decode cX1_runCommands 17 = .ok (.invokevirtual 99, 3) := dk_182 0 99 (dk_at dksX1_runCommands_0 17 rfl rfl)
theorem dX1_runCommands_20 : decode cX1_runCommands 20 = .ok (.astore_n 1, 1) := dk_76 (dk_at dksX1_runCommands_0 20 rfl rfl)
theorem dX1_runCommands_21 : decode cX1_runCommands 21 = .ok (.new 292, 3) := dk_187 1 36 (dk_at dksX1_runCommands_0 21 rfl rfl)
theorem dX1_runCommands_24 : decode cX1_runCommands 24 = .ok (.dup, 1) := dk_89 (dk_at dksX1_runCommands_1 0 rfl rfl)
theorem dX1_runCommands_25 : decode cX1_runCommands 25 = .ok (.aload_n 0, 1) := dk_42 (dk_at dksX1_runCommands_1 1 rfl rfl)
theorem dX1_runCommands_26 : decode cX1_runCommands 26 = .ok (.invokespecial 294, 3) := dk_183 1 38 (dk_at dksX1_runCommands_1 2 rfl rfl)
theorem dX1_runCommands_29 : decode cX1_runCommands 29 = .ok (.aload_n 1, 1) := dk_43 (dk_at dksX1_runCommands_1 5 rfl rfl)
theorem dX1_runCommands_30 : decode cX1_runCommands 30 = .ok (.invokevirtual 297, 3) := dk_182 1 41 (dk_at dksX1_runCommands_1 6 rfl rfl)
theorem dX1_runCommands_33 : decode cX1_runCommands 33 = .ok (.istore_n 2, 1) := dk_61 (dk_at dksX1_runCommands_1 9 rfl rfl)
theorem dX1_runCommands_34 : decode cX1_runCommands 34 = .ok (.aload_n 0, 1) := dk_42 (dk_at dksX1_runCommands_1 10 rfl rfl)
theorem dX1_runCommands_35 : decode cX1_runCommands 35 = .ok (.aload_n 1, 1) := dk_43 (dk_at dksX1_runCommands_1 11 rfl rfl)
theorem dX1_runCommands_36 : decode cX1_runCommands 36 = .ok (.iload_n 2, 1) := dk_28 (dk_at dksX1_runCommands_1 12 rfl rfl)
theorem dX1_runCommands_37 : decode cX1_runCommands 37 = .ok (.invokevirtual 106, 3) := dk_182 0 106 (dk_at dksX1_runCommands_1 13 rfl rfl)
theorem dX1_runCommands_40 : decode cX1_runCommands 40 = .ok (.istore_n 3, 1) := dk_62 (dk_at dksX1_runCommands_1 16 rfl rfl)
theorem dX1_runCommands_41 : decode cX1_runCommands 41 = .ok (.aload_n 0, 1) := dk_42 (dk_at dksX1_runCommands_1 17 rfl rfl)
theorem dX1_runCommands_42 : decode cX1_runCommands 42 = .ok (.iconst 0, 1) := dk_3 (dk_at dksX1_runCommands_1 18 rfl rfl)
theorem dX1_runCommands_43 : decode cX1_runCommands 43 = .ok (.putfield 286, 3) := dk_181 1 30 (dk_at dksX1_runCommands_1 19 rfl rfl)
theorem dX1_runCommands_46 : decode cX1_runCommands 46 = .ok (.iload_n 3, 1) := dk_29 (dk_at dksX1_runCommands_1 22 rfl rfl)
theorem dX1_runCommands_47 : decode cX1_runCommands 47 = .ok (.ireturn, 1) := dk_172 (dk_at dksX1_runCommands_1 23 rfl rfl)
theorem dX1_runCommands_48 : decode cX1_runCommands 48 = .ok (.astore_n 1, 1) := dk_76 (dk_at dksX1_runCommands_2 0 rfl rfl)
theorem dX1_runCommands_49 : decode cX1_runCommands 49 = .ok (.aload_n 0, 1) := dk_42 (dk_at dksX1_runCommands_2 1 rfl rfl)
theorem dX1_runCommands_50 : decode cX1_runCommands 50 = .ok (.aload_n 1, 1) := dk_43 (dk_at dksX1_runCommands_2 2 rfl rfl)
theorem dX1_runCommands_51 : decode cX1_runCommands 51 = .ok (.getfield 303, 3) := dk_180 1 47 (dk_at dksX1_runCommands_2 3 rfl rfl)
theorem dX1_runCommands_54 : decode cX1_runCommands 54 = .ok (.putfield 29, 3) := dk_181 0 29 (dk_at dksX1_runCommands_2 6 rfl rfl)
theorem dX1_runCommands_57 : decode cX1_runCommands 57 = .ok (.new 46, 3) := dk_187 0 46 (dk_at dksX1_runCommands_2 9 rfl rfl)
theorem dX1_runCommands_60 : decode cX1_runCommands 60 = .ok (.dup, 1) := dk_89 (dk_at dksX1_runCommands_2 12 rfl rfl)
theorem dX1_runCommands_61 : decode cX1_runCommands 61 = .ok (.invokespecial 48, 3) := dk_183 0 48 (dk_at dksX1_runCommands_2 13 rfl rfl)
theorem dX1_runCommands_64 : decode cX1_runCommands 64 = .ok (.athrow, 1) := dk_191 (dk_at dksX1_runCommands_2 16 rfl rfl)
theorem dX1_runCommands_65 : decode cX1_runCommands 65 = .ok (.astore 4, 2) := dk_58 4 (dk_at dksX1_runCommands_2 17 rfl rfl)
theorem dX1_runCommands_67 : decode cX1_runCommands 67 = .ok (.aload_n 0, 1) := dk_42 (dk_at dksX1_runCommands_2 19 rfl rfl)
theorem dX1_runCommands_68 : decode cX1_runCommands 68 = .ok (.iconst 0, 1) := dk_3 (dk_at dksX1_runCommands_2 20 rfl rfl)
theorem dX1_runCommands_69 : decode cX1_runCommands 69 = .ok (.putfield 286, 3) := dk_181 1 30 (dk_at dksX1_runCommands_2 21 rfl rfl)
theorem dX1_runCommands_72 : decode cX1_runCommands 72 = .ok (.aload 4, 2) := dk_25 4 (dk_at dksX1_runCommands_3 0 rfl rfl)
theorem dX1_runCommands_74 : decode cX1_runCommands 74 = .ok (.athrow, 1) := dk_191 (dk_at dksX1_runCommands_3 2 rfl rfl)
abbrev cX1_errorPosition : ByteArray := prog_1_method_63_code
def yX1_errorPosition : MethodName := ⟨RX1, "errorPosition", "()I"⟩
def dkwX1_errorPosition_0 : List UInt8 := [42, 180, 0, 29, 2, 159, 0, 7, 4, 167, 0, 4, 3, 184, 0, 156, 42, 180, 0, 29, 172]
abbrev dktX1_errorPosition_0 : List UInt8 := dkwX1_errorPosition_0 ++ []
theorem dksX1_errorPosition_0 : cX1_errorPosition.data.toList.drop 0 = dktX1_errorPosition_0 := by decide +kernel
theorem dX1_errorPosition_0 : decode cX1_errorPosition 0 = .ok (.aload_n 0, 1) := dk_42 (dk_at dksX1_errorPosition_0 0 rfl rfl)
theorem dX1_errorPosition_1 : decode cX1_errorPosition 1 = .ok (.getfield 29, 3) := dk_180 0 29 (dk_at dksX1_errorPosition_0 1 rfl rfl)
theorem dX1_errorPosition_4 : decode cX1_errorPosition 4 = .ok (.iconst (-1), 1) := dk_2 (dk_at dksX1_errorPosition_0 4 rfl rfl)
theorem dX1_errorPosition_5 : decode cX1_errorPosition 5 = .ok (.if_icmp .eq 7, 3) := dk_159 0 7 (dk_at dksX1_errorPosition_0 5 rfl rfl)
theorem dX1_errorPosition_8 : decode cX1_errorPosition 8 = .ok (.iconst 1, 1) := dk_4 (dk_at dksX1_errorPosition_0 8 rfl rfl)
theorem dX1_errorPosition_9 : decode cX1_errorPosition 9 = .ok (.goto 4, 3) := dk_167 0 4 (dk_at dksX1_errorPosition_0 9 rfl rfl)
theorem dX1_errorPosition_12 : decode cX1_errorPosition 12 = .ok (.iconst 0, 1) := dk_3 (dk_at dksX1_errorPosition_0 12 rfl rfl)
theorem dX1_errorPosition_13 : decode cX1_errorPosition 13 = .ok (.invokestatic 156, 3) := dk_184 0 156 (dk_at dksX1_errorPosition_0 13 rfl rfl)
theorem dX1_errorPosition_16 : decode cX1_errorPosition 16 = .ok (.aload_n 0, 1) := dk_42 (dk_at dksX1_errorPosition_0 16 rfl rfl)
theorem dX1_errorPosition_17 : decode cX1_errorPosition 17 = .ok (.getfield 29, 3) := dk_180 0 29 (dk_at dksX1_errorPosition_0 17 rfl rfl)
theorem dX1_errorPosition_20 : decode cX1_errorPosition 20 = .ok (.ireturn, 1) := dk_172 (dk_at dksX1_errorPosition_0 20 rfl rfl)
abbrev cX1_failedCommand : ByteArray := prog_1_method_64_code
def yX1_failedCommand : MethodName := ⟨RX1, "failedCommand", "()I"⟩
def dkwX1_failedCommand_0 : List UInt8 := [42, 180, 0, 33, 2, 159, 0, 7, 4, 167, 0, 4, 3, 184, 0, 156, 42, 180, 0, 33, 172]
abbrev dktX1_failedCommand_0 : List UInt8 := dkwX1_failedCommand_0 ++ []
theorem dksX1_failedCommand_0 : cX1_failedCommand.data.toList.drop 0 = dktX1_failedCommand_0 := by decide +kernel
theorem dX1_failedCommand_0 : decode cX1_failedCommand 0 = .ok (.aload_n 0, 1) := dk_42 (dk_at dksX1_failedCommand_0 0 rfl rfl)
theorem dX1_failedCommand_1 : decode cX1_failedCommand 1 = .ok (.getfield 33, 3) := dk_180 0 33 (dk_at dksX1_failedCommand_0 1 rfl rfl)
theorem dX1_failedCommand_4 : decode cX1_failedCommand 4 = .ok (.iconst (-1), 1) := dk_2 (dk_at dksX1_failedCommand_0 4 rfl rfl)
theorem dX1_failedCommand_5 : decode cX1_failedCommand 5 = .ok (.if_icmp .eq 7, 3) := dk_159 0 7 (dk_at dksX1_failedCommand_0 5 rfl rfl)
theorem dX1_failedCommand_8 : decode cX1_failedCommand 8 = .ok (.iconst 1, 1) := dk_4 (dk_at dksX1_failedCommand_0 8 rfl rfl)
theorem dX1_failedCommand_9 : decode cX1_failedCommand 9 = .ok (.goto 4, 3) := dk_167 0 4 (dk_at dksX1_failedCommand_0 9 rfl rfl)
theorem dX1_failedCommand_12 : decode cX1_failedCommand 12 = .ok (.iconst 0, 1) := dk_3 (dk_at dksX1_failedCommand_0 12 rfl rfl)
theorem dX1_failedCommand_13 : decode cX1_failedCommand 13 = .ok (.invokestatic 156, 3) := dk_184 0 156 (dk_at dksX1_failedCommand_0 13 rfl rfl)
theorem dX1_failedCommand_16 : decode cX1_failedCommand 16 = .ok (.aload_n 0, 1) := dk_42 (dk_at dksX1_failedCommand_0 16 rfl rfl)
theorem dX1_failedCommand_17 : decode cX1_failedCommand 17 = .ok (.getfield 33, 3) := dk_180 0 33 (dk_at dksX1_failedCommand_0 17 rfl rfl)
theorem dX1_failedCommand_20 : decode cX1_failedCommand 20 = .ok (.ireturn, 1) := dk_172 (dk_at dksX1_failedCommand_0 20 rfl rfl)
abbrev cX1_writeSlide : ByteArray := prog_1_method_65_code
def yX1_writeSlide : MethodName := ⟨RX1, "writeSlide", "(I)I"⟩
def dkwX1_writeSlide_5 : List UInt8 := [180, 0, 205, 182, 1, 53, 87, 132, 4, 1, 167, 255, 199, 42, 180, 0, 39, 182, 1, 64, 172]
abbrev dktX1_writeSlide_5 : List UInt8 := dkwX1_writeSlide_5 ++ []
def dkwX1_writeSlide_4 : List UInt8 := [192, 0, 160, 180, 0, 159, 182, 1, 53, 16, 64, 182, 1, 57, 45, 21, 4, 182, 0, 68, 192, 0, 160]
abbrev dktX1_writeSlide_4 : List UInt8 := dkwX1_writeSlide_4 ++ dktX1_writeSlide_5
def dkwX1_writeSlide_3 : List UInt8 := [21, 4, 45, 182, 0, 64, 162, 0, 54, 42, 180, 0, 39, 16, 32, 182, 1, 57, 45, 21, 4, 182, 0, 68]
abbrev dktX1_writeSlide_3 : List UInt8 := dkwX1_writeSlide_3 ++ dktX1_writeSlide_4
def dkwX1_writeSlide_2 : List UInt8 := [180, 0, 149, 182, 1, 53, 16, 119, 182, 1, 57, 87, 42, 180, 0, 10, 27, 182, 1, 60, 78, 3, 54, 4]
abbrev dktX1_writeSlide_2 : List UInt8 := dkwX1_writeSlide_2 ++ dktX1_writeSlide_3
def dkwX1_writeSlide_1 : List UInt8 := [180, 0, 141, 182, 1, 53, 16, 109, 182, 1, 57, 44, 180, 0, 146, 182, 1, 53, 16, 99, 182, 1, 57, 44]
abbrev dktX1_writeSlide_1 : List UInt8 := dkwX1_writeSlide_1 ++ dktX1_writeSlide_2
def dkwX1_writeSlide_0 : List UInt8 := [42, 180, 0, 10, 27, 182, 0, 137, 77, 42, 180, 0, 39, 3, 182, 1, 50, 42, 180, 0, 39, 44]
abbrev dktX1_writeSlide_0 : List UInt8 := dkwX1_writeSlide_0 ++ dktX1_writeSlide_1
theorem dksX1_writeSlide_0 : cX1_writeSlide.data.toList.drop 0 = dktX1_writeSlide_0 := by decide +kernel
theorem dksX1_writeSlide_1 : cX1_writeSlide.data.toList.drop 22 = dktX1_writeSlide_1 := dk_seg dksX1_writeSlide_0 22 rfl rfl
theorem dksX1_writeSlide_2 : cX1_writeSlide.data.toList.drop 46 = dktX1_writeSlide_2 := dk_seg dksX1_writeSlide_1 24 rfl rfl
theorem dksX1_writeSlide_3 : cX1_writeSlide.data.toList.drop 70 = dktX1_writeSlide_3 := dk_seg dksX1_writeSlide_2 24 rfl rfl
theorem dksX1_writeSlide_4 : cX1_writeSlide.data.toList.drop 94 = dktX1_writeSlide_4 := dk_seg dksX1_writeSlide_3 24 rfl rfl
theorem dksX1_writeSlide_5 : cX1_writeSlide.data.toList.drop 117 = dktX1_writeSlide_5 := dk_seg dksX1_writeSlide_4 23 rfl rfl
theorem dX1_writeSlide_0 : decode cX1_writeSlide 0 = .ok (.aload_n 0, 1) := dk_42 (dk_at dksX1_writeSlide_0 0 rfl rfl)
theorem dX1_writeSlide_1 : decode cX1_writeSlide 1 = .ok (.getfield 10, 3) := dk_180 0 10 (dk_at dksX1_writeSlide_0 1 rfl rfl)
theorem dX1_writeSlide_4 : decode cX1_writeSlide 4 = .ok (.iload_n 1, 1) := dk_27 (dk_at dksX1_writeSlide_0 4 rfl rfl)
theorem dX1_writeSlide_5 : decode cX1_writeSlide 5 = .ok (.invokevirtual 137, 3) := dk_182 0 137 (dk_at dksX1_writeSlide_0 5 rfl rfl)
theorem dX1_writeSlide_8 : decode cX1_writeSlide 8 = .ok (.astore_n 2, 1) := dk_77 (dk_at dksX1_writeSlide_0 8 rfl rfl)
theorem dX1_writeSlide_9 : decode cX1_writeSlide 9 = .ok (.aload_n 0, 1) := dk_42 (dk_at dksX1_writeSlide_0 9 rfl rfl)
theorem dX1_writeSlide_10 : decode cX1_writeSlide 10 = .ok (.getfield 39, 3) := dk_180 0 39 (dk_at dksX1_writeSlide_0 10 rfl rfl)
theorem dX1_writeSlide_13 : decode cX1_writeSlide 13 = .ok (.iconst 0, 1) := dk_3 (dk_at dksX1_writeSlide_0 13 rfl rfl)
theorem dX1_writeSlide_14 : decode cX1_writeSlide 14 = .ok (.invokevirtual 306, 3) := dk_182 1 50 (dk_at dksX1_writeSlide_0 14 rfl rfl)
theorem dX1_writeSlide_17 : decode cX1_writeSlide 17 = .ok (.aload_n 0, 1) := dk_42 (dk_at dksX1_writeSlide_0 17 rfl rfl)
theorem dX1_writeSlide_18 : decode cX1_writeSlide 18 = .ok (.getfield 39, 3) := dk_180 0 39 (dk_at dksX1_writeSlide_0 18 rfl rfl)
theorem dX1_writeSlide_21 : decode cX1_writeSlide 21 = .ok (.aload_n 2, 1) := dk_44 (dk_at dksX1_writeSlide_0 21 rfl rfl)
theorem dX1_writeSlide_22 : decode cX1_writeSlide 22 = .ok (.getfield 141, 3) := dk_180 0 141 (dk_at dksX1_writeSlide_1 0 rfl rfl)
theorem dX1_writeSlide_25 : decode cX1_writeSlide 25 = .ok (.invokevirtual 309, 3) := dk_182 1 53 (dk_at dksX1_writeSlide_1 3 rfl rfl)
theorem dX1_writeSlide_28 : decode cX1_writeSlide 28 = .ok (.bipush 109, 2) := dk_16 109 (dk_at dksX1_writeSlide_1 6 rfl rfl)
theorem dX1_writeSlide_30 : decode cX1_writeSlide 30 = .ok (.invokevirtual 313, 3) := dk_182 1 57 (dk_at dksX1_writeSlide_1 8 rfl rfl)
theorem dX1_writeSlide_33 : decode cX1_writeSlide 33 = .ok (.aload_n 2, 1) := dk_44 (dk_at dksX1_writeSlide_1 11 rfl rfl)
theorem dX1_writeSlide_34 : decode cX1_writeSlide 34 = .ok (.getfield 146, 3) := dk_180 0 146 (dk_at dksX1_writeSlide_1 12 rfl rfl)
theorem dX1_writeSlide_37 : decode cX1_writeSlide 37 = .ok (.invokevirtual 309, 3) := dk_182 1 53 (dk_at dksX1_writeSlide_1 15 rfl rfl)
theorem dX1_writeSlide_40 : decode cX1_writeSlide 40 = .ok (.bipush 99, 2) := dk_16 99 (dk_at dksX1_writeSlide_1 18 rfl rfl)
theorem dX1_writeSlide_42 : decode cX1_writeSlide 42 = .ok (.invokevirtual 313, 3) := dk_182 1 57 (dk_at dksX1_writeSlide_1 20 rfl rfl)
theorem dX1_writeSlide_45 : decode cX1_writeSlide 45 = .ok (.aload_n 2, 1) := dk_44 (dk_at dksX1_writeSlide_1 23 rfl rfl)
theorem dX1_writeSlide_46 : decode cX1_writeSlide 46 = .ok (.getfield 149, 3) := dk_180 0 149 (dk_at dksX1_writeSlide_2 0 rfl rfl)
theorem dX1_writeSlide_49 : decode cX1_writeSlide 49 = .ok (.invokevirtual 309, 3) := dk_182 1 53 (dk_at dksX1_writeSlide_2 3 rfl rfl)
theorem dX1_writeSlide_52 : decode cX1_writeSlide 52 = .ok (.bipush 119, 2) := dk_16 119 (dk_at dksX1_writeSlide_2 6 rfl rfl)
theorem dX1_writeSlide_54 : decode cX1_writeSlide 54 = .ok (.invokevirtual 313, 3) := dk_182 1 57 (dk_at dksX1_writeSlide_2 8 rfl rfl)
theorem dX1_writeSlide_57 : decode cX1_writeSlide 57 = .ok (.pop, 1) := dk_87 (dk_at dksX1_writeSlide_2 11 rfl rfl)
theorem dX1_writeSlide_58 : decode cX1_writeSlide 58 = .ok (.aload_n 0, 1) := dk_42 (dk_at dksX1_writeSlide_2 12 rfl rfl)
theorem dX1_writeSlide_59 : decode cX1_writeSlide 59 = .ok (.getfield 10, 3) := dk_180 0 10 (dk_at dksX1_writeSlide_2 13 rfl rfl)
theorem dX1_writeSlide_62 : decode cX1_writeSlide 62 = .ok (.iload_n 1, 1) := dk_27 (dk_at dksX1_writeSlide_2 16 rfl rfl)
theorem dX1_writeSlide_63 : decode cX1_writeSlide 63 = .ok (.invokevirtual 316, 3) := dk_182 1 60 (dk_at dksX1_writeSlide_2 17 rfl rfl)
theorem dX1_writeSlide_66 : decode cX1_writeSlide 66 = .ok (.astore_n 3, 1) := dk_78 (dk_at dksX1_writeSlide_2 20 rfl rfl)
theorem dX1_writeSlide_67 : decode cX1_writeSlide 67 = .ok (.iconst 0, 1) := dk_3 (dk_at dksX1_writeSlide_2 21 rfl rfl)
theorem dX1_writeSlide_68 : decode cX1_writeSlide 68 = .ok (.istore 4, 2) := dk_54 4 (dk_at dksX1_writeSlide_2 22 rfl rfl)
theorem dX1_writeSlide_70 : decode cX1_writeSlide 70 = .ok (.iload 4, 2) := dk_21 4 (dk_at dksX1_writeSlide_3 0 rfl rfl)
theorem dX1_writeSlide_72 : decode cX1_writeSlide 72 = .ok (.aload_n 3, 1) := dk_45 (dk_at dksX1_writeSlide_3 2 rfl rfl)
theorem dX1_writeSlide_73 : decode cX1_writeSlide 73 = .ok (.invokevirtual 64, 3) := dk_182 0 64 (dk_at dksX1_writeSlide_3 3 rfl rfl)
theorem dX1_writeSlide_76 : decode cX1_writeSlide 76 = .ok (.if_icmp .ge 54, 3) := dk_162 0 54 (dk_at dksX1_writeSlide_3 6 rfl rfl)
theorem dX1_writeSlide_79 : decode cX1_writeSlide 79 = .ok (.aload_n 0, 1) := dk_42 (dk_at dksX1_writeSlide_3 9 rfl rfl)
theorem dX1_writeSlide_80 : decode cX1_writeSlide 80 = .ok (.getfield 39, 3) := dk_180 0 39 (dk_at dksX1_writeSlide_3 10 rfl rfl)
theorem dX1_writeSlide_83 : decode cX1_writeSlide 83 = .ok (.bipush 32, 2) := dk_16 32 (dk_at dksX1_writeSlide_3 13 rfl rfl)
theorem dX1_writeSlide_85 : decode cX1_writeSlide 85 = .ok (.invokevirtual 313, 3) := dk_182 1 57 (dk_at dksX1_writeSlide_3 15 rfl rfl)
theorem dX1_writeSlide_88 : decode cX1_writeSlide 88 = .ok (.aload_n 3, 1) := dk_45 (dk_at dksX1_writeSlide_3 18 rfl rfl)
theorem dX1_writeSlide_89 : decode cX1_writeSlide 89 = .ok (.iload 4, 2) := dk_21 4 (dk_at dksX1_writeSlide_3 19 rfl rfl)
theorem dX1_writeSlide_91 : decode cX1_writeSlide 91 = .ok (.invokevirtual 68, 3) := dk_182 0 68 (dk_at dksX1_writeSlide_3 21 rfl rfl)
theorem dX1_writeSlide_94 : decode cX1_writeSlide 94 = .ok (.checkcast 160, 3) := dk_192 0 160 (dk_at dksX1_writeSlide_4 0 rfl rfl)
theorem dX1_writeSlide_97 : decode cX1_writeSlide 97 = .ok (.getfield 159, 3) := dk_180 0 159 (dk_at dksX1_writeSlide_4 3 rfl rfl)
theorem dX1_writeSlide_100 : decode cX1_writeSlide 100 = .ok (.invokevirtual 309, 3) := dk_182 1 53 (dk_at dksX1_writeSlide_4 6 rfl rfl)
theorem dX1_writeSlide_103 : decode cX1_writeSlide 103 = .ok (.bipush 64, 2) := dk_16 64 (dk_at dksX1_writeSlide_4 9 rfl rfl)
theorem dX1_writeSlide_105 : decode cX1_writeSlide 105 = .ok (.invokevirtual 313, 3) := dk_182 1 57 (dk_at dksX1_writeSlide_4 11 rfl rfl)
theorem dX1_writeSlide_108 : decode cX1_writeSlide 108 = .ok (.aload_n 3, 1) := dk_45 (dk_at dksX1_writeSlide_4 14 rfl rfl)
theorem dX1_writeSlide_109 : decode cX1_writeSlide 109 = .ok (.iload 4, 2) := dk_21 4 (dk_at dksX1_writeSlide_4 15 rfl rfl)
theorem dX1_writeSlide_111 : decode cX1_writeSlide 111 = .ok (.invokevirtual 68, 3) := dk_182 0 68 (dk_at dksX1_writeSlide_4 17 rfl rfl)
theorem dX1_writeSlide_114 : decode cX1_writeSlide 114 = .ok (.checkcast 160, 3) := dk_192 0 160 (dk_at dksX1_writeSlide_4 20 rfl rfl)
theorem dX1_writeSlide_117 : decode cX1_writeSlide 117 = .ok (.getfield 205, 3) := dk_180 0 205 (dk_at dksX1_writeSlide_5 0 rfl rfl)
theorem dX1_writeSlide_120 : decode cX1_writeSlide 120 = .ok (.invokevirtual 309, 3) := dk_182 1 53 (dk_at dksX1_writeSlide_5 3 rfl rfl)
theorem dX1_writeSlide_123 : decode cX1_writeSlide 123 = .ok (.pop, 1) := dk_87 (dk_at dksX1_writeSlide_5 6 rfl rfl)
theorem dX1_writeSlide_124 : decode cX1_writeSlide 124 = .ok (.iinc 4 1, 3) := dk_132 4 1 (dk_at dksX1_writeSlide_5 7 rfl rfl)
theorem dX1_writeSlide_127 : decode cX1_writeSlide 127 = .ok (.goto (-57), 3) := dk_167 255 199 (dk_at dksX1_writeSlide_5 10 rfl rfl)
theorem dX1_writeSlide_130 : decode cX1_writeSlide 130 = .ok (.aload_n 0, 1) := dk_42 (dk_at dksX1_writeSlide_5 13 rfl rfl)
theorem dX1_writeSlide_131 : decode cX1_writeSlide 131 = .ok (.getfield 39, 3) := dk_180 0 39 (dk_at dksX1_writeSlide_5 14 rfl rfl)
theorem dX1_writeSlide_134 : decode cX1_writeSlide 134 = .ok (.invokevirtual 320, 3) := dk_182 1 64 (dk_at dksX1_writeSlide_5 17 rfl rfl)
theorem dX1_writeSlide_137 : decode cX1_writeSlide 137 = .ok (.ireturn, 1) := dk_172 (dk_at dksX1_writeSlide_5 20 rfl rfl)
abbrev cX1_outputChar : ByteArray := prog_1_method_66_code
def yX1_outputChar : MethodName := ⟨RX1, "outputChar", "(I)C"⟩
def dkwX1_outputChar_1 : List UInt8 := [182, 1, 67, 172]
abbrev dktX1_outputChar_1 : List UInt8 := dkwX1_outputChar_1 ++ []
def dkwX1_outputChar_0 : List UInt8 := [27, 3, 42, 180, 0, 39, 182, 1, 64, 4, 100, 184, 0, 88, 184, 0, 92, 42, 180, 0, 39, 27]
abbrev dktX1_outputChar_0 : List UInt8 := dkwX1_outputChar_0 ++ dktX1_outputChar_1
theorem dksX1_outputChar_0 : cX1_outputChar.data.toList.drop 0 = dktX1_outputChar_0 := by decide +kernel
theorem dksX1_outputChar_1 : cX1_outputChar.data.toList.drop 22 = dktX1_outputChar_1 := dk_seg dksX1_outputChar_0 22 rfl rfl
theorem dX1_outputChar_0 : decode cX1_outputChar 0 = .ok (.iload_n 1, 1) := dk_27 (dk_at dksX1_outputChar_0 0 rfl rfl)
theorem dX1_outputChar_1 : decode cX1_outputChar 1 = .ok (.iconst 0, 1) := dk_3 (dk_at dksX1_outputChar_0 1 rfl rfl)
theorem dX1_outputChar_2 : decode cX1_outputChar 2 = .ok (.aload_n 0, 1) := dk_42 (dk_at dksX1_outputChar_0 2 rfl rfl)
theorem dX1_outputChar_3 : decode cX1_outputChar 3 = .ok (.getfield 39, 3) := dk_180 0 39 (dk_at dksX1_outputChar_0 3 rfl rfl)
theorem dX1_outputChar_6 : decode cX1_outputChar 6 = .ok (.invokevirtual 320, 3) := dk_182 1 64 (dk_at dksX1_outputChar_0 6 rfl rfl)
theorem dX1_outputChar_9 : decode cX1_outputChar 9 = .ok (.iconst 1, 1) := dk_4 (dk_at dksX1_outputChar_0 9 rfl rfl)
theorem dX1_outputChar_10 : decode cX1_outputChar 10 = .ok (.isub, 1) := dk_100 (dk_at dksX1_outputChar_0 10 rfl rfl)
theorem dX1_outputChar_11 : decode cX1_outputChar 11 = .ok (.invokestatic 88, 3) := dk_184 0 88 (dk_at dksX1_outputChar_0 11 rfl rfl)
theorem dX1_outputChar_14 : decode cX1_outputChar 14 = .ok (.invokestatic 92, 3) := dk_184 0 92 (dk_at dksX1_outputChar_0 14 rfl rfl)
theorem dX1_outputChar_17 : decode cX1_outputChar 17 = .ok (.aload_n 0, 1) := dk_42 (dk_at dksX1_outputChar_0 17 rfl rfl)
theorem dX1_outputChar_18 : decode cX1_outputChar 18 = .ok (.getfield 39, 3) := dk_180 0 39 (dk_at dksX1_outputChar_0 18 rfl rfl)
theorem dX1_outputChar_21 : decode cX1_outputChar 21 = .ok (.iload_n 1, 1) := dk_27 (dk_at dksX1_outputChar_0 21 rfl rfl)
theorem dX1_outputChar_22 : decode cX1_outputChar 22 = .ok (.invokevirtual 323, 3) := dk_182 1 67 (dk_at dksX1_outputChar_1 0 rfl rfl)
theorem dX1_outputChar_25 : decode cX1_outputChar 25 = .ok (.ireturn, 1) := dk_172 (dk_at dksX1_outputChar_1 3 rfl rfl)
abbrev cX1_undo : ByteArray := prog_1_method_68_code
def yX1_undo : MethodName := ⟨RX1, "undo", "()I"⟩
def dkwX1_undo_1 : List UInt8 := [182, 1, 71, 192, 0, 7, 181, 0, 10, 42, 180, 0, 21, 182, 0, 243, 172]
abbrev dktX1_undo_1 : List UInt8 := dkwX1_undo_1 ++ []
def dkwX1_undo_0 : List UInt8 := [42, 180, 0, 21, 182, 0, 243, 158, 0, 7, 4, 167, 0, 4, 3, 184, 1, 33, 42, 42, 180, 0, 21]
abbrev dktX1_undo_0 : List UInt8 := dkwX1_undo_0 ++ dktX1_undo_1
theorem dksX1_undo_0 : cX1_undo.data.toList.drop 0 = dktX1_undo_0 := by decide +kernel
theorem dksX1_undo_1 : cX1_undo.data.toList.drop 23 = dktX1_undo_1 := dk_seg dksX1_undo_0 23 rfl rfl
theorem dX1_undo_0 : decode cX1_undo 0 = .ok (.aload_n 0, 1) := dk_42 (dk_at dksX1_undo_0 0 rfl rfl)
theorem dX1_undo_1 : decode cX1_undo 1 = .ok (.getfield 21, 3) := dk_180 0 21 (dk_at dksX1_undo_0 1 rfl rfl)
theorem dX1_undo_4 : decode cX1_undo 4 = .ok (.invokevirtual 243, 3) := dk_182 0 243 (dk_at dksX1_undo_0 4 rfl rfl)
theorem dX1_undo_7 : decode cX1_undo 7 = .ok (.ifCond .le 7, 3) := dk_158 0 7 (dk_at dksX1_undo_0 7 rfl rfl)
theorem dX1_undo_10 : decode cX1_undo 10 = .ok (.iconst 1, 1) := dk_4 (dk_at dksX1_undo_0 10 rfl rfl)
theorem dX1_undo_11 : decode cX1_undo 11 = .ok (.goto 4, 3) := dk_167 0 4 (dk_at dksX1_undo_0 11 rfl rfl)
theorem dX1_undo_14 : decode cX1_undo 14 = .ok (.iconst 0, 1) := dk_3 (dk_at dksX1_undo_0 14 rfl rfl)
theorem dX1_undo_15 : decode cX1_undo 15 = .ok (.invokestatic 289, 3) := dk_184 1 33 (dk_at dksX1_undo_0 15 rfl rfl)
theorem dX1_undo_18 : decode cX1_undo 18 = .ok (.aload_n 0, 1) := dk_42 (dk_at dksX1_undo_0 18 rfl rfl)
theorem dX1_undo_19 : decode cX1_undo 19 = .ok (.aload_n 0, 1) := dk_42 (dk_at dksX1_undo_0 19 rfl rfl)
theorem dX1_undo_20 : decode cX1_undo 20 = .ok (.getfield 21, 3) := dk_180 0 21 (dk_at dksX1_undo_0 20 rfl rfl)
theorem dX1_undo_23 : decode cX1_undo 23 = .ok (.invokevirtual 327, 3) := dk_182 1 71 (dk_at dksX1_undo_1 0 rfl rfl)
theorem dX1_undo_26 : decode cX1_undo 26 = .ok (.checkcast 7, 3) := dk_192 0 7 (dk_at dksX1_undo_1 3 rfl rfl)
theorem dX1_undo_29 : decode cX1_undo 29 = .ok (.putfield 10, 3) := dk_181 0 10 (dk_at dksX1_undo_1 6 rfl rfl)
theorem dX1_undo_32 : decode cX1_undo 32 = .ok (.aload_n 0, 1) := dk_42 (dk_at dksX1_undo_1 9 rfl rfl)
theorem dX1_undo_33 : decode cX1_undo 33 = .ok (.getfield 21, 3) := dk_180 0 21 (dk_at dksX1_undo_1 10 rfl rfl)
theorem dX1_undo_36 : decode cX1_undo 36 = .ok (.invokevirtual 243, 3) := dk_182 0 243 (dk_at dksX1_undo_1 13 rfl rfl)
theorem dX1_undo_39 : decode cX1_undo 39 = .ok (.ireturn, 1) := dk_172 (dk_at dksX1_undo_1 16 rfl rfl)
abbrev cX1_restore : ByteArray := prog_1_method_70_code
def yX1_restore : MethodName := ⟨RX1, "restore", "()I"⟩
def dkwX1_restore_1 : List UInt8 := [181, 0, 10, 42, 180, 0, 21, 182, 1, 77, 42, 180, 0, 10, 180, 0, 196, 182, 0, 64, 172]
abbrev dktX1_restore_1 : List UInt8 := dkwX1_restore_1 ++ []
def dkwX1_restore_0 : List UInt8 := [42, 180, 1, 74, 198, 0, 7, 4, 167, 0, 4, 3, 184, 1, 33, 42, 42, 180, 1, 74, 182, 0, 99]
abbrev dktX1_restore_0 : List UInt8 := dkwX1_restore_0 ++ dktX1_restore_1
theorem dksX1_restore_0 : cX1_restore.data.toList.drop 0 = dktX1_restore_0 := by decide +kernel
theorem dksX1_restore_1 : cX1_restore.data.toList.drop 23 = dktX1_restore_1 := dk_seg dksX1_restore_0 23 rfl rfl
theorem dX1_restore_0 : decode cX1_restore 0 = .ok (.aload_n 0, 1) := dk_42 (dk_at dksX1_restore_0 0 rfl rfl)
theorem dX1_restore_1 : decode cX1_restore 1 = .ok (.getfield 330, 3) := dk_180 1 74 (dk_at dksX1_restore_0 1 rfl rfl)
theorem dX1_restore_4 : decode cX1_restore 4 = .ok (.ifnull 7, 3) := dk_198 0 7 (dk_at dksX1_restore_0 4 rfl rfl)
theorem dX1_restore_7 : decode cX1_restore 7 = .ok (.iconst 1, 1) := dk_4 (dk_at dksX1_restore_0 7 rfl rfl)
theorem dX1_restore_8 : decode cX1_restore 8 = .ok (.goto 4, 3) := dk_167 0 4 (dk_at dksX1_restore_0 8 rfl rfl)
theorem dX1_restore_11 : decode cX1_restore 11 = .ok (.iconst 0, 1) := dk_3 (dk_at dksX1_restore_0 11 rfl rfl)
theorem dX1_restore_12 : decode cX1_restore 12 = .ok (.invokestatic 289, 3) := dk_184 1 33 (dk_at dksX1_restore_0 12 rfl rfl)
theorem dX1_restore_15 : decode cX1_restore 15 = .ok (.aload_n 0, 1) := dk_42 (dk_at dksX1_restore_0 15 rfl rfl)
theorem dX1_restore_16 : decode cX1_restore 16 = .ok (.aload_n 0, 1) := dk_42 (dk_at dksX1_restore_0 16 rfl rfl)
theorem dX1_restore_17 : decode cX1_restore 17 = .ok (.getfield 330, 3) := dk_180 1 74 (dk_at dksX1_restore_0 17 rfl rfl)
theorem dX1_restore_20 : decode cX1_restore 20 = .ok (.invokevirtual 99, 3) := dk_182 0 99 (dk_at dksX1_restore_0 20 rfl rfl)
theorem dX1_restore_23 : decode cX1_restore 23 = .ok (.putfield 10, 3) := dk_181 0 10 (dk_at dksX1_restore_1 0 rfl rfl)
theorem dX1_restore_26 : decode cX1_restore 26 = .ok (.aload_n 0, 1) := dk_42 (dk_at dksX1_restore_1 3 rfl rfl)
theorem dX1_restore_27 : decode cX1_restore 27 = .ok (.getfield 21, 3) := dk_180 0 21 (dk_at dksX1_restore_1 4 rfl rfl)
theorem dX1_restore_30 : decode cX1_restore 30 = .ok (.invokevirtual 333, 3) := dk_182 1 77 (dk_at dksX1_restore_1 7 rfl rfl)
theorem dX1_restore_33 : decode cX1_restore 33 = .ok (.aload_n 0, 1) := dk_42 (dk_at dksX1_restore_1 10 rfl rfl)
theorem dX1_restore_34 : decode cX1_restore 34 = .ok (.getfield 10, 3) := dk_180 0 10 (dk_at dksX1_restore_1 11 rfl rfl)
theorem dX1_restore_37 : decode cX1_restore 37 = .ok (.getfield 196, 3) := dk_180 0 196 (dk_at dksX1_restore_1 14 rfl rfl)
theorem dX1_restore_40 : decode cX1_restore 40 = .ok (.invokevirtual 64, 3) := dk_182 0 64 (dk_at dksX1_restore_1 17 rfl rfl)
theorem dX1_restore_43 : decode cX1_restore 43 = .ok (.ireturn, 1) := dk_172 (dk_at dksX1_restore_1 20 rfl rfl)
theorem q66 : (Jvm.Cond.initialized "SlidePark") ∈ lw_all := lw_g (lw_at lw_m1 1 rfl) rfl
theorem q107 : (Jvm.Cond.instantiable "SlidePark" (8 : Nat)) ∈ lw_all := lw_g (lw_at lw_m1 42 rfl) rfl
theorem q109 : (Jvm.Cond.instanceMethod ({ cls := "SlidePark", name := "<init>", desc := "()V" } : Jvm.MethodName)) ∈ lw_all := lw_g (lw_at lw_m1 44 rfl) rfl
theorem q110 : (Jvm.Cond.code ({ cls := "SlidePark", name := "<init>", desc := "()V" } : Jvm.MethodName) prog_1_method_1_code (1 : Nat) (Option.none : Option Jvm.ClassFile.FieldType)) ∈ lw_all := lw_g (lw_at lw_m1 45 rfl) rfl
theorem q111 : (Jvm.Cond.methodLink "SlidePark" (1 : Nat) ({ cls := "java/lang/Object", name := "<init>", desc := "()V" } : Jvm.MethodName)) ∈ lw_all := lw_g (lw_at lw_m1 46 rfl) rfl
theorem q114 : (Jvm.Cond.classLink "SlidePark" (7 : Nat) "SlidePark$State") ∈ lw_all := lw_g (lw_at lw_m1 49 rfl) rfl
theorem q116 : (Jvm.Cond.methodLinkNest "SlidePark" (9 : Nat) ({ cls := "SlidePark$State", name := "<init>", desc := "()V" } : Jvm.MethodName) "SlidePark") ∈ lw_tbl := lw_at lw_m1 51 rfl
theorem q165 : (Jvm.Cond.fieldLinkNest "SlidePark" (133 : Nat) "SlidePark$State" "slides" "Ljava/util/ArrayList;" "SlidePark") ∈ lw_tbl := lw_at lw_m1 100 rfl
theorem q167 : (Jvm.Cond.fieldLinkNest "SlidePark" (164 : Nat) "SlidePark$State" "guests" "Ljava/util/ArrayList;" "SlidePark") ∈ lw_tbl := lw_at lw_m1 102 rfl
theorem q169 : (Jvm.Cond.fieldLinkNest "SlidePark" (196 : Nat) "SlidePark$State" "bookings" "Ljava/util/ArrayList;" "SlidePark") ∈ lw_tbl := lw_at lw_m1 104 rfl
theorem q171 : (Jvm.Cond.fieldLinkNest "SlidePark" (240 : Nat) "SlidePark$State" "finishes" "LSlidePark$Latest;" "SlidePark") ∈ lw_tbl := lw_at lw_m1 106 rfl
theorem q173 : (Jvm.Cond.fieldLinkNest "SlidePark" (130 : Nat) "SlidePark$State" "minute" "I" "SlidePark") ∈ lw_tbl := lw_at lw_m1 108 rfl
theorem q175 : (Jvm.Cond.fieldLinkNest "SlidePark" (264 : Nat) "SlidePark$State" "office" "I" "SlidePark") ∈ lw_tbl := lw_at lw_m1 110 rfl
theorem q177 : (Jvm.Cond.fieldLinkNest "SlidePark" (261 : Nat) "SlidePark$State" "refunded" "I" "SlidePark") ∈ lw_tbl := lw_at lw_m1 112 rfl
theorem q179 : (Jvm.Cond.fieldLinkNest "SlidePark" (258 : Nat) "SlidePark$State" "splashes" "I" "SlidePark") ∈ lw_tbl := lw_at lw_m1 114 rfl
theorem q197 : (Jvm.Cond.classLink "SlidePark" (16 : Nat) "SlidePark$Latest") ∈ lw_all := lw_g (lw_at lw_m1 132 rfl) rfl
theorem q198 : (Jvm.Cond.methodLink "SlidePark" (18 : Nat) ({ cls := "SlidePark$Latest", name := "<init>", desc := "(I)V" } : Jvm.MethodName)) ∈ lw_all := lw_g (lw_at lw_m1 133 rfl) rfl
theorem q199 : (Jvm.Cond.classLink "SlidePark" (36 : Nat) "java/lang/StringBuilder") ∈ lw_all := lw_g (lw_at lw_m1 134 rfl) rfl
theorem q201 : (Jvm.Cond.methodLink "SlidePark" (38 : Nat) ({ cls := "java/lang/StringBuilder", name := "<init>", desc := "()V" } : Jvm.MethodName)) ∈ lw_all := lw_g (lw_at lw_m1 136 rfl) rfl
theorem q233 : (Jvm.Cond.fieldLink "SlidePark" (10 : Nat) "SlidePark" "state" "LSlidePark$State;") ∈ lw_all := lw_g (lw_at lw_m1 168 rfl) rfl
theorem q234 : (Jvm.Cond.fieldLink "SlidePark" (21 : Nat) "SlidePark" "history" "LSlidePark$Latest;") ∈ lw_all := lw_g (lw_at lw_m1 169 rfl) rfl
theorem q235 : (Jvm.Cond.fieldLink "SlidePark" (330 : Nat) "SlidePark" "saved" "LSlidePark$State;") ∈ lw_all := lw_g (lw_at lw_m1 170 rfl) rfl
theorem q236 : (Jvm.Cond.fieldLink "SlidePark" (25 : Nat) "SlidePark" "input" "[C") ∈ lw_all := lw_g (lw_at lw_m1 171 rfl) rfl
theorem q239 : (Jvm.Cond.fieldLink "SlidePark" (286 : Nat) "SlidePark" "inputLength" "I") ∈ lw_all := lw_g (lw_at lw_m1 174 rfl) rfl
theorem q240 : (Jvm.Cond.fieldLink "SlidePark" (29 : Nat) "SlidePark" "errorPosition" "I") ∈ lw_all := lw_g (lw_at lw_m1 175 rfl) rfl
theorem q241 : (Jvm.Cond.fieldLink "SlidePark" (33 : Nat) "SlidePark" "failedCommand" "I") ∈ lw_all := lw_g (lw_at lw_m1 176 rfl) rfl
theorem q243 : (Jvm.Cond.fieldLink "SlidePark" (39 : Nat) "SlidePark" "output" "Ljava/lang/StringBuilder;") ∈ lw_all := lw_g (lw_at lw_m1 178 rfl) rfl
theorem q244 : (Jvm.Cond.lays "SlidePark" "SlidePark" "state" "LSlidePark$State;") ∈ lw_all := lw_g (lw_at lw_m1 179 rfl) rfl
theorem q245 : (Jvm.Cond.soleField "SlidePark" "state") ∈ lw_all := lw_g (lw_at lw_m1 180 rfl) rfl
theorem q246 : (Jvm.Cond.laysFinal "SlidePark" "SlidePark" "history" "LSlidePark$Latest;") ∈ lw_all := lw_g (lw_at lw_m1 181 rfl) rfl
theorem q247 : (Jvm.Cond.soleField "SlidePark" "history") ∈ lw_all := lw_g (lw_at lw_m1 182 rfl) rfl
theorem q248 : (Jvm.Cond.lays "SlidePark" "SlidePark" "saved" "LSlidePark$State;") ∈ lw_all := lw_g (lw_at lw_m1 183 rfl) rfl
theorem q249 : (Jvm.Cond.soleField "SlidePark" "saved") ∈ lw_all := lw_g (lw_at lw_m1 184 rfl) rfl
theorem q250 : (Jvm.Cond.laysFinal "SlidePark" "SlidePark" "input" "[C") ∈ lw_all := lw_g (lw_at lw_m1 185 rfl) rfl
theorem q251 : (Jvm.Cond.soleField "SlidePark" "input") ∈ lw_all := lw_g (lw_at lw_m1 186 rfl) rfl
theorem q252 : (Jvm.Cond.lays "SlidePark" "SlidePark" "inputLength" "I") ∈ lw_all := lw_g (lw_at lw_m1 187 rfl) rfl
theorem q253 : (Jvm.Cond.soleField "SlidePark" "inputLength") ∈ lw_all := lw_g (lw_at lw_m1 188 rfl) rfl
theorem q254 : (Jvm.Cond.lays "SlidePark" "SlidePark" "errorPosition" "I") ∈ lw_all := lw_g (lw_at lw_m1 189 rfl) rfl
theorem q255 : (Jvm.Cond.soleField "SlidePark" "errorPosition") ∈ lw_all := lw_g (lw_at lw_m1 190 rfl) rfl
theorem q256 : (Jvm.Cond.lays "SlidePark" "SlidePark" "failedCommand" "I") ∈ lw_all := lw_g (lw_at lw_m1 191 rfl) rfl
theorem q257 : (Jvm.Cond.soleField "SlidePark" "failedCommand") ∈ lw_all := lw_g (lw_at lw_m1 192 rfl) rfl
theorem q258 : (Jvm.Cond.laysFinal "SlidePark" "SlidePark" "output" "Ljava/lang/StringBuilder;") ∈ lw_all := lw_g (lw_at lw_m1 193 rfl) rfl
theorem q259 : (Jvm.Cond.soleField "SlidePark" "output") ∈ lw_all := lw_g (lw_at lw_m1 194 rfl) rfl
theorem q260 : (Jvm.Cond.superclass "SlidePark" "java/lang/Object") ∈ lw_all := lw_g (lw_at lw_m1 195 rfl) rfl
theorem q262 : (Jvm.Cond.instanceMethod ({ cls := "SlidePark", name := "minute", desc := "()I" } : Jvm.MethodName)) ∈ lw_all := lw_g (lw_at lw_m1 197 rfl) rfl
theorem q263 : (Jvm.Cond.selects "SlidePark" ({ cls := "SlidePark", name := "minute", desc := "()I" } : Jvm.MethodName) ({ cls := "SlidePark", name := "minute", desc := "()I" } : Jvm.MethodName)) ∈ lw_all := lw_g (lw_at lw_m1 198 rfl) rfl
theorem q264 : (Jvm.Cond.code ({ cls := "SlidePark", name := "minute", desc := "()I" } : Jvm.MethodName) prog_1_method_20_code (1 : Nat) (Option.some Jvm.ClassFile.FieldType.int)) ∈ lw_all := lw_g (lw_at lw_m1 199 rfl) rfl
theorem q266 : (Jvm.Cond.instanceMethod ({ cls := "SlidePark", name := "slideCount", desc := "()I" } : Jvm.MethodName)) ∈ lw_all := lw_g (lw_at lw_m1 201 rfl) rfl
theorem q267 : (Jvm.Cond.selects "SlidePark" ({ cls := "SlidePark", name := "slideCount", desc := "()I" } : Jvm.MethodName) ({ cls := "SlidePark", name := "slideCount", desc := "()I" } : Jvm.MethodName)) ∈ lw_all := lw_g (lw_at lw_m1 202 rfl) rfl
theorem q268 : (Jvm.Cond.code ({ cls := "SlidePark", name := "slideCount", desc := "()I" } : Jvm.MethodName) prog_1_method_21_code (1 : Nat) (Option.some Jvm.ClassFile.FieldType.int)) ∈ lw_all := lw_g (lw_at lw_m1 203 rfl) rfl
theorem q269 : (Jvm.Cond.methodLink "SlidePark" (64 : Nat) ({ cls := "java/util/ArrayList", name := "size", desc := "()I" } : Jvm.MethodName)) ∈ lw_all := lw_g (lw_at lw_m1 204 rfl) rfl
theorem q274 : (Jvm.Cond.instanceMethod ({ cls := "SlidePark", name := "guestCount", desc := "()I" } : Jvm.MethodName)) ∈ lw_all := lw_g (lw_at lw_m1 209 rfl) rfl
theorem q275 : (Jvm.Cond.selects "SlidePark" ({ cls := "SlidePark", name := "guestCount", desc := "()I" } : Jvm.MethodName) ({ cls := "SlidePark", name := "guestCount", desc := "()I" } : Jvm.MethodName)) ∈ lw_all := lw_g (lw_at lw_m1 210 rfl) rfl
theorem q276 : (Jvm.Cond.code ({ cls := "SlidePark", name := "guestCount", desc := "()I" } : Jvm.MethodName) prog_1_method_26_code (1 : Nat) (Option.some Jvm.ClassFile.FieldType.int)) ∈ lw_all := lw_g (lw_at lw_m1 211 rfl) rfl
theorem q278 : (Jvm.Cond.instanceMethod ({ cls := "SlidePark", name := "bookingCount", desc := "()I" } : Jvm.MethodName)) ∈ lw_all := lw_g (lw_at lw_m1 213 rfl) rfl
theorem q279 : (Jvm.Cond.selects "SlidePark" ({ cls := "SlidePark", name := "bookingCount", desc := "()I" } : Jvm.MethodName) ({ cls := "SlidePark", name := "bookingCount", desc := "()I" } : Jvm.MethodName)) ∈ lw_all := lw_g (lw_at lw_m1 214 rfl) rfl
theorem q280 : (Jvm.Cond.code ({ cls := "SlidePark", name := "bookingCount", desc := "()I" } : Jvm.MethodName) prog_1_method_32_code (1 : Nat) (Option.some Jvm.ClassFile.FieldType.int)) ∈ lw_all := lw_g (lw_at lw_m1 215 rfl) rfl
theorem q282 : (Jvm.Cond.instanceMethod ({ cls := "SlidePark", name := "mostWatched", desc := "()I" } : Jvm.MethodName)) ∈ lw_all := lw_g (lw_at lw_m1 217 rfl) rfl
theorem q283 : (Jvm.Cond.selects "SlidePark" ({ cls := "SlidePark", name := "mostWatched", desc := "()I" } : Jvm.MethodName) ({ cls := "SlidePark", name := "mostWatched", desc := "()I" } : Jvm.MethodName)) ∈ lw_all := lw_g (lw_at lw_m1 218 rfl) rfl
theorem q284 : (Jvm.Cond.code ({ cls := "SlidePark", name := "mostWatched", desc := "()I" } : Jvm.MethodName) prog_1_method_42_code (1 : Nat) (Option.some Jvm.ClassFile.FieldType.int)) ∈ lw_all := lw_g (lw_at lw_m1 219 rfl) rfl
theorem q285 : (Jvm.Cond.methodLink "SlidePark" (228 : Nat) ({ cls := "SlidePark$State", name := "mostWatched", desc := "()I" } : Jvm.MethodName)) ∈ lw_all := lw_g (lw_at lw_m1 220 rfl) rfl
theorem q310 : (Jvm.Cond.instanceMethod ({ cls := "SlidePark", name := "mostWatchedByTable", desc := "()I" } : Jvm.MethodName)) ∈ lw_all := lw_g (lw_at lw_m2 5 rfl) rfl
theorem q311 : (Jvm.Cond.selects "SlidePark" ({ cls := "SlidePark", name := "mostWatchedByTable", desc := "()I" } : Jvm.MethodName) ({ cls := "SlidePark", name := "mostWatchedByTable", desc := "()I" } : Jvm.MethodName)) ∈ lw_all := lw_g (lw_at lw_m2 6 rfl) rfl
theorem q312 : (Jvm.Cond.code ({ cls := "SlidePark", name := "mostWatchedByTable", desc := "()I" } : Jvm.MethodName) prog_1_method_43_code (1 : Nat) (Option.some Jvm.ClassFile.FieldType.int)) ∈ lw_all := lw_g (lw_at lw_m2 7 rfl) rfl
theorem q313 : (Jvm.Cond.methodLink "SlidePark" (231 : Nat) ({ cls := "SlidePark$State", name := "mostWatchedByTable", desc := "()I" } : Jvm.MethodName)) ∈ lw_all := lw_g (lw_at lw_m2 8 rfl) rfl
theorem q318 : (Jvm.Cond.static ({ cls := "SlidePark", name := "atRank", desc := "(Ljava/util/ArrayList;I)I" } : Jvm.MethodName)) ∈ lw_all := lw_g (lw_at lw_m2 13 rfl) rfl
theorem q319 : (Jvm.Cond.code ({ cls := "SlidePark", name := "atRank", desc := "(Ljava/util/ArrayList;I)I" } : Jvm.MethodName) prog_1_method_10_code (5 : Nat) (Option.some Jvm.ClassFile.FieldType.int)) ∈ lw_all := lw_g (lw_at lw_m2 14 rfl) rfl
theorem q320 : (Jvm.Cond.methodLink "SlidePark" (68 : Nat) ({ cls := "java/util/ArrayList", name := "get", desc := "(I)Ljava/lang/Object;" } : Jvm.MethodName)) ∈ lw_all := lw_g (lw_at lw_m2 15 rfl) rfl
theorem q321 : (Jvm.Cond.classLink "SlidePark" (82 : Nat) "SlidePark$Ranked") ∈ lw_all := lw_g (lw_at lw_m2 16 rfl) rfl
theorem q322 : (Jvm.Cond.interfaceEntry "SlidePark" (84 : Nat)) ∈ lw_tbl := lw_at lw_m2 17 rfl
theorem q323 : (Jvm.Cond.methodLink "SlidePark" (84 : Nat) ({ cls := "SlidePark$Ranked", name := "isAheadOf", desc := "(Ljava/lang/Object;Z)Z" } : Jvm.MethodName)) ∈ lw_all := lw_g (lw_at lw_m2 18 rfl) rfl
theorem q359 : (Jvm.Cond.classLink "SlidePark" (52 : Nat) "java/util/NoSuchElementException") ∈ lw_all := lw_g (lw_at lw_m2 54 rfl) rfl
theorem q406 : (Jvm.Cond.methodLink "SlidePark" (54 : Nat) ({ cls := "java/util/NoSuchElementException", name := "<init>", desc := "()V" } : Jvm.MethodName)) ∈ lw_all := lw_g (lw_at lw_m2 101 rfl) rfl
theorem q434 : (Jvm.Cond.instanceMethod ({ cls := "SlidePark", name := "mostAtOnce", desc := "()I" } : Jvm.MethodName)) ∈ lw_all := lw_g (lw_at lw_m2 129 rfl) rfl
theorem q435 : (Jvm.Cond.selects "SlidePark" ({ cls := "SlidePark", name := "mostAtOnce", desc := "()I" } : Jvm.MethodName) ({ cls := "SlidePark", name := "mostAtOnce", desc := "()I" } : Jvm.MethodName)) ∈ lw_all := lw_g (lw_at lw_m2 130 rfl) rfl
theorem q436 : (Jvm.Cond.code ({ cls := "SlidePark", name := "mostAtOnce", desc := "()I" } : Jvm.MethodName) prog_1_method_44_code (1 : Nat) (Option.some Jvm.ClassFile.FieldType.int)) ∈ lw_all := lw_g (lw_at lw_m2 131 rfl) rfl
theorem q437 : (Jvm.Cond.methodLink "SlidePark" (234 : Nat) ({ cls := "SlidePark$State", name := "mostAtOnce", desc := "()I" } : Jvm.MethodName)) ∈ lw_all := lw_g (lw_at lw_m2 132 rfl) rfl
theorem q446 : (Jvm.Cond.static ({ cls := "SlidePark", name := "isBetween", desc := "(III)Z" } : Jvm.MethodName)) ∈ lw_all := lw_g (lw_at lw_m2 141 rfl) rfl
theorem q447 : (Jvm.Cond.code ({ cls := "SlidePark", name := "isBetween", desc := "(III)Z" } : Jvm.MethodName) prog_1_method_2_code (3 : Nat) (Option.some Jvm.ClassFile.FieldType.boolean)) ∈ lw_all := lw_g (lw_at lw_m2 142 rfl) rfl
theorem q449 : (Jvm.Cond.instanceMethod ({ cls := "SlidePark", name := "mostAtOnceBySweep", desc := "()I" } : Jvm.MethodName)) ∈ lw_all := lw_g (lw_at lw_m2 144 rfl) rfl
theorem q450 : (Jvm.Cond.selects "SlidePark" ({ cls := "SlidePark", name := "mostAtOnceBySweep", desc := "()I" } : Jvm.MethodName) ({ cls := "SlidePark", name := "mostAtOnceBySweep", desc := "()I" } : Jvm.MethodName)) ∈ lw_all := lw_g (lw_at lw_m2 145 rfl) rfl
theorem q451 : (Jvm.Cond.code ({ cls := "SlidePark", name := "mostAtOnceBySweep", desc := "()I" } : Jvm.MethodName) prog_1_method_45_code (1 : Nat) (Option.some Jvm.ClassFile.FieldType.int)) ∈ lw_all := lw_g (lw_at lw_m2 146 rfl) rfl
theorem q452 : (Jvm.Cond.methodLink "SlidePark" (237 : Nat) ({ cls := "SlidePark$State", name := "mostAtOnceBySweep", desc := "()I" } : Jvm.MethodName)) ∈ lw_all := lw_g (lw_at lw_m2 147 rfl) rfl
theorem q457 : (Jvm.Cond.instanceMethod ({ cls := "SlidePark", name := "finishCount", desc := "()I" } : Jvm.MethodName)) ∈ lw_all := lw_g (lw_at lw_m2 152 rfl) rfl
theorem q458 : (Jvm.Cond.selects "SlidePark" ({ cls := "SlidePark", name := "finishCount", desc := "()I" } : Jvm.MethodName) ({ cls := "SlidePark", name := "finishCount", desc := "()I" } : Jvm.MethodName)) ∈ lw_all := lw_g (lw_at lw_m2 153 rfl) rfl
theorem q459 : (Jvm.Cond.code ({ cls := "SlidePark", name := "finishCount", desc := "()I" } : Jvm.MethodName) prog_1_method_46_code (1 : Nat) (Option.some Jvm.ClassFile.FieldType.int)) ∈ lw_all := lw_g (lw_at lw_m2 154 rfl) rfl
theorem q460 : (Jvm.Cond.methodLink "SlidePark" (243 : Nat) ({ cls := "SlidePark$Latest", name := "size", desc := "()I" } : Jvm.MethodName)) ∈ lw_all := lw_g (lw_at lw_m2 155 rfl) rfl
theorem q466 : (Jvm.Cond.instanceMethod ({ cls := "SlidePark", name := "photoFinishes", desc := "()I" } : Jvm.MethodName)) ∈ lw_all := lw_g (lw_at lw_m2 161 rfl) rfl
theorem q467 : (Jvm.Cond.selects "SlidePark" ({ cls := "SlidePark", name := "photoFinishes", desc := "()I" } : Jvm.MethodName) ({ cls := "SlidePark", name := "photoFinishes", desc := "()I" } : Jvm.MethodName)) ∈ lw_all := lw_g (lw_at lw_m2 162 rfl) rfl
theorem q468 : (Jvm.Cond.code ({ cls := "SlidePark", name := "photoFinishes", desc := "()I" } : Jvm.MethodName) prog_1_method_50_code (1 : Nat) (Option.some Jvm.ClassFile.FieldType.int)) ∈ lw_all := lw_g (lw_at lw_m2 163 rfl) rfl
theorem q469 : (Jvm.Cond.methodLink "SlidePark" (252 : Nat) ({ cls := "SlidePark$State", name := "photos", desc := "()I" } : Jvm.MethodName)) ∈ lw_all := lw_g (lw_at lw_m2 164 rfl) rfl
theorem q481 : (Jvm.Cond.instanceMethod ({ cls := "SlidePark", name := "photoFinishesByRuns", desc := "()I" } : Jvm.MethodName)) ∈ lw_all := lw_g (lw_at lw_m2 176 rfl) rfl
theorem q482 : (Jvm.Cond.selects "SlidePark" ({ cls := "SlidePark", name := "photoFinishesByRuns", desc := "()I" } : Jvm.MethodName) ({ cls := "SlidePark", name := "photoFinishesByRuns", desc := "()I" } : Jvm.MethodName)) ∈ lw_all := lw_g (lw_at lw_m2 177 rfl) rfl
theorem q483 : (Jvm.Cond.code ({ cls := "SlidePark", name := "photoFinishesByRuns", desc := "()I" } : Jvm.MethodName) prog_1_method_51_code (1 : Nat) (Option.some Jvm.ClassFile.FieldType.int)) ∈ lw_all := lw_g (lw_at lw_m2 178 rfl) rfl
theorem q484 : (Jvm.Cond.methodLink "SlidePark" (255 : Nat) ({ cls := "SlidePark$State", name := "photosByRuns", desc := "()I" } : Jvm.MethodName)) ∈ lw_all := lw_g (lw_at lw_m2 179 rfl) rfl
theorem q489 : (Jvm.Cond.instanceMethod ({ cls := "SlidePark", name := "splashes", desc := "()I" } : Jvm.MethodName)) ∈ lw_all := lw_g (lw_at lw_m2 184 rfl) rfl
theorem q490 : (Jvm.Cond.selects "SlidePark" ({ cls := "SlidePark", name := "splashes", desc := "()I" } : Jvm.MethodName) ({ cls := "SlidePark", name := "splashes", desc := "()I" } : Jvm.MethodName)) ∈ lw_all := lw_g (lw_at lw_m2 185 rfl) rfl
theorem q491 : (Jvm.Cond.code ({ cls := "SlidePark", name := "splashes", desc := "()I" } : Jvm.MethodName) prog_1_method_52_code (1 : Nat) (Option.some Jvm.ClassFile.FieldType.int)) ∈ lw_all := lw_g (lw_at lw_m2 186 rfl) rfl
theorem q493 : (Jvm.Cond.instanceMethod ({ cls := "SlidePark", name := "refundedCoins", desc := "()I" } : Jvm.MethodName)) ∈ lw_all := lw_g (lw_at lw_m2 188 rfl) rfl
theorem q494 : (Jvm.Cond.selects "SlidePark" ({ cls := "SlidePark", name := "refundedCoins", desc := "()I" } : Jvm.MethodName) ({ cls := "SlidePark", name := "refundedCoins", desc := "()I" } : Jvm.MethodName)) ∈ lw_all := lw_g (lw_at lw_m2 189 rfl) rfl
theorem q495 : (Jvm.Cond.code ({ cls := "SlidePark", name := "refundedCoins", desc := "()I" } : Jvm.MethodName) prog_1_method_53_code (1 : Nat) (Option.some Jvm.ClassFile.FieldType.int)) ∈ lw_all := lw_g (lw_at lw_m2 190 rfl) rfl
theorem q497 : (Jvm.Cond.instanceMethod ({ cls := "SlidePark", name := "officeCoins", desc := "()I" } : Jvm.MethodName)) ∈ lw_all := lw_g (lw_at lw_m2 192 rfl) rfl
theorem q498 : (Jvm.Cond.selects "SlidePark" ({ cls := "SlidePark", name := "officeCoins", desc := "()I" } : Jvm.MethodName) ({ cls := "SlidePark", name := "officeCoins", desc := "()I" } : Jvm.MethodName)) ∈ lw_all := lw_g (lw_at lw_m2 193 rfl) rfl
theorem q499 : (Jvm.Cond.code ({ cls := "SlidePark", name := "officeCoins", desc := "()I" } : Jvm.MethodName) prog_1_method_54_code (1 : Nat) (Option.some Jvm.ClassFile.FieldType.int)) ∈ lw_all := lw_g (lw_at lw_m2 194 rfl) rfl
theorem q501 : (Jvm.Cond.instanceMethod ({ cls := "SlidePark", name := "isConsistent", desc := "()Z" } : Jvm.MethodName)) ∈ lw_all := lw_g (lw_at lw_m2 196 rfl) rfl
theorem q502 : (Jvm.Cond.selects "SlidePark" ({ cls := "SlidePark", name := "isConsistent", desc := "()Z" } : Jvm.MethodName) ({ cls := "SlidePark", name := "isConsistent", desc := "()Z" } : Jvm.MethodName)) ∈ lw_all := lw_g (lw_at lw_m2 197 rfl) rfl
theorem q503 : (Jvm.Cond.code ({ cls := "SlidePark", name := "isConsistent", desc := "()Z" } : Jvm.MethodName) prog_1_method_60_code (2 : Nat) (Option.some Jvm.ClassFile.FieldType.boolean)) ∈ lw_all := lw_g (lw_at lw_m2 198 rfl) rfl
theorem q504 : (Jvm.Cond.methodLink "SlidePark" (283 : Nat) ({ cls := "SlidePark", name := "sumOfCoins", desc := "()I" } : Jvm.MethodName)) ∈ lw_all := lw_g (lw_at lw_m2 199 rfl) rfl
theorem q505 : (Jvm.Cond.privateMethod ({ cls := "SlidePark", name := "sumOfCoins", desc := "()I" } : Jvm.MethodName)) ∈ lw_tbl := lw_at lw_m2 200 rfl
theorem q506 : (Jvm.Cond.instanceMethod ({ cls := "SlidePark", name := "sumOfCoins", desc := "()I" } : Jvm.MethodName)) ∈ lw_all := lw_g (lw_at lw_m2 201 rfl) rfl
theorem q507 : (Jvm.Cond.code ({ cls := "SlidePark", name := "sumOfCoins", desc := "()I" } : Jvm.MethodName) prog_1_method_57_code (4 : Nat) (Option.some Jvm.ClassFile.FieldType.int)) ∈ lw_all := lw_g (lw_at lw_m2 202 rfl) rfl
theorem q508 : (Jvm.Cond.methodLink "SlidePark" (267 : Nat) ({ cls := "java/util/ArrayList", name := "iterator", desc := "()Ljava/util/Iterator;" } : Jvm.MethodName)) ∈ lw_all := lw_g (lw_at lw_m2 203 rfl) rfl
theorem q531 : (Jvm.Cond.interfaceEntry "SlidePark" (271 : Nat)) ∈ lw_tbl := lw_at lw_m2 226 rfl
theorem q532 : (Jvm.Cond.methodLink "SlidePark" (271 : Nat) ({ cls := "java/util/Iterator", name := "hasNext", desc := "()Z" } : Jvm.MethodName)) ∈ lw_all := lw_g (lw_at lw_m2 227 rfl) rfl
theorem q541 : (Jvm.Cond.interfaceEntry "SlidePark" (277 : Nat)) ∈ lw_tbl := lw_at lw_m2 236 rfl
theorem q542 : (Jvm.Cond.methodLink "SlidePark" (277 : Nat) ({ cls := "java/util/Iterator", name := "next", desc := "()Ljava/lang/Object;" } : Jvm.MethodName)) ∈ lw_all := lw_g (lw_at lw_m2 237 rfl) rfl
theorem q556 : (Jvm.Cond.classLink "SlidePark" (171 : Nat) "SlidePark$Guest") ∈ lw_all := lw_g (lw_at lw_m3 11 rfl) rfl
theorem q558 : (Jvm.Cond.instanceMethod ({ cls := "SlidePark", name := "undoCount", desc := "()I" } : Jvm.MethodName)) ∈ lw_all := lw_g (lw_at lw_m3 13 rfl) rfl
theorem q559 : (Jvm.Cond.selects "SlidePark" ({ cls := "SlidePark", name := "undoCount", desc := "()I" } : Jvm.MethodName) ({ cls := "SlidePark", name := "undoCount", desc := "()I" } : Jvm.MethodName)) ∈ lw_all := lw_g (lw_at lw_m3 14 rfl) rfl
theorem q560 : (Jvm.Cond.code ({ cls := "SlidePark", name := "undoCount", desc := "()I" } : Jvm.MethodName) prog_1_method_67_code (1 : Nat) (Option.some Jvm.ClassFile.FieldType.int)) ∈ lw_all := lw_g (lw_at lw_m3 15 rfl) rfl
theorem q562 : (Jvm.Cond.instanceMethod ({ cls := "SlidePark", name := "save", desc := "()I" } : Jvm.MethodName)) ∈ lw_all := lw_g (lw_at lw_m3 17 rfl) rfl
theorem q563 : (Jvm.Cond.selects "SlidePark" ({ cls := "SlidePark", name := "save", desc := "()I" } : Jvm.MethodName) ({ cls := "SlidePark", name := "save", desc := "()I" } : Jvm.MethodName)) ∈ lw_all := lw_g (lw_at lw_m3 18 rfl) rfl
theorem q564 : (Jvm.Cond.code ({ cls := "SlidePark", name := "save", desc := "()I" } : Jvm.MethodName) prog_1_method_69_code (1 : Nat) (Option.some Jvm.ClassFile.FieldType.int)) ∈ lw_all := lw_g (lw_at lw_m3 19 rfl) rfl
theorem q565 : (Jvm.Cond.methodLink "SlidePark" (99 : Nat) ({ cls := "SlidePark$State", name := "copy", desc := "()LSlidePark$State;" } : Jvm.MethodName)) ∈ lw_all := lw_g (lw_at lw_m3 20 rfl) rfl
theorem q572 : (Jvm.Cond.static ({ cls := "SlidePark", name := "copyAll", desc := "(Ljava/util/ArrayList;)Ljava/util/ArrayList;" } : Jvm.MethodName)) ∈ lw_all := lw_g (lw_at lw_m3 27 rfl) rfl
theorem q573 : (Jvm.Cond.code ({ cls := "SlidePark", name := "copyAll", desc := "(Ljava/util/ArrayList;)Ljava/util/ArrayList;" } : Jvm.MethodName) prog_1_method_9_code (3 : Nat) (Option.some (Jvm.ClassFile.FieldType.object "java/util/ArrayList"))) ∈ lw_all := lw_g (lw_at lw_m3 28 rfl) rfl
theorem q574 : (Jvm.Cond.classLink "SlidePark" (61 : Nat) "java/util/ArrayList") ∈ lw_all := lw_g (lw_at lw_m3 29 rfl) rfl
theorem q575 : (Jvm.Cond.methodLink "SlidePark" (63 : Nat) ({ cls := "java/util/ArrayList", name := "<init>", desc := "()V" } : Jvm.MethodName)) ∈ lw_all := lw_g (lw_at lw_m3 30 rfl) rfl
theorem q576 : (Jvm.Cond.classLink "SlidePark" (72 : Nat) "SlidePark$Copyable") ∈ lw_all := lw_g (lw_at lw_m3 31 rfl) rfl
theorem q577 : (Jvm.Cond.interfaceEntry "SlidePark" (74 : Nat)) ∈ lw_tbl := lw_at lw_m3 32 rfl
theorem q578 : (Jvm.Cond.methodLink "SlidePark" (74 : Nat) ({ cls := "SlidePark$Copyable", name := "copy", desc := "()Ljava/lang/Object;" } : Jvm.MethodName)) ∈ lw_all := lw_g (lw_at lw_m3 33 rfl) rfl
theorem q598 : (Jvm.Cond.fieldLinkNest "SlidePark" (170 : Nat) "SlidePark$Guest" "coins" "I" "SlidePark") ∈ lw_tbl := lw_at lw_m3 53 rfl
theorem q601 : (Jvm.Cond.fieldLinkNest "SlidePark" (175 : Nat) "SlidePark$Guest" "rides" "I" "SlidePark") ∈ lw_tbl := lw_at lw_m3 56 rfl
theorem q649 : (Jvm.Cond.selects "SlidePark" ({ cls := "java/lang/Object", name := "getClass", desc := "()Ljava/lang/Class;" } : Jvm.MethodName) ({ cls := "java/lang/Object", name := "getClass", desc := "()Ljava/lang/Class;" } : Jvm.MethodName)) ∈ lw_all := lw_g (lw_at lw_m3 104 rfl) rfl
theorem q731 : (Jvm.Cond.fieldLinkNest "SlidePark" (141 : Nat) "SlidePark$Slide" "duration" "I" "SlidePark") ∈ lw_tbl := lw_at lw_m3 186 rfl
theorem q734 : (Jvm.Cond.fieldLinkNest "SlidePark" (146 : Nat) "SlidePark$Slide" "price" "I" "SlidePark") ∈ lw_tbl := lw_at lw_m3 189 rfl
theorem q737 : (Jvm.Cond.fieldLinkNest "SlidePark" (181 : Nat) "SlidePark$Slide" "queue" "LSlidePark$Line;" "SlidePark") ∈ lw_tbl := lw_at lw_m3 192 rfl
theorem q739 : (Jvm.Cond.fieldLinkNest "SlidePark" (149 : Nat) "SlidePark$Slide" "wetness" "I" "SlidePark") ∈ lw_tbl := lw_at lw_m3 194 rfl
theorem q756 : (Jvm.Cond.methodLink "SlidePark" (78 : Nat) ({ cls := "java/util/ArrayList", name := "add", desc := "(Ljava/lang/Object;)Z" } : Jvm.MethodName)) ∈ lw_all := lw_g (lw_at lw_m3 211 rfl) rfl
theorem q765 : (Jvm.Cond.instanceMethod ({ cls := "SlidePark", name := "buildSlide", desc := "(II)I" } : Jvm.MethodName)) ∈ lw_all := lw_g (lw_at lw_m3 220 rfl) rfl
theorem q766 : (Jvm.Cond.selects "SlidePark" ({ cls := "SlidePark", name := "buildSlide", desc := "(II)I" } : Jvm.MethodName) ({ cls := "SlidePark", name := "buildSlide", desc := "(II)I" } : Jvm.MethodName)) ∈ lw_all := lw_g (lw_at lw_m3 221 rfl) rfl
theorem q767 : (Jvm.Cond.code ({ cls := "SlidePark", name := "buildSlide", desc := "(II)I" } : Jvm.MethodName) prog_1_method_13_code (4 : Nat) (Option.some Jvm.ClassFile.FieldType.int)) ∈ lw_all := lw_g (lw_at lw_m3 222 rfl) rfl
theorem q768 : (Jvm.Cond.methodLink "SlidePark" (102 : Nat) ({ cls := "SlidePark$State", name := "build", desc := "(II)I" } : Jvm.MethodName)) ∈ lw_all := lw_g (lw_at lw_m3 223 rfl) rfl
theorem q774 : (Jvm.Cond.static ({ cls := "SlidePark", name := "requireArgument", desc := "(Z)V" } : Jvm.MethodName)) ∈ lw_all := lw_g (lw_at lw_m3 229 rfl) rfl
theorem q775 : (Jvm.Cond.code ({ cls := "SlidePark", name := "requireArgument", desc := "(Z)V" } : Jvm.MethodName) prog_1_method_4_code (1 : Nat) (Option.none : Option Jvm.ClassFile.FieldType)) ∈ lw_all := lw_g (lw_at lw_m3 230 rfl) rfl
theorem q776 : (Jvm.Cond.classLink "SlidePark" (46 : Nat) "java/lang/IllegalArgumentException") ∈ lw_all := lw_g (lw_at lw_m3 231 rfl) rfl
theorem q785 : (Jvm.Cond.methodLink "SlidePark" (48 : Nat) ({ cls := "java/lang/IllegalArgumentException", name := "<init>", desc := "()V" } : Jvm.MethodName)) ∈ lw_all := lw_g (lw_at lw_m4 0 rfl) rfl
theorem q792 : (Jvm.Cond.static ({ cls := "SlidePark", name := "requireState", desc := "(Z)V" } : Jvm.MethodName)) ∈ lw_all := lw_g (lw_at lw_m4 7 rfl) rfl
theorem q793 : (Jvm.Cond.code ({ cls := "SlidePark", name := "requireState", desc := "(Z)V" } : Jvm.MethodName) prog_1_method_5_code (1 : Nat) (Option.none : Option Jvm.ClassFile.FieldType)) ∈ lw_all := lw_g (lw_at lw_m4 8 rfl) rfl
theorem q794 : (Jvm.Cond.classLink "SlidePark" (49 : Nat) "java/lang/IllegalStateException") ∈ lw_all := lw_g (lw_at lw_m4 9 rfl) rfl
theorem q803 : (Jvm.Cond.methodLink "SlidePark" (51 : Nat) ({ cls := "java/lang/IllegalStateException", name := "<init>", desc := "()V" } : Jvm.MethodName)) ∈ lw_all := lw_g (lw_at lw_m4 18 rfl) rfl
theorem q813 : (Jvm.Cond.methodLink "SlidePark" (106 : Nat) ({ cls := "SlidePark", name := "record", desc := "(LSlidePark$State;I)I" } : Jvm.MethodName)) ∈ lw_all := lw_g (lw_at lw_m4 28 rfl) rfl
theorem q814 : (Jvm.Cond.privateMethod ({ cls := "SlidePark", name := "record", desc := "(LSlidePark$State;I)I" } : Jvm.MethodName)) ∈ lw_tbl := lw_at lw_m4 29 rfl
theorem q815 : (Jvm.Cond.instanceMethod ({ cls := "SlidePark", name := "record", desc := "(LSlidePark$State;I)I" } : Jvm.MethodName)) ∈ lw_all := lw_g (lw_at lw_m4 30 rfl) rfl
theorem q816 : (Jvm.Cond.code ({ cls := "SlidePark", name := "record", desc := "(LSlidePark$State;I)I" } : Jvm.MethodName) prog_1_method_12_code (3 : Nat) (Option.some Jvm.ClassFile.FieldType.int)) ∈ lw_all := lw_g (lw_at lw_m4 31 rfl) rfl
theorem q817 : (Jvm.Cond.methodLink "SlidePark" (96 : Nat) ({ cls := "SlidePark$Latest", name := "add", desc := "(Ljava/lang/Object;)V" } : Jvm.MethodName)) ∈ lw_all := lw_g (lw_at lw_m4 32 rfl) rfl
theorem q834 : (Jvm.Cond.instanceMethod ({ cls := "SlidePark", name := "addGuest", desc := "()I" } : Jvm.MethodName)) ∈ lw_all := lw_g (lw_at lw_m4 49 rfl) rfl
theorem q835 : (Jvm.Cond.selects "SlidePark" ({ cls := "SlidePark", name := "addGuest", desc := "()I" } : Jvm.MethodName) ({ cls := "SlidePark", name := "addGuest", desc := "()I" } : Jvm.MethodName)) ∈ lw_all := lw_g (lw_at lw_m4 50 rfl) rfl
theorem q836 : (Jvm.Cond.code ({ cls := "SlidePark", name := "addGuest", desc := "()I" } : Jvm.MethodName) prog_1_method_14_code (2 : Nat) (Option.some Jvm.ClassFile.FieldType.int)) ∈ lw_all := lw_g (lw_at lw_m4 51 rfl) rfl
theorem q837 : (Jvm.Cond.methodLink "SlidePark" (110 : Nat) ({ cls := "SlidePark$State", name := "addGuest", desc := "()I" } : Jvm.MethodName)) ∈ lw_all := lw_g (lw_at lw_m4 52 rfl) rfl
theorem q880 : (Jvm.Cond.instanceMethod ({ cls := "SlidePark", name := "book", desc := "(III)I" } : Jvm.MethodName)) ∈ lw_all := lw_g (lw_at lw_m4 95 rfl) rfl
theorem q881 : (Jvm.Cond.selects "SlidePark" ({ cls := "SlidePark", name := "book", desc := "(III)I" } : Jvm.MethodName) ({ cls := "SlidePark", name := "book", desc := "(III)I" } : Jvm.MethodName)) ∈ lw_all := lw_g (lw_at lw_m4 96 rfl) rfl
theorem q882 : (Jvm.Cond.code ({ cls := "SlidePark", name := "book", desc := "(III)I" } : Jvm.MethodName) prog_1_method_15_code (5 : Nat) (Option.some Jvm.ClassFile.FieldType.int)) ∈ lw_all := lw_g (lw_at lw_m4 97 rfl) rfl
theorem q883 : (Jvm.Cond.methodLink "SlidePark" (113 : Nat) ({ cls := "SlidePark$State", name := "book", desc := "(III)I" } : Jvm.MethodName)) ∈ lw_all := lw_g (lw_at lw_m4 98 rfl) rfl
theorem q892 : (Jvm.Cond.static ({ cls := "SlidePark", name := "item", desc := "(Ljava/util/ArrayList;I)Ljava/lang/Object;" } : Jvm.MethodName)) ∈ lw_all := lw_g (lw_at lw_m4 107 rfl) rfl
theorem q893 : (Jvm.Cond.code ({ cls := "SlidePark", name := "item", desc := "(Ljava/util/ArrayList;I)Ljava/lang/Object;" } : Jvm.MethodName) prog_1_method_11_code (2 : Nat) (Option.some (Jvm.ClassFile.FieldType.object "java/lang/Object"))) ∈ lw_all := lw_g (lw_at lw_m4 108 rfl) rfl
theorem q894 : (Jvm.Cond.methodLink "SlidePark" (88 : Nat) ({ cls := "SlidePark", name := "isBetween", desc := "(III)Z" } : Jvm.MethodName)) ∈ lw_all := lw_g (lw_at lw_m4 109 rfl) rfl
theorem q895 : (Jvm.Cond.methodLink "SlidePark" (92 : Nat) ({ cls := "SlidePark", name := "requireIndex", desc := "(Z)V" } : Jvm.MethodName)) ∈ lw_all := lw_g (lw_at lw_m4 110 rfl) rfl
theorem q896 : (Jvm.Cond.static ({ cls := "SlidePark", name := "requireIndex", desc := "(Z)V" } : Jvm.MethodName)) ∈ lw_all := lw_g (lw_at lw_m4 111 rfl) rfl
theorem q897 : (Jvm.Cond.code ({ cls := "SlidePark", name := "requireIndex", desc := "(Z)V" } : Jvm.MethodName) prog_1_method_3_code (1 : Nat) (Option.none : Option Jvm.ClassFile.FieldType)) ∈ lw_all := lw_g (lw_at lw_m4 112 rfl) rfl
theorem q898 : (Jvm.Cond.classLink "SlidePark" (43 : Nat) "java/lang/IndexOutOfBoundsException") ∈ lw_all := lw_g (lw_at lw_m4 113 rfl) rfl
theorem q907 : (Jvm.Cond.methodLink "SlidePark" (45 : Nat) ({ cls := "java/lang/IndexOutOfBoundsException", name := "<init>", desc := "()V" } : Jvm.MethodName)) ∈ lw_all := lw_g (lw_at lw_m4 122 rfl) rfl
theorem q938 : (Jvm.Cond.static ({ cls := "SlidePark", name := "requireSupported", desc := "(Z)V" } : Jvm.MethodName)) ∈ lw_all := lw_g (lw_at lw_m4 153 rfl) rfl
theorem q939 : (Jvm.Cond.code ({ cls := "SlidePark", name := "requireSupported", desc := "(Z)V" } : Jvm.MethodName) prog_1_method_7_code (1 : Nat) (Option.none : Option Jvm.ClassFile.FieldType)) ∈ lw_all := lw_g (lw_at lw_m4 154 rfl) rfl
theorem q940 : (Jvm.Cond.classLink "SlidePark" (55 : Nat) "java/lang/UnsupportedOperationException") ∈ lw_all := lw_g (lw_at lw_m4 155 rfl) rfl
theorem q949 : (Jvm.Cond.methodLink "SlidePark" (57 : Nat) ({ cls := "java/lang/UnsupportedOperationException", name := "<init>", desc := "()V" } : Jvm.MethodName)) ∈ lw_all := lw_g (lw_at lw_m4 164 rfl) rfl
theorem q970 : (Jvm.Cond.fieldLinkNest "SlidePark" (159 : Nat) "SlidePark$Booking" "guest" "I" "SlidePark") ∈ lw_tbl := lw_at lw_m4 185 rfl
theorem q973 : (Jvm.Cond.fieldLinkNest "SlidePark" (203 : Nat) "SlidePark$Booking" "slide" "I" "SlidePark") ∈ lw_tbl := lw_at lw_m4 188 rfl
theorem q976 : (Jvm.Cond.fieldLinkNest "SlidePark" (205 : Nat) "SlidePark$Booking" "start" "I" "SlidePark") ∈ lw_tbl := lw_at lw_m4 191 rfl
theorem q992 : (Jvm.Cond.instanceMethod ({ cls := "SlidePark", name := "cancel", desc := "(I)I" } : Jvm.MethodName)) ∈ lw_all := lw_g (lw_at lw_m4 207 rfl) rfl
theorem q993 : (Jvm.Cond.selects "SlidePark" ({ cls := "SlidePark", name := "cancel", desc := "(I)I" } : Jvm.MethodName) ({ cls := "SlidePark", name := "cancel", desc := "(I)I" } : Jvm.MethodName)) ∈ lw_all := lw_g (lw_at lw_m4 208 rfl) rfl
theorem q994 : (Jvm.Cond.code ({ cls := "SlidePark", name := "cancel", desc := "(I)I" } : Jvm.MethodName) prog_1_method_16_code (3 : Nat) (Option.some Jvm.ClassFile.FieldType.int)) ∈ lw_all := lw_g (lw_at lw_m4 209 rfl) rfl
theorem q995 : (Jvm.Cond.methodLink "SlidePark" (117 : Nat) ({ cls := "SlidePark$State", name := "cancel", desc := "(I)I" } : Jvm.MethodName)) ∈ lw_all := lw_g (lw_at lw_m4 210 rfl) rfl
theorem q1012 : (Jvm.Cond.instanceMethod ({ cls := "SlidePark", name := "joinQueue", desc := "(II)I" } : Jvm.MethodName)) ∈ lw_all := lw_g (lw_at lw_m4 227 rfl) rfl
theorem q1013 : (Jvm.Cond.selects "SlidePark" ({ cls := "SlidePark", name := "joinQueue", desc := "(II)I" } : Jvm.MethodName) ({ cls := "SlidePark", name := "joinQueue", desc := "(II)I" } : Jvm.MethodName)) ∈ lw_all := lw_g (lw_at lw_m4 228 rfl) rfl
theorem q1014 : (Jvm.Cond.code ({ cls := "SlidePark", name := "joinQueue", desc := "(II)I" } : Jvm.MethodName) prog_1_method_17_code (4 : Nat) (Option.some Jvm.ClassFile.FieldType.int)) ∈ lw_all := lw_g (lw_at lw_m4 229 rfl) rfl
theorem q1015 : (Jvm.Cond.methodLink "SlidePark" (121 : Nat) ({ cls := "SlidePark$State", name := "join", desc := "(II)I" } : Jvm.MethodName)) ∈ lw_all := lw_g (lw_at lw_m4 230 rfl) rfl
theorem q1063 : (Jvm.Cond.selects "SlidePark" ({ cls := "java/lang/Object", name := "equals", desc := "(Ljava/lang/Object;)Z" } : Jvm.MethodName) ({ cls := "java/lang/Object", name := "equals", desc := "(Ljava/lang/Object;)Z" } : Jvm.MethodName)) ∈ lw_all := lw_g (lw_at lw_m5 38 rfl) rfl
theorem q1111 : (Jvm.Cond.instanceMethod ({ cls := "SlidePark", name := "leaveQueue", desc := "(I)I" } : Jvm.MethodName)) ∈ lw_all := lw_g (lw_at lw_m5 86 rfl) rfl
theorem q1112 : (Jvm.Cond.selects "SlidePark" ({ cls := "SlidePark", name := "leaveQueue", desc := "(I)I" } : Jvm.MethodName) ({ cls := "SlidePark", name := "leaveQueue", desc := "(I)I" } : Jvm.MethodName)) ∈ lw_all := lw_g (lw_at lw_m5 87 rfl) rfl
theorem q1113 : (Jvm.Cond.code ({ cls := "SlidePark", name := "leaveQueue", desc := "(I)I" } : Jvm.MethodName) prog_1_method_18_code (3 : Nat) (Option.some Jvm.ClassFile.FieldType.int)) ∈ lw_all := lw_g (lw_at lw_m5 88 rfl) rfl
theorem q1114 : (Jvm.Cond.methodLink "SlidePark" (124 : Nat) ({ cls := "SlidePark$State", name := "leave", desc := "(I)I" } : Jvm.MethodName)) ∈ lw_all := lw_g (lw_at lw_m5 89 rfl) rfl
theorem q1119 : (Jvm.Cond.static ({ cls := "SlidePark", name := "requireElement", desc := "(Z)V" } : Jvm.MethodName)) ∈ lw_all := lw_g (lw_at lw_m5 94 rfl) rfl
theorem q1120 : (Jvm.Cond.code ({ cls := "SlidePark", name := "requireElement", desc := "(Z)V" } : Jvm.MethodName) prog_1_method_6_code (1 : Nat) (Option.none : Option Jvm.ClassFile.FieldType)) ∈ lw_all := lw_g (lw_at lw_m5 95 rfl) rfl
theorem q1133 : (Jvm.Cond.instanceMethod ({ cls := "SlidePark", name := "passMinutes", desc := "(I)I" } : Jvm.MethodName)) ∈ lw_all := lw_g (lw_at lw_m5 108 rfl) rfl
theorem q1134 : (Jvm.Cond.selects "SlidePark" ({ cls := "SlidePark", name := "passMinutes", desc := "(I)I" } : Jvm.MethodName) ({ cls := "SlidePark", name := "passMinutes", desc := "(I)I" } : Jvm.MethodName)) ∈ lw_all := lw_g (lw_at lw_m5 109 rfl) rfl
theorem q1135 : (Jvm.Cond.code ({ cls := "SlidePark", name := "passMinutes", desc := "(I)I" } : Jvm.MethodName) prog_1_method_19_code (3 : Nat) (Option.some Jvm.ClassFile.FieldType.int)) ∈ lw_all := lw_g (lw_at lw_m5 110 rfl) rfl
theorem q1136 : (Jvm.Cond.methodLink "SlidePark" (127 : Nat) ({ cls := "SlidePark$State", name := "passMinutes", desc := "(I)I" } : Jvm.MethodName)) ∈ lw_all := lw_g (lw_at lw_m5 111 rfl) rfl
theorem q1199 : (Jvm.Cond.fieldLinkNest "SlidePark" (249 : Nat) "SlidePark$Finish" "guest" "I" "SlidePark") ∈ lw_tbl := lw_at lw_m5 174 rfl
theorem q1201 : (Jvm.Cond.fieldLinkNest "SlidePark" (250 : Nat) "SlidePark$Finish" "slide" "I" "SlidePark") ∈ lw_tbl := lw_at lw_m5 176 rfl
theorem q1204 : (Jvm.Cond.fieldLinkNest "SlidePark" (251 : Nat) "SlidePark$Finish" "minute" "I" "SlidePark") ∈ lw_tbl := lw_at lw_m5 179 rfl
theorem q1217 : (Jvm.Cond.instanceMethod ({ cls := "SlidePark", name := "duration", desc := "(I)I" } : Jvm.MethodName)) ∈ lw_all := lw_g (lw_at lw_m5 192 rfl) rfl
theorem q1218 : (Jvm.Cond.selects "SlidePark" ({ cls := "SlidePark", name := "duration", desc := "(I)I" } : Jvm.MethodName) ({ cls := "SlidePark", name := "duration", desc := "(I)I" } : Jvm.MethodName)) ∈ lw_all := lw_g (lw_at lw_m5 193 rfl) rfl
theorem q1219 : (Jvm.Cond.code ({ cls := "SlidePark", name := "duration", desc := "(I)I" } : Jvm.MethodName) prog_1_method_22_code (2 : Nat) (Option.some Jvm.ClassFile.FieldType.int)) ∈ lw_all := lw_g (lw_at lw_m5 194 rfl) rfl
theorem q1220 : (Jvm.Cond.methodLink "SlidePark" (137 : Nat) ({ cls := "SlidePark$State", name := "slide", desc := "(I)LSlidePark$Slide;" } : Jvm.MethodName)) ∈ lw_all := lw_g (lw_at lw_m5 195 rfl) rfl
theorem q1225 : (Jvm.Cond.instanceMethod ({ cls := "SlidePark", name := "price", desc := "(I)I" } : Jvm.MethodName)) ∈ lw_all := lw_g (lw_at lw_m5 200 rfl) rfl
theorem q1226 : (Jvm.Cond.selects "SlidePark" ({ cls := "SlidePark", name := "price", desc := "(I)I" } : Jvm.MethodName) ({ cls := "SlidePark", name := "price", desc := "(I)I" } : Jvm.MethodName)) ∈ lw_all := lw_g (lw_at lw_m5 201 rfl) rfl
theorem q1227 : (Jvm.Cond.code ({ cls := "SlidePark", name := "price", desc := "(I)I" } : Jvm.MethodName) prog_1_method_23_code (2 : Nat) (Option.some Jvm.ClassFile.FieldType.int)) ∈ lw_all := lw_g (lw_at lw_m5 202 rfl) rfl
theorem q1232 : (Jvm.Cond.instanceMethod ({ cls := "SlidePark", name := "wetness", desc := "(I)I" } : Jvm.MethodName)) ∈ lw_all := lw_g (lw_at lw_m5 207 rfl) rfl
theorem q1233 : (Jvm.Cond.selects "SlidePark" ({ cls := "SlidePark", name := "wetness", desc := "(I)I" } : Jvm.MethodName) ({ cls := "SlidePark", name := "wetness", desc := "(I)I" } : Jvm.MethodName)) ∈ lw_all := lw_g (lw_at lw_m5 208 rfl) rfl
theorem q1234 : (Jvm.Cond.code ({ cls := "SlidePark", name := "wetness", desc := "(I)I" } : Jvm.MethodName) prog_1_method_24_code (2 : Nat) (Option.some Jvm.ClassFile.FieldType.int)) ∈ lw_all := lw_g (lw_at lw_m5 209 rfl) rfl
theorem q1239 : (Jvm.Cond.instanceMethod ({ cls := "SlidePark", name := "rider", desc := "(I)I" } : Jvm.MethodName)) ∈ lw_all := lw_g (lw_at lw_m5 214 rfl) rfl
theorem q1240 : (Jvm.Cond.selects "SlidePark" ({ cls := "SlidePark", name := "rider", desc := "(I)I" } : Jvm.MethodName) ({ cls := "SlidePark", name := "rider", desc := "(I)I" } : Jvm.MethodName)) ∈ lw_all := lw_g (lw_at lw_m5 215 rfl) rfl
theorem q1241 : (Jvm.Cond.code ({ cls := "SlidePark", name := "rider", desc := "(I)I" } : Jvm.MethodName) prog_1_method_25_code (3 : Nat) (Option.some Jvm.ClassFile.FieldType.int)) ∈ lw_all := lw_g (lw_at lw_m5 216 rfl) rfl
theorem q1242 : (Jvm.Cond.methodLink "SlidePark" (152 : Nat) ({ cls := "SlidePark$State", name := "bookingAt", desc := "(II)LSlidePark$Booking;" } : Jvm.MethodName)) ∈ lw_all := lw_g (lw_at lw_m5 217 rfl) rfl
theorem q1243 : (Jvm.Cond.methodLink "SlidePark" (156 : Nat) ({ cls := "SlidePark", name := "requireElement", desc := "(Z)V" } : Jvm.MethodName)) ∈ lw_all := lw_g (lw_at lw_m5 218 rfl) rfl
theorem q1248 : (Jvm.Cond.instanceMethod ({ cls := "SlidePark", name := "coins", desc := "(I)I" } : Jvm.MethodName)) ∈ lw_all := lw_g (lw_at lw_m5 223 rfl) rfl
theorem q1249 : (Jvm.Cond.selects "SlidePark" ({ cls := "SlidePark", name := "coins", desc := "(I)I" } : Jvm.MethodName) ({ cls := "SlidePark", name := "coins", desc := "(I)I" } : Jvm.MethodName)) ∈ lw_all := lw_g (lw_at lw_m5 224 rfl) rfl
theorem q1250 : (Jvm.Cond.code ({ cls := "SlidePark", name := "coins", desc := "(I)I" } : Jvm.MethodName) prog_1_method_27_code (2 : Nat) (Option.some Jvm.ClassFile.FieldType.int)) ∈ lw_all := lw_g (lw_at lw_m5 225 rfl) rfl
theorem q1251 : (Jvm.Cond.methodLink "SlidePark" (167 : Nat) ({ cls := "SlidePark$State", name := "guest", desc := "(I)LSlidePark$Guest;" } : Jvm.MethodName)) ∈ lw_all := lw_g (lw_at lw_m5 226 rfl) rfl
theorem q1256 : (Jvm.Cond.instanceMethod ({ cls := "SlidePark", name := "queueOf", desc := "(I)I" } : Jvm.MethodName)) ∈ lw_all := lw_g (lw_at lw_m5 231 rfl) rfl
theorem q1257 : (Jvm.Cond.selects "SlidePark" ({ cls := "SlidePark", name := "queueOf", desc := "(I)I" } : Jvm.MethodName) ({ cls := "SlidePark", name := "queueOf", desc := "(I)I" } : Jvm.MethodName)) ∈ lw_all := lw_g (lw_at lw_m5 232 rfl) rfl
theorem q1258 : (Jvm.Cond.code ({ cls := "SlidePark", name := "queueOf", desc := "(I)I" } : Jvm.MethodName) prog_1_method_29_code (3 : Nat) (Option.some Jvm.ClassFile.FieldType.int)) ∈ lw_all := lw_g (lw_at lw_m5 233 rfl) rfl
theorem q1259 : (Jvm.Cond.methodLink "SlidePark" (178 : Nat) ({ cls := "SlidePark$State", name := "queueOf", desc := "(I)I" } : Jvm.MethodName)) ∈ lw_all := lw_g (lw_at lw_m5 234 rfl) rfl
theorem q1264 : (Jvm.Cond.instanceMethod ({ cls := "SlidePark", name := "queueLength", desc := "(I)I" } : Jvm.MethodName)) ∈ lw_all := lw_g (lw_at lw_m5 239 rfl) rfl
theorem q1265 : (Jvm.Cond.selects "SlidePark" ({ cls := "SlidePark", name := "queueLength", desc := "(I)I" } : Jvm.MethodName) ({ cls := "SlidePark", name := "queueLength", desc := "(I)I" } : Jvm.MethodName)) ∈ lw_all := lw_g (lw_at lw_m6 0 rfl) rfl
theorem q1266 : (Jvm.Cond.code ({ cls := "SlidePark", name := "queueLength", desc := "(I)I" } : Jvm.MethodName) prog_1_method_30_code (2 : Nat) (Option.some Jvm.ClassFile.FieldType.int)) ∈ lw_all := lw_g (lw_at lw_m6 1 rfl) rfl
theorem q1267 : (Jvm.Cond.methodLink "SlidePark" (185 : Nat) ({ cls := "SlidePark$Line", name := "size", desc := "()I" } : Jvm.MethodName)) ∈ lw_all := lw_g (lw_at lw_m6 2 rfl) rfl
theorem q1272 : (Jvm.Cond.instanceMethod ({ cls := "SlidePark", name := "queuedGuest", desc := "(II)I" } : Jvm.MethodName)) ∈ lw_all := lw_g (lw_at lw_m6 7 rfl) rfl
theorem q1273 : (Jvm.Cond.selects "SlidePark" ({ cls := "SlidePark", name := "queuedGuest", desc := "(II)I" } : Jvm.MethodName) ({ cls := "SlidePark", name := "queuedGuest", desc := "(II)I" } : Jvm.MethodName)) ∈ lw_all := lw_g (lw_at lw_m6 8 rfl) rfl
theorem q1274 : (Jvm.Cond.code ({ cls := "SlidePark", name := "queuedGuest", desc := "(II)I" } : Jvm.MethodName) prog_1_method_31_code (3 : Nat) (Option.some Jvm.ClassFile.FieldType.int)) ∈ lw_all := lw_g (lw_at lw_m6 9 rfl) rfl
theorem q1275 : (Jvm.Cond.methodLink "SlidePark" (188 : Nat) ({ cls := "SlidePark$Line", name := "at", desc := "(I)Ljava/lang/Object;" } : Jvm.MethodName)) ∈ lw_all := lw_g (lw_at lw_m6 10 rfl) rfl
theorem q1281 : (Jvm.Cond.classLink "SlidePark" (191 : Nat) "java/lang/Integer") ∈ lw_all := lw_g (lw_at lw_m6 16 rfl) rfl
theorem q1282 : (Jvm.Cond.methodLink "SlidePark" (193 : Nat) ({ cls := "java/lang/Integer", name := "intValue", desc := "()I" } : Jvm.MethodName)) ∈ lw_all := lw_g (lw_at lw_m6 17 rfl) rfl
theorem q1287 : (Jvm.Cond.instanceMethod ({ cls := "SlidePark", name := "bookedGuest", desc := "(I)I" } : Jvm.MethodName)) ∈ lw_all := lw_g (lw_at lw_m6 22 rfl) rfl
theorem q1288 : (Jvm.Cond.selects "SlidePark" ({ cls := "SlidePark", name := "bookedGuest", desc := "(I)I" } : Jvm.MethodName) ({ cls := "SlidePark", name := "bookedGuest", desc := "(I)I" } : Jvm.MethodName)) ∈ lw_all := lw_g (lw_at lw_m6 23 rfl) rfl
theorem q1289 : (Jvm.Cond.code ({ cls := "SlidePark", name := "bookedGuest", desc := "(I)I" } : Jvm.MethodName) prog_1_method_33_code (2 : Nat) (Option.some Jvm.ClassFile.FieldType.int)) ∈ lw_all := lw_g (lw_at lw_m6 24 rfl) rfl
theorem q1290 : (Jvm.Cond.methodLink "SlidePark" (199 : Nat) ({ cls := "SlidePark$State", name := "booking", desc := "(I)LSlidePark$Booking;" } : Jvm.MethodName)) ∈ lw_all := lw_g (lw_at lw_m6 25 rfl) rfl
theorem q1295 : (Jvm.Cond.instanceMethod ({ cls := "SlidePark", name := "bookedSlide", desc := "(I)I" } : Jvm.MethodName)) ∈ lw_all := lw_g (lw_at lw_m6 30 rfl) rfl
theorem q1296 : (Jvm.Cond.selects "SlidePark" ({ cls := "SlidePark", name := "bookedSlide", desc := "(I)I" } : Jvm.MethodName) ({ cls := "SlidePark", name := "bookedSlide", desc := "(I)I" } : Jvm.MethodName)) ∈ lw_all := lw_g (lw_at lw_m6 31 rfl) rfl
theorem q1297 : (Jvm.Cond.code ({ cls := "SlidePark", name := "bookedSlide", desc := "(I)I" } : Jvm.MethodName) prog_1_method_34_code (2 : Nat) (Option.some Jvm.ClassFile.FieldType.int)) ∈ lw_all := lw_g (lw_at lw_m6 32 rfl) rfl
theorem q1302 : (Jvm.Cond.instanceMethod ({ cls := "SlidePark", name := "start", desc := "(I)I" } : Jvm.MethodName)) ∈ lw_all := lw_g (lw_at lw_m6 37 rfl) rfl
theorem q1303 : (Jvm.Cond.selects "SlidePark" ({ cls := "SlidePark", name := "start", desc := "(I)I" } : Jvm.MethodName) ({ cls := "SlidePark", name := "start", desc := "(I)I" } : Jvm.MethodName)) ∈ lw_all := lw_g (lw_at lw_m6 38 rfl) rfl
theorem q1304 : (Jvm.Cond.code ({ cls := "SlidePark", name := "start", desc := "(I)I" } : Jvm.MethodName) prog_1_method_35_code (2 : Nat) (Option.some Jvm.ClassFile.FieldType.int)) ∈ lw_all := lw_g (lw_at lw_m6 39 rfl) rfl
theorem q1309 : (Jvm.Cond.instanceMethod ({ cls := "SlidePark", name := "hasStarted", desc := "(I)Z" } : Jvm.MethodName)) ∈ lw_all := lw_g (lw_at lw_m6 44 rfl) rfl
theorem q1310 : (Jvm.Cond.selects "SlidePark" ({ cls := "SlidePark", name := "hasStarted", desc := "(I)Z" } : Jvm.MethodName) ({ cls := "SlidePark", name := "hasStarted", desc := "(I)Z" } : Jvm.MethodName)) ∈ lw_all := lw_g (lw_at lw_m6 45 rfl) rfl
theorem q1311 : (Jvm.Cond.code ({ cls := "SlidePark", name := "hasStarted", desc := "(I)Z" } : Jvm.MethodName) prog_1_method_36_code (2 : Nat) (Option.some Jvm.ClassFile.FieldType.boolean)) ∈ lw_all := lw_g (lw_at lw_m6 46 rfl) rfl
theorem q1316 : (Jvm.Cond.instanceMethod ({ cls := "SlidePark", name := "bookingByStart", desc := "(I)I" } : Jvm.MethodName)) ∈ lw_all := lw_g (lw_at lw_m6 51 rfl) rfl
theorem q1317 : (Jvm.Cond.selects "SlidePark" ({ cls := "SlidePark", name := "bookingByStart", desc := "(I)I" } : Jvm.MethodName) ({ cls := "SlidePark", name := "bookingByStart", desc := "(I)I" } : Jvm.MethodName)) ∈ lw_all := lw_g (lw_at lw_m6 52 rfl) rfl
theorem q1318 : (Jvm.Cond.code ({ cls := "SlidePark", name := "bookingByStart", desc := "(I)I" } : Jvm.MethodName) prog_1_method_37_code (2 : Nat) (Option.some Jvm.ClassFile.FieldType.int)) ∈ lw_all := lw_g (lw_at lw_m6 53 rfl) rfl
theorem q1319 : (Jvm.Cond.methodLink "SlidePark" (208 : Nat) ({ cls := "SlidePark", name := "atRank", desc := "(Ljava/util/ArrayList;I)I" } : Jvm.MethodName)) ∈ lw_all := lw_g (lw_at lw_m6 54 rfl) rfl
theorem q1324 : (Jvm.Cond.instanceMethod ({ cls := "SlidePark", name := "isFree", desc := "(II)Z" } : Jvm.MethodName)) ∈ lw_all := lw_g (lw_at lw_m6 59 rfl) rfl
theorem q1325 : (Jvm.Cond.selects "SlidePark" ({ cls := "SlidePark", name := "isFree", desc := "(II)Z" } : Jvm.MethodName) ({ cls := "SlidePark", name := "isFree", desc := "(II)Z" } : Jvm.MethodName)) ∈ lw_all := lw_g (lw_at lw_m6 60 rfl) rfl
theorem q1326 : (Jvm.Cond.code ({ cls := "SlidePark", name := "isFree", desc := "(II)Z" } : Jvm.MethodName) prog_1_method_38_code (3 : Nat) (Option.some Jvm.ClassFile.FieldType.boolean)) ∈ lw_all := lw_g (lw_at lw_m6 61 rfl) rfl
theorem q1327 : (Jvm.Cond.methodLink "SlidePark" (212 : Nat) ({ cls := "SlidePark$State", name := "requireStart", desc := "(I)V" } : Jvm.MethodName)) ∈ lw_all := lw_g (lw_at lw_m6 62 rfl) rfl
theorem q1328 : (Jvm.Cond.methodLink "SlidePark" (215 : Nat) ({ cls := "SlidePark$State", name := "isSlideFree", desc := "(II)Z" } : Jvm.MethodName)) ∈ lw_all := lw_g (lw_at lw_m6 63 rfl) rfl
theorem q1333 : (Jvm.Cond.instanceMethod ({ cls := "SlidePark", name := "firstFree", desc := "(II)I" } : Jvm.MethodName)) ∈ lw_all := lw_g (lw_at lw_m6 68 rfl) rfl
theorem q1334 : (Jvm.Cond.selects "SlidePark" ({ cls := "SlidePark", name := "firstFree", desc := "(II)I" } : Jvm.MethodName) ({ cls := "SlidePark", name := "firstFree", desc := "(II)I" } : Jvm.MethodName)) ∈ lw_all := lw_g (lw_at lw_m6 69 rfl) rfl
theorem q1335 : (Jvm.Cond.code ({ cls := "SlidePark", name := "firstFree", desc := "(II)I" } : Jvm.MethodName) prog_1_method_40_code (3 : Nat) (Option.some Jvm.ClassFile.FieldType.int)) ∈ lw_all := lw_g (lw_at lw_m6 70 rfl) rfl
theorem q1336 : (Jvm.Cond.methodLink "SlidePark" (219 : Nat) ({ cls := "SlidePark$State", name := "firstFree", desc := "(II)I" } : Jvm.MethodName)) ∈ lw_all := lw_g (lw_at lw_m6 71 rfl) rfl
theorem q1340 : (Jvm.Cond.methodLink "SlidePark" (222 : Nat) ({ cls := "SlidePark", name := "requireMinute", desc := "(I)I" } : Jvm.MethodName)) ∈ lw_all := lw_g (lw_at lw_m6 75 rfl) rfl
theorem q1341 : (Jvm.Cond.static ({ cls := "SlidePark", name := "requireMinute", desc := "(I)I" } : Jvm.MethodName)) ∈ lw_all := lw_g (lw_at lw_m6 76 rfl) rfl
theorem q1342 : (Jvm.Cond.code ({ cls := "SlidePark", name := "requireMinute", desc := "(I)I" } : Jvm.MethodName) prog_1_method_39_code (1 : Nat) (Option.some Jvm.ClassFile.FieldType.int)) ∈ lw_all := lw_g (lw_at lw_m6 77 rfl) rfl
theorem q1347 : (Jvm.Cond.instanceMethod ({ cls := "SlidePark", name := "firstFreeByGaps", desc := "(II)I" } : Jvm.MethodName)) ∈ lw_all := lw_g (lw_at lw_m6 82 rfl) rfl
theorem q1348 : (Jvm.Cond.selects "SlidePark" ({ cls := "SlidePark", name := "firstFreeByGaps", desc := "(II)I" } : Jvm.MethodName) ({ cls := "SlidePark", name := "firstFreeByGaps", desc := "(II)I" } : Jvm.MethodName)) ∈ lw_all := lw_g (lw_at lw_m6 83 rfl) rfl
theorem q1349 : (Jvm.Cond.code ({ cls := "SlidePark", name := "firstFreeByGaps", desc := "(II)I" } : Jvm.MethodName) prog_1_method_41_code (3 : Nat) (Option.some Jvm.ClassFile.FieldType.int)) ∈ lw_all := lw_g (lw_at lw_m6 84 rfl) rfl
theorem q1350 : (Jvm.Cond.methodLink "SlidePark" (225 : Nat) ({ cls := "SlidePark$State", name := "firstFreeByGaps", desc := "(II)I" } : Jvm.MethodName)) ∈ lw_all := lw_g (lw_at lw_m6 85 rfl) rfl
theorem q1362 : (Jvm.Cond.instanceMethod ({ cls := "SlidePark", name := "finishedGuest", desc := "(I)I" } : Jvm.MethodName)) ∈ lw_all := lw_g (lw_at lw_m6 97 rfl) rfl
theorem q1363 : (Jvm.Cond.selects "SlidePark" ({ cls := "SlidePark", name := "finishedGuest", desc := "(I)I" } : Jvm.MethodName) ({ cls := "SlidePark", name := "finishedGuest", desc := "(I)I" } : Jvm.MethodName)) ∈ lw_all := lw_g (lw_at lw_m6 98 rfl) rfl
theorem q1364 : (Jvm.Cond.code ({ cls := "SlidePark", name := "finishedGuest", desc := "(I)I" } : Jvm.MethodName) prog_1_method_47_code (2 : Nat) (Option.some Jvm.ClassFile.FieldType.int)) ∈ lw_all := lw_g (lw_at lw_m6 99 rfl) rfl
theorem q1365 : (Jvm.Cond.methodLink "SlidePark" (244 : Nat) ({ cls := "SlidePark$Latest", name := "back", desc := "(I)Ljava/lang/Object;" } : Jvm.MethodName)) ∈ lw_all := lw_g (lw_at lw_m6 100 rfl) rfl
theorem q1371 : (Jvm.Cond.classLink "SlidePark" (247 : Nat) "SlidePark$Finish") ∈ lw_all := lw_g (lw_at lw_m6 106 rfl) rfl
theorem q1376 : (Jvm.Cond.instanceMethod ({ cls := "SlidePark", name := "finishedSlide", desc := "(I)I" } : Jvm.MethodName)) ∈ lw_all := lw_g (lw_at lw_m6 111 rfl) rfl
theorem q1377 : (Jvm.Cond.selects "SlidePark" ({ cls := "SlidePark", name := "finishedSlide", desc := "(I)I" } : Jvm.MethodName) ({ cls := "SlidePark", name := "finishedSlide", desc := "(I)I" } : Jvm.MethodName)) ∈ lw_all := lw_g (lw_at lw_m6 112 rfl) rfl
theorem q1378 : (Jvm.Cond.code ({ cls := "SlidePark", name := "finishedSlide", desc := "(I)I" } : Jvm.MethodName) prog_1_method_48_code (2 : Nat) (Option.some Jvm.ClassFile.FieldType.int)) ∈ lw_all := lw_g (lw_at lw_m6 113 rfl) rfl
theorem q1383 : (Jvm.Cond.instanceMethod ({ cls := "SlidePark", name := "finishMinute", desc := "(I)I" } : Jvm.MethodName)) ∈ lw_all := lw_g (lw_at lw_m6 118 rfl) rfl
theorem q1384 : (Jvm.Cond.selects "SlidePark" ({ cls := "SlidePark", name := "finishMinute", desc := "(I)I" } : Jvm.MethodName) ({ cls := "SlidePark", name := "finishMinute", desc := "(I)I" } : Jvm.MethodName)) ∈ lw_all := lw_g (lw_at lw_m6 119 rfl) rfl
theorem q1385 : (Jvm.Cond.code ({ cls := "SlidePark", name := "finishMinute", desc := "(I)I" } : Jvm.MethodName) prog_1_method_49_code (2 : Nat) (Option.some Jvm.ClassFile.FieldType.int)) ∈ lw_all := lw_g (lw_at lw_m6 120 rfl) rfl
theorem q1390 : (Jvm.Cond.instanceMethod ({ cls := "SlidePark", name := "rides", desc := "(I)I" } : Jvm.MethodName)) ∈ lw_all := lw_g (lw_at lw_m6 125 rfl) rfl
theorem q1391 : (Jvm.Cond.selects "SlidePark" ({ cls := "SlidePark", name := "rides", desc := "(I)I" } : Jvm.MethodName) ({ cls := "SlidePark", name := "rides", desc := "(I)I" } : Jvm.MethodName)) ∈ lw_all := lw_g (lw_at lw_m6 126 rfl) rfl
theorem q1392 : (Jvm.Cond.code ({ cls := "SlidePark", name := "rides", desc := "(I)I" } : Jvm.MethodName) prog_1_method_28_code (2 : Nat) (Option.some Jvm.ClassFile.FieldType.int)) ∈ lw_all := lw_g (lw_at lw_m6 127 rfl) rfl
theorem q1397 : (Jvm.Cond.instanceMethod ({ cls := "SlidePark", name := "guestByRides", desc := "(I)I" } : Jvm.MethodName)) ∈ lw_all := lw_g (lw_at lw_m6 132 rfl) rfl
theorem q1398 : (Jvm.Cond.selects "SlidePark" ({ cls := "SlidePark", name := "guestByRides", desc := "(I)I" } : Jvm.MethodName) ({ cls := "SlidePark", name := "guestByRides", desc := "(I)I" } : Jvm.MethodName)) ∈ lw_all := lw_g (lw_at lw_m6 133 rfl) rfl
theorem q1399 : (Jvm.Cond.code ({ cls := "SlidePark", name := "guestByRides", desc := "(I)I" } : Jvm.MethodName) prog_1_method_55_code (2 : Nat) (Option.some Jvm.ClassFile.FieldType.int)) ∈ lw_all := lw_g (lw_at lw_m6 134 rfl) rfl
theorem q1404 : (Jvm.Cond.instanceMethod ({ cls := "SlidePark", name := "slideByWetness", desc := "(I)I" } : Jvm.MethodName)) ∈ lw_all := lw_g (lw_at lw_m6 139 rfl) rfl
theorem q1405 : (Jvm.Cond.selects "SlidePark" ({ cls := "SlidePark", name := "slideByWetness", desc := "(I)I" } : Jvm.MethodName) ({ cls := "SlidePark", name := "slideByWetness", desc := "(I)I" } : Jvm.MethodName)) ∈ lw_all := lw_g (lw_at lw_m6 140 rfl) rfl
theorem q1406 : (Jvm.Cond.code ({ cls := "SlidePark", name := "slideByWetness", desc := "(I)I" } : Jvm.MethodName) prog_1_method_56_code (2 : Nat) (Option.some Jvm.ClassFile.FieldType.int)) ∈ lw_all := lw_g (lw_at lw_m6 141 rfl) rfl
theorem q1425 : (Jvm.Cond.instanceMethod ({ cls := "SlidePark", name := "meanCoins", desc := "()D" } : Jvm.MethodName)) ∈ lw_all := lw_g (lw_at lw_m6 160 rfl) rfl
theorem q1426 : (Jvm.Cond.selects "SlidePark" ({ cls := "SlidePark", name := "meanCoins", desc := "()D" } : Jvm.MethodName) ({ cls := "SlidePark", name := "meanCoins", desc := "()D" } : Jvm.MethodName)) ∈ lw_all := lw_g (lw_at lw_m6 161 rfl) rfl
theorem q1427 : (Jvm.Cond.code ({ cls := "SlidePark", name := "meanCoins", desc := "()D" } : Jvm.MethodName) prog_1_method_58_code (1 : Nat) (Option.some Jvm.ClassFile.FieldType.double)) ∈ lw_all := lw_g (lw_at lw_m6 162 rfl) rfl
theorem q1428 : (Jvm.Cond.methodLink "SlidePark" (280 : Nat) ({ cls := "SlidePark", name := "requireNonZero", desc := "(I)V" } : Jvm.MethodName)) ∈ lw_all := lw_g (lw_at lw_m6 163 rfl) rfl
theorem q1429 : (Jvm.Cond.static ({ cls := "SlidePark", name := "requireNonZero", desc := "(I)V" } : Jvm.MethodName)) ∈ lw_all := lw_g (lw_at lw_m6 164 rfl) rfl
theorem q1430 : (Jvm.Cond.code ({ cls := "SlidePark", name := "requireNonZero", desc := "(I)V" } : Jvm.MethodName) prog_1_method_8_code (1 : Nat) (Option.none : Option Jvm.ClassFile.FieldType)) ∈ lw_all := lw_g (lw_at lw_m6 165 rfl) rfl
theorem q1431 : (Jvm.Cond.classLink "SlidePark" (58 : Nat) "java/lang/ArithmeticException") ∈ lw_all := lw_g (lw_at lw_m6 166 rfl) rfl
theorem q1432 : (Jvm.Cond.methodLink "SlidePark" (60 : Nat) ({ cls := "java/lang/ArithmeticException", name := "<init>", desc := "()V" } : Jvm.MethodName)) ∈ lw_all := lw_g (lw_at lw_m6 167 rfl) rfl
theorem q1440 : (Jvm.Cond.instanceMethod ({ cls := "SlidePark", name := "busyShare", desc := "()F" } : Jvm.MethodName)) ∈ lw_all := lw_g (lw_at lw_m6 175 rfl) rfl
theorem q1441 : (Jvm.Cond.selects "SlidePark" ({ cls := "SlidePark", name := "busyShare", desc := "()F" } : Jvm.MethodName) ({ cls := "SlidePark", name := "busyShare", desc := "()F" } : Jvm.MethodName)) ∈ lw_all := lw_g (lw_at lw_m6 176 rfl) rfl
theorem q1442 : (Jvm.Cond.code ({ cls := "SlidePark", name := "busyShare", desc := "()F" } : Jvm.MethodName) prog_1_method_59_code (3 : Nat) (Option.some Jvm.ClassFile.FieldType.float)) ∈ lw_all := lw_g (lw_at lw_m6 177 rfl) rfl
theorem q1447 : (Jvm.Cond.instanceMethod ({ cls := "SlidePark", name := "feed", desc := "(C)I" } : Jvm.MethodName)) ∈ lw_all := lw_g (lw_at lw_m6 182 rfl) rfl
theorem q1448 : (Jvm.Cond.selects "SlidePark" ({ cls := "SlidePark", name := "feed", desc := "(C)I" } : Jvm.MethodName) ({ cls := "SlidePark", name := "feed", desc := "(C)I" } : Jvm.MethodName)) ∈ lw_all := lw_g (lw_at lw_m6 183 rfl) rfl
theorem q1449 : (Jvm.Cond.code ({ cls := "SlidePark", name := "feed", desc := "(C)I" } : Jvm.MethodName) prog_1_method_61_code (2 : Nat) (Option.some Jvm.ClassFile.FieldType.int)) ∈ lw_all := lw_g (lw_at lw_m6 184 rfl) rfl
theorem q1450 : (Jvm.Cond.methodLink "SlidePark" (289 : Nat) ({ cls := "SlidePark", name := "requireState", desc := "(Z)V" } : Jvm.MethodName)) ∈ lw_all := lw_g (lw_at lw_m6 185 rfl) rfl
theorem q1455 : (Jvm.Cond.instanceMethod ({ cls := "SlidePark", name := "runCommands", desc := "()I" } : Jvm.MethodName)) ∈ lw_all := lw_g (lw_at lw_m6 190 rfl) rfl
theorem q1456 : (Jvm.Cond.selects "SlidePark" ({ cls := "SlidePark", name := "runCommands", desc := "()I" } : Jvm.MethodName) ({ cls := "SlidePark", name := "runCommands", desc := "()I" } : Jvm.MethodName)) ∈ lw_all := lw_g (lw_at lw_m6 191 rfl) rfl
theorem q1457 : (Jvm.Cond.codeWith ({ cls := "SlidePark", name := "runCommands", desc := "()I" } : Jvm.MethodName) prog_1_method_62_code (5 : Nat) (Option.some Jvm.ClassFile.FieldType.int) [((0 : Nat), (41 : Nat), (48 : Nat), (301 : Nat)), ((0 : Nat), (41 : Nat), (65 : Nat), (0 : Nat)), ((48 : Nat), (67 : Nat), (65 : Nat), (0 : Nat))]) ∈ lw_all := lw_g (lw_at lw_m6 192 rfl) rfl
theorem q1458 : (Jvm.Cond.classLink "SlidePark" (301 : Nat) "SlidePark$MalformedException") ∈ lw_all := lw_g (lw_at lw_m6 193 rfl) rfl
theorem q1459 : (Jvm.Cond.classLink "SlidePark" (292 : Nat) "SlidePark$Parser") ∈ lw_all := lw_g (lw_at lw_m6 194 rfl) rfl
theorem q1461 : (Jvm.Cond.methodLinkNest "SlidePark" (294 : Nat) ({ cls := "SlidePark$Parser", name := "<init>", desc := "(LSlidePark;)V" } : Jvm.MethodName) "SlidePark") ∈ lw_tbl := lw_at lw_m6 196 rfl
theorem q1481 : (Jvm.Cond.methodLink "SlidePark" (297 : Nat) ({ cls := "SlidePark$Parser", name := "commands", desc := "(LSlidePark$State;)I" } : Jvm.MethodName)) ∈ lw_all := lw_g (lw_at lw_m6 216 rfl) rfl
theorem q1581 : (Jvm.Cond.fieldLinkNest "SlidePark" (303 : Nat) "SlidePark$MalformedException" "position" "I" "SlidePark") ∈ lw_tbl := lw_at lw_m7 76 rfl
theorem q1610 : (Jvm.Cond.instanceMethod ({ cls := "SlidePark", name := "errorPosition", desc := "()I" } : Jvm.MethodName)) ∈ lw_all := lw_g (lw_at lw_m7 105 rfl) rfl
theorem q1611 : (Jvm.Cond.selects "SlidePark" ({ cls := "SlidePark", name := "errorPosition", desc := "()I" } : Jvm.MethodName) ({ cls := "SlidePark", name := "errorPosition", desc := "()I" } : Jvm.MethodName)) ∈ lw_all := lw_g (lw_at lw_m7 106 rfl) rfl
theorem q1612 : (Jvm.Cond.code ({ cls := "SlidePark", name := "errorPosition", desc := "()I" } : Jvm.MethodName) prog_1_method_63_code (1 : Nat) (Option.some Jvm.ClassFile.FieldType.int)) ∈ lw_all := lw_g (lw_at lw_m7 107 rfl) rfl
theorem q1617 : (Jvm.Cond.instanceMethod ({ cls := "SlidePark", name := "failedCommand", desc := "()I" } : Jvm.MethodName)) ∈ lw_all := lw_g (lw_at lw_m7 112 rfl) rfl
theorem q1618 : (Jvm.Cond.selects "SlidePark" ({ cls := "SlidePark", name := "failedCommand", desc := "()I" } : Jvm.MethodName) ({ cls := "SlidePark", name := "failedCommand", desc := "()I" } : Jvm.MethodName)) ∈ lw_all := lw_g (lw_at lw_m7 113 rfl) rfl
theorem q1619 : (Jvm.Cond.code ({ cls := "SlidePark", name := "failedCommand", desc := "()I" } : Jvm.MethodName) prog_1_method_64_code (1 : Nat) (Option.some Jvm.ClassFile.FieldType.int)) ∈ lw_all := lw_g (lw_at lw_m7 114 rfl) rfl
theorem q1624 : (Jvm.Cond.instanceMethod ({ cls := "SlidePark", name := "writeSlide", desc := "(I)I" } : Jvm.MethodName)) ∈ lw_all := lw_g (lw_at lw_m7 119 rfl) rfl
theorem q1625 : (Jvm.Cond.selects "SlidePark" ({ cls := "SlidePark", name := "writeSlide", desc := "(I)I" } : Jvm.MethodName) ({ cls := "SlidePark", name := "writeSlide", desc := "(I)I" } : Jvm.MethodName)) ∈ lw_all := lw_g (lw_at lw_m7 120 rfl) rfl
theorem q1626 : (Jvm.Cond.code ({ cls := "SlidePark", name := "writeSlide", desc := "(I)I" } : Jvm.MethodName) prog_1_method_65_code (5 : Nat) (Option.some Jvm.ClassFile.FieldType.int)) ∈ lw_all := lw_g (lw_at lw_m7 121 rfl) rfl
theorem q1627 : (Jvm.Cond.methodLink "SlidePark" (306 : Nat) ({ cls := "java/lang/StringBuilder", name := "setLength", desc := "(I)V" } : Jvm.MethodName)) ∈ lw_all := lw_g (lw_at lw_m7 122 rfl) rfl
theorem q1850 : (Jvm.Cond.methodLink "SlidePark" (309 : Nat) ({ cls := "java/lang/StringBuilder", name := "append", desc := "(I)Ljava/lang/StringBuilder;" } : Jvm.MethodName)) ∈ lw_all := lw_g (lw_at lw_m8 105 rfl) rfl
theorem q1851 : (Jvm.Cond.methodLink "SlidePark" (313 : Nat) ({ cls := "java/lang/StringBuilder", name := "append", desc := "(C)Ljava/lang/StringBuilder;" } : Jvm.MethodName)) ∈ lw_all := lw_g (lw_at lw_m8 106 rfl) rfl
theorem q1864 : (Jvm.Cond.methodLink "SlidePark" (316 : Nat) ({ cls := "SlidePark$State", name := "ofSlide", desc := "(I)Ljava/util/ArrayList;" } : Jvm.MethodName)) ∈ lw_all := lw_g (lw_at lw_m8 119 rfl) rfl
theorem q1865 : (Jvm.Cond.classLink "SlidePark" (160 : Nat) "SlidePark$Booking") ∈ lw_all := lw_g (lw_at lw_m8 120 rfl) rfl
theorem q1866 : (Jvm.Cond.methodLink "SlidePark" (320 : Nat) ({ cls := "java/lang/StringBuilder", name := "length", desc := "()I" } : Jvm.MethodName)) ∈ lw_all := lw_g (lw_at lw_m8 121 rfl) rfl
theorem q1871 : (Jvm.Cond.instanceMethod ({ cls := "SlidePark", name := "outputChar", desc := "(I)C" } : Jvm.MethodName)) ∈ lw_all := lw_g (lw_at lw_m8 126 rfl) rfl
theorem q1872 : (Jvm.Cond.selects "SlidePark" ({ cls := "SlidePark", name := "outputChar", desc := "(I)C" } : Jvm.MethodName) ({ cls := "SlidePark", name := "outputChar", desc := "(I)C" } : Jvm.MethodName)) ∈ lw_all := lw_g (lw_at lw_m8 127 rfl) rfl
theorem q1873 : (Jvm.Cond.code ({ cls := "SlidePark", name := "outputChar", desc := "(I)C" } : Jvm.MethodName) prog_1_method_66_code (2 : Nat) (Option.some Jvm.ClassFile.FieldType.char)) ∈ lw_all := lw_g (lw_at lw_m8 128 rfl) rfl
theorem q1874 : (Jvm.Cond.methodLink "SlidePark" (323 : Nat) ({ cls := "java/lang/StringBuilder", name := "charAt", desc := "(I)C" } : Jvm.MethodName)) ∈ lw_all := lw_g (lw_at lw_m8 129 rfl) rfl
theorem q1888 : (Jvm.Cond.instanceMethod ({ cls := "SlidePark", name := "undo", desc := "()I" } : Jvm.MethodName)) ∈ lw_all := lw_g (lw_at lw_m8 143 rfl) rfl
theorem q1889 : (Jvm.Cond.selects "SlidePark" ({ cls := "SlidePark", name := "undo", desc := "()I" } : Jvm.MethodName) ({ cls := "SlidePark", name := "undo", desc := "()I" } : Jvm.MethodName)) ∈ lw_all := lw_g (lw_at lw_m8 144 rfl) rfl
theorem q1890 : (Jvm.Cond.code ({ cls := "SlidePark", name := "undo", desc := "()I" } : Jvm.MethodName) prog_1_method_68_code (1 : Nat) (Option.some Jvm.ClassFile.FieldType.int)) ∈ lw_all := lw_g (lw_at lw_m8 145 rfl) rfl
theorem q1891 : (Jvm.Cond.methodLink "SlidePark" (327 : Nat) ({ cls := "SlidePark$Latest", name := "takeLast", desc := "()Ljava/lang/Object;" } : Jvm.MethodName)) ∈ lw_all := lw_g (lw_at lw_m8 146 rfl) rfl
theorem q1899 : (Jvm.Cond.instanceMethod ({ cls := "SlidePark", name := "restore", desc := "()I" } : Jvm.MethodName)) ∈ lw_all := lw_g (lw_at lw_m8 154 rfl) rfl
theorem q1900 : (Jvm.Cond.selects "SlidePark" ({ cls := "SlidePark", name := "restore", desc := "()I" } : Jvm.MethodName) ({ cls := "SlidePark", name := "restore", desc := "()I" } : Jvm.MethodName)) ∈ lw_all := lw_g (lw_at lw_m8 155 rfl) rfl
theorem q1901 : (Jvm.Cond.code ({ cls := "SlidePark", name := "restore", desc := "()I" } : Jvm.MethodName) prog_1_method_70_code (1 : Nat) (Option.some Jvm.ClassFile.FieldType.int)) ∈ lw_all := lw_g (lw_at lw_m8 156 rfl) rfl
theorem q1902 : (Jvm.Cond.methodLink "SlidePark" (333 : Nat) ({ cls := "SlidePark$Latest", name := "clear", desc := "()V" } : Jvm.MethodName)) ∈ lw_all := lw_g (lw_at lw_m8 157 rfl) rfl
theorem q2395 : (Jvm.Cond.castable "SlidePark" "java/lang/Object") ∈ lw_tbl := lw_at lw_m10 170 rfl
theorem in_X1 : ∀ w ∈ wsX10, w ∈ lw_all := lw_in wsX10 [244, 246, 248, 250, 252, 254, 256, 258] (by decide +kernel) (by decide +kernel)

/-! SlidePark$State -/
set_option maxRecDepth 100000
def RX2 : String := "SlidePark$State"
def TX2 : u_T := fun k => match k with
  | 0 => ("SlidePark$State", "slides", "Ljava/util/ArrayList;", false)
  | 1 => ("SlidePark$State", "guests", "Ljava/util/ArrayList;", false)
  | 2 => ("SlidePark$State", "bookings", "Ljava/util/ArrayList;", false)
  | 3 => ("SlidePark$State", "finishes", "LSlidePark$Latest;", false)
  | 4 => ("SlidePark$State", "minute", "I", false)
  | 5 => ("SlidePark$State", "office", "I", false)
  | 6 => ("SlidePark$State", "refunded", "I", false)
  | _ => ("SlidePark$State", "splashes", "I", false)
def tyX2 : Nat → FieldType := fun k => match k with
  | 0 => .object "java/util/ArrayList"
  | 1 => .object "java/util/ArrayList"
  | 2 => .object "java/util/ArrayList"
  | 3 => .object "SlidePark$Latest"
  | 4 => .int
  | 5 => .int
  | 6 => .int
  | _ => .int
abbrev wsX20 : List Cond := u_ws RX2 TX2 8
theorem nmX2 : ∀ a, a < 8 → ∀ b, b < 8 → a ≠ b → (TX2 a).2.1 ≠ (TX2 b).2.1 := by decide +kernel
theorem tyX2_ok : ∀ k, k < 8 → parseFieldDescriptor (TX2 k).2.2.1 = some (tyX2 k) := by decide +kernel
abbrev cX2_init : ByteArray := prog_12_method_1_code
def yX2_init : MethodName := ⟨RX2, "<init>", "()V"⟩
def dkwX2_init_2 : List UInt8 := [181, 0, 29, 177]
abbrev dktX2_init_2 : List UInt8 := dkwX2_init_2 ++ []
def dkwX2_init_1 : List UInt8 := [181, 0, 18, 42, 187, 0, 9, 89, 183, 0, 11, 181, 0, 21, 42, 187, 0, 24, 89, 16, 16, 183, 0, 26]
abbrev dktX2_init_1 : List UInt8 := dkwX2_init_1 ++ dktX2_init_2
def dkwX2_init_0 : List UInt8 := [42, 183, 0, 3, 42, 187, 0, 9, 89, 183, 0, 11, 181, 0, 12, 42, 187, 0, 9, 89, 183, 0, 11]
abbrev dktX2_init_0 : List UInt8 := dkwX2_init_0 ++ dktX2_init_1
theorem dksX2_init_0 : cX2_init.data.toList.drop 0 = dktX2_init_0 := by decide +kernel
theorem dksX2_init_1 : cX2_init.data.toList.drop 23 = dktX2_init_1 := dk_seg dksX2_init_0 23 rfl rfl
theorem dksX2_init_2 : cX2_init.data.toList.drop 47 = dktX2_init_2 := dk_seg dksX2_init_1 24 rfl rfl
theorem dX2_init_0 : decode cX2_init 0 = .ok (.aload_n 0, 1) := dk_42 (dk_at dksX2_init_0 0 rfl rfl)
theorem dX2_init_1 : decode cX2_init 1 = .ok (.invokespecial 3, 3) := dk_183 0 3 (dk_at dksX2_init_0 1 rfl rfl)
theorem dX2_init_4 : decode cX2_init 4 = .ok (.aload_n 0, 1) := dk_42 (dk_at dksX2_init_0 4 rfl rfl)
theorem dX2_init_5 : decode cX2_init 5 = .ok (.new 9, 3) := dk_187 0 9 (dk_at dksX2_init_0 5 rfl rfl)
theorem dX2_init_8 : decode cX2_init 8 = .ok (.dup, 1) := dk_89 (dk_at dksX2_init_0 8 rfl rfl)
theorem dX2_init_9 : decode cX2_init 9 = .ok (.invokespecial 11, 3) := dk_183 0 11 (dk_at dksX2_init_0 9 rfl rfl)
theorem dX2_init_12 : decode cX2_init 12 = .ok (.putfield 12, 3) := dk_181 0 12 (dk_at dksX2_init_0 12 rfl rfl)
theorem dX2_init_15 : decode cX2_init 15 = .ok (.aload_n 0, 1) := dk_42 (dk_at dksX2_init_0 15 rfl rfl)
theorem dX2_init_16 : decode cX2_init 16 = .ok (.new 9, 3) := dk_187 0 9 (dk_at dksX2_init_0 16 rfl rfl)
theorem dX2_init_19 : decode cX2_init 19 = .ok (.dup, 1) := dk_89 (dk_at dksX2_init_0 19 rfl rfl)
theorem dX2_init_20 : decode cX2_init 20 = .ok (.invokespecial 11, 3) := dk_183 0 11 (dk_at dksX2_init_0 20 rfl rfl)
theorem dX2_init_23 : decode cX2_init 23 = .ok (.putfield 18, 3) := dk_181 0 18 (dk_at dksX2_init_1 0 rfl rfl)
theorem dX2_init_26 : decode cX2_init 26 = .ok (.aload_n 0, 1) := dk_42 (dk_at dksX2_init_1 3 rfl rfl)
theorem dX2_init_27 : decode cX2_init 27 = .ok (.new 9, 3) := dk_187 0 9 (dk_at dksX2_init_1 4 rfl rfl)
theorem dX2_init_30 : decode cX2_init 30 = .ok (.dup, 1) := dk_89 (dk_at dksX2_init_1 7 rfl rfl)
theorem dX2_init_31 : decode cX2_init 31 = .ok (.invokespecial 11, 3) := dk_183 0 11 (dk_at dksX2_init_1 8 rfl rfl)
theorem dX2_init_34 : decode cX2_init 34 = .ok (.putfield 21, 3) := dk_181 0 21 (dk_at dksX2_init_1 11 rfl rfl)
theorem dX2_init_37 : decode cX2_init 37 = .ok (.aload_n 0, 1) := dk_42 (dk_at dksX2_init_1 14 rfl rfl)
theorem dX2_init_38 : decode cX2_init 38 = .ok (.new 24, 3) := dk_187 0 24 (dk_at dksX2_init_1 15 rfl rfl)
theorem dX2_init_41 : decode cX2_init 41 = .ok (.dup, 1) := dk_89 (dk_at dksX2_init_1 18 rfl rfl)
theorem dX2_init_42 : decode cX2_init 42 = .ok (.bipush 16, 2) := dk_16 16 (dk_at dksX2_init_1 19 rfl rfl)
theorem dX2_init_44 : decode cX2_init 44 = .ok (.invokespecial 26, 3) := dk_183 0 26 (dk_at dksX2_init_1 21 rfl rfl)
theorem dX2_init_47 : decode cX2_init 47 = .ok (.putfield 29, 3) := dk_181 0 29 (dk_at dksX2_init_2 0 rfl rfl)
theorem dX2_init_50 : decode cX2_init 50 = .ok (.return_, 1) := dk_177 (dk_at dksX2_init_2 3 rfl rfl)
abbrev cX2_mostWatched : ByteArray := prog_12_method_29_code
def yX2_mostWatched : MethodName := ⟨RX2, "mostWatched", "()I"⟩
def dkwX2_mostWatched_1 : List UInt8 := [182, 0, 251, 78, 167, 255, 238, 27, 172]
abbrev dktX2_mostWatched_1 : List UInt8 := dkwX2_mostWatched_1 ++ []
def dkwX2_mostWatched_0 : List UInt8 := [3, 60, 3, 61, 42, 28, 182, 0, 251, 78, 45, 198, 0, 20, 45, 180, 0, 217, 61, 132, 1, 1, 42, 28]
abbrev dktX2_mostWatched_0 : List UInt8 := dkwX2_mostWatched_0 ++ dktX2_mostWatched_1
theorem dksX2_mostWatched_0 : cX2_mostWatched.data.toList.drop 0 = dktX2_mostWatched_0 := by decide +kernel
theorem dksX2_mostWatched_1 : cX2_mostWatched.data.toList.drop 24 = dktX2_mostWatched_1 := dk_seg dksX2_mostWatched_0 24 rfl rfl
theorem dX2_mostWatched_0 : decode cX2_mostWatched 0 = .ok (.iconst 0, 1) := dk_3 (dk_at dksX2_mostWatched_0 0 rfl rfl)
theorem dX2_mostWatched_1 : decode cX2_mostWatched 1 = .ok (.istore_n 1, 1) := dk_60 (dk_at dksX2_mostWatched_0 1 rfl rfl)
theorem dX2_mostWatched_2 : decode cX2_mostWatched 2 = .ok (.iconst 0, 1) := dk_3 (dk_at dksX2_mostWatched_0 2 rfl rfl)
theorem dX2_mostWatched_3 : decode cX2_mostWatched 3 = .ok (.istore_n 2, 1) := dk_61 (dk_at dksX2_mostWatched_0 3 rfl rfl)
theorem dX2_mostWatched_4 : decode cX2_mostWatched 4 = .ok (.aload_n 0, 1) := dk_42 (dk_at dksX2_mostWatched_0 4 rfl rfl)
theorem dX2_mostWatched_5 : decode cX2_mostWatched 5 = .ok (.iload_n 2, 1) := dk_28 (dk_at dksX2_mostWatched_0 5 rfl rfl)
theorem dX2_mostWatched_6 : decode cX2_mostWatched 6 = .ok (.invokevirtual 251, 3) := dk_182 0 251 (dk_at dksX2_mostWatched_0 6 rfl rfl)
theorem dX2_mostWatched_9 : decode cX2_mostWatched 9 = .ok (.astore_n 3, 1) := dk_78 (dk_at dksX2_mostWatched_0 9 rfl rfl)
theorem dX2_mostWatched_10 : decode cX2_mostWatched 10 = .ok (.aload_n 3, 1) := dk_45 (dk_at dksX2_mostWatched_0 10 rfl rfl)
theorem dX2_mostWatched_11 : decode cX2_mostWatched 11 = .ok (.ifnull 20, 3) := dk_198 0 20 (dk_at dksX2_mostWatched_0 11 rfl rfl)
theorem dX2_mostWatched_14 : decode cX2_mostWatched 14 = .ok (.aload_n 3, 1) := dk_45 (dk_at dksX2_mostWatched_0 14 rfl rfl)
theorem dX2_mostWatched_15 : decode cX2_mostWatched 15 = .ok (.getfield 217, 3) := dk_180 0 217 (dk_at dksX2_mostWatched_0 15 rfl rfl)
theorem dX2_mostWatched_18 : decode cX2_mostWatched 18 = .ok (.istore_n 2, 1) := dk_61 (dk_at dksX2_mostWatched_0 18 rfl rfl)
theorem dX2_mostWatched_19 : decode cX2_mostWatched 19 = .ok (.iinc 1 1, 3) := dk_132 1 1 (dk_at dksX2_mostWatched_0 19 rfl rfl)
theorem dX2_mostWatched_22 : decode cX2_mostWatched 22 = .ok (.aload_n 0, 1) := dk_42 (dk_at dksX2_mostWatched_0 22 rfl rfl)
theorem dX2_mostWatched_23 : decode cX2_mostWatched 23 = .ok (.iload_n 2, 1) := dk_28 (dk_at dksX2_mostWatched_0 23 rfl rfl)
theorem dX2_mostWatched_24 : decode cX2_mostWatched 24 = .ok (.invokevirtual 251, 3) := dk_182 0 251 (dk_at dksX2_mostWatched_1 0 rfl rfl)
theorem dX2_mostWatched_27 : decode cX2_mostWatched 27 = .ok (.astore_n 3, 1) := dk_78 (dk_at dksX2_mostWatched_1 3 rfl rfl)
theorem dX2_mostWatched_28 : decode cX2_mostWatched 28 = .ok (.goto (-18), 3) := dk_167 255 238 (dk_at dksX2_mostWatched_1 4 rfl rfl)
theorem dX2_mostWatched_31 : decode cX2_mostWatched 31 = .ok (.iload_n 1, 1) := dk_27 (dk_at dksX2_mostWatched_1 7 rfl rfl)
theorem dX2_mostWatched_32 : decode cX2_mostWatched 32 = .ok (.ireturn, 1) := dk_172 (dk_at dksX2_mostWatched_1 8 rfl rfl)
abbrev cX2_firstToFinish : ByteArray := prog_12_method_30_code
def yX2_firstToFinish : MethodName := ⟨RX2, "firstToFinish", "(I)LSlidePark$Booking;"⟩
def dkwX2_firstToFinish_2 : List UInt8 := [180, 0, 217, 162, 0, 8, 25, 4, 167, 0, 4, 44, 77, 132, 3, 1, 167, 255, 197, 44, 176]
abbrev dktX2_firstToFinish_2 : List UInt8 := dkwX2_firstToFinish_2 ++ []
def dkwX2_firstToFinish_1 : List UInt8 := [192, 0, 46, 58, 4, 25, 4, 180, 0, 163, 27, 161, 0, 24, 44, 198, 0, 15, 25, 4, 180, 0, 217, 44]
abbrev dktX2_firstToFinish_1 : List UInt8 := dkwX2_firstToFinish_1 ++ dktX2_firstToFinish_2
def dkwX2_firstToFinish_0 : List UInt8 := [1, 77, 3, 62, 29, 42, 180, 0, 21, 182, 0, 38, 162, 0, 54, 42, 180, 0, 21, 29, 182, 0, 42]
abbrev dktX2_firstToFinish_0 : List UInt8 := dkwX2_firstToFinish_0 ++ dktX2_firstToFinish_1
theorem dksX2_firstToFinish_0 : cX2_firstToFinish.data.toList.drop 0 = dktX2_firstToFinish_0 := by decide +kernel
theorem dksX2_firstToFinish_1 : cX2_firstToFinish.data.toList.drop 23 = dktX2_firstToFinish_1 := dk_seg dksX2_firstToFinish_0 23 rfl rfl
theorem dksX2_firstToFinish_2 : cX2_firstToFinish.data.toList.drop 47 = dktX2_firstToFinish_2 := dk_seg dksX2_firstToFinish_1 24 rfl rfl
theorem dX2_firstToFinish_0 : decode cX2_firstToFinish 0 = .ok (.aconst_null, 1) := dk_1 (dk_at dksX2_firstToFinish_0 0 rfl rfl)
theorem dX2_firstToFinish_1 : decode cX2_firstToFinish 1 = .ok (.astore_n 2, 1) := dk_77 (dk_at dksX2_firstToFinish_0 1 rfl rfl)
theorem dX2_firstToFinish_2 : decode cX2_firstToFinish 2 = .ok (.iconst 0, 1) := dk_3 (dk_at dksX2_firstToFinish_0 2 rfl rfl)
theorem dX2_firstToFinish_3 : decode cX2_firstToFinish 3 = .ok (.istore_n 3, 1) := dk_62 (dk_at dksX2_firstToFinish_0 3 rfl rfl)
theorem dX2_firstToFinish_4 : decode cX2_firstToFinish 4 = .ok (.iload_n 3, 1) := dk_29 (dk_at dksX2_firstToFinish_0 4 rfl rfl)
theorem dX2_firstToFinish_5 : decode cX2_firstToFinish 5 = .ok (.aload_n 0, 1) := dk_42 (dk_at dksX2_firstToFinish_0 5 rfl rfl)
theorem dX2_firstToFinish_6 : decode cX2_firstToFinish 6 = .ok (.getfield 21, 3) := dk_180 0 21 (dk_at dksX2_firstToFinish_0 6 rfl rfl)
theorem dX2_firstToFinish_9 : decode cX2_firstToFinish 9 = .ok (.invokevirtual 38, 3) := dk_182 0 38 (dk_at dksX2_firstToFinish_0 9 rfl rfl)
theorem dX2_firstToFinish_12 : decode cX2_firstToFinish 12 = .ok (.if_icmp .ge 54, 3) := dk_162 0 54 (dk_at dksX2_firstToFinish_0 12 rfl rfl)
theorem dX2_firstToFinish_15 : decode cX2_firstToFinish 15 = .ok (.aload_n 0, 1) := dk_42 (dk_at dksX2_firstToFinish_0 15 rfl rfl)
theorem dX2_firstToFinish_16 : decode cX2_firstToFinish 16 = .ok (.getfield 21, 3) := dk_180 0 21 (dk_at dksX2_firstToFinish_0 16 rfl rfl)
theorem dX2_firstToFinish_19 : decode cX2_firstToFinish 19 = .ok (.iload_n 3, 1) := dk_29 (dk_at dksX2_firstToFinish_0 19 rfl rfl)
theorem dX2_firstToFinish_20 : decode cX2_firstToFinish 20 = .ok (.invokevirtual 42, 3) := dk_182 0 42 (dk_at dksX2_firstToFinish_0 20 rfl rfl)
theorem dX2_firstToFinish_23 : decode cX2_firstToFinish 23 = .ok (.checkcast 46, 3) := dk_192 0 46 (dk_at dksX2_firstToFinish_1 0 rfl rfl)
theorem dX2_firstToFinish_26 : decode cX2_firstToFinish 26 = .ok (.astore 4, 2) := dk_58 4 (dk_at dksX2_firstToFinish_1 3 rfl rfl)
theorem dX2_firstToFinish_28 : decode cX2_firstToFinish 28 = .ok (.aload 4, 2) := dk_25 4 (dk_at dksX2_firstToFinish_1 5 rfl rfl)
theorem dX2_firstToFinish_30 : decode cX2_firstToFinish 30 = .ok (.getfield 163, 3) := dk_180 0 163 (dk_at dksX2_firstToFinish_1 7 rfl rfl)
theorem dX2_firstToFinish_33 : decode cX2_firstToFinish 33 = .ok (.iload_n 1, 1) := dk_27 (dk_at dksX2_firstToFinish_1 10 rfl rfl)
theorem dX2_firstToFinish_34 : decode cX2_firstToFinish 34 = .ok (.if_icmp .lt 24, 3) := dk_161 0 24 (dk_at dksX2_firstToFinish_1 11 rfl rfl)
theorem dX2_firstToFinish_37 : decode cX2_firstToFinish 37 = .ok (.aload_n 2, 1) := dk_44 (dk_at dksX2_firstToFinish_1 14 rfl rfl)
theorem dX2_firstToFinish_38 : decode cX2_firstToFinish 38 = .ok (.ifnull 15, 3) := dk_198 0 15 (dk_at dksX2_firstToFinish_1 15 rfl rfl)
theorem dX2_firstToFinish_41 : decode cX2_firstToFinish 41 = .ok (.aload 4, 2) := dk_25 4 (dk_at dksX2_firstToFinish_1 18 rfl rfl)
theorem dX2_firstToFinish_43 : decode cX2_firstToFinish 43 = .ok (.getfield 217, 3) := dk_180 0 217 (dk_at dksX2_firstToFinish_1 20 rfl rfl)
theorem dX2_firstToFinish_46 : decode cX2_firstToFinish 46 = .ok (.aload_n 2, 1) := dk_44 (dk_at dksX2_firstToFinish_1 23 rfl rfl)
theorem dX2_firstToFinish_47 : decode cX2_firstToFinish 47 = .ok (.getfield 217, 3) := dk_180 0 217 (dk_at dksX2_firstToFinish_2 0 rfl rfl)
theorem dX2_firstToFinish_50 : decode cX2_firstToFinish 50 = .ok (.if_icmp .ge 8, 3) := dk_162 0 8 (dk_at dksX2_firstToFinish_2 3 rfl rfl)
theorem dX2_firstToFinish_53 : decode cX2_firstToFinish 53 = .ok (.aload 4, 2) := dk_25 4 (dk_at dksX2_firstToFinish_2 6 rfl rfl)
theorem dX2_firstToFinish_55 : decode cX2_firstToFinish 55 = .ok (.goto 4, 3) := dk_167 0 4 (dk_at dksX2_firstToFinish_2 8 rfl rfl)
theorem dX2_firstToFinish_58 : decode cX2_firstToFinish 58 = .ok (.aload_n 2, 1) := dk_44 (dk_at dksX2_firstToFinish_2 11 rfl rfl)
theorem dX2_firstToFinish_59 : decode cX2_firstToFinish 59 = .ok (.astore_n 2, 1) := dk_77 (dk_at dksX2_firstToFinish_2 12 rfl rfl)
theorem dX2_firstToFinish_60 : decode cX2_firstToFinish 60 = .ok (.iinc 3 1, 3) := dk_132 3 1 (dk_at dksX2_firstToFinish_2 13 rfl rfl)
theorem dX2_firstToFinish_63 : decode cX2_firstToFinish 63 = .ok (.goto (-59), 3) := dk_167 255 197 (dk_at dksX2_firstToFinish_2 16 rfl rfl)
theorem dX2_firstToFinish_66 : decode cX2_firstToFinish 66 = .ok (.aload_n 2, 1) := dk_44 (dk_at dksX2_firstToFinish_2 19 rfl rfl)
theorem dX2_firstToFinish_67 : decode cX2_firstToFinish 67 = .ok (.areturn, 1) := dk_176 (dk_at dksX2_firstToFinish_2 20 rfl rfl)
abbrev cX2_mostWatchedByTable : ByteArray := prog_12_method_31_code
def yX2_mostWatchedByTable : MethodName := ⟨RX2, "mostWatchedByTable", "()I"⟩
def dkwX2_mostWatchedByTable_5 : List UInt8 := [132, 5, 1, 167, 255, 184, 28, 43, 29, 46, 184, 0, 254, 61, 132, 3, 1, 167, 255, 137, 28, 172]
abbrev dktX2_mostWatchedByTable_5 : List UInt8 := dkwX2_mostWatchedByTable_5 ++ []
def dkwX2_mostWatchedByTable_4 : List UInt8 := [21, 6, 153, 0, 18, 43, 29, 46, 43, 21, 5, 46, 4, 96, 184, 0, 254, 167, 0, 6, 43, 29, 46, 79]
abbrev dktX2_mostWatchedByTable_4 : List UInt8 := dkwX2_mostWatchedByTable_4 ++ dktX2_mostWatchedByTable_5
def dkwX2_mostWatchedByTable_3 : List UInt8 := [192, 0, 46, 180, 0, 217, 25, 4, 180, 0, 163, 163, 0, 7, 4, 167, 0, 4, 3, 54, 6, 43, 29]
abbrev dktX2_mostWatchedByTable_3 : List UInt8 := dkwX2_mostWatchedByTable_3 ++ dktX2_mostWatchedByTable_4
def dkwX2_mostWatchedByTable_2 : List UInt8 := [21, 5, 29, 162, 0, 72, 42, 180, 0, 21, 42, 180, 0, 21, 21, 5, 184, 0, 243, 182, 0, 42]
abbrev dktX2_mostWatchedByTable_2 : List UInt8 := dkwX2_mostWatchedByTable_2 ++ dktX2_mostWatchedByTable_3
def dkwX2_mostWatchedByTable_1 : List UInt8 := [42, 180, 0, 21, 29, 184, 0, 243, 182, 0, 42, 192, 0, 46, 58, 4, 43, 29, 4, 79, 3, 54, 5]
abbrev dktX2_mostWatchedByTable_1 : List UInt8 := dkwX2_mostWatchedByTable_1 ++ dktX2_mostWatchedByTable_2
def dkwX2_mostWatchedByTable_0 : List UInt8 := [42, 180, 0, 21, 182, 0, 38, 188, 10, 76, 3, 61, 3, 62, 29, 43, 190, 162, 0, 119, 42, 180, 0, 21]
abbrev dktX2_mostWatchedByTable_0 : List UInt8 := dkwX2_mostWatchedByTable_0 ++ dktX2_mostWatchedByTable_1
theorem dksX2_mostWatchedByTable_0 : cX2_mostWatchedByTable.data.toList.drop 0 = dktX2_mostWatchedByTable_0 := by decide +kernel
theorem dksX2_mostWatchedByTable_1 : cX2_mostWatchedByTable.data.toList.drop 24 = dktX2_mostWatchedByTable_1 := dk_seg dksX2_mostWatchedByTable_0 24 rfl rfl
theorem dksX2_mostWatchedByTable_2 : cX2_mostWatchedByTable.data.toList.drop 47 = dktX2_mostWatchedByTable_2 := dk_seg dksX2_mostWatchedByTable_1 23 rfl rfl
theorem dksX2_mostWatchedByTable_3 : cX2_mostWatchedByTable.data.toList.drop 69 = dktX2_mostWatchedByTable_3 := dk_seg dksX2_mostWatchedByTable_2 22 rfl rfl
theorem dksX2_mostWatchedByTable_4 : cX2_mostWatchedByTable.data.toList.drop 92 = dktX2_mostWatchedByTable_4 := dk_seg dksX2_mostWatchedByTable_3 23 rfl rfl
theorem dksX2_mostWatchedByTable_5 : cX2_mostWatchedByTable.data.toList.drop 116 = dktX2_mostWatchedByTable_5 := dk_seg dksX2_mostWatchedByTable_4 24 rfl rfl
theorem dX2_mostWatchedByTable_0 : decode cX2_mostWatchedByTable 0 = .ok (.aload_n 0, 1) := dk_42 (dk_at dksX2_mostWatchedByTable_0 0 rfl rfl)
theorem dX2_mostWatchedByTable_1 : decode cX2_mostWatchedByTable 1 = .ok (.getfield 21, 3) := dk_180 0 21 (dk_at dksX2_mostWatchedByTable_0 1 rfl rfl)
theorem dX2_mostWatchedByTable_4 : decode cX2_mostWatchedByTable 4 = .ok (.invokevirtual 38, 3) := dk_182 0 38 (dk_at dksX2_mostWatchedByTable_0 4 rfl rfl)
theorem dX2_mostWatchedByTable_7 : decode cX2_mostWatchedByTable 7 = .ok (.newarray .int, 2) := dk_188_10 (dk_at dksX2_mostWatchedByTable_0 7 rfl rfl)
theorem dX2_mostWatchedByTable_9 : decode cX2_mostWatchedByTable 9 = .ok (.astore_n 1, 1) := dk_76 (dk_at dksX2_mostWatchedByTable_0 9 rfl rfl)
theorem dX2_mostWatchedByTable_10 : decode cX2_mostWatchedByTable 10 = .ok (.iconst 0, 1) := dk_3 (dk_at dksX2_mostWatchedByTable_0 10 rfl rfl)
theorem dX2_mostWatchedByTable_11 : decode cX2_mostWatchedByTable 11 = .ok (.istore_n 2, 1) := dk_61 (dk_at dksX2_mostWatchedByTable_0 11 rfl rfl)
theorem dX2_mostWatchedByTable_12 : decode cX2_mostWatchedByTable 12 = .ok (.iconst 0, 1) := dk_3 (dk_at dksX2_mostWatchedByTable_0 12 rfl rfl)
theorem dX2_mostWatchedByTable_13 : decode cX2_mostWatchedByTable 13 = .ok (.istore_n 3, 1) := dk_62 (dk_at dksX2_mostWatchedByTable_0 13 rfl rfl)
theorem dX2_mostWatchedByTable_14 : decode cX2_mostWatchedByTable 14 = .ok (.iload_n 3, 1) := dk_29 (dk_at dksX2_mostWatchedByTable_0 14 rfl rfl)
theorem dX2_mostWatchedByTable_15 : decode cX2_mostWatchedByTable 15 = .ok (.aload_n 1, 1) := dk_43 (dk_at dksX2_mostWatchedByTable_0 15 rfl rfl)
theorem dX2_mostWatchedByTable_16 : decode cX2_mostWatchedByTable 16 = .ok (.arraylength, 1) := dk_190 (dk_at dksX2_mostWatchedByTable_0 16 rfl rfl)
theorem dX2_mostWatchedByTable_17 : decode cX2_mostWatchedByTable 17 = .ok (.if_icmp .ge 119, 3) := dk_162 0 119 (dk_at dksX2_mostWatchedByTable_0 17 rfl rfl)
theorem dX2_mostWatchedByTable_20 : decode cX2_mostWatchedByTable 20 = .ok (.aload_n 0, 1) := dk_42 (dk_at dksX2_mostWatchedByTable_0 20 rfl rfl)
theorem dX2_mostWatchedByTable_21 : decode cX2_mostWatchedByTable 21 = .ok (.getfield 21, 3) := dk_180 0 21 (dk_at dksX2_mostWatchedByTable_0 21 rfl rfl)
theorem dX2_mostWatchedByTable_24 : decode cX2_mostWatchedByTable 24 = .ok (.aload_n 0, 1) := dk_42 (dk_at dksX2_mostWatchedByTable_1 0 rfl rfl)
theorem dX2_mostWatchedByTable_25 : decode cX2_mostWatchedByTable 25 = .ok (.getfield 21, 3) := dk_180 0 21 (dk_at dksX2_mostWatchedByTable_1 1 rfl rfl)
theorem dX2_mostWatchedByTable_28 : decode cX2_mostWatchedByTable 28 = .ok (.iload_n 3, 1) := dk_29 (dk_at dksX2_mostWatchedByTable_1 4 rfl rfl)
theorem dX2_mostWatchedByTable_29 : decode cX2_mostWatchedByTable 29 = .ok (.invokestatic 243, 3) := dk_184 0 243 (dk_at dksX2_mostWatchedByTable_1 5 rfl rfl)
theorem dX2_mostWatchedByTable_32 : decode cX2_mostWatchedByTable 32 = .ok (.invokevirtual 42, 3) := dk_182 0 42 (dk_at dksX2_mostWatchedByTable_1 8 rfl rfl)
theorem dX2_mostWatchedByTable_35 : decode cX2_mostWatchedByTable 35 = .ok (.checkcast 46, 3) := dk_192 0 46 (dk_at dksX2_mostWatchedByTable_1 11 rfl rfl)
theorem dX2_mostWatchedByTable_38 : decode cX2_mostWatchedByTable 38 = .ok (.astore 4, 2) := dk_58 4 (dk_at dksX2_mostWatchedByTable_1 14 rfl rfl)
theorem dX2_mostWatchedByTable_40 : decode cX2_mostWatchedByTable 40 = .ok (.aload_n 1, 1) := dk_43 (dk_at dksX2_mostWatchedByTable_1 16 rfl rfl)
theorem dX2_mostWatchedByTable_41 : decode cX2_mostWatchedByTable 41 = .ok (.iload_n 3, 1) := dk_29 (dk_at dksX2_mostWatchedByTable_1 17 rfl rfl)
theorem dX2_mostWatchedByTable_42 : decode cX2_mostWatchedByTable 42 = .ok (.iconst 1, 1) := dk_4 (dk_at dksX2_mostWatchedByTable_1 18 rfl rfl)
theorem dX2_mostWatchedByTable_43 : decode cX2_mostWatchedByTable 43 = .ok (.iastore, 1) := dk_79 (dk_at dksX2_mostWatchedByTable_1 19 rfl rfl)
theorem dX2_mostWatchedByTable_44 : decode cX2_mostWatchedByTable 44 = .ok (.iconst 0, 1) := dk_3 (dk_at dksX2_mostWatchedByTable_1 20 rfl rfl)
theorem dX2_mostWatchedByTable_45 : decode cX2_mostWatchedByTable 45 = .ok (.istore 5, 2) := dk_54 5 (dk_at dksX2_mostWatchedByTable_1 21 rfl rfl)
theorem dX2_mostWatchedByTable_47 : decode cX2_mostWatchedByTable 47 = .ok (.iload 5, 2) := dk_21 5 (dk_at dksX2_mostWatchedByTable_2 0 rfl rfl)
theorem dX2_mostWatchedByTable_49 : decode cX2_mostWatchedByTable 49 = .ok (.iload_n 3, 1) := dk_29 (dk_at dksX2_mostWatchedByTable_2 2 rfl rfl)
theorem dX2_mostWatchedByTable_50 : decode cX2_mostWatchedByTable 50 = .ok (.if_icmp .ge 72, 3) := dk_162 0 72 (dk_at dksX2_mostWatchedByTable_2 3 rfl rfl)
theorem dX2_mostWatchedByTable_53 : decode cX2_mostWatchedByTable 53 = .ok (.aload_n 0, 1) := dk_42 (dk_at dksX2_mostWatchedByTable_2 6 rfl rfl)
theorem dX2_mostWatchedByTable_54 : decode cX2_mostWatchedByTable 54 = .ok (.getfield 21, 3) := dk_180 0 21 (dk_at dksX2_mostWatchedByTable_2 7 rfl rfl)
theorem dX2_mostWatchedByTable_57 : decode cX2_mostWatchedByTable 57 = .ok (.aload_n 0, 1) := dk_42 (dk_at dksX2_mostWatchedByTable_2 10 rfl rfl)
theorem dX2_mostWatchedByTable_58 : decode cX2_mostWatchedByTable 58 = .ok (.getfield 21, 3) := dk_180 0 21 (dk_at dksX2_mostWatchedByTable_2 11 rfl rfl)
theorem dX2_mostWatchedByTable_61 : decode cX2_mostWatchedByTable 61 = .ok (.iload 5, 2) := dk_21 5 (dk_at dksX2_mostWatchedByTable_2 14 rfl rfl)
theorem dX2_mostWatchedByTable_63 : decode cX2_mostWatchedByTable 63 = .ok (.invokestatic 243, 3) := dk_184 0 243 (dk_at dksX2_mostWatchedByTable_2 16 rfl rfl)
theorem dX2_mostWatchedByTable_66 : decode cX2_mostWatchedByTable 66 = .ok (.invokevirtual 42, 3) := dk_182 0 42 (dk_at dksX2_mostWatchedByTable_2 19 rfl rfl)
theorem dX2_mostWatchedByTable_69 : decode cX2_mostWatchedByTable 69 = .ok (.checkcast 46, 3) := dk_192 0 46 (dk_at dksX2_mostWatchedByTable_3 0 rfl rfl)
theorem dX2_mostWatchedByTable_72 : decode cX2_mostWatchedByTable 72 = .ok (.getfield 217, 3) := dk_180 0 217 (dk_at dksX2_mostWatchedByTable_3 3 rfl rfl)
theorem dX2_mostWatchedByTable_75 : decode cX2_mostWatchedByTable 75 = .ok (.aload 4, 2) := dk_25 4 (dk_at dksX2_mostWatchedByTable_3 6 rfl rfl)
theorem dX2_mostWatchedByTable_77 : decode cX2_mostWatchedByTable 77 = .ok (.getfield 163, 3) := dk_180 0 163 (dk_at dksX2_mostWatchedByTable_3 8 rfl rfl)
theorem dX2_mostWatchedByTable_80 : decode cX2_mostWatchedByTable 80 = .ok (.if_icmp .gt 7, 3) := dk_163 0 7 (dk_at dksX2_mostWatchedByTable_3 11 rfl rfl)
theorem dX2_mostWatchedByTable_83 : decode cX2_mostWatchedByTable 83 = .ok (.iconst 1, 1) := dk_4 (dk_at dksX2_mostWatchedByTable_3 14 rfl rfl)
theorem dX2_mostWatchedByTable_84 : decode cX2_mostWatchedByTable 84 = .ok (.goto 4, 3) := dk_167 0 4 (dk_at dksX2_mostWatchedByTable_3 15 rfl rfl)
theorem dX2_mostWatchedByTable_87 : decode cX2_mostWatchedByTable 87 = .ok (.iconst 0, 1) := dk_3 (dk_at dksX2_mostWatchedByTable_3 18 rfl rfl)
theorem dX2_mostWatchedByTable_88 : decode cX2_mostWatchedByTable 88 = .ok (.istore 6, 2) := dk_54 6 (dk_at dksX2_mostWatchedByTable_3 19 rfl rfl)
theorem dX2_mostWatchedByTable_90 : decode cX2_mostWatchedByTable 90 = .ok (.aload_n 1, 1) := dk_43 (dk_at dksX2_mostWatchedByTable_3 21 rfl rfl)
theorem dX2_mostWatchedByTable_91 : decode cX2_mostWatchedByTable 91 = .ok (.iload_n 3, 1) := dk_29 (dk_at dksX2_mostWatchedByTable_3 22 rfl rfl)
theorem dX2_mostWatchedByTable_92 : decode cX2_mostWatchedByTable 92 = .ok (.iload 6, 2) := dk_21 6 (dk_at dksX2_mostWatchedByTable_4 0 rfl rfl)
theorem dX2_mostWatchedByTable_94 : decode cX2_mostWatchedByTable 94 = .ok (.ifCond .eq 18, 3) := dk_153 0 18 (dk_at dksX2_mostWatchedByTable_4 2 rfl rfl)
theorem dX2_mostWatchedByTable_97 : decode cX2_mostWatchedByTable 97 = .ok (.aload_n 1, 1) := dk_43 (dk_at dksX2_mostWatchedByTable_4 5 rfl rfl)
theorem dX2_mostWatchedByTable_98 : decode cX2_mostWatchedByTable 98 = .ok (.iload_n 3, 1) := dk_29 (dk_at dksX2_mostWatchedByTable_4 6 rfl rfl)
theorem dX2_mostWatchedByTable_99 : decode cX2_mostWatchedByTable 99 = .ok (.iaload, 1) := dk_46 (dk_at dksX2_mostWatchedByTable_4 7 rfl rfl)
theorem dX2_mostWatchedByTable_100 : decode cX2_mostWatchedByTable 100 = .ok (.aload_n 1, 1) := dk_43 (dk_at dksX2_mostWatchedByTable_4 8 rfl rfl)
theorem dX2_mostWatchedByTable_101 : decode cX2_mostWatchedByTable 101 = .ok (.iload 5, 2) := dk_21 5 (dk_at dksX2_mostWatchedByTable_4 9 rfl rfl)
theorem dX2_mostWatchedByTable_103 : decode cX2_mostWatchedByTable 103 = .ok (.iaload, 1) := dk_46 (dk_at dksX2_mostWatchedByTable_4 11 rfl rfl)
theorem dX2_mostWatchedByTable_104 : decode cX2_mostWatchedByTable 104 = .ok (.iconst 1, 1) := dk_4 (dk_at dksX2_mostWatchedByTable_4 12 rfl rfl)
theorem dX2_mostWatchedByTable_105 : decode cX2_mostWatchedByTable 105 = .ok (.iadd, 1) := dk_96 (dk_at dksX2_mostWatchedByTable_4 13 rfl rfl)
theorem dX2_mostWatchedByTable_106 : decode cX2_mostWatchedByTable 106 = .ok (.invokestatic 254, 3) := dk_184 0 254 (dk_at dksX2_mostWatchedByTable_4 14 rfl rfl)
theorem dX2_mostWatchedByTable_109 : decode cX2_mostWatchedByTable 109 = .ok (.goto 6, 3) := dk_167 0 6 (dk_at dksX2_mostWatchedByTable_4 17 rfl rfl)
theorem dX2_mostWatchedByTable_112 : decode cX2_mostWatchedByTable 112 = .ok (.aload_n 1, 1) := dk_43 (dk_at dksX2_mostWatchedByTable_4 20 rfl rfl)
theorem dX2_mostWatchedByTable_113 : decode cX2_mostWatchedByTable 113 = .ok (.iload_n 3, 1) := dk_29 (dk_at dksX2_mostWatchedByTable_4 21 rfl rfl)
theorem dX2_mostWatchedByTable_114 : decode cX2_mostWatchedByTable 114 = .ok (.iaload, 1) := dk_46 (dk_at dksX2_mostWatchedByTable_4 22 rfl rfl)
theorem dX2_mostWatchedByTable_115 : decode cX2_mostWatchedByTable 115 = .ok (.iastore, 1) := dk_79 (dk_at dksX2_mostWatchedByTable_4 23 rfl rfl)
theorem dX2_mostWatchedByTable_116 : decode cX2_mostWatchedByTable 116 = .ok (.iinc 5 1, 3) := dk_132 5 1 (dk_at dksX2_mostWatchedByTable_5 0 rfl rfl)
theorem dX2_mostWatchedByTable_119 : decode cX2_mostWatchedByTable 119 = .ok (.goto (-72), 3) := dk_167 255 184 (dk_at dksX2_mostWatchedByTable_5 3 rfl rfl)
theorem dX2_mostWatchedByTable_122 : decode cX2_mostWatchedByTable 122 = .ok (.iload_n 2, 1) := dk_28 (dk_at dksX2_mostWatchedByTable_5 6 rfl rfl)
theorem dX2_mostWatchedByTable_123 : decode cX2_mostWatchedByTable 123 = .ok (.aload_n 1, 1) := dk_43 (dk_at dksX2_mostWatchedByTable_5 7 rfl rfl)
theorem dX2_mostWatchedByTable_124 : decode cX2_mostWatchedByTable 124 = .ok (.iload_n 3, 1) := dk_29 (dk_at dksX2_mostWatchedByTable_5 8 rfl rfl)
theorem dX2_mostWatchedByTable_125 : decode cX2_mostWatchedByTable 125 = .ok (.iaload, 1) := dk_46 (dk_at dksX2_mostWatchedByTable_5 9 rfl rfl)
theorem dX2_mostWatchedByTable_126 : decode cX2_mostWatchedByTable 126 = .ok (.invokestatic 254, 3) := dk_184 0 254 (dk_at dksX2_mostWatchedByTable_5 10 rfl rfl)
theorem dX2_mostWatchedByTable_129 : decode cX2_mostWatchedByTable 129 = .ok (.istore_n 2, 1) := dk_61 (dk_at dksX2_mostWatchedByTable_5 13 rfl rfl)
theorem dX2_mostWatchedByTable_130 : decode cX2_mostWatchedByTable 130 = .ok (.iinc 3 1, 3) := dk_132 3 1 (dk_at dksX2_mostWatchedByTable_5 14 rfl rfl)
theorem dX2_mostWatchedByTable_133 : decode cX2_mostWatchedByTable 133 = .ok (.goto (-119), 3) := dk_167 255 137 (dk_at dksX2_mostWatchedByTable_5 17 rfl rfl)
theorem dX2_mostWatchedByTable_136 : decode cX2_mostWatchedByTable 136 = .ok (.iload_n 2, 1) := dk_28 (dk_at dksX2_mostWatchedByTable_5 20 rfl rfl)
theorem dX2_mostWatchedByTable_137 : decode cX2_mostWatchedByTable 137 = .ok (.ireturn, 1) := dk_172 (dk_at dksX2_mostWatchedByTable_5 21 rfl rfl)
abbrev cX2_mostAtOnce : ByteArray := prog_12_method_32_code
def yX2_mostAtOnce : MethodName := ⟨RX2, "mostAtOnce", "()I"⟩
def dkwX2_mostAtOnce_3 : List UInt8 := [96, 62, 132, 4, 1, 167, 255, 201, 27, 29, 184, 0, 254, 60, 132, 2, 1, 167, 255, 173, 27, 172]
abbrev dktX2_mostAtOnce_3 : List UInt8 := dkwX2_mostAtOnce_3 ++ []
def dkwX2_mostAtOnce_2 : List UInt8 := [180, 0, 21, 28, 182, 0, 42, 192, 0, 46, 180, 0, 163, 182, 0, 196, 153, 0, 7, 4, 167, 0, 4, 3]
abbrev dktX2_mostAtOnce_2 : List UInt8 := dkwX2_mostAtOnce_2 ++ dktX2_mostAtOnce_3
def dkwX2_mostAtOnce_1 : List UInt8 := [180, 0, 21, 182, 0, 38, 162, 0, 49, 29, 42, 180, 0, 21, 21, 4, 182, 0, 42, 192, 0, 46, 42]
abbrev dktX2_mostAtOnce_1 : List UInt8 := dkwX2_mostAtOnce_1 ++ dktX2_mostAtOnce_2
def dkwX2_mostAtOnce_0 : List UInt8 := [3, 60, 3, 61, 28, 42, 180, 0, 21, 182, 0, 38, 162, 0, 78, 3, 62, 3, 54, 4, 21, 4, 42]
abbrev dktX2_mostAtOnce_0 : List UInt8 := dkwX2_mostAtOnce_0 ++ dktX2_mostAtOnce_1
theorem dksX2_mostAtOnce_0 : cX2_mostAtOnce.data.toList.drop 0 = dktX2_mostAtOnce_0 := by decide +kernel
theorem dksX2_mostAtOnce_1 : cX2_mostAtOnce.data.toList.drop 23 = dktX2_mostAtOnce_1 := dk_seg dksX2_mostAtOnce_0 23 rfl rfl
theorem dksX2_mostAtOnce_2 : cX2_mostAtOnce.data.toList.drop 46 = dktX2_mostAtOnce_2 := dk_seg dksX2_mostAtOnce_1 23 rfl rfl
theorem dksX2_mostAtOnce_3 : cX2_mostAtOnce.data.toList.drop 70 = dktX2_mostAtOnce_3 := dk_seg dksX2_mostAtOnce_2 24 rfl rfl
theorem dX2_mostAtOnce_0 : decode cX2_mostAtOnce 0 = .ok (.iconst 0, 1) := dk_3 (dk_at dksX2_mostAtOnce_0 0 rfl rfl)
theorem dX2_mostAtOnce_1 : decode cX2_mostAtOnce 1 = .ok (.istore_n 1, 1) := dk_60 (dk_at dksX2_mostAtOnce_0 1 rfl rfl)
theorem dX2_mostAtOnce_2 : decode cX2_mostAtOnce 2 = .ok (.iconst 0, 1) := dk_3 (dk_at dksX2_mostAtOnce_0 2 rfl rfl)
theorem dX2_mostAtOnce_3 : decode cX2_mostAtOnce 3 = .ok (.istore_n 2, 1) := dk_61 (dk_at dksX2_mostAtOnce_0 3 rfl rfl)
theorem dX2_mostAtOnce_4 : decode cX2_mostAtOnce 4 = .ok (.iload_n 2, 1) := dk_28 (dk_at dksX2_mostAtOnce_0 4 rfl rfl)
theorem dX2_mostAtOnce_5 : decode cX2_mostAtOnce 5 = .ok (.aload_n 0, 1) := dk_42 (dk_at dksX2_mostAtOnce_0 5 rfl rfl)
theorem dX2_mostAtOnce_6 : decode cX2_mostAtOnce 6 = .ok (.getfield 21, 3) := dk_180 0 21 (dk_at dksX2_mostAtOnce_0 6 rfl rfl)
theorem dX2_mostAtOnce_9 : decode cX2_mostAtOnce 9 = .ok (.invokevirtual 38, 3) := dk_182 0 38 (dk_at dksX2_mostAtOnce_0 9 rfl rfl)
theorem dX2_mostAtOnce_12 : decode cX2_mostAtOnce 12 = .ok (.if_icmp .ge 78, 3) := dk_162 0 78 (dk_at dksX2_mostAtOnce_0 12 rfl rfl)
theorem dX2_mostAtOnce_15 : decode cX2_mostAtOnce 15 = .ok (.iconst 0, 1) := dk_3 (dk_at dksX2_mostAtOnce_0 15 rfl rfl)
theorem dX2_mostAtOnce_16 : decode cX2_mostAtOnce 16 = .ok (.istore_n 3, 1) := dk_62 (dk_at dksX2_mostAtOnce_0 16 rfl rfl)
theorem dX2_mostAtOnce_17 : decode cX2_mostAtOnce 17 = .ok (.iconst 0, 1) := dk_3 (dk_at dksX2_mostAtOnce_0 17 rfl rfl)
theorem dX2_mostAtOnce_18 : decode cX2_mostAtOnce 18 = .ok (.istore 4, 2) := dk_54 4 (dk_at dksX2_mostAtOnce_0 18 rfl rfl)
theorem dX2_mostAtOnce_20 : decode cX2_mostAtOnce 20 = .ok (.iload 4, 2) := dk_21 4 (dk_at dksX2_mostAtOnce_0 20 rfl rfl)
theorem dX2_mostAtOnce_22 : decode cX2_mostAtOnce 22 = .ok (.aload_n 0, 1) := dk_42 (dk_at dksX2_mostAtOnce_0 22 rfl rfl)
theorem dX2_mostAtOnce_23 : decode cX2_mostAtOnce 23 = .ok (.getfield 21, 3) := dk_180 0 21 (dk_at dksX2_mostAtOnce_1 0 rfl rfl)
theorem dX2_mostAtOnce_26 : decode cX2_mostAtOnce 26 = .ok (.invokevirtual 38, 3) := dk_182 0 38 (dk_at dksX2_mostAtOnce_1 3 rfl rfl)
theorem dX2_mostAtOnce_29 : decode cX2_mostAtOnce 29 = .ok (.if_icmp .ge 49, 3) := dk_162 0 49 (dk_at dksX2_mostAtOnce_1 6 rfl rfl)
theorem dX2_mostAtOnce_32 : decode cX2_mostAtOnce 32 = .ok (.iload_n 3, 1) := dk_29 (dk_at dksX2_mostAtOnce_1 9 rfl rfl)
theorem dX2_mostAtOnce_33 : decode cX2_mostAtOnce 33 = .ok (.aload_n 0, 1) := dk_42 (dk_at dksX2_mostAtOnce_1 10 rfl rfl)
theorem dX2_mostAtOnce_34 : decode cX2_mostAtOnce 34 = .ok (.getfield 21, 3) := dk_180 0 21 (dk_at dksX2_mostAtOnce_1 11 rfl rfl)
theorem dX2_mostAtOnce_37 : decode cX2_mostAtOnce 37 = .ok (.iload 4, 2) := dk_21 4 (dk_at dksX2_mostAtOnce_1 14 rfl rfl)
theorem dX2_mostAtOnce_39 : decode cX2_mostAtOnce 39 = .ok (.invokevirtual 42, 3) := dk_182 0 42 (dk_at dksX2_mostAtOnce_1 16 rfl rfl)
theorem dX2_mostAtOnce_42 : decode cX2_mostAtOnce 42 = .ok (.checkcast 46, 3) := dk_192 0 46 (dk_at dksX2_mostAtOnce_1 19 rfl rfl)
theorem dX2_mostAtOnce_45 : decode cX2_mostAtOnce 45 = .ok (.aload_n 0, 1) := dk_42 (dk_at dksX2_mostAtOnce_1 22 rfl rfl)
theorem dX2_mostAtOnce_46 : decode cX2_mostAtOnce 46 = .ok (.getfield 21, 3) := dk_180 0 21 (dk_at dksX2_mostAtOnce_2 0 rfl rfl)
theorem dX2_mostAtOnce_49 : decode cX2_mostAtOnce 49 = .ok (.iload_n 2, 1) := dk_28 (dk_at dksX2_mostAtOnce_2 3 rfl rfl)
theorem dX2_mostAtOnce_50 : decode cX2_mostAtOnce 50 = .ok (.invokevirtual 42, 3) := dk_182 0 42 (dk_at dksX2_mostAtOnce_2 4 rfl rfl)
theorem dX2_mostAtOnce_53 : decode cX2_mostAtOnce 53 = .ok (.checkcast 46, 3) := dk_192 0 46 (dk_at dksX2_mostAtOnce_2 7 rfl rfl)
theorem dX2_mostAtOnce_56 : decode cX2_mostAtOnce 56 = .ok (.getfield 163, 3) := dk_180 0 163 (dk_at dksX2_mostAtOnce_2 10 rfl rfl)
theorem dX2_mostAtOnce_59 : decode cX2_mostAtOnce 59 = .ok (.invokevirtual 196, 3) := dk_182 0 196 (dk_at dksX2_mostAtOnce_2 13 rfl rfl)
theorem dX2_mostAtOnce_62 : decode cX2_mostAtOnce 62 = .ok (.ifCond .eq 7, 3) := dk_153 0 7 (dk_at dksX2_mostAtOnce_2 16 rfl rfl)
theorem dX2_mostAtOnce_65 : decode cX2_mostAtOnce 65 = .ok (.iconst 1, 1) := dk_4 (dk_at dksX2_mostAtOnce_2 19 rfl rfl)
theorem dX2_mostAtOnce_66 : decode cX2_mostAtOnce 66 = .ok (.goto 4, 3) := dk_167 0 4 (dk_at dksX2_mostAtOnce_2 20 rfl rfl)
theorem dX2_mostAtOnce_69 : decode cX2_mostAtOnce 69 = .ok (.iconst 0, 1) := dk_3 (dk_at dksX2_mostAtOnce_2 23 rfl rfl)
theorem dX2_mostAtOnce_70 : decode cX2_mostAtOnce 70 = .ok (.iadd, 1) := dk_96 (dk_at dksX2_mostAtOnce_3 0 rfl rfl)
theorem dX2_mostAtOnce_71 : decode cX2_mostAtOnce 71 = .ok (.istore_n 3, 1) := dk_62 (dk_at dksX2_mostAtOnce_3 1 rfl rfl)
theorem dX2_mostAtOnce_72 : decode cX2_mostAtOnce 72 = .ok (.iinc 4 1, 3) := dk_132 4 1 (dk_at dksX2_mostAtOnce_3 2 rfl rfl)
theorem dX2_mostAtOnce_75 : decode cX2_mostAtOnce 75 = .ok (.goto (-55), 3) := dk_167 255 201 (dk_at dksX2_mostAtOnce_3 5 rfl rfl)
theorem dX2_mostAtOnce_78 : decode cX2_mostAtOnce 78 = .ok (.iload_n 1, 1) := dk_27 (dk_at dksX2_mostAtOnce_3 8 rfl rfl)
theorem dX2_mostAtOnce_79 : decode cX2_mostAtOnce 79 = .ok (.iload_n 3, 1) := dk_29 (dk_at dksX2_mostAtOnce_3 9 rfl rfl)
theorem dX2_mostAtOnce_80 : decode cX2_mostAtOnce 80 = .ok (.invokestatic 254, 3) := dk_184 0 254 (dk_at dksX2_mostAtOnce_3 10 rfl rfl)
theorem dX2_mostAtOnce_83 : decode cX2_mostAtOnce 83 = .ok (.istore_n 1, 1) := dk_60 (dk_at dksX2_mostAtOnce_3 13 rfl rfl)
theorem dX2_mostAtOnce_84 : decode cX2_mostAtOnce 84 = .ok (.iinc 2 1, 3) := dk_132 2 1 (dk_at dksX2_mostAtOnce_3 14 rfl rfl)
theorem dX2_mostAtOnce_87 : decode cX2_mostAtOnce 87 = .ok (.goto (-83), 3) := dk_167 255 173 (dk_at dksX2_mostAtOnce_3 17 rfl rfl)
theorem dX2_mostAtOnce_90 : decode cX2_mostAtOnce 90 = .ok (.iload_n 1, 1) := dk_27 (dk_at dksX2_mostAtOnce_3 20 rfl rfl)
theorem dX2_mostAtOnce_91 : decode cX2_mostAtOnce 91 = .ok (.ireturn, 1) := dk_172 (dk_at dksX2_mostAtOnce_3 21 rfl rfl)
abbrev cX2_mostAtOnceBySweep : ByteArray := prog_12_method_33_code
def yX2_mostAtOnceBySweep : MethodName := ⟨RX2, "mostAtOnceBySweep", "()I"⟩
def dkwX2_mostAtOnceBySweep_4 : List UInt8 := [21, 5, 46, 96, 54, 4, 29, 21, 4, 184, 0, 254, 62, 132, 5, 1, 167, 255, 230, 29, 172]
abbrev dktX2_mostAtOnceBySweep_4 : List UInt8 := dkwX2_mostAtOnceBySweep_4 ++ []
def dkwX2_mostAtOnceBySweep_3 : List UInt8 := [132, 3, 1, 167, 255, 198, 3, 62, 3, 54, 4, 3, 54, 5, 21, 5, 44, 190, 162, 0, 25, 21, 4, 44]
abbrev dktX2_mostAtOnceBySweep_3 : List UInt8 := dkwX2_mostAtOnceBySweep_3 ++ dktX2_mostAtOnceBySweep_4
def dkwX2_mostAtOnceBySweep_2 : List UInt8 := [79, 44, 42, 180, 0, 21, 29, 182, 0, 42, 192, 0, 46, 180, 0, 217, 27, 100, 92, 46, 4, 100, 79]
abbrev dktX2_mostAtOnceBySweep_2 : List UInt8 := dkwX2_mostAtOnceBySweep_2 ++ dktX2_mostAtOnceBySweep_3
def dkwX2_mostAtOnceBySweep_1 : List UInt8 := [162, 0, 53, 44, 42, 180, 0, 21, 29, 182, 0, 42, 192, 0, 46, 180, 0, 163, 27, 100, 92, 46, 4, 96]
abbrev dktX2_mostAtOnceBySweep_1 : List UInt8 := dkwX2_mostAtOnceBySweep_1 ++ dktX2_mostAtOnceBySweep_2
def dkwX2_mostAtOnceBySweep_0 : List UInt8 := [42, 180, 0, 56, 16, 9, 100, 60, 17, 0, 140, 188, 10, 77, 3, 62, 29, 42, 180, 0, 21, 182, 0, 38]
abbrev dktX2_mostAtOnceBySweep_0 : List UInt8 := dkwX2_mostAtOnceBySweep_0 ++ dktX2_mostAtOnceBySweep_1
theorem dksX2_mostAtOnceBySweep_0 : cX2_mostAtOnceBySweep.data.toList.drop 0 = dktX2_mostAtOnceBySweep_0 := by decide +kernel
theorem dksX2_mostAtOnceBySweep_1 : cX2_mostAtOnceBySweep.data.toList.drop 24 = dktX2_mostAtOnceBySweep_1 := dk_seg dksX2_mostAtOnceBySweep_0 24 rfl rfl
theorem dksX2_mostAtOnceBySweep_2 : cX2_mostAtOnceBySweep.data.toList.drop 48 = dktX2_mostAtOnceBySweep_2 := dk_seg dksX2_mostAtOnceBySweep_1 24 rfl rfl
theorem dksX2_mostAtOnceBySweep_3 : cX2_mostAtOnceBySweep.data.toList.drop 71 = dktX2_mostAtOnceBySweep_3 := dk_seg dksX2_mostAtOnceBySweep_2 23 rfl rfl
theorem dksX2_mostAtOnceBySweep_4 : cX2_mostAtOnceBySweep.data.toList.drop 95 = dktX2_mostAtOnceBySweep_4 := dk_seg dksX2_mostAtOnceBySweep_3 24 rfl rfl
theorem dX2_mostAtOnceBySweep_0 : decode cX2_mostAtOnceBySweep 0 = .ok (.aload_n 0, 1) := dk_42 (dk_at dksX2_mostAtOnceBySweep_0 0 rfl rfl)
theorem dX2_mostAtOnceBySweep_1 : decode cX2_mostAtOnceBySweep 1 = .ok (.getfield 56, 3) := dk_180 0 56 (dk_at dksX2_mostAtOnceBySweep_0 1 rfl rfl)
theorem dX2_mostAtOnceBySweep_4 : decode cX2_mostAtOnceBySweep 4 = .ok (.bipush 9, 2) := dk_16 9 (dk_at dksX2_mostAtOnceBySweep_0 4 rfl rfl)
theorem dX2_mostAtOnceBySweep_6 : decode cX2_mostAtOnceBySweep 6 = .ok (.isub, 1) := dk_100 (dk_at dksX2_mostAtOnceBySweep_0 6 rfl rfl)
theorem dX2_mostAtOnceBySweep_7 : decode cX2_mostAtOnceBySweep 7 = .ok (.istore_n 1, 1) := dk_60 (dk_at dksX2_mostAtOnceBySweep_0 7 rfl rfl)
theorem dX2_mostAtOnceBySweep_8 : decode cX2_mostAtOnceBySweep 8 = .ok (.sipush 140, 3) := dk_17 0 140 (dk_at dksX2_mostAtOnceBySweep_0 8 rfl rfl)
theorem dX2_mostAtOnceBySweep_11 : decode cX2_mostAtOnceBySweep 11 = .ok (.newarray .int, 2) := dk_188_10 (dk_at dksX2_mostAtOnceBySweep_0 11 rfl rfl)
theorem dX2_mostAtOnceBySweep_13 : decode cX2_mostAtOnceBySweep 13 = .ok (.astore_n 2, 1) := dk_77 (dk_at dksX2_mostAtOnceBySweep_0 13 rfl rfl)
theorem dX2_mostAtOnceBySweep_14 : decode cX2_mostAtOnceBySweep 14 = .ok (.iconst 0, 1) := dk_3 (dk_at dksX2_mostAtOnceBySweep_0 14 rfl rfl)
theorem dX2_mostAtOnceBySweep_15 : decode cX2_mostAtOnceBySweep 15 = .ok (.istore_n 3, 1) := dk_62 (dk_at dksX2_mostAtOnceBySweep_0 15 rfl rfl)
theorem dX2_mostAtOnceBySweep_16 : decode cX2_mostAtOnceBySweep 16 = .ok (.iload_n 3, 1) := dk_29 (dk_at dksX2_mostAtOnceBySweep_0 16 rfl rfl)
theorem dX2_mostAtOnceBySweep_17 : decode cX2_mostAtOnceBySweep 17 = .ok (.aload_n 0, 1) := dk_42 (dk_at dksX2_mostAtOnceBySweep_0 17 rfl rfl)
theorem dX2_mostAtOnceBySweep_18 : decode cX2_mostAtOnceBySweep 18 = .ok (.getfield 21, 3) := dk_180 0 21 (dk_at dksX2_mostAtOnceBySweep_0 18 rfl rfl)
theorem dX2_mostAtOnceBySweep_21 : decode cX2_mostAtOnceBySweep 21 = .ok (.invokevirtual 38, 3) := dk_182 0 38 (dk_at dksX2_mostAtOnceBySweep_0 21 rfl rfl)
theorem dX2_mostAtOnceBySweep_24 : decode cX2_mostAtOnceBySweep 24 = .ok (.if_icmp .ge 53, 3) := dk_162 0 53 (dk_at dksX2_mostAtOnceBySweep_1 0 rfl rfl)
theorem dX2_mostAtOnceBySweep_27 : decode cX2_mostAtOnceBySweep 27 = .ok (.aload_n 2, 1) := dk_44 (dk_at dksX2_mostAtOnceBySweep_1 3 rfl rfl)
theorem dX2_mostAtOnceBySweep_28 : decode cX2_mostAtOnceBySweep 28 = .ok (.aload_n 0, 1) := dk_42 (dk_at dksX2_mostAtOnceBySweep_1 4 rfl rfl)
theorem dX2_mostAtOnceBySweep_29 : decode cX2_mostAtOnceBySweep 29 = .ok (.getfield 21, 3) := dk_180 0 21 (dk_at dksX2_mostAtOnceBySweep_1 5 rfl rfl)
theorem dX2_mostAtOnceBySweep_32 : decode cX2_mostAtOnceBySweep 32 = .ok (.iload_n 3, 1) := dk_29 (dk_at dksX2_mostAtOnceBySweep_1 8 rfl rfl)
theorem dX2_mostAtOnceBySweep_33 : decode cX2_mostAtOnceBySweep 33 = .ok (.invokevirtual 42, 3) := dk_182 0 42 (dk_at dksX2_mostAtOnceBySweep_1 9 rfl rfl)
theorem dX2_mostAtOnceBySweep_36 : decode cX2_mostAtOnceBySweep 36 = .ok (.checkcast 46, 3) := dk_192 0 46 (dk_at dksX2_mostAtOnceBySweep_1 12 rfl rfl)
theorem dX2_mostAtOnceBySweep_39 : decode cX2_mostAtOnceBySweep 39 = .ok (.getfield 163, 3) := dk_180 0 163 (dk_at dksX2_mostAtOnceBySweep_1 15 rfl rfl)
theorem dX2_mostAtOnceBySweep_42 : decode cX2_mostAtOnceBySweep 42 = .ok (.iload_n 1, 1) := dk_27 (dk_at dksX2_mostAtOnceBySweep_1 18 rfl rfl)
theorem dX2_mostAtOnceBySweep_43 : decode cX2_mostAtOnceBySweep 43 = .ok (.isub, 1) := dk_100 (dk_at dksX2_mostAtOnceBySweep_1 19 rfl rfl)
theorem dX2_mostAtOnceBySweep_44 : decode cX2_mostAtOnceBySweep 44 = .ok (.dup2, 1) := dk_92 (dk_at dksX2_mostAtOnceBySweep_1 20 rfl rfl)
theorem dX2_mostAtOnceBySweep_45 : decode cX2_mostAtOnceBySweep 45 = .ok (.iaload, 1) := dk_46 (dk_at dksX2_mostAtOnceBySweep_1 21 rfl rfl)
theorem dX2_mostAtOnceBySweep_46 : decode cX2_mostAtOnceBySweep 46 = .ok (.iconst 1, 1) := dk_4 (dk_at dksX2_mostAtOnceBySweep_1 22 rfl rfl)
theorem dX2_mostAtOnceBySweep_47 : decode cX2_mostAtOnceBySweep 47 = .ok (.iadd, 1) := dk_96 (dk_at dksX2_mostAtOnceBySweep_1 23 rfl rfl)
theorem dX2_mostAtOnceBySweep_48 : decode cX2_mostAtOnceBySweep 48 = .ok (.iastore, 1) := dk_79 (dk_at dksX2_mostAtOnceBySweep_2 0 rfl rfl)
theorem dX2_mostAtOnceBySweep_49 : decode cX2_mostAtOnceBySweep 49 = .ok (.aload_n 2, 1) := dk_44 (dk_at dksX2_mostAtOnceBySweep_2 1 rfl rfl)
theorem dX2_mostAtOnceBySweep_50 : decode cX2_mostAtOnceBySweep 50 = .ok (.aload_n 0, 1) := dk_42 (dk_at dksX2_mostAtOnceBySweep_2 2 rfl rfl)
theorem dX2_mostAtOnceBySweep_51 : decode cX2_mostAtOnceBySweep 51 = .ok (.getfield 21, 3) := dk_180 0 21 (dk_at dksX2_mostAtOnceBySweep_2 3 rfl rfl)
theorem dX2_mostAtOnceBySweep_54 : decode cX2_mostAtOnceBySweep 54 = .ok (.iload_n 3, 1) := dk_29 (dk_at dksX2_mostAtOnceBySweep_2 6 rfl rfl)
theorem dX2_mostAtOnceBySweep_55 : decode cX2_mostAtOnceBySweep 55 = .ok (.invokevirtual 42, 3) := dk_182 0 42 (dk_at dksX2_mostAtOnceBySweep_2 7 rfl rfl)
theorem dX2_mostAtOnceBySweep_58 : decode cX2_mostAtOnceBySweep 58 = .ok (.checkcast 46, 3) := dk_192 0 46 (dk_at dksX2_mostAtOnceBySweep_2 10 rfl rfl)
theorem dX2_mostAtOnceBySweep_61 : decode cX2_mostAtOnceBySweep 61 = .ok (.getfield 217, 3) := dk_180 0 217 (dk_at dksX2_mostAtOnceBySweep_2 13 rfl rfl)
theorem dX2_mostAtOnceBySweep_64 : decode cX2_mostAtOnceBySweep 64 = .ok (.iload_n 1, 1) := dk_27 (dk_at dksX2_mostAtOnceBySweep_2 16 rfl rfl)
theorem dX2_mostAtOnceBySweep_65 : decode cX2_mostAtOnceBySweep 65 = .ok (.isub, 1) := dk_100 (dk_at dksX2_mostAtOnceBySweep_2 17 rfl rfl)
theorem dX2_mostAtOnceBySweep_66 : decode cX2_mostAtOnceBySweep 66 = .ok (.dup2, 1) := dk_92 (dk_at dksX2_mostAtOnceBySweep_2 18 rfl rfl)
theorem dX2_mostAtOnceBySweep_67 : decode cX2_mostAtOnceBySweep 67 = .ok (.iaload, 1) := dk_46 (dk_at dksX2_mostAtOnceBySweep_2 19 rfl rfl)
theorem dX2_mostAtOnceBySweep_68 : decode cX2_mostAtOnceBySweep 68 = .ok (.iconst 1, 1) := dk_4 (dk_at dksX2_mostAtOnceBySweep_2 20 rfl rfl)
theorem dX2_mostAtOnceBySweep_69 : decode cX2_mostAtOnceBySweep 69 = .ok (.isub, 1) := dk_100 (dk_at dksX2_mostAtOnceBySweep_2 21 rfl rfl)
theorem dX2_mostAtOnceBySweep_70 : decode cX2_mostAtOnceBySweep 70 = .ok (.iastore, 1) := dk_79 (dk_at dksX2_mostAtOnceBySweep_2 22 rfl rfl)
theorem dX2_mostAtOnceBySweep_71 : decode cX2_mostAtOnceBySweep 71 = .ok (.iinc 3 1, 3) := dk_132 3 1 (dk_at dksX2_mostAtOnceBySweep_3 0 rfl rfl)
theorem dX2_mostAtOnceBySweep_74 : decode cX2_mostAtOnceBySweep 74 = .ok (.goto (-58), 3) := dk_167 255 198 (dk_at dksX2_mostAtOnceBySweep_3 3 rfl rfl)
theorem dX2_mostAtOnceBySweep_77 : decode cX2_mostAtOnceBySweep 77 = .ok (.iconst 0, 1) := dk_3 (dk_at dksX2_mostAtOnceBySweep_3 6 rfl rfl)
theorem dX2_mostAtOnceBySweep_78 : decode cX2_mostAtOnceBySweep 78 = .ok (.istore_n 3, 1) := dk_62 (dk_at dksX2_mostAtOnceBySweep_3 7 rfl rfl)
theorem dX2_mostAtOnceBySweep_79 : decode cX2_mostAtOnceBySweep 79 = .ok (.iconst 0, 1) := dk_3 (dk_at dksX2_mostAtOnceBySweep_3 8 rfl rfl)
theorem dX2_mostAtOnceBySweep_80 : decode cX2_mostAtOnceBySweep 80 = .ok (.istore 4, 2) := dk_54 4 (dk_at dksX2_mostAtOnceBySweep_3 9 rfl rfl)
theorem dX2_mostAtOnceBySweep_82 : decode cX2_mostAtOnceBySweep 82 = .ok (.iconst 0, 1) := dk_3 (dk_at dksX2_mostAtOnceBySweep_3 11 rfl rfl)
theorem dX2_mostAtOnceBySweep_83 : decode cX2_mostAtOnceBySweep 83 = .ok (.istore 5, 2) := dk_54 5 (dk_at dksX2_mostAtOnceBySweep_3 12 rfl rfl)
theorem dX2_mostAtOnceBySweep_85 : decode cX2_mostAtOnceBySweep 85 = .ok (.iload 5, 2) := dk_21 5 (dk_at dksX2_mostAtOnceBySweep_3 14 rfl rfl)
theorem dX2_mostAtOnceBySweep_87 : decode cX2_mostAtOnceBySweep 87 = .ok (.aload_n 2, 1) := dk_44 (dk_at dksX2_mostAtOnceBySweep_3 16 rfl rfl)
theorem dX2_mostAtOnceBySweep_88 : decode cX2_mostAtOnceBySweep 88 = .ok (.arraylength, 1) := dk_190 (dk_at dksX2_mostAtOnceBySweep_3 17 rfl rfl)
theorem dX2_mostAtOnceBySweep_89 : decode cX2_mostAtOnceBySweep 89 = .ok (.if_icmp .ge 25, 3) := dk_162 0 25 (dk_at dksX2_mostAtOnceBySweep_3 18 rfl rfl)
theorem dX2_mostAtOnceBySweep_92 : decode cX2_mostAtOnceBySweep 92 = .ok (.iload 4, 2) := dk_21 4 (dk_at dksX2_mostAtOnceBySweep_3 21 rfl rfl)
theorem dX2_mostAtOnceBySweep_94 : decode cX2_mostAtOnceBySweep 94 = .ok (.aload_n 2, 1) := dk_44 (dk_at dksX2_mostAtOnceBySweep_3 23 rfl rfl)
theorem dX2_mostAtOnceBySweep_95 : decode cX2_mostAtOnceBySweep 95 = .ok (.iload 5, 2) := dk_21 5 (dk_at dksX2_mostAtOnceBySweep_4 0 rfl rfl)
theorem dX2_mostAtOnceBySweep_97 : decode cX2_mostAtOnceBySweep 97 = .ok (.iaload, 1) := dk_46 (dk_at dksX2_mostAtOnceBySweep_4 2 rfl rfl)
theorem dX2_mostAtOnceBySweep_98 : decode cX2_mostAtOnceBySweep 98 = .ok (.iadd, 1) := dk_96 (dk_at dksX2_mostAtOnceBySweep_4 3 rfl rfl)
theorem dX2_mostAtOnceBySweep_99 : decode cX2_mostAtOnceBySweep 99 = .ok (.istore 4, 2) := dk_54 4 (dk_at dksX2_mostAtOnceBySweep_4 4 rfl rfl)
theorem dX2_mostAtOnceBySweep_101 : decode cX2_mostAtOnceBySweep 101 = .ok (.iload_n 3, 1) := dk_29 (dk_at dksX2_mostAtOnceBySweep_4 6 rfl rfl)
theorem dX2_mostAtOnceBySweep_102 : decode cX2_mostAtOnceBySweep 102 = .ok (.iload 4, 2) := dk_21 4 (dk_at dksX2_mostAtOnceBySweep_4 7 rfl rfl)
theorem dX2_mostAtOnceBySweep_104 : decode cX2_mostAtOnceBySweep 104 = .ok (.invokestatic 254, 3) := dk_184 0 254 (dk_at dksX2_mostAtOnceBySweep_4 9 rfl rfl)
theorem dX2_mostAtOnceBySweep_107 : decode cX2_mostAtOnceBySweep 107 = .ok (.istore_n 3, 1) := dk_62 (dk_at dksX2_mostAtOnceBySweep_4 12 rfl rfl)
theorem dX2_mostAtOnceBySweep_108 : decode cX2_mostAtOnceBySweep 108 = .ok (.iinc 5 1, 3) := dk_132 5 1 (dk_at dksX2_mostAtOnceBySweep_4 13 rfl rfl)
theorem dX2_mostAtOnceBySweep_111 : decode cX2_mostAtOnceBySweep 111 = .ok (.goto (-26), 3) := dk_167 255 230 (dk_at dksX2_mostAtOnceBySweep_4 16 rfl rfl)
theorem dX2_mostAtOnceBySweep_114 : decode cX2_mostAtOnceBySweep 114 = .ok (.iload_n 3, 1) := dk_29 (dk_at dksX2_mostAtOnceBySweep_4 19 rfl rfl)
theorem dX2_mostAtOnceBySweep_115 : decode cX2_mostAtOnceBySweep 115 = .ok (.ireturn, 1) := dk_172 (dk_at dksX2_mostAtOnceBySweep_4 20 rfl rfl)
abbrev cX2_photos : ByteArray := prog_12_method_34_code
def yX2_photos : MethodName := ⟨RX2, "photos", "()I"⟩
def dkwX2_photos_3 : List UInt8 := [167, 255, 190, 27, 172]
abbrev dktX2_photos_3 : List UInt8 := dkwX2_photos_3 ++ []
def dkwX2_photos_2 : List UInt8 := [180, 1, 6, 160, 0, 7, 4, 167, 0, 4, 3, 96, 60, 132, 3, 1, 167, 255, 209, 132, 2, 1]
abbrev dktX2_photos_2 : List UInt8 := dkwX2_photos_2 ++ dktX2_photos_3
def dkwX2_photos_1 : List UInt8 := [180, 0, 29, 28, 182, 1, 5, 192, 0, 210, 180, 1, 6, 42, 180, 0, 29, 29, 182, 1, 5, 192, 0, 210]
abbrev dktX2_photos_1 : List UInt8 := dkwX2_photos_1 ++ dktX2_photos_2
def dkwX2_photos_0 : List UInt8 := [3, 60, 3, 61, 28, 42, 180, 0, 29, 182, 1, 4, 162, 0, 61, 3, 62, 29, 28, 162, 0, 48, 27, 42]
abbrev dktX2_photos_0 : List UInt8 := dkwX2_photos_0 ++ dktX2_photos_1
theorem dksX2_photos_0 : cX2_photos.data.toList.drop 0 = dktX2_photos_0 := by decide +kernel
theorem dksX2_photos_1 : cX2_photos.data.toList.drop 24 = dktX2_photos_1 := dk_seg dksX2_photos_0 24 rfl rfl
theorem dksX2_photos_2 : cX2_photos.data.toList.drop 48 = dktX2_photos_2 := dk_seg dksX2_photos_1 24 rfl rfl
theorem dksX2_photos_3 : cX2_photos.data.toList.drop 70 = dktX2_photos_3 := dk_seg dksX2_photos_2 22 rfl rfl
theorem dX2_photos_0 : decode cX2_photos 0 = .ok (.iconst 0, 1) := dk_3 (dk_at dksX2_photos_0 0 rfl rfl)
theorem dX2_photos_1 : decode cX2_photos 1 = .ok (.istore_n 1, 1) := dk_60 (dk_at dksX2_photos_0 1 rfl rfl)
theorem dX2_photos_2 : decode cX2_photos 2 = .ok (.iconst 0, 1) := dk_3 (dk_at dksX2_photos_0 2 rfl rfl)
theorem dX2_photos_3 : decode cX2_photos 3 = .ok (.istore_n 2, 1) := dk_61 (dk_at dksX2_photos_0 3 rfl rfl)
theorem dX2_photos_4 : decode cX2_photos 4 = .ok (.iload_n 2, 1) := dk_28 (dk_at dksX2_photos_0 4 rfl rfl)
theorem dX2_photos_5 : decode cX2_photos 5 = .ok (.aload_n 0, 1) := dk_42 (dk_at dksX2_photos_0 5 rfl rfl)
theorem dX2_photos_6 : decode cX2_photos 6 = .ok (.getfield 29, 3) := dk_180 0 29 (dk_at dksX2_photos_0 6 rfl rfl)
theorem dX2_photos_9 : decode cX2_photos 9 = .ok (.invokevirtual 260, 3) := dk_182 1 4 (dk_at dksX2_photos_0 9 rfl rfl)
theorem dX2_photos_12 : decode cX2_photos 12 = .ok (.if_icmp .ge 61, 3) := dk_162 0 61 (dk_at dksX2_photos_0 12 rfl rfl)
theorem dX2_photos_15 : decode cX2_photos 15 = .ok (.iconst 0, 1) := dk_3 (dk_at dksX2_photos_0 15 rfl rfl)
theorem dX2_photos_16 : decode cX2_photos 16 = .ok (.istore_n 3, 1) := dk_62 (dk_at dksX2_photos_0 16 rfl rfl)
theorem dX2_photos_17 : decode cX2_photos 17 = .ok (.iload_n 3, 1) := dk_29 (dk_at dksX2_photos_0 17 rfl rfl)
theorem dX2_photos_18 : decode cX2_photos 18 = .ok (.iload_n 2, 1) := dk_28 (dk_at dksX2_photos_0 18 rfl rfl)
theorem dX2_photos_19 : decode cX2_photos 19 = .ok (.if_icmp .ge 48, 3) := dk_162 0 48 (dk_at dksX2_photos_0 19 rfl rfl)
theorem dX2_photos_22 : decode cX2_photos 22 = .ok (.iload_n 1, 1) := dk_27 (dk_at dksX2_photos_0 22 rfl rfl)
theorem dX2_photos_23 : decode cX2_photos 23 = .ok (.aload_n 0, 1) := dk_42 (dk_at dksX2_photos_0 23 rfl rfl)
theorem dX2_photos_24 : decode cX2_photos 24 = .ok (.getfield 29, 3) := dk_180 0 29 (dk_at dksX2_photos_1 0 rfl rfl)
theorem dX2_photos_27 : decode cX2_photos 27 = .ok (.iload_n 2, 1) := dk_28 (dk_at dksX2_photos_1 3 rfl rfl)
theorem dX2_photos_28 : decode cX2_photos 28 = .ok (.invokevirtual 261, 3) := dk_182 1 5 (dk_at dksX2_photos_1 4 rfl rfl)
theorem dX2_photos_31 : decode cX2_photos 31 = .ok (.checkcast 210, 3) := dk_192 0 210 (dk_at dksX2_photos_1 7 rfl rfl)
theorem dX2_photos_34 : decode cX2_photos 34 = .ok (.getfield 262, 3) := dk_180 1 6 (dk_at dksX2_photos_1 10 rfl rfl)
theorem dX2_photos_37 : decode cX2_photos 37 = .ok (.aload_n 0, 1) := dk_42 (dk_at dksX2_photos_1 13 rfl rfl)
theorem dX2_photos_38 : decode cX2_photos 38 = .ok (.getfield 29, 3) := dk_180 0 29 (dk_at dksX2_photos_1 14 rfl rfl)
theorem dX2_photos_41 : decode cX2_photos 41 = .ok (.iload_n 3, 1) := dk_29 (dk_at dksX2_photos_1 17 rfl rfl)
theorem dX2_photos_42 : decode cX2_photos 42 = .ok (.invokevirtual 261, 3) := dk_182 1 5 (dk_at dksX2_photos_1 18 rfl rfl)
theorem dX2_photos_45 : decode cX2_photos 45 = .ok (.checkcast 210, 3) := dk_192 0 210 (dk_at dksX2_photos_1 21 rfl rfl)
theorem dX2_photos_48 : decode cX2_photos 48 = .ok (.getfield 262, 3) := dk_180 1 6 (dk_at dksX2_photos_2 0 rfl rfl)
theorem dX2_photos_51 : decode cX2_photos 51 = .ok (.if_icmp .ne 7, 3) := dk_160 0 7 (dk_at dksX2_photos_2 3 rfl rfl)
theorem dX2_photos_54 : decode cX2_photos 54 = .ok (.iconst 1, 1) := dk_4 (dk_at dksX2_photos_2 6 rfl rfl)
theorem dX2_photos_55 : decode cX2_photos 55 = .ok (.goto 4, 3) := dk_167 0 4 (dk_at dksX2_photos_2 7 rfl rfl)
theorem dX2_photos_58 : decode cX2_photos 58 = .ok (.iconst 0, 1) := dk_3 (dk_at dksX2_photos_2 10 rfl rfl)
theorem dX2_photos_59 : decode cX2_photos 59 = .ok (.iadd, 1) := dk_96 (dk_at dksX2_photos_2 11 rfl rfl)
theorem dX2_photos_60 : decode cX2_photos 60 = .ok (.istore_n 1, 1) := dk_60 (dk_at dksX2_photos_2 12 rfl rfl)
theorem dX2_photos_61 : decode cX2_photos 61 = .ok (.iinc 3 1, 3) := dk_132 3 1 (dk_at dksX2_photos_2 13 rfl rfl)
theorem dX2_photos_64 : decode cX2_photos 64 = .ok (.goto (-47), 3) := dk_167 255 209 (dk_at dksX2_photos_2 16 rfl rfl)
theorem dX2_photos_67 : decode cX2_photos 67 = .ok (.iinc 2 1, 3) := dk_132 2 1 (dk_at dksX2_photos_2 19 rfl rfl)
theorem dX2_photos_70 : decode cX2_photos 70 = .ok (.goto (-66), 3) := dk_167 255 190 (dk_at dksX2_photos_3 0 rfl rfl)
theorem dX2_photos_73 : decode cX2_photos 73 = .ok (.iload_n 1, 1) := dk_27 (dk_at dksX2_photos_3 3 rfl rfl)
theorem dX2_photos_74 : decode cX2_photos 74 = .ok (.ireturn, 1) := dk_172 (dk_at dksX2_photos_3 4 rfl rfl)
abbrev cX2_photosByRuns : ByteArray := prog_12_method_35_code
def yX2_photosByRuns : MethodName := ⟨RX2, "photosByRuns", "()I"⟩
def dkwX2_photosByRuns_3 : List UInt8 := [167, 0, 4, 3, 61, 27, 28, 96, 60, 132, 3, 1, 167, 255, 181, 27, 172]
abbrev dktX2_photosByRuns_3 : List UInt8 := dkwX2_photosByRuns_3 ++ []
def dkwX2_photosByRuns_2 : List UInt8 := [192, 0, 210, 180, 1, 6, 160, 0, 7, 4, 167, 0, 4, 3, 54, 4, 21, 4, 153, 0, 9, 28, 4, 96]
abbrev dktX2_photosByRuns_2 : List UInt8 := dkwX2_photosByRuns_2 ++ dktX2_photosByRuns_3
def dkwX2_photosByRuns_1 : List UInt8 := [180, 0, 29, 29, 182, 1, 5, 192, 0, 210, 180, 1, 6, 42, 180, 0, 29, 29, 4, 100, 182, 1, 5]
abbrev dktX2_photosByRuns_1 : List UInt8 := dkwX2_photosByRuns_1 ++ dktX2_photosByRuns_2
def dkwX2_photosByRuns_0 : List UInt8 := [3, 60, 3, 61, 3, 62, 29, 42, 180, 0, 29, 182, 1, 4, 162, 0, 70, 29, 158, 0, 40, 42]
abbrev dktX2_photosByRuns_0 : List UInt8 := dkwX2_photosByRuns_0 ++ dktX2_photosByRuns_1
theorem dksX2_photosByRuns_0 : cX2_photosByRuns.data.toList.drop 0 = dktX2_photosByRuns_0 := by decide +kernel
theorem dksX2_photosByRuns_1 : cX2_photosByRuns.data.toList.drop 22 = dktX2_photosByRuns_1 := dk_seg dksX2_photosByRuns_0 22 rfl rfl
theorem dksX2_photosByRuns_2 : cX2_photosByRuns.data.toList.drop 45 = dktX2_photosByRuns_2 := dk_seg dksX2_photosByRuns_1 23 rfl rfl
theorem dksX2_photosByRuns_3 : cX2_photosByRuns.data.toList.drop 69 = dktX2_photosByRuns_3 := dk_seg dksX2_photosByRuns_2 24 rfl rfl
theorem dX2_photosByRuns_0 : decode cX2_photosByRuns 0 = .ok (.iconst 0, 1) := dk_3 (dk_at dksX2_photosByRuns_0 0 rfl rfl)
theorem dX2_photosByRuns_1 : decode cX2_photosByRuns 1 = .ok (.istore_n 1, 1) := dk_60 (dk_at dksX2_photosByRuns_0 1 rfl rfl)
theorem dX2_photosByRuns_2 : decode cX2_photosByRuns 2 = .ok (.iconst 0, 1) := dk_3 (dk_at dksX2_photosByRuns_0 2 rfl rfl)
theorem dX2_photosByRuns_3 : decode cX2_photosByRuns 3 = .ok (.istore_n 2, 1) := dk_61 (dk_at dksX2_photosByRuns_0 3 rfl rfl)
theorem dX2_photosByRuns_4 : decode cX2_photosByRuns 4 = .ok (.iconst 0, 1) := dk_3 (dk_at dksX2_photosByRuns_0 4 rfl rfl)
theorem dX2_photosByRuns_5 : decode cX2_photosByRuns 5 = .ok (.istore_n 3, 1) := dk_62 (dk_at dksX2_photosByRuns_0 5 rfl rfl)
theorem dX2_photosByRuns_6 : decode cX2_photosByRuns 6 = .ok (.iload_n 3, 1) := dk_29 (dk_at dksX2_photosByRuns_0 6 rfl rfl)
theorem dX2_photosByRuns_7 : decode cX2_photosByRuns 7 = .ok (.aload_n 0, 1) := dk_42 (dk_at dksX2_photosByRuns_0 7 rfl rfl)
theorem dX2_photosByRuns_8 : decode cX2_photosByRuns 8 = .ok (.getfield 29, 3) := dk_180 0 29 (dk_at dksX2_photosByRuns_0 8 rfl rfl)
theorem dX2_photosByRuns_11 : decode cX2_photosByRuns 11 = .ok (.invokevirtual 260, 3) := dk_182 1 4 (dk_at dksX2_photosByRuns_0 11 rfl rfl)
theorem dX2_photosByRuns_14 : decode cX2_photosByRuns 14 = .ok (.if_icmp .ge 70, 3) := dk_162 0 70 (dk_at dksX2_photosByRuns_0 14 rfl rfl)
theorem dX2_photosByRuns_17 : decode cX2_photosByRuns 17 = .ok (.iload_n 3, 1) := dk_29 (dk_at dksX2_photosByRuns_0 17 rfl rfl)
theorem dX2_photosByRuns_18 : decode cX2_photosByRuns 18 = .ok (.ifCond .le 40, 3) := dk_158 0 40 (dk_at dksX2_photosByRuns_0 18 rfl rfl)
theorem dX2_photosByRuns_21 : decode cX2_photosByRuns 21 = .ok (.aload_n 0, 1) := dk_42 (dk_at dksX2_photosByRuns_0 21 rfl rfl)
theorem dX2_photosByRuns_22 : decode cX2_photosByRuns 22 = .ok (.getfield 29, 3) := dk_180 0 29 (dk_at dksX2_photosByRuns_1 0 rfl rfl)
theorem dX2_photosByRuns_25 : decode cX2_photosByRuns 25 = .ok (.iload_n 3, 1) := dk_29 (dk_at dksX2_photosByRuns_1 3 rfl rfl)
theorem dX2_photosByRuns_26 : decode cX2_photosByRuns 26 = .ok (.invokevirtual 261, 3) := dk_182 1 5 (dk_at dksX2_photosByRuns_1 4 rfl rfl)
theorem dX2_photosByRuns_29 : decode cX2_photosByRuns 29 = .ok (.checkcast 210, 3) := dk_192 0 210 (dk_at dksX2_photosByRuns_1 7 rfl rfl)
theorem dX2_photosByRuns_32 : decode cX2_photosByRuns 32 = .ok (.getfield 262, 3) := dk_180 1 6 (dk_at dksX2_photosByRuns_1 10 rfl rfl)
theorem dX2_photosByRuns_35 : decode cX2_photosByRuns 35 = .ok (.aload_n 0, 1) := dk_42 (dk_at dksX2_photosByRuns_1 13 rfl rfl)
theorem dX2_photosByRuns_36 : decode cX2_photosByRuns 36 = .ok (.getfield 29, 3) := dk_180 0 29 (dk_at dksX2_photosByRuns_1 14 rfl rfl)
theorem dX2_photosByRuns_39 : decode cX2_photosByRuns 39 = .ok (.iload_n 3, 1) := dk_29 (dk_at dksX2_photosByRuns_1 17 rfl rfl)
theorem dX2_photosByRuns_40 : decode cX2_photosByRuns 40 = .ok (.iconst 1, 1) := dk_4 (dk_at dksX2_photosByRuns_1 18 rfl rfl)
theorem dX2_photosByRuns_41 : decode cX2_photosByRuns 41 = .ok (.isub, 1) := dk_100 (dk_at dksX2_photosByRuns_1 19 rfl rfl)
theorem dX2_photosByRuns_42 : decode cX2_photosByRuns 42 = .ok (.invokevirtual 261, 3) := dk_182 1 5 (dk_at dksX2_photosByRuns_1 20 rfl rfl)
theorem dX2_photosByRuns_45 : decode cX2_photosByRuns 45 = .ok (.checkcast 210, 3) := dk_192 0 210 (dk_at dksX2_photosByRuns_2 0 rfl rfl)
theorem dX2_photosByRuns_48 : decode cX2_photosByRuns 48 = .ok (.getfield 262, 3) := dk_180 1 6 (dk_at dksX2_photosByRuns_2 3 rfl rfl)
theorem dX2_photosByRuns_51 : decode cX2_photosByRuns 51 = .ok (.if_icmp .ne 7, 3) := dk_160 0 7 (dk_at dksX2_photosByRuns_2 6 rfl rfl)
theorem dX2_photosByRuns_54 : decode cX2_photosByRuns 54 = .ok (.iconst 1, 1) := dk_4 (dk_at dksX2_photosByRuns_2 9 rfl rfl)
theorem dX2_photosByRuns_55 : decode cX2_photosByRuns 55 = .ok (.goto 4, 3) := dk_167 0 4 (dk_at dksX2_photosByRuns_2 10 rfl rfl)
theorem dX2_photosByRuns_58 : decode cX2_photosByRuns 58 = .ok (.iconst 0, 1) := dk_3 (dk_at dksX2_photosByRuns_2 13 rfl rfl)
theorem dX2_photosByRuns_59 : decode cX2_photosByRuns 59 = .ok (.istore 4, 2) := dk_54 4 (dk_at dksX2_photosByRuns_2 14 rfl rfl)
theorem dX2_photosByRuns_61 : decode cX2_photosByRuns 61 = .ok (.iload 4, 2) := dk_21 4 (dk_at dksX2_photosByRuns_2 16 rfl rfl)
theorem dX2_photosByRuns_63 : decode cX2_photosByRuns 63 = .ok (.ifCond .eq 9, 3) := dk_153 0 9 (dk_at dksX2_photosByRuns_2 18 rfl rfl)
theorem dX2_photosByRuns_66 : decode cX2_photosByRuns 66 = .ok (.iload_n 2, 1) := dk_28 (dk_at dksX2_photosByRuns_2 21 rfl rfl)
theorem dX2_photosByRuns_67 : decode cX2_photosByRuns 67 = .ok (.iconst 1, 1) := dk_4 (dk_at dksX2_photosByRuns_2 22 rfl rfl)
theorem dX2_photosByRuns_68 : decode cX2_photosByRuns 68 = .ok (.iadd, 1) := dk_96 (dk_at dksX2_photosByRuns_2 23 rfl rfl)
theorem dX2_photosByRuns_69 : decode cX2_photosByRuns 69 = .ok (.goto 4, 3) := dk_167 0 4 (dk_at dksX2_photosByRuns_3 0 rfl rfl)
theorem dX2_photosByRuns_72 : decode cX2_photosByRuns 72 = .ok (.iconst 0, 1) := dk_3 (dk_at dksX2_photosByRuns_3 3 rfl rfl)
theorem dX2_photosByRuns_73 : decode cX2_photosByRuns 73 = .ok (.istore_n 2, 1) := dk_61 (dk_at dksX2_photosByRuns_3 4 rfl rfl)
theorem dX2_photosByRuns_74 : decode cX2_photosByRuns 74 = .ok (.iload_n 1, 1) := dk_27 (dk_at dksX2_photosByRuns_3 5 rfl rfl)
theorem dX2_photosByRuns_75 : decode cX2_photosByRuns 75 = .ok (.iload_n 2, 1) := dk_28 (dk_at dksX2_photosByRuns_3 6 rfl rfl)
theorem dX2_photosByRuns_76 : decode cX2_photosByRuns 76 = .ok (.iadd, 1) := dk_96 (dk_at dksX2_photosByRuns_3 7 rfl rfl)
theorem dX2_photosByRuns_77 : decode cX2_photosByRuns 77 = .ok (.istore_n 1, 1) := dk_60 (dk_at dksX2_photosByRuns_3 8 rfl rfl)
theorem dX2_photosByRuns_78 : decode cX2_photosByRuns 78 = .ok (.iinc 3 1, 3) := dk_132 3 1 (dk_at dksX2_photosByRuns_3 9 rfl rfl)
theorem dX2_photosByRuns_81 : decode cX2_photosByRuns 81 = .ok (.goto (-75), 3) := dk_167 255 181 (dk_at dksX2_photosByRuns_3 12 rfl rfl)
theorem dX2_photosByRuns_84 : decode cX2_photosByRuns 84 = .ok (.iload_n 1, 1) := dk_27 (dk_at dksX2_photosByRuns_3 15 rfl rfl)
theorem dX2_photosByRuns_85 : decode cX2_photosByRuns 85 = .ok (.ireturn, 1) := dk_172 (dk_at dksX2_photosByRuns_3 16 rfl rfl)
abbrev cX2_copy : ByteArray := prog_12_method_2_code
def yX2_copy : MethodName := ⟨RX2, "copy", "()LSlidePark$State;"⟩
def dkwX2_copy_4 : List UInt8 := [181, 0, 60, 43, 42, 180, 0, 63, 181, 0, 63, 43, 42, 180, 0, 66, 181, 0, 66, 43, 176]
abbrev dktX2_copy_4 : List UInt8 := dkwX2_copy_4 ++ []
def dkwX2_copy_3 : List UInt8 := [180, 0, 29, 182, 0, 52, 181, 0, 29, 43, 42, 180, 0, 56, 181, 0, 56, 43, 42, 180, 0, 60]
abbrev dktX2_copy_3 : List UInt8 := dkwX2_copy_3 ++ dktX2_copy_4
def dkwX2_copy_2 : List UInt8 := [180, 0, 21, 28, 182, 0, 42, 192, 0, 46, 182, 0, 48, 87, 132, 2, 1, 167, 255, 223, 43, 42]
abbrev dktX2_copy_2 : List UInt8 := dkwX2_copy_2 ++ dktX2_copy_3
def dkwX2_copy_1 : List UInt8 := [184, 0, 34, 181, 0, 18, 3, 61, 28, 42, 180, 0, 21, 182, 0, 38, 162, 0, 28, 43, 180, 0, 21, 42]
abbrev dktX2_copy_1 : List UInt8 := dkwX2_copy_1 ++ dktX2_copy_2
def dkwX2_copy_0 : List UInt8 := [187, 0, 13, 89, 183, 0, 33, 76, 43, 42, 180, 0, 12, 184, 0, 34, 181, 0, 12, 43, 42, 180, 0, 18]
abbrev dktX2_copy_0 : List UInt8 := dkwX2_copy_0 ++ dktX2_copy_1
theorem dksX2_copy_0 : cX2_copy.data.toList.drop 0 = dktX2_copy_0 := by decide +kernel
theorem dksX2_copy_1 : cX2_copy.data.toList.drop 24 = dktX2_copy_1 := dk_seg dksX2_copy_0 24 rfl rfl
theorem dksX2_copy_2 : cX2_copy.data.toList.drop 48 = dktX2_copy_2 := dk_seg dksX2_copy_1 24 rfl rfl
theorem dksX2_copy_3 : cX2_copy.data.toList.drop 70 = dktX2_copy_3 := dk_seg dksX2_copy_2 22 rfl rfl
theorem dksX2_copy_4 : cX2_copy.data.toList.drop 92 = dktX2_copy_4 := dk_seg dksX2_copy_3 22 rfl rfl
theorem dX2_copy_0 : decode cX2_copy 0 = .ok (.new 13, 3) := dk_187 0 13 (dk_at dksX2_copy_0 0 rfl rfl)
theorem dX2_copy_3 : decode cX2_copy 3 = .ok (.dup, 1) := dk_89 (dk_at dksX2_copy_0 3 rfl rfl)
theorem dX2_copy_4 : decode cX2_copy 4 = .ok (.invokespecial 33, 3) := dk_183 0 33 (dk_at dksX2_copy_0 4 rfl rfl)
theorem dX2_copy_7 : decode cX2_copy 7 = .ok (.astore_n 1, 1) := dk_76 (dk_at dksX2_copy_0 7 rfl rfl)
theorem dX2_copy_8 : decode cX2_copy 8 = .ok (.aload_n 1, 1) := dk_43 (dk_at dksX2_copy_0 8 rfl rfl)
theorem dX2_copy_9 : decode cX2_copy 9 = .ok (.aload_n 0, 1) := dk_42 (dk_at dksX2_copy_0 9 rfl rfl)
theorem dX2_copy_10 : decode cX2_copy 10 = .ok (.getfield 12, 3) := dk_180 0 12 (dk_at dksX2_copy_0 10 rfl rfl)
theorem dX2_copy_13 : decode cX2_copy 13 = .ok (.invokestatic 34, 3) := dk_184 0 34 (dk_at dksX2_copy_0 13 rfl rfl)
theorem dX2_copy_16 : decode cX2_copy 16 = .ok (.putfield 12, 3) := dk_181 0 12 (dk_at dksX2_copy_0 16 rfl rfl)
theorem dX2_copy_19 : decode cX2_copy 19 = .ok (.aload_n 1, 1) := dk_43 (dk_at dksX2_copy_0 19 rfl rfl)
theorem dX2_copy_20 : decode cX2_copy 20 = .ok (.aload_n 0, 1) := dk_42 (dk_at dksX2_copy_0 20 rfl rfl)
theorem dX2_copy_21 : decode cX2_copy 21 = .ok (.getfield 18, 3) := dk_180 0 18 (dk_at dksX2_copy_0 21 rfl rfl)
theorem dX2_copy_24 : decode cX2_copy 24 = .ok (.invokestatic 34, 3) := dk_184 0 34 (dk_at dksX2_copy_1 0 rfl rfl)
theorem dX2_copy_27 : decode cX2_copy 27 = .ok (.putfield 18, 3) := dk_181 0 18 (dk_at dksX2_copy_1 3 rfl rfl)
theorem dX2_copy_30 : decode cX2_copy 30 = .ok (.iconst 0, 1) := dk_3 (dk_at dksX2_copy_1 6 rfl rfl)
theorem dX2_copy_31 : decode cX2_copy 31 = .ok (.istore_n 2, 1) := dk_61 (dk_at dksX2_copy_1 7 rfl rfl)
theorem dX2_copy_32 : decode cX2_copy 32 = .ok (.iload_n 2, 1) := dk_28 (dk_at dksX2_copy_1 8 rfl rfl)
theorem dX2_copy_33 : decode cX2_copy 33 = .ok (.aload_n 0, 1) := dk_42 (dk_at dksX2_copy_1 9 rfl rfl)
theorem dX2_copy_34 : decode cX2_copy 34 = .ok (.getfield 21, 3) := dk_180 0 21 (dk_at dksX2_copy_1 10 rfl rfl)
theorem dX2_copy_37 : decode cX2_copy 37 = .ok (.invokevirtual 38, 3) := dk_182 0 38 (dk_at dksX2_copy_1 13 rfl rfl)
theorem dX2_copy_40 : decode cX2_copy 40 = .ok (.if_icmp .ge 28, 3) := dk_162 0 28 (dk_at dksX2_copy_1 16 rfl rfl)
theorem dX2_copy_43 : decode cX2_copy 43 = .ok (.aload_n 1, 1) := dk_43 (dk_at dksX2_copy_1 19 rfl rfl)
theorem dX2_copy_44 : decode cX2_copy 44 = .ok (.getfield 21, 3) := dk_180 0 21 (dk_at dksX2_copy_1 20 rfl rfl)
theorem dX2_copy_47 : decode cX2_copy 47 = .ok (.aload_n 0, 1) := dk_42 (dk_at dksX2_copy_1 23 rfl rfl)
theorem dX2_copy_48 : decode cX2_copy 48 = .ok (.getfield 21, 3) := dk_180 0 21 (dk_at dksX2_copy_2 0 rfl rfl)
theorem dX2_copy_51 : decode cX2_copy 51 = .ok (.iload_n 2, 1) := dk_28 (dk_at dksX2_copy_2 3 rfl rfl)
theorem dX2_copy_52 : decode cX2_copy 52 = .ok (.invokevirtual 42, 3) := dk_182 0 42 (dk_at dksX2_copy_2 4 rfl rfl)
theorem dX2_copy_55 : decode cX2_copy 55 = .ok (.checkcast 46, 3) := dk_192 0 46 (dk_at dksX2_copy_2 7 rfl rfl)
theorem dX2_copy_58 : decode cX2_copy 58 = .ok (.invokevirtual 48, 3) := dk_182 0 48 (dk_at dksX2_copy_2 10 rfl rfl)
theorem dX2_copy_61 : decode cX2_copy 61 = .ok (.pop, 1) := dk_87 (dk_at dksX2_copy_2 13 rfl rfl)
theorem dX2_copy_62 : decode cX2_copy 62 = .ok (.iinc 2 1, 3) := dk_132 2 1 (dk_at dksX2_copy_2 14 rfl rfl)
theorem dX2_copy_65 : decode cX2_copy 65 = .ok (.goto (-33), 3) := dk_167 255 223 (dk_at dksX2_copy_2 17 rfl rfl)
theorem dX2_copy_68 : decode cX2_copy 68 = .ok (.aload_n 1, 1) := dk_43 (dk_at dksX2_copy_2 20 rfl rfl)
theorem dX2_copy_69 : decode cX2_copy 69 = .ok (.aload_n 0, 1) := dk_42 (dk_at dksX2_copy_2 21 rfl rfl)
theorem dX2_copy_70 : decode cX2_copy 70 = .ok (.getfield 29, 3) := dk_180 0 29 (dk_at dksX2_copy_3 0 rfl rfl)
theorem dX2_copy_73 : decode cX2_copy 73 = .ok (.invokevirtual 52, 3) := dk_182 0 52 (dk_at dksX2_copy_3 3 rfl rfl)
theorem dX2_copy_76 : decode cX2_copy 76 = .ok (.putfield 29, 3) := dk_181 0 29 (dk_at dksX2_copy_3 6 rfl rfl)
theorem dX2_copy_79 : decode cX2_copy 79 = .ok (.aload_n 1, 1) := dk_43 (dk_at dksX2_copy_3 9 rfl rfl)
theorem dX2_copy_80 : decode cX2_copy 80 = .ok (.aload_n 0, 1) := dk_42 (dk_at dksX2_copy_3 10 rfl rfl)
theorem dX2_copy_81 : decode cX2_copy 81 = .ok (.getfield 56, 3) := dk_180 0 56 (dk_at dksX2_copy_3 11 rfl rfl)
theorem dX2_copy_84 : decode cX2_copy 84 = .ok (.putfield 56, 3) := dk_181 0 56 (dk_at dksX2_copy_3 14 rfl rfl)
theorem dX2_copy_87 : decode cX2_copy 87 = .ok (.aload_n 1, 1) := dk_43 (dk_at dksX2_copy_3 17 rfl rfl)
theorem dX2_copy_88 : decode cX2_copy 88 = .ok (.aload_n 0, 1) := dk_42 (dk_at dksX2_copy_3 18 rfl rfl)
theorem dX2_copy_89 : decode cX2_copy 89 = .ok (.getfield 60, 3) := dk_180 0 60 (dk_at dksX2_copy_3 19 rfl rfl)
theorem dX2_copy_92 : decode cX2_copy 92 = .ok (.putfield 60, 3) := dk_181 0 60 (dk_at dksX2_copy_4 0 rfl rfl)
theorem dX2_copy_95 : decode cX2_copy 95 = .ok (.aload_n 1, 1) := dk_43 (dk_at dksX2_copy_4 3 rfl rfl)
theorem dX2_copy_96 : decode cX2_copy 96 = .ok (.aload_n 0, 1) := dk_42 (dk_at dksX2_copy_4 4 rfl rfl)
theorem dX2_copy_97 : decode cX2_copy 97 = .ok (.getfield 63, 3) := dk_180 0 63 (dk_at dksX2_copy_4 5 rfl rfl)
theorem dX2_copy_100 : decode cX2_copy 100 = .ok (.putfield 63, 3) := dk_181 0 63 (dk_at dksX2_copy_4 8 rfl rfl)
theorem dX2_copy_103 : decode cX2_copy 103 = .ok (.aload_n 1, 1) := dk_43 (dk_at dksX2_copy_4 11 rfl rfl)
theorem dX2_copy_104 : decode cX2_copy 104 = .ok (.aload_n 0, 1) := dk_42 (dk_at dksX2_copy_4 12 rfl rfl)
theorem dX2_copy_105 : decode cX2_copy 105 = .ok (.getfield 66, 3) := dk_180 0 66 (dk_at dksX2_copy_4 13 rfl rfl)
theorem dX2_copy_108 : decode cX2_copy 108 = .ok (.putfield 66, 3) := dk_181 0 66 (dk_at dksX2_copy_4 16 rfl rfl)
theorem dX2_copy_111 : decode cX2_copy 111 = .ok (.aload_n 1, 1) := dk_43 (dk_at dksX2_copy_4 19 rfl rfl)
theorem dX2_copy_112 : decode cX2_copy 112 = .ok (.areturn, 1) := dk_176 (dk_at dksX2_copy_4 20 rfl rfl)
abbrev cX2_copy_2 : ByteArray := prog_12_method_36_code
def yX2_copy_2 : MethodName := ⟨RX2, "copy", "()Ljava/lang/Object;"⟩
theorem dX2_copy_2_0 : decode cX2_copy_2 0 = .ok (.aload_n 0, 1) := by decide +kernel
theorem dX2_copy_2_1 : decode cX2_copy_2 1 = .ok (.invokevirtual 263, 3) := by decide +kernel
theorem dX2_copy_2_4 : decode cX2_copy_2 4 = .ok (.areturn, 1) := by decide +kernel
abbrev cX2_build : ByteArray := prog_12_method_13_code
def yX2_build : MethodName := ⟨RX2, "build", "(II)I"⟩
def dkwX2_build_3 : List UInt8 := [180, 0, 12, 182, 0, 38, 4, 100, 172]
abbrev dktX2_build_3 : List UInt8 := dkwX2_build_3 ++ []
def dkwX2_build_2 : List UInt8 := [180, 0, 12, 187, 0, 73, 89, 27, 28, 187, 0, 122, 89, 183, 0, 129, 183, 0, 130, 182, 0, 48, 87, 42]
abbrev dktX2_build_2 : List UInt8 := dkwX2_build_2 ++ dktX2_build_3
def dkwX2_build_1 : List UInt8 := [3, 184, 0, 81, 42, 180, 0, 12, 182, 0, 38, 7, 162, 0, 7, 4, 167, 0, 4, 3, 184, 0, 126, 42]
abbrev dktX2_build_1 : List UInt8 := dkwX2_build_1 ++ dktX2_build_2
def dkwX2_build_0 : List UInt8 := [27, 4, 16, 9, 184, 0, 77, 153, 0, 17, 28, 4, 16, 9, 184, 0, 77, 153, 0, 7, 4, 167, 0, 4]
abbrev dktX2_build_0 : List UInt8 := dkwX2_build_0 ++ dktX2_build_1
theorem dksX2_build_0 : cX2_build.data.toList.drop 0 = dktX2_build_0 := by decide +kernel
theorem dksX2_build_1 : cX2_build.data.toList.drop 24 = dktX2_build_1 := dk_seg dksX2_build_0 24 rfl rfl
theorem dksX2_build_2 : cX2_build.data.toList.drop 48 = dktX2_build_2 := dk_seg dksX2_build_1 24 rfl rfl
theorem dksX2_build_3 : cX2_build.data.toList.drop 72 = dktX2_build_3 := dk_seg dksX2_build_2 24 rfl rfl
theorem dX2_build_0 : decode cX2_build 0 = .ok (.iload_n 1, 1) := dk_27 (dk_at dksX2_build_0 0 rfl rfl)
theorem dX2_build_1 : decode cX2_build 1 = .ok (.iconst 1, 1) := dk_4 (dk_at dksX2_build_0 1 rfl rfl)
theorem dX2_build_2 : decode cX2_build 2 = .ok (.bipush 9, 2) := dk_16 9 (dk_at dksX2_build_0 2 rfl rfl)
theorem dX2_build_4 : decode cX2_build 4 = .ok (.invokestatic 77, 3) := dk_184 0 77 (dk_at dksX2_build_0 4 rfl rfl)
theorem dX2_build_7 : decode cX2_build 7 = .ok (.ifCond .eq 17, 3) := dk_153 0 17 (dk_at dksX2_build_0 7 rfl rfl)
theorem dX2_build_10 : decode cX2_build 10 = .ok (.iload_n 2, 1) := dk_28 (dk_at dksX2_build_0 10 rfl rfl)
theorem dX2_build_11 : decode cX2_build 11 = .ok (.iconst 1, 1) := dk_4 (dk_at dksX2_build_0 11 rfl rfl)
theorem dX2_build_12 : decode cX2_build 12 = .ok (.bipush 9, 2) := dk_16 9 (dk_at dksX2_build_0 12 rfl rfl)
theorem dX2_build_14 : decode cX2_build 14 = .ok (.invokestatic 77, 3) := dk_184 0 77 (dk_at dksX2_build_0 14 rfl rfl)
theorem dX2_build_17 : decode cX2_build 17 = .ok (.ifCond .eq 7, 3) := dk_153 0 7 (dk_at dksX2_build_0 17 rfl rfl)
theorem dX2_build_20 : decode cX2_build 20 = .ok (.iconst 1, 1) := dk_4 (dk_at dksX2_build_0 20 rfl rfl)
theorem dX2_build_21 : decode cX2_build 21 = .ok (.goto 4, 3) := dk_167 0 4 (dk_at dksX2_build_0 21 rfl rfl)
theorem dX2_build_24 : decode cX2_build 24 = .ok (.iconst 0, 1) := dk_3 (dk_at dksX2_build_1 0 rfl rfl)
theorem dX2_build_25 : decode cX2_build 25 = .ok (.invokestatic 81, 3) := dk_184 0 81 (dk_at dksX2_build_1 1 rfl rfl)
theorem dX2_build_28 : decode cX2_build 28 = .ok (.aload_n 0, 1) := dk_42 (dk_at dksX2_build_1 4 rfl rfl)
theorem dX2_build_29 : decode cX2_build 29 = .ok (.getfield 12, 3) := dk_180 0 12 (dk_at dksX2_build_1 5 rfl rfl)
theorem dX2_build_32 : decode cX2_build 32 = .ok (.invokevirtual 38, 3) := dk_182 0 38 (dk_at dksX2_build_1 8 rfl rfl)
theorem dX2_build_35 : decode cX2_build 35 = .ok (.iconst 4, 1) := dk_7 (dk_at dksX2_build_1 11 rfl rfl)
theorem dX2_build_36 : decode cX2_build 36 = .ok (.if_icmp .ge 7, 3) := dk_162 0 7 (dk_at dksX2_build_1 12 rfl rfl)
theorem dX2_build_39 : decode cX2_build 39 = .ok (.iconst 1, 1) := dk_4 (dk_at dksX2_build_1 15 rfl rfl)
theorem dX2_build_40 : decode cX2_build 40 = .ok (.goto 4, 3) := dk_167 0 4 (dk_at dksX2_build_1 16 rfl rfl)
theorem dX2_build_43 : decode cX2_build 43 = .ok (.iconst 0, 1) := dk_3 (dk_at dksX2_build_1 19 rfl rfl)
theorem dX2_build_44 : decode cX2_build 44 = .ok (.invokestatic 126, 3) := dk_184 0 126 (dk_at dksX2_build_1 20 rfl rfl)
theorem dX2_build_47 : decode cX2_build 47 = .ok (.aload_n 0, 1) := dk_42 (dk_at dksX2_build_1 23 rfl rfl)
theorem dX2_build_48 : decode cX2_build 48 = .ok (.getfield 12, 3) := dk_180 0 12 (dk_at dksX2_build_2 0 rfl rfl)
theorem dX2_build_51 : decode cX2_build 51 = .ok (.new 73, 3) := dk_187 0 73 (dk_at dksX2_build_2 3 rfl rfl)
theorem dX2_build_54 : decode cX2_build 54 = .ok (.dup, 1) := dk_89 (dk_at dksX2_build_2 6 rfl rfl)
theorem dX2_build_55 : decode cX2_build 55 = .ok (.iload_n 1, 1) := dk_27 (dk_at dksX2_build_2 7 rfl rfl)
theorem dX2_build_56 : decode cX2_build 56 = .ok (.iload_n 2, 1) := dk_28 (dk_at dksX2_build_2 8 rfl rfl)
theorem dX2_build_57 : decode cX2_build 57 = .ok (.new 122, 3) := dk_187 0 122 (dk_at dksX2_build_2 9 rfl rfl)
theorem dX2_build_60 : decode cX2_build 60 = .ok (.dup, 1) := dk_89 (dk_at dksX2_build_2 12 rfl rfl)
theorem dX2_build_61 : decode cX2_build 61 = .ok (.invokespecial 129, 3) := dk_183 0 129 (dk_at dksX2_build_2 13 rfl rfl)
theorem dX2_build_64 : decode cX2_build 64 = .ok (.invokespecial 130, 3) := dk_183 0 130 (dk_at dksX2_build_2 16 rfl rfl)
theorem dX2_build_67 : decode cX2_build 67 = .ok (.invokevirtual 48, 3) := dk_182 0 48 (dk_at dksX2_build_2 19 rfl rfl)
theorem dX2_build_70 : decode cX2_build 70 = .ok (.pop, 1) := dk_87 (dk_at dksX2_build_2 22 rfl rfl)
theorem dX2_build_71 : decode cX2_build 71 = .ok (.aload_n 0, 1) := dk_42 (dk_at dksX2_build_2 23 rfl rfl)
theorem dX2_build_72 : decode cX2_build 72 = .ok (.getfield 12, 3) := dk_180 0 12 (dk_at dksX2_build_3 0 rfl rfl)
theorem dX2_build_75 : decode cX2_build 75 = .ok (.invokevirtual 38, 3) := dk_182 0 38 (dk_at dksX2_build_3 3 rfl rfl)
theorem dX2_build_78 : decode cX2_build 78 = .ok (.iconst 1, 1) := dk_4 (dk_at dksX2_build_3 6 rfl rfl)
theorem dX2_build_79 : decode cX2_build 79 = .ok (.isub, 1) := dk_100 (dk_at dksX2_build_3 7 rfl rfl)
theorem dX2_build_80 : decode cX2_build 80 = .ok (.ireturn, 1) := dk_172 (dk_at dksX2_build_3 8 rfl rfl)
abbrev cX2_addGuest : ByteArray := prog_12_method_14_code
def yX2_addGuest : MethodName := ⟨RX2, "addGuest", "()I"⟩
def dkwX2_addGuest_1 : List UInt8 := [187, 0, 75, 89, 183, 0, 133, 182, 0, 48, 87, 42, 180, 0, 18, 182, 0, 38, 4, 100, 172]
abbrev dktX2_addGuest_1 : List UInt8 := dkwX2_addGuest_1 ++ []
def dkwX2_addGuest_0 : List UInt8 := [42, 180, 0, 18, 182, 0, 38, 16, 10, 162, 0, 7, 4, 167, 0, 4, 3, 184, 0, 126, 42, 180, 0, 18]
abbrev dktX2_addGuest_0 : List UInt8 := dkwX2_addGuest_0 ++ dktX2_addGuest_1
theorem dksX2_addGuest_0 : cX2_addGuest.data.toList.drop 0 = dktX2_addGuest_0 := by decide +kernel
theorem dksX2_addGuest_1 : cX2_addGuest.data.toList.drop 24 = dktX2_addGuest_1 := dk_seg dksX2_addGuest_0 24 rfl rfl
theorem dX2_addGuest_0 : decode cX2_addGuest 0 = .ok (.aload_n 0, 1) := dk_42 (dk_at dksX2_addGuest_0 0 rfl rfl)
theorem dX2_addGuest_1 : decode cX2_addGuest 1 = .ok (.getfield 18, 3) := dk_180 0 18 (dk_at dksX2_addGuest_0 1 rfl rfl)
theorem dX2_addGuest_4 : decode cX2_addGuest 4 = .ok (.invokevirtual 38, 3) := dk_182 0 38 (dk_at dksX2_addGuest_0 4 rfl rfl)
theorem dX2_addGuest_7 : decode cX2_addGuest 7 = .ok (.bipush 10, 2) := dk_16 10 (dk_at dksX2_addGuest_0 7 rfl rfl)
theorem dX2_addGuest_9 : decode cX2_addGuest 9 = .ok (.if_icmp .ge 7, 3) := dk_162 0 7 (dk_at dksX2_addGuest_0 9 rfl rfl)
theorem dX2_addGuest_12 : decode cX2_addGuest 12 = .ok (.iconst 1, 1) := dk_4 (dk_at dksX2_addGuest_0 12 rfl rfl)
theorem dX2_addGuest_13 : decode cX2_addGuest 13 = .ok (.goto 4, 3) := dk_167 0 4 (dk_at dksX2_addGuest_0 13 rfl rfl)
theorem dX2_addGuest_16 : decode cX2_addGuest 16 = .ok (.iconst 0, 1) := dk_3 (dk_at dksX2_addGuest_0 16 rfl rfl)
theorem dX2_addGuest_17 : decode cX2_addGuest 17 = .ok (.invokestatic 126, 3) := dk_184 0 126 (dk_at dksX2_addGuest_0 17 rfl rfl)
theorem dX2_addGuest_20 : decode cX2_addGuest 20 = .ok (.aload_n 0, 1) := dk_42 (dk_at dksX2_addGuest_0 20 rfl rfl)
theorem dX2_addGuest_21 : decode cX2_addGuest 21 = .ok (.getfield 18, 3) := dk_180 0 18 (dk_at dksX2_addGuest_0 21 rfl rfl)
theorem dX2_addGuest_24 : decode cX2_addGuest 24 = .ok (.new 75, 3) := dk_187 0 75 (dk_at dksX2_addGuest_1 0 rfl rfl)
theorem dX2_addGuest_27 : decode cX2_addGuest 27 = .ok (.dup, 1) := dk_89 (dk_at dksX2_addGuest_1 3 rfl rfl)
theorem dX2_addGuest_28 : decode cX2_addGuest 28 = .ok (.invokespecial 133, 3) := dk_183 0 133 (dk_at dksX2_addGuest_1 4 rfl rfl)
theorem dX2_addGuest_31 : decode cX2_addGuest 31 = .ok (.invokevirtual 48, 3) := dk_182 0 48 (dk_at dksX2_addGuest_1 7 rfl rfl)
theorem dX2_addGuest_34 : decode cX2_addGuest 34 = .ok (.pop, 1) := dk_87 (dk_at dksX2_addGuest_1 10 rfl rfl)
theorem dX2_addGuest_35 : decode cX2_addGuest 35 = .ok (.aload_n 0, 1) := dk_42 (dk_at dksX2_addGuest_1 11 rfl rfl)
theorem dX2_addGuest_36 : decode cX2_addGuest 36 = .ok (.getfield 18, 3) := dk_180 0 18 (dk_at dksX2_addGuest_1 12 rfl rfl)
theorem dX2_addGuest_39 : decode cX2_addGuest 39 = .ok (.invokevirtual 38, 3) := dk_182 0 38 (dk_at dksX2_addGuest_1 15 rfl rfl)
theorem dX2_addGuest_42 : decode cX2_addGuest 42 = .ok (.iconst 1, 1) := dk_4 (dk_at dksX2_addGuest_1 18 rfl rfl)
theorem dX2_addGuest_43 : decode cX2_addGuest 43 = .ok (.isub, 1) := dk_100 (dk_at dksX2_addGuest_1 19 rfl rfl)
theorem dX2_addGuest_44 : decode cX2_addGuest 44 = .ok (.ireturn, 1) := dk_172 (dk_at dksX2_addGuest_1 20 rfl rfl)
abbrev cX2_book : ByteArray := prog_12_method_16_code
def yX2_book : MethodName := ⟨RX2, "book", "(III)I"⟩
def dkwX2_book_3 : List UInt8 := [172]
abbrev dktX2_book_3 : List UInt8 := dkwX2_book_3 ++ []
def dkwX2_book_2 : List UInt8 := [167, 0, 4, 3, 184, 0, 126, 42, 27, 28, 29, 182, 0, 149, 184, 0, 152, 42, 27, 28, 29, 182, 0, 155]
abbrev dktX2_book_2 : List UInt8 := dkwX2_book_2 ++ dktX2_book_3
def dkwX2_book_1 : List UInt8 := [182, 0, 38, 16, 12, 162, 0, 20, 25, 4, 180, 0, 104, 25, 5, 180, 0, 134, 161, 0, 7, 4]
abbrev dktX2_book_1 : List UInt8 := dkwX2_book_1 ++ dktX2_book_2
def dkwX2_book_0 : List UInt8 := [42, 27, 182, 0, 140, 58, 4, 42, 28, 182, 0, 143, 58, 5, 42, 29, 182, 0, 146, 42, 180, 0, 21]
abbrev dktX2_book_0 : List UInt8 := dkwX2_book_0 ++ dktX2_book_1
theorem dksX2_book_0 : cX2_book.data.toList.drop 0 = dktX2_book_0 := by decide +kernel
theorem dksX2_book_1 : cX2_book.data.toList.drop 23 = dktX2_book_1 := dk_seg dksX2_book_0 23 rfl rfl
theorem dksX2_book_2 : cX2_book.data.toList.drop 45 = dktX2_book_2 := dk_seg dksX2_book_1 22 rfl rfl
theorem dksX2_book_3 : cX2_book.data.toList.drop 69 = dktX2_book_3 := dk_seg dksX2_book_2 24 rfl rfl
theorem dX2_book_0 : decode cX2_book 0 = .ok (.aload_n 0, 1) := dk_42 (dk_at dksX2_book_0 0 rfl rfl)
theorem dX2_book_1 : decode cX2_book 1 = .ok (.iload_n 1, 1) := dk_27 (dk_at dksX2_book_0 1 rfl rfl)
theorem dX2_book_2 : decode cX2_book 2 = .ok (.invokevirtual 140, 3) := dk_182 0 140 (dk_at dksX2_book_0 2 rfl rfl)
theorem dX2_book_5 : decode cX2_book 5 = .ok (.astore 4, 2) := dk_58 4 (dk_at dksX2_book_0 5 rfl rfl)
theorem dX2_book_7 : decode cX2_book 7 = .ok (.aload_n 0, 1) := dk_42 (dk_at dksX2_book_0 7 rfl rfl)
theorem dX2_book_8 : decode cX2_book 8 = .ok (.iload_n 2, 1) := dk_28 (dk_at dksX2_book_0 8 rfl rfl)
theorem dX2_book_9 : decode cX2_book 9 = .ok (.invokevirtual 143, 3) := dk_182 0 143 (dk_at dksX2_book_0 9 rfl rfl)
theorem dX2_book_12 : decode cX2_book 12 = .ok (.astore 5, 2) := dk_58 5 (dk_at dksX2_book_0 12 rfl rfl)
theorem dX2_book_14 : decode cX2_book 14 = .ok (.aload_n 0, 1) := dk_42 (dk_at dksX2_book_0 14 rfl rfl)
theorem dX2_book_15 : decode cX2_book 15 = .ok (.iload_n 3, 1) := dk_29 (dk_at dksX2_book_0 15 rfl rfl)
theorem dX2_book_16 : decode cX2_book 16 = .ok (.invokevirtual 146, 3) := dk_182 0 146 (dk_at dksX2_book_0 16 rfl rfl)
theorem dX2_book_19 : decode cX2_book 19 = .ok (.aload_n 0, 1) := dk_42 (dk_at dksX2_book_0 19 rfl rfl)
theorem dX2_book_20 : decode cX2_book 20 = .ok (.getfield 21, 3) := dk_180 0 21 (dk_at dksX2_book_0 20 rfl rfl)
theorem dX2_book_23 : decode cX2_book 23 = .ok (.invokevirtual 38, 3) := dk_182 0 38 (dk_at dksX2_book_1 0 rfl rfl)
theorem dX2_book_26 : decode cX2_book 26 = .ok (.bipush 12, 2) := dk_16 12 (dk_at dksX2_book_1 3 rfl rfl)
theorem dX2_book_28 : decode cX2_book 28 = .ok (.if_icmp .ge 20, 3) := dk_162 0 20 (dk_at dksX2_book_1 5 rfl rfl)
theorem dX2_book_31 : decode cX2_book 31 = .ok (.aload 4, 2) := dk_25 4 (dk_at dksX2_book_1 8 rfl rfl)
theorem dX2_book_33 : decode cX2_book 33 = .ok (.getfield 104, 3) := dk_180 0 104 (dk_at dksX2_book_1 10 rfl rfl)
theorem dX2_book_36 : decode cX2_book 36 = .ok (.aload 5, 2) := dk_25 5 (dk_at dksX2_book_1 13 rfl rfl)
theorem dX2_book_38 : decode cX2_book 38 = .ok (.getfield 134, 3) := dk_180 0 134 (dk_at dksX2_book_1 15 rfl rfl)
theorem dX2_book_41 : decode cX2_book 41 = .ok (.if_icmp .lt 7, 3) := dk_161 0 7 (dk_at dksX2_book_1 18 rfl rfl)
theorem dX2_book_44 : decode cX2_book 44 = .ok (.iconst 1, 1) := dk_4 (dk_at dksX2_book_1 21 rfl rfl)
theorem dX2_book_45 : decode cX2_book 45 = .ok (.goto 4, 3) := dk_167 0 4 (dk_at dksX2_book_2 0 rfl rfl)
theorem dX2_book_48 : decode cX2_book 48 = .ok (.iconst 0, 1) := dk_3 (dk_at dksX2_book_2 3 rfl rfl)
theorem dX2_book_49 : decode cX2_book 49 = .ok (.invokestatic 126, 3) := dk_184 0 126 (dk_at dksX2_book_2 4 rfl rfl)
theorem dX2_book_52 : decode cX2_book 52 = .ok (.aload_n 0, 1) := dk_42 (dk_at dksX2_book_2 7 rfl rfl)
theorem dX2_book_53 : decode cX2_book 53 = .ok (.iload_n 1, 1) := dk_27 (dk_at dksX2_book_2 8 rfl rfl)
theorem dX2_book_54 : decode cX2_book 54 = .ok (.iload_n 2, 1) := dk_28 (dk_at dksX2_book_2 9 rfl rfl)
theorem dX2_book_55 : decode cX2_book 55 = .ok (.iload_n 3, 1) := dk_29 (dk_at dksX2_book_2 10 rfl rfl)
theorem dX2_book_56 : decode cX2_book 56 = .ok (.invokevirtual 149, 3) := dk_182 0 149 (dk_at dksX2_book_2 11 rfl rfl)
theorem dX2_book_59 : decode cX2_book 59 = .ok (.invokestatic 152, 3) := dk_184 0 152 (dk_at dksX2_book_2 14 rfl rfl)
theorem dX2_book_62 : decode cX2_book 62 = .ok (.aload_n 0, 1) := dk_42 (dk_at dksX2_book_2 17 rfl rfl)
theorem dX2_book_63 : decode cX2_book 63 = .ok (.iload_n 1, 1) := dk_27 (dk_at dksX2_book_2 18 rfl rfl)
theorem dX2_book_64 : decode cX2_book 64 = .ok (.iload_n 2, 1) := dk_28 (dk_at dksX2_book_2 19 rfl rfl)
theorem dX2_book_65 : decode cX2_book 65 = .ok (.iload_n 3, 1) := dk_29 (dk_at dksX2_book_2 20 rfl rfl)
theorem dX2_book_66 : decode cX2_book 66 = .ok (.invokevirtual 155, 3) := dk_182 0 155 (dk_at dksX2_book_2 21 rfl rfl)
theorem dX2_book_69 : decode cX2_book 69 = .ok (.ireturn, 1) := dk_172 (dk_at dksX2_book_3 0 rfl rfl)
abbrev cX2_guest : ByteArray := prog_12_method_4_code
def yX2_guest : MethodName := ⟨RX2, "guest", "(I)LSlidePark$Guest;"⟩
def dkwX2_guest_0 : List UInt8 := [42, 180, 0, 18, 27, 184, 0, 69, 192, 0, 75, 176]
abbrev dktX2_guest_0 : List UInt8 := dkwX2_guest_0 ++ []
theorem dksX2_guest_0 : cX2_guest.data.toList.drop 0 = dktX2_guest_0 := by decide +kernel
theorem dX2_guest_0 : decode cX2_guest 0 = .ok (.aload_n 0, 1) := dk_42 (dk_at dksX2_guest_0 0 rfl rfl)
theorem dX2_guest_1 : decode cX2_guest 1 = .ok (.getfield 18, 3) := dk_180 0 18 (dk_at dksX2_guest_0 1 rfl rfl)
theorem dX2_guest_4 : decode cX2_guest 4 = .ok (.iload_n 1, 1) := dk_27 (dk_at dksX2_guest_0 4 rfl rfl)
theorem dX2_guest_5 : decode cX2_guest 5 = .ok (.invokestatic 69, 3) := dk_184 0 69 (dk_at dksX2_guest_0 5 rfl rfl)
theorem dX2_guest_8 : decode cX2_guest 8 = .ok (.checkcast 75, 3) := dk_192 0 75 (dk_at dksX2_guest_0 8 rfl rfl)
theorem dX2_guest_11 : decode cX2_guest 11 = .ok (.areturn, 1) := dk_176 (dk_at dksX2_guest_0 11 rfl rfl)
abbrev cX2_slide : ByteArray := prog_12_method_3_code
def yX2_slide : MethodName := ⟨RX2, "slide", "(I)LSlidePark$Slide;"⟩
def dkwX2_slide_0 : List UInt8 := [42, 180, 0, 12, 27, 184, 0, 69, 192, 0, 73, 176]
abbrev dktX2_slide_0 : List UInt8 := dkwX2_slide_0 ++ []
theorem dksX2_slide_0 : cX2_slide.data.toList.drop 0 = dktX2_slide_0 := by decide +kernel
theorem dX2_slide_0 : decode cX2_slide 0 = .ok (.aload_n 0, 1) := dk_42 (dk_at dksX2_slide_0 0 rfl rfl)
theorem dX2_slide_1 : decode cX2_slide 1 = .ok (.getfield 12, 3) := dk_180 0 12 (dk_at dksX2_slide_0 1 rfl rfl)
theorem dX2_slide_4 : decode cX2_slide 4 = .ok (.iload_n 1, 1) := dk_27 (dk_at dksX2_slide_0 4 rfl rfl)
theorem dX2_slide_5 : decode cX2_slide 5 = .ok (.invokestatic 69, 3) := dk_184 0 69 (dk_at dksX2_slide_0 5 rfl rfl)
theorem dX2_slide_8 : decode cX2_slide 8 = .ok (.checkcast 73, 3) := dk_192 0 73 (dk_at dksX2_slide_0 8 rfl rfl)
theorem dX2_slide_11 : decode cX2_slide 11 = .ok (.areturn, 1) := dk_176 (dk_at dksX2_slide_0 11 rfl rfl)
abbrev cX2_requireStart : ByteArray := prog_12_method_6_code
def yX2_requireStart : MethodName := ⟨RX2, "requireStart", "(I)V"⟩
def dkwX2_requireStart_0 : List UInt8 := [27, 42, 180, 0, 56, 42, 180, 0, 56, 16, 120, 96, 184, 0, 77, 184, 0, 81, 177]
abbrev dktX2_requireStart_0 : List UInt8 := dkwX2_requireStart_0 ++ []
theorem dksX2_requireStart_0 : cX2_requireStart.data.toList.drop 0 = dktX2_requireStart_0 := by decide +kernel
theorem dX2_requireStart_0 : decode cX2_requireStart 0 = .ok (.iload_n 1, 1) := dk_27 (dk_at dksX2_requireStart_0 0 rfl rfl)
theorem dX2_requireStart_1 : decode cX2_requireStart 1 = .ok (.aload_n 0, 1) := dk_42 (dk_at dksX2_requireStart_0 1 rfl rfl)
theorem dX2_requireStart_2 : decode cX2_requireStart 2 = .ok (.getfield 56, 3) := dk_180 0 56 (dk_at dksX2_requireStart_0 2 rfl rfl)
theorem dX2_requireStart_5 : decode cX2_requireStart 5 = .ok (.aload_n 0, 1) := dk_42 (dk_at dksX2_requireStart_0 5 rfl rfl)
theorem dX2_requireStart_6 : decode cX2_requireStart 6 = .ok (.getfield 56, 3) := dk_180 0 56 (dk_at dksX2_requireStart_0 6 rfl rfl)
theorem dX2_requireStart_9 : decode cX2_requireStart 9 = .ok (.bipush 120, 2) := dk_16 120 (dk_at dksX2_requireStart_0 9 rfl rfl)
theorem dX2_requireStart_11 : decode cX2_requireStart 11 = .ok (.iadd, 1) := dk_96 (dk_at dksX2_requireStart_0 11 rfl rfl)
theorem dX2_requireStart_12 : decode cX2_requireStart 12 = .ok (.invokestatic 77, 3) := dk_184 0 77 (dk_at dksX2_requireStart_0 12 rfl rfl)
theorem dX2_requireStart_15 : decode cX2_requireStart 15 = .ok (.invokestatic 81, 3) := dk_184 0 81 (dk_at dksX2_requireStart_0 15 rfl rfl)
theorem dX2_requireStart_18 : decode cX2_requireStart 18 = .ok (.return_, 1) := dk_177 (dk_at dksX2_requireStart_0 18 rfl rfl)
abbrev cX2_areFree : ByteArray := prog_12_method_9_code
def yX2_areFree : MethodName := ⟨RX2, "areFree", "(III)Z"⟩
def dkwX2_areFree_1 : List UInt8 := [180, 0, 85, 96, 182, 0, 101, 153, 0, 7, 4, 167, 0, 4, 3, 172]
abbrev dktX2_areFree_1 : List UInt8 := dkwX2_areFree_1 ++ []
def dkwX2_areFree_0 : List UInt8 := [42, 28, 29, 182, 0, 98, 153, 0, 32, 42, 27, 29, 29, 42, 180, 0, 12, 28, 182, 0, 42, 192, 0, 73]
abbrev dktX2_areFree_0 : List UInt8 := dkwX2_areFree_0 ++ dktX2_areFree_1
theorem dksX2_areFree_0 : cX2_areFree.data.toList.drop 0 = dktX2_areFree_0 := by decide +kernel
theorem dksX2_areFree_1 : cX2_areFree.data.toList.drop 24 = dktX2_areFree_1 := dk_seg dksX2_areFree_0 24 rfl rfl
theorem dX2_areFree_0 : decode cX2_areFree 0 = .ok (.aload_n 0, 1) := dk_42 (dk_at dksX2_areFree_0 0 rfl rfl)
theorem dX2_areFree_1 : decode cX2_areFree 1 = .ok (.iload_n 2, 1) := dk_28 (dk_at dksX2_areFree_0 1 rfl rfl)
theorem dX2_areFree_2 : decode cX2_areFree 2 = .ok (.iload_n 3, 1) := dk_29 (dk_at dksX2_areFree_0 2 rfl rfl)
theorem dX2_areFree_3 : decode cX2_areFree 3 = .ok (.invokevirtual 98, 3) := dk_182 0 98 (dk_at dksX2_areFree_0 3 rfl rfl)
theorem dX2_areFree_6 : decode cX2_areFree 6 = .ok (.ifCond .eq 32, 3) := dk_153 0 32 (dk_at dksX2_areFree_0 6 rfl rfl)
theorem dX2_areFree_9 : decode cX2_areFree 9 = .ok (.aload_n 0, 1) := dk_42 (dk_at dksX2_areFree_0 9 rfl rfl)
theorem dX2_areFree_10 : decode cX2_areFree 10 = .ok (.iload_n 1, 1) := dk_27 (dk_at dksX2_areFree_0 10 rfl rfl)
theorem dX2_areFree_11 : decode cX2_areFree 11 = .ok (.iload_n 3, 1) := dk_29 (dk_at dksX2_areFree_0 11 rfl rfl)
theorem dX2_areFree_12 : decode cX2_areFree 12 = .ok (.iload_n 3, 1) := dk_29 (dk_at dksX2_areFree_0 12 rfl rfl)
theorem dX2_areFree_13 : decode cX2_areFree 13 = .ok (.aload_n 0, 1) := dk_42 (dk_at dksX2_areFree_0 13 rfl rfl)
theorem dX2_areFree_14 : decode cX2_areFree 14 = .ok (.getfield 12, 3) := dk_180 0 12 (dk_at dksX2_areFree_0 14 rfl rfl)
theorem dX2_areFree_17 : decode cX2_areFree 17 = .ok (.iload_n 2, 1) := dk_28 (dk_at dksX2_areFree_0 17 rfl rfl)
theorem dX2_areFree_18 : decode cX2_areFree 18 = .ok (.invokevirtual 42, 3) := dk_182 0 42 (dk_at dksX2_areFree_0 18 rfl rfl)
theorem dX2_areFree_21 : decode cX2_areFree 21 = .ok (.checkcast 73, 3) := dk_192 0 73 (dk_at dksX2_areFree_0 21 rfl rfl)
theorem dX2_areFree_24 : decode cX2_areFree 24 = .ok (.getfield 85, 3) := dk_180 0 85 (dk_at dksX2_areFree_1 0 rfl rfl)
theorem dX2_areFree_27 : decode cX2_areFree 27 = .ok (.iadd, 1) := dk_96 (dk_at dksX2_areFree_1 3 rfl rfl)
theorem dX2_areFree_28 : decode cX2_areFree 28 = .ok (.invokevirtual 101, 3) := dk_182 0 101 (dk_at dksX2_areFree_1 4 rfl rfl)
theorem dX2_areFree_31 : decode cX2_areFree 31 = .ok (.ifCond .eq 7, 3) := dk_153 0 7 (dk_at dksX2_areFree_1 7 rfl rfl)
theorem dX2_areFree_34 : decode cX2_areFree 34 = .ok (.iconst 1, 1) := dk_4 (dk_at dksX2_areFree_1 10 rfl rfl)
theorem dX2_areFree_35 : decode cX2_areFree 35 = .ok (.goto 4, 3) := dk_167 0 4 (dk_at dksX2_areFree_1 11 rfl rfl)
theorem dX2_areFree_38 : decode cX2_areFree 38 = .ok (.iconst 0, 1) := dk_3 (dk_at dksX2_areFree_1 14 rfl rfl)
theorem dX2_areFree_39 : decode cX2_areFree 39 = .ok (.ireturn, 1) := dk_172 (dk_at dksX2_areFree_1 15 rfl rfl)
abbrev cX2_isSlideFree : ByteArray := prog_12_method_7_code
def yX2_isSlideFree : MethodName := ⟨RX2, "isSlideFree", "(II)Z"⟩
def dkwX2_isSlideFree_3 : List UInt8 := [3, 172, 132, 4, 1, 167, 255, 200, 4, 172]
abbrev dktX2_isSlideFree_3 : List UInt8 := dkwX2_isSlideFree_3 ++ []
def dkwX2_isSlideFree_2 : List UInt8 := [27, 160, 0, 25, 42, 180, 0, 21, 21, 4, 182, 0, 42, 192, 0, 46, 28, 29, 182, 0, 91, 153, 0, 5]
abbrev dktX2_isSlideFree_2 : List UInt8 := dkwX2_isSlideFree_2 ++ dktX2_isSlideFree_3
def dkwX2_isSlideFree_1 : List UInt8 := [180, 0, 21, 182, 0, 38, 162, 0, 50, 42, 180, 0, 21, 21, 4, 182, 0, 42, 192, 0, 46, 180, 0, 88]
abbrev dktX2_isSlideFree_1 : List UInt8 := dkwX2_isSlideFree_1 ++ dktX2_isSlideFree_2
def dkwX2_isSlideFree_0 : List UInt8 := [28, 42, 180, 0, 12, 27, 182, 0, 42, 192, 0, 73, 180, 0, 85, 96, 62, 3, 54, 4, 21, 4, 42]
abbrev dktX2_isSlideFree_0 : List UInt8 := dkwX2_isSlideFree_0 ++ dktX2_isSlideFree_1
theorem dksX2_isSlideFree_0 : cX2_isSlideFree.data.toList.drop 0 = dktX2_isSlideFree_0 := by decide +kernel
theorem dksX2_isSlideFree_1 : cX2_isSlideFree.data.toList.drop 23 = dktX2_isSlideFree_1 := dk_seg dksX2_isSlideFree_0 23 rfl rfl
theorem dksX2_isSlideFree_2 : cX2_isSlideFree.data.toList.drop 47 = dktX2_isSlideFree_2 := dk_seg dksX2_isSlideFree_1 24 rfl rfl
theorem dksX2_isSlideFree_3 : cX2_isSlideFree.data.toList.drop 71 = dktX2_isSlideFree_3 := dk_seg dksX2_isSlideFree_2 24 rfl rfl
theorem dX2_isSlideFree_0 : decode cX2_isSlideFree 0 = .ok (.iload_n 2, 1) := dk_28 (dk_at dksX2_isSlideFree_0 0 rfl rfl)
theorem dX2_isSlideFree_1 : decode cX2_isSlideFree 1 = .ok (.aload_n 0, 1) := dk_42 (dk_at dksX2_isSlideFree_0 1 rfl rfl)
theorem dX2_isSlideFree_2 : decode cX2_isSlideFree 2 = .ok (.getfield 12, 3) := dk_180 0 12 (dk_at dksX2_isSlideFree_0 2 rfl rfl)
theorem dX2_isSlideFree_5 : decode cX2_isSlideFree 5 = .ok (.iload_n 1, 1) := dk_27 (dk_at dksX2_isSlideFree_0 5 rfl rfl)
theorem dX2_isSlideFree_6 : decode cX2_isSlideFree 6 = .ok (.invokevirtual 42, 3) := dk_182 0 42 (dk_at dksX2_isSlideFree_0 6 rfl rfl)
theorem dX2_isSlideFree_9 : decode cX2_isSlideFree 9 = .ok (.checkcast 73, 3) := dk_192 0 73 (dk_at dksX2_isSlideFree_0 9 rfl rfl)
theorem dX2_isSlideFree_12 : decode cX2_isSlideFree 12 = .ok (.getfield 85, 3) := dk_180 0 85 (dk_at dksX2_isSlideFree_0 12 rfl rfl)
theorem dX2_isSlideFree_15 : decode cX2_isSlideFree 15 = .ok (.iadd, 1) := dk_96 (dk_at dksX2_isSlideFree_0 15 rfl rfl)
theorem dX2_isSlideFree_16 : decode cX2_isSlideFree 16 = .ok (.istore_n 3, 1) := dk_62 (dk_at dksX2_isSlideFree_0 16 rfl rfl)
theorem dX2_isSlideFree_17 : decode cX2_isSlideFree 17 = .ok (.iconst 0, 1) := dk_3 (dk_at dksX2_isSlideFree_0 17 rfl rfl)
theorem dX2_isSlideFree_18 : decode cX2_isSlideFree 18 = .ok (.istore 4, 2) := dk_54 4 (dk_at dksX2_isSlideFree_0 18 rfl rfl)
theorem dX2_isSlideFree_20 : decode cX2_isSlideFree 20 = .ok (.iload 4, 2) := dk_21 4 (dk_at dksX2_isSlideFree_0 20 rfl rfl)
theorem dX2_isSlideFree_22 : decode cX2_isSlideFree 22 = .ok (.aload_n 0, 1) := dk_42 (dk_at dksX2_isSlideFree_0 22 rfl rfl)
theorem dX2_isSlideFree_23 : decode cX2_isSlideFree 23 = .ok (.getfield 21, 3) := dk_180 0 21 (dk_at dksX2_isSlideFree_1 0 rfl rfl)
theorem dX2_isSlideFree_26 : decode cX2_isSlideFree 26 = .ok (.invokevirtual 38, 3) := dk_182 0 38 (dk_at dksX2_isSlideFree_1 3 rfl rfl)
theorem dX2_isSlideFree_29 : decode cX2_isSlideFree 29 = .ok (.if_icmp .ge 50, 3) := dk_162 0 50 (dk_at dksX2_isSlideFree_1 6 rfl rfl)
theorem dX2_isSlideFree_32 : decode cX2_isSlideFree 32 = .ok (.aload_n 0, 1) := dk_42 (dk_at dksX2_isSlideFree_1 9 rfl rfl)
theorem dX2_isSlideFree_33 : decode cX2_isSlideFree 33 = .ok (.getfield 21, 3) := dk_180 0 21 (dk_at dksX2_isSlideFree_1 10 rfl rfl)
theorem dX2_isSlideFree_36 : decode cX2_isSlideFree 36 = .ok (.iload 4, 2) := dk_21 4 (dk_at dksX2_isSlideFree_1 13 rfl rfl)
theorem dX2_isSlideFree_38 : decode cX2_isSlideFree 38 = .ok (.invokevirtual 42, 3) := dk_182 0 42 (dk_at dksX2_isSlideFree_1 15 rfl rfl)
theorem dX2_isSlideFree_41 : decode cX2_isSlideFree 41 = .ok (.checkcast 46, 3) := dk_192 0 46 (dk_at dksX2_isSlideFree_1 18 rfl rfl)
theorem dX2_isSlideFree_44 : decode cX2_isSlideFree 44 = .ok (.getfield 88, 3) := dk_180 0 88 (dk_at dksX2_isSlideFree_1 21 rfl rfl)
theorem dX2_isSlideFree_47 : decode cX2_isSlideFree 47 = .ok (.iload_n 1, 1) := dk_27 (dk_at dksX2_isSlideFree_2 0 rfl rfl)
theorem dX2_isSlideFree_48 : decode cX2_isSlideFree 48 = .ok (.if_icmp .ne 25, 3) := dk_160 0 25 (dk_at dksX2_isSlideFree_2 1 rfl rfl)
theorem dX2_isSlideFree_51 : decode cX2_isSlideFree 51 = .ok (.aload_n 0, 1) := dk_42 (dk_at dksX2_isSlideFree_2 4 rfl rfl)
theorem dX2_isSlideFree_52 : decode cX2_isSlideFree 52 = .ok (.getfield 21, 3) := dk_180 0 21 (dk_at dksX2_isSlideFree_2 5 rfl rfl)
theorem dX2_isSlideFree_55 : decode cX2_isSlideFree 55 = .ok (.iload 4, 2) := dk_21 4 (dk_at dksX2_isSlideFree_2 8 rfl rfl)
theorem dX2_isSlideFree_57 : decode cX2_isSlideFree 57 = .ok (.invokevirtual 42, 3) := dk_182 0 42 (dk_at dksX2_isSlideFree_2 10 rfl rfl)
theorem dX2_isSlideFree_60 : decode cX2_isSlideFree 60 = .ok (.checkcast 46, 3) := dk_192 0 46 (dk_at dksX2_isSlideFree_2 13 rfl rfl)
theorem dX2_isSlideFree_63 : decode cX2_isSlideFree 63 = .ok (.iload_n 2, 1) := dk_28 (dk_at dksX2_isSlideFree_2 16 rfl rfl)
theorem dX2_isSlideFree_64 : decode cX2_isSlideFree 64 = .ok (.iload_n 3, 1) := dk_29 (dk_at dksX2_isSlideFree_2 17 rfl rfl)
theorem dX2_isSlideFree_65 : decode cX2_isSlideFree 65 = .ok (.invokevirtual 91, 3) := dk_182 0 91 (dk_at dksX2_isSlideFree_2 18 rfl rfl)
theorem dX2_isSlideFree_68 : decode cX2_isSlideFree 68 = .ok (.ifCond .eq 5, 3) := dk_153 0 5 (dk_at dksX2_isSlideFree_2 21 rfl rfl)
theorem dX2_isSlideFree_71 : decode cX2_isSlideFree 71 = .ok (.iconst 0, 1) := dk_3 (dk_at dksX2_isSlideFree_3 0 rfl rfl)
theorem dX2_isSlideFree_72 : decode cX2_isSlideFree 72 = .ok (.ireturn, 1) := dk_172 (dk_at dksX2_isSlideFree_3 1 rfl rfl)
theorem dX2_isSlideFree_73 : decode cX2_isSlideFree 73 = .ok (.iinc 4 1, 3) := dk_132 4 1 (dk_at dksX2_isSlideFree_3 2 rfl rfl)
theorem dX2_isSlideFree_76 : decode cX2_isSlideFree 76 = .ok (.goto (-56), 3) := dk_167 255 200 (dk_at dksX2_isSlideFree_3 5 rfl rfl)
theorem dX2_isSlideFree_79 : decode cX2_isSlideFree 79 = .ok (.iconst 1, 1) := dk_4 (dk_at dksX2_isSlideFree_3 8 rfl rfl)
theorem dX2_isSlideFree_80 : decode cX2_isSlideFree 80 = .ok (.ireturn, 1) := dk_172 (dk_at dksX2_isSlideFree_3 9 rfl rfl)
abbrev cX2_isGuestFree : ByteArray := prog_12_method_8_code
def yX2_isGuestFree : MethodName := ⟨RX2, "isGuestFree", "(III)Z"⟩
def dkwX2_isGuestFree_2 : List UInt8 := [182, 0, 91, 153, 0, 5, 3, 172, 132, 4, 1, 167, 255, 200, 4, 172]
abbrev dktX2_isGuestFree_2 : List UInt8 := dkwX2_isGuestFree_2 ++ []
def dkwX2_isGuestFree_1 : List UInt8 := [192, 0, 46, 180, 0, 95, 27, 160, 0, 25, 42, 180, 0, 21, 21, 4, 182, 0, 42, 192, 0, 46, 28, 29]
abbrev dktX2_isGuestFree_1 : List UInt8 := dkwX2_isGuestFree_1 ++ dktX2_isGuestFree_2
def dkwX2_isGuestFree_0 : List UInt8 := [3, 54, 4, 21, 4, 42, 180, 0, 21, 182, 0, 38, 162, 0, 50, 42, 180, 0, 21, 21, 4, 182, 0, 42]
abbrev dktX2_isGuestFree_0 : List UInt8 := dkwX2_isGuestFree_0 ++ dktX2_isGuestFree_1
theorem dksX2_isGuestFree_0 : cX2_isGuestFree.data.toList.drop 0 = dktX2_isGuestFree_0 := by decide +kernel
theorem dksX2_isGuestFree_1 : cX2_isGuestFree.data.toList.drop 24 = dktX2_isGuestFree_1 := dk_seg dksX2_isGuestFree_0 24 rfl rfl
theorem dksX2_isGuestFree_2 : cX2_isGuestFree.data.toList.drop 48 = dktX2_isGuestFree_2 := dk_seg dksX2_isGuestFree_1 24 rfl rfl
theorem dX2_isGuestFree_0 : decode cX2_isGuestFree 0 = .ok (.iconst 0, 1) := dk_3 (dk_at dksX2_isGuestFree_0 0 rfl rfl)
theorem dX2_isGuestFree_1 : decode cX2_isGuestFree 1 = .ok (.istore 4, 2) := dk_54 4 (dk_at dksX2_isGuestFree_0 1 rfl rfl)
theorem dX2_isGuestFree_3 : decode cX2_isGuestFree 3 = .ok (.iload 4, 2) := dk_21 4 (dk_at dksX2_isGuestFree_0 3 rfl rfl)
theorem dX2_isGuestFree_5 : decode cX2_isGuestFree 5 = .ok (.aload_n 0, 1) := dk_42 (dk_at dksX2_isGuestFree_0 5 rfl rfl)
theorem dX2_isGuestFree_6 : decode cX2_isGuestFree 6 = .ok (.getfield 21, 3) := dk_180 0 21 (dk_at dksX2_isGuestFree_0 6 rfl rfl)
theorem dX2_isGuestFree_9 : decode cX2_isGuestFree 9 = .ok (.invokevirtual 38, 3) := dk_182 0 38 (dk_at dksX2_isGuestFree_0 9 rfl rfl)
theorem dX2_isGuestFree_12 : decode cX2_isGuestFree 12 = .ok (.if_icmp .ge 50, 3) := dk_162 0 50 (dk_at dksX2_isGuestFree_0 12 rfl rfl)
theorem dX2_isGuestFree_15 : decode cX2_isGuestFree 15 = .ok (.aload_n 0, 1) := dk_42 (dk_at dksX2_isGuestFree_0 15 rfl rfl)
theorem dX2_isGuestFree_16 : decode cX2_isGuestFree 16 = .ok (.getfield 21, 3) := dk_180 0 21 (dk_at dksX2_isGuestFree_0 16 rfl rfl)
theorem dX2_isGuestFree_19 : decode cX2_isGuestFree 19 = .ok (.iload 4, 2) := dk_21 4 (dk_at dksX2_isGuestFree_0 19 rfl rfl)
theorem dX2_isGuestFree_21 : decode cX2_isGuestFree 21 = .ok (.invokevirtual 42, 3) := dk_182 0 42 (dk_at dksX2_isGuestFree_0 21 rfl rfl)
theorem dX2_isGuestFree_24 : decode cX2_isGuestFree 24 = .ok (.checkcast 46, 3) := dk_192 0 46 (dk_at dksX2_isGuestFree_1 0 rfl rfl)
theorem dX2_isGuestFree_27 : decode cX2_isGuestFree 27 = .ok (.getfield 95, 3) := dk_180 0 95 (dk_at dksX2_isGuestFree_1 3 rfl rfl)
theorem dX2_isGuestFree_30 : decode cX2_isGuestFree 30 = .ok (.iload_n 1, 1) := dk_27 (dk_at dksX2_isGuestFree_1 6 rfl rfl)
theorem dX2_isGuestFree_31 : decode cX2_isGuestFree 31 = .ok (.if_icmp .ne 25, 3) := dk_160 0 25 (dk_at dksX2_isGuestFree_1 7 rfl rfl)
theorem dX2_isGuestFree_34 : decode cX2_isGuestFree 34 = .ok (.aload_n 0, 1) := dk_42 (dk_at dksX2_isGuestFree_1 10 rfl rfl)
theorem dX2_isGuestFree_35 : decode cX2_isGuestFree 35 = .ok (.getfield 21, 3) := dk_180 0 21 (dk_at dksX2_isGuestFree_1 11 rfl rfl)
theorem dX2_isGuestFree_38 : decode cX2_isGuestFree 38 = .ok (.iload 4, 2) := dk_21 4 (dk_at dksX2_isGuestFree_1 14 rfl rfl)
theorem dX2_isGuestFree_40 : decode cX2_isGuestFree 40 = .ok (.invokevirtual 42, 3) := dk_182 0 42 (dk_at dksX2_isGuestFree_1 16 rfl rfl)
theorem dX2_isGuestFree_43 : decode cX2_isGuestFree 43 = .ok (.checkcast 46, 3) := dk_192 0 46 (dk_at dksX2_isGuestFree_1 19 rfl rfl)
theorem dX2_isGuestFree_46 : decode cX2_isGuestFree 46 = .ok (.iload_n 2, 1) := dk_28 (dk_at dksX2_isGuestFree_1 22 rfl rfl)
theorem dX2_isGuestFree_47 : decode cX2_isGuestFree 47 = .ok (.iload_n 3, 1) := dk_29 (dk_at dksX2_isGuestFree_1 23 rfl rfl)
theorem dX2_isGuestFree_48 : decode cX2_isGuestFree 48 = .ok (.invokevirtual 91, 3) := dk_182 0 91 (dk_at dksX2_isGuestFree_2 0 rfl rfl)
theorem dX2_isGuestFree_51 : decode cX2_isGuestFree 51 = .ok (.ifCond .eq 5, 3) := dk_153 0 5 (dk_at dksX2_isGuestFree_2 3 rfl rfl)
theorem dX2_isGuestFree_54 : decode cX2_isGuestFree 54 = .ok (.iconst 0, 1) := dk_3 (dk_at dksX2_isGuestFree_2 6 rfl rfl)
theorem dX2_isGuestFree_55 : decode cX2_isGuestFree 55 = .ok (.ireturn, 1) := dk_172 (dk_at dksX2_isGuestFree_2 7 rfl rfl)
theorem dX2_isGuestFree_56 : decode cX2_isGuestFree 56 = .ok (.iinc 4 1, 3) := dk_132 4 1 (dk_at dksX2_isGuestFree_2 8 rfl rfl)
theorem dX2_isGuestFree_59 : decode cX2_isGuestFree 59 = .ok (.goto (-56), 3) := dk_167 255 200 (dk_at dksX2_isGuestFree_2 11 rfl rfl)
theorem dX2_isGuestFree_62 : decode cX2_isGuestFree 62 = .ok (.iconst 1, 1) := dk_4 (dk_at dksX2_isGuestFree_2 14 rfl rfl)
theorem dX2_isGuestFree_63 : decode cX2_isGuestFree 63 = .ok (.ireturn, 1) := dk_172 (dk_at dksX2_isGuestFree_2 15 rfl rfl)
abbrev cX2_makeBooking : ByteArray := prog_12_method_15_code
def yX2_makeBooking : MethodName := ⟨RX2, "makeBooking", "(III)I"⟩
def dkwX2_makeBooking_2 : List UInt8 := [183, 0, 137, 182, 0, 48, 87, 42, 180, 0, 21, 182, 0, 38, 4, 100, 172]
abbrev dktX2_makeBooking_2 : List UInt8 := dkwX2_makeBooking_2 ++ []
def dkwX2_makeBooking_1 : List UInt8 := [187, 0, 46, 89, 27, 28, 29, 29, 42, 180, 0, 12, 28, 182, 0, 42, 192, 0, 73, 180, 0, 85, 96]
abbrev dktX2_makeBooking_1 : List UInt8 := dkwX2_makeBooking_1 ++ dktX2_makeBooking_2
def dkwX2_makeBooking_0 : List UInt8 := [42, 27, 42, 180, 0, 12, 28, 182, 0, 42, 192, 0, 73, 180, 0, 134, 182, 0, 107, 42, 180, 0, 21]
abbrev dktX2_makeBooking_0 : List UInt8 := dkwX2_makeBooking_0 ++ dktX2_makeBooking_1
theorem dksX2_makeBooking_0 : cX2_makeBooking.data.toList.drop 0 = dktX2_makeBooking_0 := by decide +kernel
theorem dksX2_makeBooking_1 : cX2_makeBooking.data.toList.drop 23 = dktX2_makeBooking_1 := dk_seg dksX2_makeBooking_0 23 rfl rfl
theorem dksX2_makeBooking_2 : cX2_makeBooking.data.toList.drop 46 = dktX2_makeBooking_2 := dk_seg dksX2_makeBooking_1 23 rfl rfl
theorem dX2_makeBooking_0 : decode cX2_makeBooking 0 = .ok (.aload_n 0, 1) := dk_42 (dk_at dksX2_makeBooking_0 0 rfl rfl)
theorem dX2_makeBooking_1 : decode cX2_makeBooking 1 = .ok (.iload_n 1, 1) := dk_27 (dk_at dksX2_makeBooking_0 1 rfl rfl)
theorem dX2_makeBooking_2 : decode cX2_makeBooking 2 = .ok (.aload_n 0, 1) := dk_42 (dk_at dksX2_makeBooking_0 2 rfl rfl)
theorem dX2_makeBooking_3 : decode cX2_makeBooking 3 = .ok (.getfield 12, 3) := dk_180 0 12 (dk_at dksX2_makeBooking_0 3 rfl rfl)
theorem dX2_makeBooking_6 : decode cX2_makeBooking 6 = .ok (.iload_n 2, 1) := dk_28 (dk_at dksX2_makeBooking_0 6 rfl rfl)
theorem dX2_makeBooking_7 : decode cX2_makeBooking 7 = .ok (.invokevirtual 42, 3) := dk_182 0 42 (dk_at dksX2_makeBooking_0 7 rfl rfl)
theorem dX2_makeBooking_10 : decode cX2_makeBooking 10 = .ok (.checkcast 73, 3) := dk_192 0 73 (dk_at dksX2_makeBooking_0 10 rfl rfl)
theorem dX2_makeBooking_13 : decode cX2_makeBooking 13 = .ok (.getfield 134, 3) := dk_180 0 134 (dk_at dksX2_makeBooking_0 13 rfl rfl)
theorem dX2_makeBooking_16 : decode cX2_makeBooking 16 = .ok (.invokevirtual 107, 3) := dk_182 0 107 (dk_at dksX2_makeBooking_0 16 rfl rfl)
theorem dX2_makeBooking_19 : decode cX2_makeBooking 19 = .ok (.aload_n 0, 1) := dk_42 (dk_at dksX2_makeBooking_0 19 rfl rfl)
theorem dX2_makeBooking_20 : decode cX2_makeBooking 20 = .ok (.getfield 21, 3) := dk_180 0 21 (dk_at dksX2_makeBooking_0 20 rfl rfl)
theorem dX2_makeBooking_23 : decode cX2_makeBooking 23 = .ok (.new 46, 3) := dk_187 0 46 (dk_at dksX2_makeBooking_1 0 rfl rfl)
theorem dX2_makeBooking_26 : decode cX2_makeBooking 26 = .ok (.dup, 1) := dk_89 (dk_at dksX2_makeBooking_1 3 rfl rfl)
theorem dX2_makeBooking_27 : decode cX2_makeBooking 27 = .ok (.iload_n 1, 1) := dk_27 (dk_at dksX2_makeBooking_1 4 rfl rfl)
theorem dX2_makeBooking_28 : decode cX2_makeBooking 28 = .ok (.iload_n 2, 1) := dk_28 (dk_at dksX2_makeBooking_1 5 rfl rfl)
theorem dX2_makeBooking_29 : decode cX2_makeBooking 29 = .ok (.iload_n 3, 1) := dk_29 (dk_at dksX2_makeBooking_1 6 rfl rfl)
theorem dX2_makeBooking_30 : decode cX2_makeBooking 30 = .ok (.iload_n 3, 1) := dk_29 (dk_at dksX2_makeBooking_1 7 rfl rfl)
theorem dX2_makeBooking_31 : decode cX2_makeBooking 31 = .ok (.aload_n 0, 1) := dk_42 (dk_at dksX2_makeBooking_1 8 rfl rfl)
theorem dX2_makeBooking_32 : decode cX2_makeBooking 32 = .ok (.getfield 12, 3) := dk_180 0 12 (dk_at dksX2_makeBooking_1 9 rfl rfl)
theorem dX2_makeBooking_35 : decode cX2_makeBooking 35 = .ok (.iload_n 2, 1) := dk_28 (dk_at dksX2_makeBooking_1 12 rfl rfl)
theorem dX2_makeBooking_36 : decode cX2_makeBooking 36 = .ok (.invokevirtual 42, 3) := dk_182 0 42 (dk_at dksX2_makeBooking_1 13 rfl rfl)
theorem dX2_makeBooking_39 : decode cX2_makeBooking 39 = .ok (.checkcast 73, 3) := dk_192 0 73 (dk_at dksX2_makeBooking_1 16 rfl rfl)
theorem dX2_makeBooking_42 : decode cX2_makeBooking 42 = .ok (.getfield 85, 3) := dk_180 0 85 (dk_at dksX2_makeBooking_1 19 rfl rfl)
theorem dX2_makeBooking_45 : decode cX2_makeBooking 45 = .ok (.iadd, 1) := dk_96 (dk_at dksX2_makeBooking_1 22 rfl rfl)
theorem dX2_makeBooking_46 : decode cX2_makeBooking 46 = .ok (.invokespecial 137, 3) := dk_183 0 137 (dk_at dksX2_makeBooking_2 0 rfl rfl)
theorem dX2_makeBooking_49 : decode cX2_makeBooking 49 = .ok (.invokevirtual 48, 3) := dk_182 0 48 (dk_at dksX2_makeBooking_2 3 rfl rfl)
theorem dX2_makeBooking_52 : decode cX2_makeBooking 52 = .ok (.pop, 1) := dk_87 (dk_at dksX2_makeBooking_2 6 rfl rfl)
theorem dX2_makeBooking_53 : decode cX2_makeBooking 53 = .ok (.aload_n 0, 1) := dk_42 (dk_at dksX2_makeBooking_2 7 rfl rfl)
theorem dX2_makeBooking_54 : decode cX2_makeBooking 54 = .ok (.getfield 21, 3) := dk_180 0 21 (dk_at dksX2_makeBooking_2 8 rfl rfl)
theorem dX2_makeBooking_57 : decode cX2_makeBooking 57 = .ok (.invokevirtual 38, 3) := dk_182 0 38 (dk_at dksX2_makeBooking_2 11 rfl rfl)
theorem dX2_makeBooking_60 : decode cX2_makeBooking 60 = .ok (.iconst 1, 1) := dk_4 (dk_at dksX2_makeBooking_2 14 rfl rfl)
theorem dX2_makeBooking_61 : decode cX2_makeBooking 61 = .ok (.isub, 1) := dk_100 (dk_at dksX2_makeBooking_2 15 rfl rfl)
theorem dX2_makeBooking_62 : decode cX2_makeBooking 62 = .ok (.ireturn, 1) := dk_172 (dk_at dksX2_makeBooking_2 16 rfl rfl)
abbrev cX2_pay : ByteArray := prog_12_method_10_code
def yX2_pay : MethodName := ⟨RX2, "pay", "(II)V"⟩
def dkwX2_pay_1 : List UInt8 := [180, 0, 60, 28, 96, 181, 0, 60, 177]
abbrev dktX2_pay_1 : List UInt8 := dkwX2_pay_1 ++ []
def dkwX2_pay_0 : List UInt8 := [42, 180, 0, 18, 27, 182, 0, 42, 192, 0, 75, 89, 180, 0, 104, 28, 100, 181, 0, 104, 42, 89]
abbrev dktX2_pay_0 : List UInt8 := dkwX2_pay_0 ++ dktX2_pay_1
theorem dksX2_pay_0 : cX2_pay.data.toList.drop 0 = dktX2_pay_0 := by decide +kernel
theorem dksX2_pay_1 : cX2_pay.data.toList.drop 22 = dktX2_pay_1 := dk_seg dksX2_pay_0 22 rfl rfl
theorem dX2_pay_0 : decode cX2_pay 0 = .ok (.aload_n 0, 1) := dk_42 (dk_at dksX2_pay_0 0 rfl rfl)
theorem dX2_pay_1 : decode cX2_pay 1 = .ok (.getfield 18, 3) := dk_180 0 18 (dk_at dksX2_pay_0 1 rfl rfl)
theorem dX2_pay_4 : decode cX2_pay 4 = .ok (.iload_n 1, 1) := dk_27 (dk_at dksX2_pay_0 4 rfl rfl)
theorem dX2_pay_5 : decode cX2_pay 5 = .ok (.invokevirtual 42, 3) := dk_182 0 42 (dk_at dksX2_pay_0 5 rfl rfl)
theorem dX2_pay_8 : decode cX2_pay 8 = .ok (.checkcast 75, 3) := dk_192 0 75 (dk_at dksX2_pay_0 8 rfl rfl)
theorem dX2_pay_11 : decode cX2_pay 11 = .ok (.dup, 1) := dk_89 (dk_at dksX2_pay_0 11 rfl rfl)
theorem dX2_pay_12 : decode cX2_pay 12 = .ok (.getfield 104, 3) := dk_180 0 104 (dk_at dksX2_pay_0 12 rfl rfl)
theorem dX2_pay_15 : decode cX2_pay 15 = .ok (.iload_n 2, 1) := dk_28 (dk_at dksX2_pay_0 15 rfl rfl)
theorem dX2_pay_16 : decode cX2_pay 16 = .ok (.isub, 1) := dk_100 (dk_at dksX2_pay_0 16 rfl rfl)
theorem dX2_pay_17 : decode cX2_pay 17 = .ok (.putfield 104, 3) := dk_181 0 104 (dk_at dksX2_pay_0 17 rfl rfl)
theorem dX2_pay_20 : decode cX2_pay 20 = .ok (.aload_n 0, 1) := dk_42 (dk_at dksX2_pay_0 20 rfl rfl)
theorem dX2_pay_21 : decode cX2_pay 21 = .ok (.dup, 1) := dk_89 (dk_at dksX2_pay_0 21 rfl rfl)
theorem dX2_pay_22 : decode cX2_pay 22 = .ok (.getfield 60, 3) := dk_180 0 60 (dk_at dksX2_pay_1 0 rfl rfl)
theorem dX2_pay_25 : decode cX2_pay 25 = .ok (.iload_n 2, 1) := dk_28 (dk_at dksX2_pay_1 3 rfl rfl)
theorem dX2_pay_26 : decode cX2_pay 26 = .ok (.iadd, 1) := dk_96 (dk_at dksX2_pay_1 4 rfl rfl)
theorem dX2_pay_27 : decode cX2_pay 27 = .ok (.putfield 60, 3) := dk_181 0 60 (dk_at dksX2_pay_1 5 rfl rfl)
theorem dX2_pay_30 : decode cX2_pay 30 = .ok (.return_, 1) := dk_177 (dk_at dksX2_pay_1 8 rfl rfl)
abbrev cX2_cancel : ByteArray := prog_12_method_17_code
def yX2_cancel : MethodName := ⟨RX2, "cancel", "(I)I"⟩
def dkwX2_cancel_3 : List UInt8 := [182, 0, 42, 192, 0, 75, 180, 0, 104, 172]
abbrev dktX2_cancel_3 : List UInt8 := dkwX2_cancel_3 ++ []
def dkwX2_cancel_2 : List UInt8 := [180, 0, 134, 182, 0, 166, 42, 180, 0, 21, 27, 182, 0, 169, 87, 42, 180, 0, 18, 44, 180, 0, 95]
abbrev dktX2_cancel_2 : List UInt8 := dkwX2_cancel_2 ++ dktX2_cancel_3
def dkwX2_cancel_1 : List UInt8 := [184, 0, 126, 42, 44, 180, 0, 95, 42, 180, 0, 12, 44, 180, 0, 88, 182, 0, 42, 192, 0, 73]
abbrev dktX2_cancel_1 : List UInt8 := dkwX2_cancel_1 ++ dktX2_cancel_2
def dkwX2_cancel_0 : List UInt8 := [42, 27, 182, 0, 159, 77, 44, 180, 0, 163, 42, 180, 0, 56, 164, 0, 7, 4, 167, 0, 4, 3]
abbrev dktX2_cancel_0 : List UInt8 := dkwX2_cancel_0 ++ dktX2_cancel_1
theorem dksX2_cancel_0 : cX2_cancel.data.toList.drop 0 = dktX2_cancel_0 := by decide +kernel
theorem dksX2_cancel_1 : cX2_cancel.data.toList.drop 22 = dktX2_cancel_1 := dk_seg dksX2_cancel_0 22 rfl rfl
theorem dksX2_cancel_2 : cX2_cancel.data.toList.drop 44 = dktX2_cancel_2 := dk_seg dksX2_cancel_1 22 rfl rfl
theorem dksX2_cancel_3 : cX2_cancel.data.toList.drop 67 = dktX2_cancel_3 := dk_seg dksX2_cancel_2 23 rfl rfl
theorem dX2_cancel_0 : decode cX2_cancel 0 = .ok (.aload_n 0, 1) := dk_42 (dk_at dksX2_cancel_0 0 rfl rfl)
theorem dX2_cancel_1 : decode cX2_cancel 1 = .ok (.iload_n 1, 1) := dk_27 (dk_at dksX2_cancel_0 1 rfl rfl)
theorem dX2_cancel_2 : decode cX2_cancel 2 = .ok (.invokevirtual 159, 3) := dk_182 0 159 (dk_at dksX2_cancel_0 2 rfl rfl)
theorem dX2_cancel_5 : decode cX2_cancel 5 = .ok (.astore_n 2, 1) := dk_77 (dk_at dksX2_cancel_0 5 rfl rfl)
theorem dX2_cancel_6 : decode cX2_cancel 6 = .ok (.aload_n 2, 1) := dk_44 (dk_at dksX2_cancel_0 6 rfl rfl)
theorem dX2_cancel_7 : decode cX2_cancel 7 = .ok (.getfield 163, 3) := dk_180 0 163 (dk_at dksX2_cancel_0 7 rfl rfl)
theorem dX2_cancel_10 : decode cX2_cancel 10 = .ok (.aload_n 0, 1) := dk_42 (dk_at dksX2_cancel_0 10 rfl rfl)
theorem dX2_cancel_11 : decode cX2_cancel 11 = .ok (.getfield 56, 3) := dk_180 0 56 (dk_at dksX2_cancel_0 11 rfl rfl)
theorem dX2_cancel_14 : decode cX2_cancel 14 = .ok (.if_icmp .le 7, 3) := dk_164 0 7 (dk_at dksX2_cancel_0 14 rfl rfl)
theorem dX2_cancel_17 : decode cX2_cancel 17 = .ok (.iconst 1, 1) := dk_4 (dk_at dksX2_cancel_0 17 rfl rfl)
theorem dX2_cancel_18 : decode cX2_cancel 18 = .ok (.goto 4, 3) := dk_167 0 4 (dk_at dksX2_cancel_0 18 rfl rfl)
theorem dX2_cancel_21 : decode cX2_cancel 21 = .ok (.iconst 0, 1) := dk_3 (dk_at dksX2_cancel_0 21 rfl rfl)
theorem dX2_cancel_22 : decode cX2_cancel 22 = .ok (.invokestatic 126, 3) := dk_184 0 126 (dk_at dksX2_cancel_1 0 rfl rfl)
theorem dX2_cancel_25 : decode cX2_cancel 25 = .ok (.aload_n 0, 1) := dk_42 (dk_at dksX2_cancel_1 3 rfl rfl)
theorem dX2_cancel_26 : decode cX2_cancel 26 = .ok (.aload_n 2, 1) := dk_44 (dk_at dksX2_cancel_1 4 rfl rfl)
theorem dX2_cancel_27 : decode cX2_cancel 27 = .ok (.getfield 95, 3) := dk_180 0 95 (dk_at dksX2_cancel_1 5 rfl rfl)
theorem dX2_cancel_30 : decode cX2_cancel 30 = .ok (.aload_n 0, 1) := dk_42 (dk_at dksX2_cancel_1 8 rfl rfl)
theorem dX2_cancel_31 : decode cX2_cancel 31 = .ok (.getfield 12, 3) := dk_180 0 12 (dk_at dksX2_cancel_1 9 rfl rfl)
theorem dX2_cancel_34 : decode cX2_cancel 34 = .ok (.aload_n 2, 1) := dk_44 (dk_at dksX2_cancel_1 12 rfl rfl)
theorem dX2_cancel_35 : decode cX2_cancel 35 = .ok (.getfield 88, 3) := dk_180 0 88 (dk_at dksX2_cancel_1 13 rfl rfl)
theorem dX2_cancel_38 : decode cX2_cancel 38 = .ok (.invokevirtual 42, 3) := dk_182 0 42 (dk_at dksX2_cancel_1 16 rfl rfl)
theorem dX2_cancel_41 : decode cX2_cancel 41 = .ok (.checkcast 73, 3) := dk_192 0 73 (dk_at dksX2_cancel_1 19 rfl rfl)
theorem dX2_cancel_44 : decode cX2_cancel 44 = .ok (.getfield 134, 3) := dk_180 0 134 (dk_at dksX2_cancel_2 0 rfl rfl)
theorem dX2_cancel_47 : decode cX2_cancel 47 = .ok (.invokevirtual 166, 3) := dk_182 0 166 (dk_at dksX2_cancel_2 3 rfl rfl)
theorem dX2_cancel_50 : decode cX2_cancel 50 = .ok (.aload_n 0, 1) := dk_42 (dk_at dksX2_cancel_2 6 rfl rfl)
theorem dX2_cancel_51 : decode cX2_cancel 51 = .ok (.getfield 21, 3) := dk_180 0 21 (dk_at dksX2_cancel_2 7 rfl rfl)
theorem dX2_cancel_54 : decode cX2_cancel 54 = .ok (.iload_n 1, 1) := dk_27 (dk_at dksX2_cancel_2 10 rfl rfl)
theorem dX2_cancel_55 : decode cX2_cancel 55 = .ok (.invokevirtual 169, 3) := dk_182 0 169 (dk_at dksX2_cancel_2 11 rfl rfl)
theorem dX2_cancel_58 : decode cX2_cancel 58 = .ok (.pop, 1) := dk_87 (dk_at dksX2_cancel_2 14 rfl rfl)
theorem dX2_cancel_59 : decode cX2_cancel 59 = .ok (.aload_n 0, 1) := dk_42 (dk_at dksX2_cancel_2 15 rfl rfl)
theorem dX2_cancel_60 : decode cX2_cancel 60 = .ok (.getfield 18, 3) := dk_180 0 18 (dk_at dksX2_cancel_2 16 rfl rfl)
theorem dX2_cancel_63 : decode cX2_cancel 63 = .ok (.aload_n 2, 1) := dk_44 (dk_at dksX2_cancel_2 19 rfl rfl)
theorem dX2_cancel_64 : decode cX2_cancel 64 = .ok (.getfield 95, 3) := dk_180 0 95 (dk_at dksX2_cancel_2 20 rfl rfl)
theorem dX2_cancel_67 : decode cX2_cancel 67 = .ok (.invokevirtual 42, 3) := dk_182 0 42 (dk_at dksX2_cancel_3 0 rfl rfl)
theorem dX2_cancel_70 : decode cX2_cancel 70 = .ok (.checkcast 75, 3) := dk_192 0 75 (dk_at dksX2_cancel_3 3 rfl rfl)
theorem dX2_cancel_73 : decode cX2_cancel 73 = .ok (.getfield 104, 3) := dk_180 0 104 (dk_at dksX2_cancel_3 6 rfl rfl)
theorem dX2_cancel_76 : decode cX2_cancel 76 = .ok (.ireturn, 1) := dk_172 (dk_at dksX2_cancel_3 9 rfl rfl)
abbrev cX2_booking : ByteArray := prog_12_method_5_code
def yX2_booking : MethodName := ⟨RX2, "booking", "(I)LSlidePark$Booking;"⟩
def dkwX2_booking_0 : List UInt8 := [42, 180, 0, 21, 27, 184, 0, 69, 192, 0, 46, 176]
abbrev dktX2_booking_0 : List UInt8 := dkwX2_booking_0 ++ []
theorem dksX2_booking_0 : cX2_booking.data.toList.drop 0 = dktX2_booking_0 := by decide +kernel
theorem dX2_booking_0 : decode cX2_booking 0 = .ok (.aload_n 0, 1) := dk_42 (dk_at dksX2_booking_0 0 rfl rfl)
theorem dX2_booking_1 : decode cX2_booking 1 = .ok (.getfield 21, 3) := dk_180 0 21 (dk_at dksX2_booking_0 1 rfl rfl)
theorem dX2_booking_4 : decode cX2_booking 4 = .ok (.iload_n 1, 1) := dk_27 (dk_at dksX2_booking_0 4 rfl rfl)
theorem dX2_booking_5 : decode cX2_booking 5 = .ok (.invokestatic 69, 3) := dk_184 0 69 (dk_at dksX2_booking_0 5 rfl rfl)
theorem dX2_booking_8 : decode cX2_booking 8 = .ok (.checkcast 46, 3) := dk_192 0 46 (dk_at dksX2_booking_0 8 rfl rfl)
theorem dX2_booking_11 : decode cX2_booking 11 = .ok (.areturn, 1) := dk_176 (dk_at dksX2_booking_0 11 rfl rfl)
abbrev cX2_payBack : ByteArray := prog_12_method_11_code
def yX2_payBack : MethodName := ⟨RX2, "payBack", "(II)V"⟩
def dkwX2_payBack_0 : List UInt8 := [42, 27, 28, 116, 182, 0, 107, 42, 89, 180, 0, 63, 28, 96, 181, 0, 63, 177]
abbrev dktX2_payBack_0 : List UInt8 := dkwX2_payBack_0 ++ []
theorem dksX2_payBack_0 : cX2_payBack.data.toList.drop 0 = dktX2_payBack_0 := by decide +kernel
theorem dX2_payBack_0 : decode cX2_payBack 0 = .ok (.aload_n 0, 1) := dk_42 (dk_at dksX2_payBack_0 0 rfl rfl)
theorem dX2_payBack_1 : decode cX2_payBack 1 = .ok (.iload_n 1, 1) := dk_27 (dk_at dksX2_payBack_0 1 rfl rfl)
theorem dX2_payBack_2 : decode cX2_payBack 2 = .ok (.iload_n 2, 1) := dk_28 (dk_at dksX2_payBack_0 2 rfl rfl)
theorem dX2_payBack_3 : decode cX2_payBack 3 = .ok (.ineg, 1) := dk_116 (dk_at dksX2_payBack_0 3 rfl rfl)
theorem dX2_payBack_4 : decode cX2_payBack 4 = .ok (.invokevirtual 107, 3) := dk_182 0 107 (dk_at dksX2_payBack_0 4 rfl rfl)
theorem dX2_payBack_7 : decode cX2_payBack 7 = .ok (.aload_n 0, 1) := dk_42 (dk_at dksX2_payBack_0 7 rfl rfl)
theorem dX2_payBack_8 : decode cX2_payBack 8 = .ok (.dup, 1) := dk_89 (dk_at dksX2_payBack_0 8 rfl rfl)
theorem dX2_payBack_9 : decode cX2_payBack 9 = .ok (.getfield 63, 3) := dk_180 0 63 (dk_at dksX2_payBack_0 9 rfl rfl)
theorem dX2_payBack_12 : decode cX2_payBack 12 = .ok (.iload_n 2, 1) := dk_28 (dk_at dksX2_payBack_0 12 rfl rfl)
theorem dX2_payBack_13 : decode cX2_payBack 13 = .ok (.iadd, 1) := dk_96 (dk_at dksX2_payBack_0 13 rfl rfl)
theorem dX2_payBack_14 : decode cX2_payBack 14 = .ok (.putfield 63, 3) := dk_181 0 63 (dk_at dksX2_payBack_0 14 rfl rfl)
theorem dX2_payBack_17 : decode cX2_payBack 17 = .ok (.return_, 1) := dk_177 (dk_at dksX2_payBack_0 17 rfl rfl)
abbrev cX2_join : ByteArray := prog_12_method_18_code
def yX2_join : MethodName := ⟨RX2, "join", "(II)I"⟩
def dkwX2_join_2 : List UInt8 := [45, 27, 184, 0, 115, 182, 0, 177, 45, 182, 0, 176, 172]
abbrev dktX2_join_2 : List UInt8 := dkwX2_join_2 ++ []
def dkwX2_join_1 : List UInt8 := [4, 167, 0, 4, 3, 184, 0, 126, 45, 182, 0, 176, 8, 162, 0, 7, 4, 167, 0, 4, 3, 184, 0, 152]
abbrev dktX2_join_1 : List UInt8 := dkwX2_join_1 ++ dktX2_join_2
def dkwX2_join_0 : List UInt8 := [42, 27, 182, 0, 140, 87, 42, 28, 182, 0, 143, 180, 0, 111, 78, 42, 27, 182, 0, 172, 2, 160, 0, 7]
abbrev dktX2_join_0 : List UInt8 := dkwX2_join_0 ++ dktX2_join_1
theorem dksX2_join_0 : cX2_join.data.toList.drop 0 = dktX2_join_0 := by decide +kernel
theorem dksX2_join_1 : cX2_join.data.toList.drop 24 = dktX2_join_1 := dk_seg dksX2_join_0 24 rfl rfl
theorem dksX2_join_2 : cX2_join.data.toList.drop 48 = dktX2_join_2 := dk_seg dksX2_join_1 24 rfl rfl
theorem dX2_join_0 : decode cX2_join 0 = .ok (.aload_n 0, 1) := dk_42 (dk_at dksX2_join_0 0 rfl rfl)
theorem dX2_join_1 : decode cX2_join 1 = .ok (.iload_n 1, 1) := dk_27 (dk_at dksX2_join_0 1 rfl rfl)
theorem dX2_join_2 : decode cX2_join 2 = .ok (.invokevirtual 140, 3) := dk_182 0 140 (dk_at dksX2_join_0 2 rfl rfl)
theorem dX2_join_5 : decode cX2_join 5 = .ok (.pop, 1) := dk_87 (dk_at dksX2_join_0 5 rfl rfl)
theorem dX2_join_6 : decode cX2_join 6 = .ok (.aload_n 0, 1) := dk_42 (dk_at dksX2_join_0 6 rfl rfl)
theorem dX2_join_7 : decode cX2_join 7 = .ok (.iload_n 2, 1) := dk_28 (dk_at dksX2_join_0 7 rfl rfl)
theorem dX2_join_8 : decode cX2_join 8 = .ok (.invokevirtual 143, 3) := dk_182 0 143 (dk_at dksX2_join_0 8 rfl rfl)
theorem dX2_join_11 : decode cX2_join 11 = .ok (.getfield 111, 3) := dk_180 0 111 (dk_at dksX2_join_0 11 rfl rfl)
theorem dX2_join_14 : decode cX2_join 14 = .ok (.astore_n 3, 1) := dk_78 (dk_at dksX2_join_0 14 rfl rfl)
theorem dX2_join_15 : decode cX2_join 15 = .ok (.aload_n 0, 1) := dk_42 (dk_at dksX2_join_0 15 rfl rfl)
theorem dX2_join_16 : decode cX2_join 16 = .ok (.iload_n 1, 1) := dk_27 (dk_at dksX2_join_0 16 rfl rfl)
theorem dX2_join_17 : decode cX2_join 17 = .ok (.invokevirtual 172, 3) := dk_182 0 172 (dk_at dksX2_join_0 17 rfl rfl)
theorem dX2_join_20 : decode cX2_join 20 = .ok (.iconst (-1), 1) := dk_2 (dk_at dksX2_join_0 20 rfl rfl)
theorem dX2_join_21 : decode cX2_join 21 = .ok (.if_icmp .ne 7, 3) := dk_160 0 7 (dk_at dksX2_join_0 21 rfl rfl)
theorem dX2_join_24 : decode cX2_join 24 = .ok (.iconst 1, 1) := dk_4 (dk_at dksX2_join_1 0 rfl rfl)
theorem dX2_join_25 : decode cX2_join 25 = .ok (.goto 4, 3) := dk_167 0 4 (dk_at dksX2_join_1 1 rfl rfl)
theorem dX2_join_28 : decode cX2_join 28 = .ok (.iconst 0, 1) := dk_3 (dk_at dksX2_join_1 4 rfl rfl)
theorem dX2_join_29 : decode cX2_join 29 = .ok (.invokestatic 126, 3) := dk_184 0 126 (dk_at dksX2_join_1 5 rfl rfl)
theorem dX2_join_32 : decode cX2_join 32 = .ok (.aload_n 3, 1) := dk_45 (dk_at dksX2_join_1 8 rfl rfl)
theorem dX2_join_33 : decode cX2_join 33 = .ok (.invokevirtual 176, 3) := dk_182 0 176 (dk_at dksX2_join_1 9 rfl rfl)
theorem dX2_join_36 : decode cX2_join 36 = .ok (.iconst 5, 1) := dk_8 (dk_at dksX2_join_1 12 rfl rfl)
theorem dX2_join_37 : decode cX2_join 37 = .ok (.if_icmp .ge 7, 3) := dk_162 0 7 (dk_at dksX2_join_1 13 rfl rfl)
theorem dX2_join_40 : decode cX2_join 40 = .ok (.iconst 1, 1) := dk_4 (dk_at dksX2_join_1 16 rfl rfl)
theorem dX2_join_41 : decode cX2_join 41 = .ok (.goto 4, 3) := dk_167 0 4 (dk_at dksX2_join_1 17 rfl rfl)
theorem dX2_join_44 : decode cX2_join 44 = .ok (.iconst 0, 1) := dk_3 (dk_at dksX2_join_1 20 rfl rfl)
theorem dX2_join_45 : decode cX2_join 45 = .ok (.invokestatic 152, 3) := dk_184 0 152 (dk_at dksX2_join_1 21 rfl rfl)
theorem dX2_join_48 : decode cX2_join 48 = .ok (.aload_n 3, 1) := dk_45 (dk_at dksX2_join_2 0 rfl rfl)
theorem dX2_join_49 : decode cX2_join 49 = .ok (.iload_n 1, 1) := dk_27 (dk_at dksX2_join_2 1 rfl rfl)
theorem dX2_join_50 : decode cX2_join 50 = .ok (.invokestatic 115, 3) := dk_184 0 115 (dk_at dksX2_join_2 2 rfl rfl)
theorem dX2_join_53 : decode cX2_join 53 = .ok (.invokevirtual 177, 3) := dk_182 0 177 (dk_at dksX2_join_2 5 rfl rfl)
theorem dX2_join_56 : decode cX2_join 56 = .ok (.aload_n 3, 1) := dk_45 (dk_at dksX2_join_2 8 rfl rfl)
theorem dX2_join_57 : decode cX2_join 57 = .ok (.invokevirtual 176, 3) := dk_182 0 176 (dk_at dksX2_join_2 9 rfl rfl)
theorem dX2_join_60 : decode cX2_join 60 = .ok (.ireturn, 1) := dk_172 (dk_at dksX2_join_2 12 rfl rfl)
abbrev cX2_queueOf : ByteArray := prog_12_method_12_code
def yX2_queueOf : MethodName := ⟨RX2, "queueOf", "(I)I"⟩
def dkwX2_queueOf_1 : List UInt8 := [180, 0, 111, 27, 184, 0, 115, 182, 0, 121, 153, 0, 5, 28, 172, 132, 2, 1, 167, 255, 216, 2, 172]
abbrev dktX2_queueOf_1 : List UInt8 := dkwX2_queueOf_1 ++ []
def dkwX2_queueOf_0 : List UInt8 := [3, 61, 28, 42, 180, 0, 12, 182, 0, 38, 162, 0, 35, 42, 180, 0, 12, 28, 182, 0, 42, 192, 0, 73]
abbrev dktX2_queueOf_0 : List UInt8 := dkwX2_queueOf_0 ++ dktX2_queueOf_1
theorem dksX2_queueOf_0 : cX2_queueOf.data.toList.drop 0 = dktX2_queueOf_0 := by decide +kernel
theorem dksX2_queueOf_1 : cX2_queueOf.data.toList.drop 24 = dktX2_queueOf_1 := dk_seg dksX2_queueOf_0 24 rfl rfl
theorem dX2_queueOf_0 : decode cX2_queueOf 0 = .ok (.iconst 0, 1) := dk_3 (dk_at dksX2_queueOf_0 0 rfl rfl)
theorem dX2_queueOf_1 : decode cX2_queueOf 1 = .ok (.istore_n 2, 1) := dk_61 (dk_at dksX2_queueOf_0 1 rfl rfl)
theorem dX2_queueOf_2 : decode cX2_queueOf 2 = .ok (.iload_n 2, 1) := dk_28 (dk_at dksX2_queueOf_0 2 rfl rfl)
theorem dX2_queueOf_3 : decode cX2_queueOf 3 = .ok (.aload_n 0, 1) := dk_42 (dk_at dksX2_queueOf_0 3 rfl rfl)
theorem dX2_queueOf_4 : decode cX2_queueOf 4 = .ok (.getfield 12, 3) := dk_180 0 12 (dk_at dksX2_queueOf_0 4 rfl rfl)
theorem dX2_queueOf_7 : decode cX2_queueOf 7 = .ok (.invokevirtual 38, 3) := dk_182 0 38 (dk_at dksX2_queueOf_0 7 rfl rfl)
theorem dX2_queueOf_10 : decode cX2_queueOf 10 = .ok (.if_icmp .ge 35, 3) := dk_162 0 35 (dk_at dksX2_queueOf_0 10 rfl rfl)
theorem dX2_queueOf_13 : decode cX2_queueOf 13 = .ok (.aload_n 0, 1) := dk_42 (dk_at dksX2_queueOf_0 13 rfl rfl)
theorem dX2_queueOf_14 : decode cX2_queueOf 14 = .ok (.getfield 12, 3) := dk_180 0 12 (dk_at dksX2_queueOf_0 14 rfl rfl)
theorem dX2_queueOf_17 : decode cX2_queueOf 17 = .ok (.iload_n 2, 1) := dk_28 (dk_at dksX2_queueOf_0 17 rfl rfl)
theorem dX2_queueOf_18 : decode cX2_queueOf 18 = .ok (.invokevirtual 42, 3) := dk_182 0 42 (dk_at dksX2_queueOf_0 18 rfl rfl)
theorem dX2_queueOf_21 : decode cX2_queueOf 21 = .ok (.checkcast 73, 3) := dk_192 0 73 (dk_at dksX2_queueOf_0 21 rfl rfl)
theorem dX2_queueOf_24 : decode cX2_queueOf 24 = .ok (.getfield 111, 3) := dk_180 0 111 (dk_at dksX2_queueOf_1 0 rfl rfl)
theorem dX2_queueOf_27 : decode cX2_queueOf 27 = .ok (.iload_n 1, 1) := dk_27 (dk_at dksX2_queueOf_1 3 rfl rfl)
theorem dX2_queueOf_28 : decode cX2_queueOf 28 = .ok (.invokestatic 115, 3) := dk_184 0 115 (dk_at dksX2_queueOf_1 4 rfl rfl)
theorem dX2_queueOf_31 : decode cX2_queueOf 31 = .ok (.invokevirtual 121, 3) := dk_182 0 121 (dk_at dksX2_queueOf_1 7 rfl rfl)
theorem dX2_queueOf_34 : decode cX2_queueOf 34 = .ok (.ifCond .eq 5, 3) := dk_153 0 5 (dk_at dksX2_queueOf_1 10 rfl rfl)
theorem dX2_queueOf_37 : decode cX2_queueOf 37 = .ok (.iload_n 2, 1) := dk_28 (dk_at dksX2_queueOf_1 13 rfl rfl)
theorem dX2_queueOf_38 : decode cX2_queueOf 38 = .ok (.ireturn, 1) := dk_172 (dk_at dksX2_queueOf_1 14 rfl rfl)
theorem dX2_queueOf_39 : decode cX2_queueOf 39 = .ok (.iinc 2 1, 3) := dk_132 2 1 (dk_at dksX2_queueOf_1 15 rfl rfl)
theorem dX2_queueOf_42 : decode cX2_queueOf 42 = .ok (.goto (-40), 3) := dk_167 255 216 (dk_at dksX2_queueOf_1 18 rfl rfl)
theorem dX2_queueOf_45 : decode cX2_queueOf 45 = .ok (.iconst (-1), 1) := dk_2 (dk_at dksX2_queueOf_1 21 rfl rfl)
theorem dX2_queueOf_46 : decode cX2_queueOf 46 = .ok (.ireturn, 1) := dk_172 (dk_at dksX2_queueOf_1 22 rfl rfl)
abbrev cX2_leave : ByteArray := prog_12_method_19_code
def yX2_leave : MethodName := ⟨RX2, "leave", "(I)I"⟩
def dkwX2_leave_2 : List UInt8 := [87, 28, 172]
abbrev dktX2_leave_2 : List UInt8 := dkwX2_leave_2 ++ []
def dkwX2_leave_1 : List UInt8 := [184, 0, 181, 42, 180, 0, 12, 28, 182, 0, 42, 192, 0, 73, 180, 0, 111, 27, 184, 0, 115, 182, 0, 184]
abbrev dktX2_leave_1 : List UInt8 := dkwX2_leave_1 ++ dktX2_leave_2
def dkwX2_leave_0 : List UInt8 := [42, 27, 182, 0, 140, 87, 42, 27, 182, 0, 172, 61, 28, 2, 159, 0, 7, 4, 167, 0, 4, 3]
abbrev dktX2_leave_0 : List UInt8 := dkwX2_leave_0 ++ dktX2_leave_1
theorem dksX2_leave_0 : cX2_leave.data.toList.drop 0 = dktX2_leave_0 := by decide +kernel
theorem dksX2_leave_1 : cX2_leave.data.toList.drop 22 = dktX2_leave_1 := dk_seg dksX2_leave_0 22 rfl rfl
theorem dksX2_leave_2 : cX2_leave.data.toList.drop 46 = dktX2_leave_2 := dk_seg dksX2_leave_1 24 rfl rfl
theorem dX2_leave_0 : decode cX2_leave 0 = .ok (.aload_n 0, 1) := dk_42 (dk_at dksX2_leave_0 0 rfl rfl)
theorem dX2_leave_1 : decode cX2_leave 1 = .ok (.iload_n 1, 1) := dk_27 (dk_at dksX2_leave_0 1 rfl rfl)
theorem dX2_leave_2 : decode cX2_leave 2 = .ok (.invokevirtual 140, 3) := dk_182 0 140 (dk_at dksX2_leave_0 2 rfl rfl)
theorem dX2_leave_5 : decode cX2_leave 5 = .ok (.pop, 1) := dk_87 (dk_at dksX2_leave_0 5 rfl rfl)
theorem dX2_leave_6 : decode cX2_leave 6 = .ok (.aload_n 0, 1) := dk_42 (dk_at dksX2_leave_0 6 rfl rfl)
theorem dX2_leave_7 : decode cX2_leave 7 = .ok (.iload_n 1, 1) := dk_27 (dk_at dksX2_leave_0 7 rfl rfl)
theorem dX2_leave_8 : decode cX2_leave 8 = .ok (.invokevirtual 172, 3) := dk_182 0 172 (dk_at dksX2_leave_0 8 rfl rfl)
theorem dX2_leave_11 : decode cX2_leave 11 = .ok (.istore_n 2, 1) := dk_61 (dk_at dksX2_leave_0 11 rfl rfl)
theorem dX2_leave_12 : decode cX2_leave 12 = .ok (.iload_n 2, 1) := dk_28 (dk_at dksX2_leave_0 12 rfl rfl)
theorem dX2_leave_13 : decode cX2_leave 13 = .ok (.iconst (-1), 1) := dk_2 (dk_at dksX2_leave_0 13 rfl rfl)
theorem dX2_leave_14 : decode cX2_leave 14 = .ok (.if_icmp .eq 7, 3) := dk_159 0 7 (dk_at dksX2_leave_0 14 rfl rfl)
theorem dX2_leave_17 : decode cX2_leave 17 = .ok (.iconst 1, 1) := dk_4 (dk_at dksX2_leave_0 17 rfl rfl)
theorem dX2_leave_18 : decode cX2_leave 18 = .ok (.goto 4, 3) := dk_167 0 4 (dk_at dksX2_leave_0 18 rfl rfl)
theorem dX2_leave_21 : decode cX2_leave 21 = .ok (.iconst 0, 1) := dk_3 (dk_at dksX2_leave_0 21 rfl rfl)
theorem dX2_leave_22 : decode cX2_leave 22 = .ok (.invokestatic 181, 3) := dk_184 0 181 (dk_at dksX2_leave_1 0 rfl rfl)
theorem dX2_leave_25 : decode cX2_leave 25 = .ok (.aload_n 0, 1) := dk_42 (dk_at dksX2_leave_1 3 rfl rfl)
theorem dX2_leave_26 : decode cX2_leave 26 = .ok (.getfield 12, 3) := dk_180 0 12 (dk_at dksX2_leave_1 4 rfl rfl)
theorem dX2_leave_29 : decode cX2_leave 29 = .ok (.iload_n 2, 1) := dk_28 (dk_at dksX2_leave_1 7 rfl rfl)
theorem dX2_leave_30 : decode cX2_leave 30 = .ok (.invokevirtual 42, 3) := dk_182 0 42 (dk_at dksX2_leave_1 8 rfl rfl)
theorem dX2_leave_33 : decode cX2_leave 33 = .ok (.checkcast 73, 3) := dk_192 0 73 (dk_at dksX2_leave_1 11 rfl rfl)
theorem dX2_leave_36 : decode cX2_leave 36 = .ok (.getfield 111, 3) := dk_180 0 111 (dk_at dksX2_leave_1 14 rfl rfl)
theorem dX2_leave_39 : decode cX2_leave 39 = .ok (.iload_n 1, 1) := dk_27 (dk_at dksX2_leave_1 17 rfl rfl)
theorem dX2_leave_40 : decode cX2_leave 40 = .ok (.invokestatic 115, 3) := dk_184 0 115 (dk_at dksX2_leave_1 18 rfl rfl)
theorem dX2_leave_43 : decode cX2_leave 43 = .ok (.invokevirtual 184, 3) := dk_182 0 184 (dk_at dksX2_leave_1 21 rfl rfl)
theorem dX2_leave_46 : decode cX2_leave 46 = .ok (.pop, 1) := dk_87 (dk_at dksX2_leave_2 0 rfl rfl)
theorem dX2_leave_47 : decode cX2_leave 47 = .ok (.iload_n 2, 1) := dk_28 (dk_at dksX2_leave_2 1 rfl rfl)
theorem dX2_leave_48 : decode cX2_leave 48 = .ok (.ireturn, 1) := dk_172 (dk_at dksX2_leave_2 2 rfl rfl)
abbrev cX2_passMinutes : ByteArray := prog_12_method_25_code
def yX2_passMinutes : MethodName := ⟨RX2, "passMinutes", "(I)I"⟩
def dkwX2_passMinutes_1 : List UInt8 := [96, 61, 132, 3, 1, 167, 255, 241, 28, 172]
abbrev dktX2_passMinutes_1 : List UInt8 := dkwX2_passMinutes_1 ++ []
def dkwX2_passMinutes_0 : List UInt8 := [27, 4, 16, 60, 184, 0, 77, 184, 0, 81, 3, 61, 3, 62, 29, 27, 162, 0, 16, 28, 42, 182, 0, 240]
abbrev dktX2_passMinutes_0 : List UInt8 := dkwX2_passMinutes_0 ++ dktX2_passMinutes_1
theorem dksX2_passMinutes_0 : cX2_passMinutes.data.toList.drop 0 = dktX2_passMinutes_0 := by decide +kernel
theorem dksX2_passMinutes_1 : cX2_passMinutes.data.toList.drop 24 = dktX2_passMinutes_1 := dk_seg dksX2_passMinutes_0 24 rfl rfl
theorem dX2_passMinutes_0 : decode cX2_passMinutes 0 = .ok (.iload_n 1, 1) := dk_27 (dk_at dksX2_passMinutes_0 0 rfl rfl)
theorem dX2_passMinutes_1 : decode cX2_passMinutes 1 = .ok (.iconst 1, 1) := dk_4 (dk_at dksX2_passMinutes_0 1 rfl rfl)
theorem dX2_passMinutes_2 : decode cX2_passMinutes 2 = .ok (.bipush 60, 2) := dk_16 60 (dk_at dksX2_passMinutes_0 2 rfl rfl)
theorem dX2_passMinutes_4 : decode cX2_passMinutes 4 = .ok (.invokestatic 77, 3) := dk_184 0 77 (dk_at dksX2_passMinutes_0 4 rfl rfl)
theorem dX2_passMinutes_7 : decode cX2_passMinutes 7 = .ok (.invokestatic 81, 3) := dk_184 0 81 (dk_at dksX2_passMinutes_0 7 rfl rfl)
theorem dX2_passMinutes_10 : decode cX2_passMinutes 10 = .ok (.iconst 0, 1) := dk_3 (dk_at dksX2_passMinutes_0 10 rfl rfl)
theorem dX2_passMinutes_11 : decode cX2_passMinutes 11 = .ok (.istore_n 2, 1) := dk_61 (dk_at dksX2_passMinutes_0 11 rfl rfl)
theorem dX2_passMinutes_12 : decode cX2_passMinutes 12 = .ok (.iconst 0, 1) := dk_3 (dk_at dksX2_passMinutes_0 12 rfl rfl)
theorem dX2_passMinutes_13 : decode cX2_passMinutes 13 = .ok (.istore_n 3, 1) := dk_62 (dk_at dksX2_passMinutes_0 13 rfl rfl)
theorem dX2_passMinutes_14 : decode cX2_passMinutes 14 = .ok (.iload_n 3, 1) := dk_29 (dk_at dksX2_passMinutes_0 14 rfl rfl)
theorem dX2_passMinutes_15 : decode cX2_passMinutes 15 = .ok (.iload_n 1, 1) := dk_27 (dk_at dksX2_passMinutes_0 15 rfl rfl)
theorem dX2_passMinutes_16 : decode cX2_passMinutes 16 = .ok (.if_icmp .ge 16, 3) := dk_162 0 16 (dk_at dksX2_passMinutes_0 16 rfl rfl)
theorem dX2_passMinutes_19 : decode cX2_passMinutes 19 = .ok (.iload_n 2, 1) := dk_28 (dk_at dksX2_passMinutes_0 19 rfl rfl)
theorem dX2_passMinutes_20 : decode cX2_passMinutes 20 = .ok (.aload_n 0, 1) := dk_42 (dk_at dksX2_passMinutes_0 20 rfl rfl)
theorem dX2_passMinutes_21 : decode cX2_passMinutes 21 = .ok (.invokevirtual 240, 3) := dk_182 0 240 (dk_at dksX2_passMinutes_0 21 rfl rfl)
theorem dX2_passMinutes_24 : decode cX2_passMinutes 24 = .ok (.iadd, 1) := dk_96 (dk_at dksX2_passMinutes_1 0 rfl rfl)
theorem dX2_passMinutes_25 : decode cX2_passMinutes 25 = .ok (.istore_n 2, 1) := dk_61 (dk_at dksX2_passMinutes_1 1 rfl rfl)
theorem dX2_passMinutes_26 : decode cX2_passMinutes 26 = .ok (.iinc 3 1, 3) := dk_132 3 1 (dk_at dksX2_passMinutes_1 2 rfl rfl)
theorem dX2_passMinutes_29 : decode cX2_passMinutes 29 = .ok (.goto (-15), 3) := dk_167 255 241 (dk_at dksX2_passMinutes_1 5 rfl rfl)
theorem dX2_passMinutes_32 : decode cX2_passMinutes 32 = .ok (.iload_n 2, 1) := dk_28 (dk_at dksX2_passMinutes_1 8 rfl rfl)
theorem dX2_passMinutes_33 : decode cX2_passMinutes 33 = .ok (.ireturn, 1) := dk_172 (dk_at dksX2_passMinutes_1 9 rfl rfl)
abbrev cX2_passMinute : ByteArray := prog_12_method_24_code
def yX2_passMinute : MethodName := ⟨RX2, "passMinute", "()I"⟩
def dkwX2_passMinute_4 : List UInt8 := [182, 0, 234, 132, 1, 1, 167, 255, 214, 42, 182, 0, 237, 172]
abbrev dktX2_passMinute_4 : List UInt8 := dkwX2_passMinute_4 ++ []
def dkwX2_passMinute_3 : List UInt8 := [180, 0, 56, 4, 100, 182, 0, 230, 199, 0, 17, 42, 180, 0, 12, 27, 182, 0, 42, 192, 0, 73]
abbrev dktX2_passMinute_3 : List UInt8 := dkwX2_passMinute_3 ++ dktX2_passMinute_4
def dkwX2_passMinute_2 : List UInt8 := [180, 0, 56, 4, 96, 181, 0, 56, 3, 60, 27, 42, 180, 0, 12, 182, 0, 38, 162, 0, 37, 42, 27, 42]
abbrev dktX2_passMinute_2 : List UInt8 := dkwX2_passMinute_2 ++ dktX2_passMinute_3
def dkwX2_passMinute_1 : List UInt8 := [180, 0, 111, 182, 0, 224, 154, 0, 8, 42, 27, 182, 0, 227, 132, 1, 1, 167, 255, 217, 42, 89]
abbrev dktX2_passMinute_1 : List UInt8 := dkwX2_passMinute_1 ++ dktX2_passMinute_2
def dkwX2_passMinute_0 : List UInt8 := [3, 60, 27, 42, 180, 0, 12, 182, 0, 38, 162, 0, 34, 42, 180, 0, 12, 27, 182, 0, 42, 192, 0, 73]
abbrev dktX2_passMinute_0 : List UInt8 := dkwX2_passMinute_0 ++ dktX2_passMinute_1
theorem dksX2_passMinute_0 : cX2_passMinute.data.toList.drop 0 = dktX2_passMinute_0 := by decide +kernel
theorem dksX2_passMinute_1 : cX2_passMinute.data.toList.drop 24 = dktX2_passMinute_1 := dk_seg dksX2_passMinute_0 24 rfl rfl
theorem dksX2_passMinute_2 : cX2_passMinute.data.toList.drop 46 = dktX2_passMinute_2 := dk_seg dksX2_passMinute_1 22 rfl rfl
theorem dksX2_passMinute_3 : cX2_passMinute.data.toList.drop 70 = dktX2_passMinute_3 := dk_seg dksX2_passMinute_2 24 rfl rfl
theorem dksX2_passMinute_4 : cX2_passMinute.data.toList.drop 92 = dktX2_passMinute_4 := dk_seg dksX2_passMinute_3 22 rfl rfl
theorem dX2_passMinute_0 : decode cX2_passMinute 0 = .ok (.iconst 0, 1) := dk_3 (dk_at dksX2_passMinute_0 0 rfl rfl)
theorem dX2_passMinute_1 : decode cX2_passMinute 1 = .ok (.istore_n 1, 1) := dk_60 (dk_at dksX2_passMinute_0 1 rfl rfl)
theorem dX2_passMinute_2 : decode cX2_passMinute 2 = .ok (.iload_n 1, 1) := dk_27 (dk_at dksX2_passMinute_0 2 rfl rfl)
theorem dX2_passMinute_3 : decode cX2_passMinute 3 = .ok (.aload_n 0, 1) := dk_42 (dk_at dksX2_passMinute_0 3 rfl rfl)
theorem dX2_passMinute_4 : decode cX2_passMinute 4 = .ok (.getfield 12, 3) := dk_180 0 12 (dk_at dksX2_passMinute_0 4 rfl rfl)
theorem dX2_passMinute_7 : decode cX2_passMinute 7 = .ok (.invokevirtual 38, 3) := dk_182 0 38 (dk_at dksX2_passMinute_0 7 rfl rfl)
theorem dX2_passMinute_10 : decode cX2_passMinute 10 = .ok (.if_icmp .ge 34, 3) := dk_162 0 34 (dk_at dksX2_passMinute_0 10 rfl rfl)
theorem dX2_passMinute_13 : decode cX2_passMinute 13 = .ok (.aload_n 0, 1) := dk_42 (dk_at dksX2_passMinute_0 13 rfl rfl)
theorem dX2_passMinute_14 : decode cX2_passMinute 14 = .ok (.getfield 12, 3) := dk_180 0 12 (dk_at dksX2_passMinute_0 14 rfl rfl)
theorem dX2_passMinute_17 : decode cX2_passMinute 17 = .ok (.iload_n 1, 1) := dk_27 (dk_at dksX2_passMinute_0 17 rfl rfl)
theorem dX2_passMinute_18 : decode cX2_passMinute 18 = .ok (.invokevirtual 42, 3) := dk_182 0 42 (dk_at dksX2_passMinute_0 18 rfl rfl)
theorem dX2_passMinute_21 : decode cX2_passMinute 21 = .ok (.checkcast 73, 3) := dk_192 0 73 (dk_at dksX2_passMinute_0 21 rfl rfl)
theorem dX2_passMinute_24 : decode cX2_passMinute 24 = .ok (.getfield 111, 3) := dk_180 0 111 (dk_at dksX2_passMinute_1 0 rfl rfl)
theorem dX2_passMinute_27 : decode cX2_passMinute 27 = .ok (.invokevirtual 224, 3) := dk_182 0 224 (dk_at dksX2_passMinute_1 3 rfl rfl)
theorem dX2_passMinute_30 : decode cX2_passMinute 30 = .ok (.ifCond .ne 8, 3) := dk_154 0 8 (dk_at dksX2_passMinute_1 6 rfl rfl)
theorem dX2_passMinute_33 : decode cX2_passMinute 33 = .ok (.aload_n 0, 1) := dk_42 (dk_at dksX2_passMinute_1 9 rfl rfl)
theorem dX2_passMinute_34 : decode cX2_passMinute 34 = .ok (.iload_n 1, 1) := dk_27 (dk_at dksX2_passMinute_1 10 rfl rfl)
theorem dX2_passMinute_35 : decode cX2_passMinute 35 = .ok (.invokevirtual 227, 3) := dk_182 0 227 (dk_at dksX2_passMinute_1 11 rfl rfl)
theorem dX2_passMinute_38 : decode cX2_passMinute 38 = .ok (.iinc 1 1, 3) := dk_132 1 1 (dk_at dksX2_passMinute_1 14 rfl rfl)
theorem dX2_passMinute_41 : decode cX2_passMinute 41 = .ok (.goto (-39), 3) := dk_167 255 217 (dk_at dksX2_passMinute_1 17 rfl rfl)
theorem dX2_passMinute_44 : decode cX2_passMinute 44 = .ok (.aload_n 0, 1) := dk_42 (dk_at dksX2_passMinute_1 20 rfl rfl)
theorem dX2_passMinute_45 : decode cX2_passMinute 45 = .ok (.dup, 1) := dk_89 (dk_at dksX2_passMinute_1 21 rfl rfl)
theorem dX2_passMinute_46 : decode cX2_passMinute 46 = .ok (.getfield 56, 3) := dk_180 0 56 (dk_at dksX2_passMinute_2 0 rfl rfl)
theorem dX2_passMinute_49 : decode cX2_passMinute 49 = .ok (.iconst 1, 1) := dk_4 (dk_at dksX2_passMinute_2 3 rfl rfl)
theorem dX2_passMinute_50 : decode cX2_passMinute 50 = .ok (.iadd, 1) := dk_96 (dk_at dksX2_passMinute_2 4 rfl rfl)
theorem dX2_passMinute_51 : decode cX2_passMinute 51 = .ok (.putfield 56, 3) := dk_181 0 56 (dk_at dksX2_passMinute_2 5 rfl rfl)
theorem dX2_passMinute_54 : decode cX2_passMinute 54 = .ok (.iconst 0, 1) := dk_3 (dk_at dksX2_passMinute_2 8 rfl rfl)
theorem dX2_passMinute_55 : decode cX2_passMinute 55 = .ok (.istore_n 1, 1) := dk_60 (dk_at dksX2_passMinute_2 9 rfl rfl)
theorem dX2_passMinute_56 : decode cX2_passMinute 56 = .ok (.iload_n 1, 1) := dk_27 (dk_at dksX2_passMinute_2 10 rfl rfl)
theorem dX2_passMinute_57 : decode cX2_passMinute 57 = .ok (.aload_n 0, 1) := dk_42 (dk_at dksX2_passMinute_2 11 rfl rfl)
theorem dX2_passMinute_58 : decode cX2_passMinute 58 = .ok (.getfield 12, 3) := dk_180 0 12 (dk_at dksX2_passMinute_2 12 rfl rfl)
theorem dX2_passMinute_61 : decode cX2_passMinute 61 = .ok (.invokevirtual 38, 3) := dk_182 0 38 (dk_at dksX2_passMinute_2 15 rfl rfl)
theorem dX2_passMinute_64 : decode cX2_passMinute 64 = .ok (.if_icmp .ge 37, 3) := dk_162 0 37 (dk_at dksX2_passMinute_2 18 rfl rfl)
theorem dX2_passMinute_67 : decode cX2_passMinute 67 = .ok (.aload_n 0, 1) := dk_42 (dk_at dksX2_passMinute_2 21 rfl rfl)
theorem dX2_passMinute_68 : decode cX2_passMinute 68 = .ok (.iload_n 1, 1) := dk_27 (dk_at dksX2_passMinute_2 22 rfl rfl)
theorem dX2_passMinute_69 : decode cX2_passMinute 69 = .ok (.aload_n 0, 1) := dk_42 (dk_at dksX2_passMinute_2 23 rfl rfl)
theorem dX2_passMinute_70 : decode cX2_passMinute 70 = .ok (.getfield 56, 3) := dk_180 0 56 (dk_at dksX2_passMinute_3 0 rfl rfl)
theorem dX2_passMinute_73 : decode cX2_passMinute 73 = .ok (.iconst 1, 1) := dk_4 (dk_at dksX2_passMinute_3 3 rfl rfl)
theorem dX2_passMinute_74 : decode cX2_passMinute 74 = .ok (.isub, 1) := dk_100 (dk_at dksX2_passMinute_3 4 rfl rfl)
theorem dX2_passMinute_75 : decode cX2_passMinute 75 = .ok (.invokevirtual 230, 3) := dk_182 0 230 (dk_at dksX2_passMinute_3 5 rfl rfl)
theorem dX2_passMinute_78 : decode cX2_passMinute 78 = .ok (.ifnonnull 17, 3) := dk_199 0 17 (dk_at dksX2_passMinute_3 8 rfl rfl)
theorem dX2_passMinute_81 : decode cX2_passMinute 81 = .ok (.aload_n 0, 1) := dk_42 (dk_at dksX2_passMinute_3 11 rfl rfl)
theorem dX2_passMinute_82 : decode cX2_passMinute 82 = .ok (.getfield 12, 3) := dk_180 0 12 (dk_at dksX2_passMinute_3 12 rfl rfl)
theorem dX2_passMinute_85 : decode cX2_passMinute 85 = .ok (.iload_n 1, 1) := dk_27 (dk_at dksX2_passMinute_3 15 rfl rfl)
theorem dX2_passMinute_86 : decode cX2_passMinute 86 = .ok (.invokevirtual 42, 3) := dk_182 0 42 (dk_at dksX2_passMinute_3 16 rfl rfl)
theorem dX2_passMinute_89 : decode cX2_passMinute 89 = .ok (.checkcast 73, 3) := dk_192 0 73 (dk_at dksX2_passMinute_3 19 rfl rfl)
theorem dX2_passMinute_92 : decode cX2_passMinute 92 = .ok (.invokevirtual 234, 3) := dk_182 0 234 (dk_at dksX2_passMinute_4 0 rfl rfl)
theorem dX2_passMinute_95 : decode cX2_passMinute 95 = .ok (.iinc 1 1, 3) := dk_132 1 1 (dk_at dksX2_passMinute_4 3 rfl rfl)
theorem dX2_passMinute_98 : decode cX2_passMinute 98 = .ok (.goto (-42), 3) := dk_167 255 214 (dk_at dksX2_passMinute_4 6 rfl rfl)
theorem dX2_passMinute_101 : decode cX2_passMinute 101 = .ok (.aload_n 0, 1) := dk_42 (dk_at dksX2_passMinute_4 9 rfl rfl)
theorem dX2_passMinute_102 : decode cX2_passMinute 102 = .ok (.invokevirtual 237, 3) := dk_182 0 237 (dk_at dksX2_passMinute_4 10 rfl rfl)
theorem dX2_passMinute_105 : decode cX2_passMinute 105 = .ok (.ireturn, 1) := dk_172 (dk_at dksX2_passMinute_4 13 rfl rfl)
abbrev cX2_callFirst : ByteArray := prog_12_method_20_code
def yX2_callFirst : MethodName := ⟨RX2, "callFirst", "(I)V"⟩
def dkwX2_callFirst_4 : List UInt8 := [182, 0, 193, 42, 29, 27, 42, 180, 0, 56, 182, 0, 155, 87, 177]
abbrev dktX2_callFirst_4 : List UInt8 := dkwX2_callFirst_4 ++ []
def dkwX2_callFirst_3 : List UInt8 := [182, 0, 38, 16, 12, 162, 0, 31, 42, 29, 27, 42, 180, 0, 56, 182, 0, 149, 153, 0, 18, 44]
abbrev dktX2_callFirst_3 : List UInt8 := dkwX2_callFirst_3 ++ dktX2_callFirst_4
def dkwX2_callFirst_2 : List UInt8 := [182, 0, 42, 192, 0, 73, 180, 0, 134, 162, 0, 10, 44, 182, 0, 193, 167, 0, 43, 42, 180, 0, 21]
abbrev dktX2_callFirst_2 : List UInt8 := dkwX2_callFirst_2 ++ dktX2_callFirst_3
def dkwX2_callFirst_1 : List UInt8 := [182, 0, 190, 62, 42, 180, 0, 18, 29, 182, 0, 42, 192, 0, 75, 180, 0, 104, 42, 180, 0, 12, 27]
abbrev dktX2_callFirst_1 : List UInt8 := dkwX2_callFirst_1 ++ dktX2_callFirst_2
def dkwX2_callFirst_0 : List UInt8 := [42, 180, 0, 12, 27, 182, 0, 42, 192, 0, 73, 180, 0, 111, 77, 44, 182, 0, 186, 192, 0, 116]
abbrev dktX2_callFirst_0 : List UInt8 := dkwX2_callFirst_0 ++ dktX2_callFirst_1
theorem dksX2_callFirst_0 : cX2_callFirst.data.toList.drop 0 = dktX2_callFirst_0 := by decide +kernel
theorem dksX2_callFirst_1 : cX2_callFirst.data.toList.drop 22 = dktX2_callFirst_1 := dk_seg dksX2_callFirst_0 22 rfl rfl
theorem dksX2_callFirst_2 : cX2_callFirst.data.toList.drop 45 = dktX2_callFirst_2 := dk_seg dksX2_callFirst_1 23 rfl rfl
theorem dksX2_callFirst_3 : cX2_callFirst.data.toList.drop 68 = dktX2_callFirst_3 := dk_seg dksX2_callFirst_2 23 rfl rfl
theorem dksX2_callFirst_4 : cX2_callFirst.data.toList.drop 90 = dktX2_callFirst_4 := dk_seg dksX2_callFirst_3 22 rfl rfl
theorem dX2_callFirst_0 : decode cX2_callFirst 0 = .ok (.aload_n 0, 1) := dk_42 (dk_at dksX2_callFirst_0 0 rfl rfl)
theorem dX2_callFirst_1 : decode cX2_callFirst 1 = .ok (.getfield 12, 3) := dk_180 0 12 (dk_at dksX2_callFirst_0 1 rfl rfl)
theorem dX2_callFirst_4 : decode cX2_callFirst 4 = .ok (.iload_n 1, 1) := dk_27 (dk_at dksX2_callFirst_0 4 rfl rfl)
theorem dX2_callFirst_5 : decode cX2_callFirst 5 = .ok (.invokevirtual 42, 3) := dk_182 0 42 (dk_at dksX2_callFirst_0 5 rfl rfl)
theorem dX2_callFirst_8 : decode cX2_callFirst 8 = .ok (.checkcast 73, 3) := dk_192 0 73 (dk_at dksX2_callFirst_0 8 rfl rfl)
theorem dX2_callFirst_11 : decode cX2_callFirst 11 = .ok (.getfield 111, 3) := dk_180 0 111 (dk_at dksX2_callFirst_0 11 rfl rfl)
theorem dX2_callFirst_14 : decode cX2_callFirst 14 = .ok (.astore_n 2, 1) := dk_77 (dk_at dksX2_callFirst_0 14 rfl rfl)
theorem dX2_callFirst_15 : decode cX2_callFirst 15 = .ok (.aload_n 2, 1) := dk_44 (dk_at dksX2_callFirst_0 15 rfl rfl)
theorem dX2_callFirst_16 : decode cX2_callFirst 16 = .ok (.invokevirtual 186, 3) := dk_182 0 186 (dk_at dksX2_callFirst_0 16 rfl rfl)
theorem dX2_callFirst_19 : decode cX2_callFirst 19 = .ok (.checkcast 116, 3) := dk_192 0 116 (dk_at dksX2_callFirst_0 19 rfl rfl)
theorem dX2_callFirst_22 : decode cX2_callFirst 22 = .ok (.invokevirtual 190, 3) := dk_182 0 190 (dk_at dksX2_callFirst_1 0 rfl rfl)
theorem dX2_callFirst_25 : decode cX2_callFirst 25 = .ok (.istore_n 3, 1) := dk_62 (dk_at dksX2_callFirst_1 3 rfl rfl)
theorem dX2_callFirst_26 : decode cX2_callFirst 26 = .ok (.aload_n 0, 1) := dk_42 (dk_at dksX2_callFirst_1 4 rfl rfl)
theorem dX2_callFirst_27 : decode cX2_callFirst 27 = .ok (.getfield 18, 3) := dk_180 0 18 (dk_at dksX2_callFirst_1 5 rfl rfl)
theorem dX2_callFirst_30 : decode cX2_callFirst 30 = .ok (.iload_n 3, 1) := dk_29 (dk_at dksX2_callFirst_1 8 rfl rfl)
theorem dX2_callFirst_31 : decode cX2_callFirst 31 = .ok (.invokevirtual 42, 3) := dk_182 0 42 (dk_at dksX2_callFirst_1 9 rfl rfl)
theorem dX2_callFirst_34 : decode cX2_callFirst 34 = .ok (.checkcast 75, 3) := dk_192 0 75 (dk_at dksX2_callFirst_1 12 rfl rfl)
theorem dX2_callFirst_37 : decode cX2_callFirst 37 = .ok (.getfield 104, 3) := dk_180 0 104 (dk_at dksX2_callFirst_1 15 rfl rfl)
theorem dX2_callFirst_40 : decode cX2_callFirst 40 = .ok (.aload_n 0, 1) := dk_42 (dk_at dksX2_callFirst_1 18 rfl rfl)
theorem dX2_callFirst_41 : decode cX2_callFirst 41 = .ok (.getfield 12, 3) := dk_180 0 12 (dk_at dksX2_callFirst_1 19 rfl rfl)
theorem dX2_callFirst_44 : decode cX2_callFirst 44 = .ok (.iload_n 1, 1) := dk_27 (dk_at dksX2_callFirst_1 22 rfl rfl)
theorem dX2_callFirst_45 : decode cX2_callFirst 45 = .ok (.invokevirtual 42, 3) := dk_182 0 42 (dk_at dksX2_callFirst_2 0 rfl rfl)
theorem dX2_callFirst_48 : decode cX2_callFirst 48 = .ok (.checkcast 73, 3) := dk_192 0 73 (dk_at dksX2_callFirst_2 3 rfl rfl)
theorem dX2_callFirst_51 : decode cX2_callFirst 51 = .ok (.getfield 134, 3) := dk_180 0 134 (dk_at dksX2_callFirst_2 6 rfl rfl)
theorem dX2_callFirst_54 : decode cX2_callFirst 54 = .ok (.if_icmp .ge 10, 3) := dk_162 0 10 (dk_at dksX2_callFirst_2 9 rfl rfl)
theorem dX2_callFirst_57 : decode cX2_callFirst 57 = .ok (.aload_n 2, 1) := dk_44 (dk_at dksX2_callFirst_2 12 rfl rfl)
theorem dX2_callFirst_58 : decode cX2_callFirst 58 = .ok (.invokevirtual 193, 3) := dk_182 0 193 (dk_at dksX2_callFirst_2 13 rfl rfl)
theorem dX2_callFirst_61 : decode cX2_callFirst 61 = .ok (.goto 43, 3) := dk_167 0 43 (dk_at dksX2_callFirst_2 16 rfl rfl)
theorem dX2_callFirst_64 : decode cX2_callFirst 64 = .ok (.aload_n 0, 1) := dk_42 (dk_at dksX2_callFirst_2 19 rfl rfl)
theorem dX2_callFirst_65 : decode cX2_callFirst 65 = .ok (.getfield 21, 3) := dk_180 0 21 (dk_at dksX2_callFirst_2 20 rfl rfl)
theorem dX2_callFirst_68 : decode cX2_callFirst 68 = .ok (.invokevirtual 38, 3) := dk_182 0 38 (dk_at dksX2_callFirst_3 0 rfl rfl)
theorem dX2_callFirst_71 : decode cX2_callFirst 71 = .ok (.bipush 12, 2) := dk_16 12 (dk_at dksX2_callFirst_3 3 rfl rfl)
theorem dX2_callFirst_73 : decode cX2_callFirst 73 = .ok (.if_icmp .ge 31, 3) := dk_162 0 31 (dk_at dksX2_callFirst_3 5 rfl rfl)
theorem dX2_callFirst_76 : decode cX2_callFirst 76 = .ok (.aload_n 0, 1) := dk_42 (dk_at dksX2_callFirst_3 8 rfl rfl)
theorem dX2_callFirst_77 : decode cX2_callFirst 77 = .ok (.iload_n 3, 1) := dk_29 (dk_at dksX2_callFirst_3 9 rfl rfl)
theorem dX2_callFirst_78 : decode cX2_callFirst 78 = .ok (.iload_n 1, 1) := dk_27 (dk_at dksX2_callFirst_3 10 rfl rfl)
theorem dX2_callFirst_79 : decode cX2_callFirst 79 = .ok (.aload_n 0, 1) := dk_42 (dk_at dksX2_callFirst_3 11 rfl rfl)
theorem dX2_callFirst_80 : decode cX2_callFirst 80 = .ok (.getfield 56, 3) := dk_180 0 56 (dk_at dksX2_callFirst_3 12 rfl rfl)
theorem dX2_callFirst_83 : decode cX2_callFirst 83 = .ok (.invokevirtual 149, 3) := dk_182 0 149 (dk_at dksX2_callFirst_3 15 rfl rfl)
theorem dX2_callFirst_86 : decode cX2_callFirst 86 = .ok (.ifCond .eq 18, 3) := dk_153 0 18 (dk_at dksX2_callFirst_3 18 rfl rfl)
theorem dX2_callFirst_89 : decode cX2_callFirst 89 = .ok (.aload_n 2, 1) := dk_44 (dk_at dksX2_callFirst_3 21 rfl rfl)
theorem dX2_callFirst_90 : decode cX2_callFirst 90 = .ok (.invokevirtual 193, 3) := dk_182 0 193 (dk_at dksX2_callFirst_4 0 rfl rfl)
theorem dX2_callFirst_93 : decode cX2_callFirst 93 = .ok (.aload_n 0, 1) := dk_42 (dk_at dksX2_callFirst_4 3 rfl rfl)
theorem dX2_callFirst_94 : decode cX2_callFirst 94 = .ok (.iload_n 3, 1) := dk_29 (dk_at dksX2_callFirst_4 4 rfl rfl)
theorem dX2_callFirst_95 : decode cX2_callFirst 95 = .ok (.iload_n 1, 1) := dk_27 (dk_at dksX2_callFirst_4 5 rfl rfl)
theorem dX2_callFirst_96 : decode cX2_callFirst 96 = .ok (.aload_n 0, 1) := dk_42 (dk_at dksX2_callFirst_4 6 rfl rfl)
theorem dX2_callFirst_97 : decode cX2_callFirst 97 = .ok (.getfield 56, 3) := dk_180 0 56 (dk_at dksX2_callFirst_4 7 rfl rfl)
theorem dX2_callFirst_100 : decode cX2_callFirst 100 = .ok (.invokevirtual 155, 3) := dk_182 0 155 (dk_at dksX2_callFirst_4 10 rfl rfl)
theorem dX2_callFirst_103 : decode cX2_callFirst 103 = .ok (.pop, 1) := dk_87 (dk_at dksX2_callFirst_4 13 rfl rfl)
theorem dX2_callFirst_104 : decode cX2_callFirst 104 = .ok (.return_, 1) := dk_177 (dk_at dksX2_callFirst_4 14 rfl rfl)
abbrev cX2_bookingAt : ByteArray := prog_12_method_21_code
def yX2_bookingAt : MethodName := ⟨RX2, "bookingAt", "(II)LSlidePark$Booking;"⟩
def dkwX2_bookingAt_2 : List UInt8 := [153, 0, 15, 42, 180, 0, 21, 29, 182, 0, 42, 192, 0, 46, 176, 132, 3, 1, 167, 255, 194, 1, 176]
abbrev dktX2_bookingAt_2 : List UInt8 := dkwX2_bookingAt_2 ++ []
def dkwX2_bookingAt_1 : List UInt8 := [180, 0, 88, 27, 160, 0, 33, 42, 180, 0, 21, 29, 182, 0, 42, 192, 0, 46, 28, 182, 0, 196]
abbrev dktX2_bookingAt_1 : List UInt8 := dkwX2_bookingAt_1 ++ dktX2_bookingAt_2
def dkwX2_bookingAt_0 : List UInt8 := [3, 62, 29, 42, 180, 0, 21, 182, 0, 38, 162, 0, 57, 42, 180, 0, 21, 29, 182, 0, 42, 192, 0, 46]
abbrev dktX2_bookingAt_0 : List UInt8 := dkwX2_bookingAt_0 ++ dktX2_bookingAt_1
theorem dksX2_bookingAt_0 : cX2_bookingAt.data.toList.drop 0 = dktX2_bookingAt_0 := by decide +kernel
theorem dksX2_bookingAt_1 : cX2_bookingAt.data.toList.drop 24 = dktX2_bookingAt_1 := dk_seg dksX2_bookingAt_0 24 rfl rfl
theorem dksX2_bookingAt_2 : cX2_bookingAt.data.toList.drop 46 = dktX2_bookingAt_2 := dk_seg dksX2_bookingAt_1 22 rfl rfl
theorem dX2_bookingAt_0 : decode cX2_bookingAt 0 = .ok (.iconst 0, 1) := dk_3 (dk_at dksX2_bookingAt_0 0 rfl rfl)
theorem dX2_bookingAt_1 : decode cX2_bookingAt 1 = .ok (.istore_n 3, 1) := dk_62 (dk_at dksX2_bookingAt_0 1 rfl rfl)
theorem dX2_bookingAt_2 : decode cX2_bookingAt 2 = .ok (.iload_n 3, 1) := dk_29 (dk_at dksX2_bookingAt_0 2 rfl rfl)
theorem dX2_bookingAt_3 : decode cX2_bookingAt 3 = .ok (.aload_n 0, 1) := dk_42 (dk_at dksX2_bookingAt_0 3 rfl rfl)
theorem dX2_bookingAt_4 : decode cX2_bookingAt 4 = .ok (.getfield 21, 3) := dk_180 0 21 (dk_at dksX2_bookingAt_0 4 rfl rfl)
theorem dX2_bookingAt_7 : decode cX2_bookingAt 7 = .ok (.invokevirtual 38, 3) := dk_182 0 38 (dk_at dksX2_bookingAt_0 7 rfl rfl)
theorem dX2_bookingAt_10 : decode cX2_bookingAt 10 = .ok (.if_icmp .ge 57, 3) := dk_162 0 57 (dk_at dksX2_bookingAt_0 10 rfl rfl)
theorem dX2_bookingAt_13 : decode cX2_bookingAt 13 = .ok (.aload_n 0, 1) := dk_42 (dk_at dksX2_bookingAt_0 13 rfl rfl)
theorem dX2_bookingAt_14 : decode cX2_bookingAt 14 = .ok (.getfield 21, 3) := dk_180 0 21 (dk_at dksX2_bookingAt_0 14 rfl rfl)
theorem dX2_bookingAt_17 : decode cX2_bookingAt 17 = .ok (.iload_n 3, 1) := dk_29 (dk_at dksX2_bookingAt_0 17 rfl rfl)
theorem dX2_bookingAt_18 : decode cX2_bookingAt 18 = .ok (.invokevirtual 42, 3) := dk_182 0 42 (dk_at dksX2_bookingAt_0 18 rfl rfl)
theorem dX2_bookingAt_21 : decode cX2_bookingAt 21 = .ok (.checkcast 46, 3) := dk_192 0 46 (dk_at dksX2_bookingAt_0 21 rfl rfl)
theorem dX2_bookingAt_24 : decode cX2_bookingAt 24 = .ok (.getfield 88, 3) := dk_180 0 88 (dk_at dksX2_bookingAt_1 0 rfl rfl)
theorem dX2_bookingAt_27 : decode cX2_bookingAt 27 = .ok (.iload_n 1, 1) := dk_27 (dk_at dksX2_bookingAt_1 3 rfl rfl)
theorem dX2_bookingAt_28 : decode cX2_bookingAt 28 = .ok (.if_icmp .ne 33, 3) := dk_160 0 33 (dk_at dksX2_bookingAt_1 4 rfl rfl)
theorem dX2_bookingAt_31 : decode cX2_bookingAt 31 = .ok (.aload_n 0, 1) := dk_42 (dk_at dksX2_bookingAt_1 7 rfl rfl)
theorem dX2_bookingAt_32 : decode cX2_bookingAt 32 = .ok (.getfield 21, 3) := dk_180 0 21 (dk_at dksX2_bookingAt_1 8 rfl rfl)
theorem dX2_bookingAt_35 : decode cX2_bookingAt 35 = .ok (.iload_n 3, 1) := dk_29 (dk_at dksX2_bookingAt_1 11 rfl rfl)
theorem dX2_bookingAt_36 : decode cX2_bookingAt 36 = .ok (.invokevirtual 42, 3) := dk_182 0 42 (dk_at dksX2_bookingAt_1 12 rfl rfl)
theorem dX2_bookingAt_39 : decode cX2_bookingAt 39 = .ok (.checkcast 46, 3) := dk_192 0 46 (dk_at dksX2_bookingAt_1 15 rfl rfl)
theorem dX2_bookingAt_42 : decode cX2_bookingAt 42 = .ok (.iload_n 2, 1) := dk_28 (dk_at dksX2_bookingAt_1 18 rfl rfl)
theorem dX2_bookingAt_43 : decode cX2_bookingAt 43 = .ok (.invokevirtual 196, 3) := dk_182 0 196 (dk_at dksX2_bookingAt_1 19 rfl rfl)
theorem dX2_bookingAt_46 : decode cX2_bookingAt 46 = .ok (.ifCond .eq 15, 3) := dk_153 0 15 (dk_at dksX2_bookingAt_2 0 rfl rfl)
theorem dX2_bookingAt_49 : decode cX2_bookingAt 49 = .ok (.aload_n 0, 1) := dk_42 (dk_at dksX2_bookingAt_2 3 rfl rfl)
theorem dX2_bookingAt_50 : decode cX2_bookingAt 50 = .ok (.getfield 21, 3) := dk_180 0 21 (dk_at dksX2_bookingAt_2 4 rfl rfl)
theorem dX2_bookingAt_53 : decode cX2_bookingAt 53 = .ok (.iload_n 3, 1) := dk_29 (dk_at dksX2_bookingAt_2 7 rfl rfl)
theorem dX2_bookingAt_54 : decode cX2_bookingAt 54 = .ok (.invokevirtual 42, 3) := dk_182 0 42 (dk_at dksX2_bookingAt_2 8 rfl rfl)
theorem dX2_bookingAt_57 : decode cX2_bookingAt 57 = .ok (.checkcast 46, 3) := dk_192 0 46 (dk_at dksX2_bookingAt_2 11 rfl rfl)
theorem dX2_bookingAt_60 : decode cX2_bookingAt 60 = .ok (.areturn, 1) := dk_176 (dk_at dksX2_bookingAt_2 14 rfl rfl)
theorem dX2_bookingAt_61 : decode cX2_bookingAt 61 = .ok (.iinc 3 1, 3) := dk_132 3 1 (dk_at dksX2_bookingAt_2 15 rfl rfl)
theorem dX2_bookingAt_64 : decode cX2_bookingAt 64 = .ok (.goto (-62), 3) := dk_167 255 194 (dk_at dksX2_bookingAt_2 18 rfl rfl)
theorem dX2_bookingAt_67 : decode cX2_bookingAt 67 = .ok (.aconst_null, 1) := dk_1 (dk_at dksX2_bookingAt_2 21 rfl rfl)
theorem dX2_bookingAt_68 : decode cX2_bookingAt 68 = .ok (.areturn, 1) := dk_176 (dk_at dksX2_bookingAt_2 22 rfl rfl)
abbrev cX2_finishAll : ByteArray := prog_12_method_23_code
def yX2_finishAll : MethodName := ⟨RX2, "finishAll", "()I"⟩
def dkwX2_finishAll_2 : List UInt8 := [192, 0, 46, 182, 0, 220, 132, 1, 1, 132, 2, 255, 132, 2, 1, 167, 255, 200, 27, 172]
abbrev dktX2_finishAll_2 : List UInt8 := dkwX2_finishAll_2 ++ []
def dkwX2_finishAll_1 : List UInt8 := [192, 0, 46, 180, 0, 217, 42, 180, 0, 56, 160, 0, 24, 42, 42, 180, 0, 21, 28, 182, 0, 169]
abbrev dktX2_finishAll_1 : List UInt8 := dkwX2_finishAll_1 ++ dktX2_finishAll_2
def dkwX2_finishAll_0 : List UInt8 := [3, 60, 3, 61, 28, 42, 180, 0, 21, 182, 0, 38, 162, 0, 51, 42, 180, 0, 21, 28, 182, 0, 42]
abbrev dktX2_finishAll_0 : List UInt8 := dkwX2_finishAll_0 ++ dktX2_finishAll_1
theorem dksX2_finishAll_0 : cX2_finishAll.data.toList.drop 0 = dktX2_finishAll_0 := by decide +kernel
theorem dksX2_finishAll_1 : cX2_finishAll.data.toList.drop 23 = dktX2_finishAll_1 := dk_seg dksX2_finishAll_0 23 rfl rfl
theorem dksX2_finishAll_2 : cX2_finishAll.data.toList.drop 45 = dktX2_finishAll_2 := dk_seg dksX2_finishAll_1 22 rfl rfl
theorem dX2_finishAll_0 : decode cX2_finishAll 0 = .ok (.iconst 0, 1) := dk_3 (dk_at dksX2_finishAll_0 0 rfl rfl)
theorem dX2_finishAll_1 : decode cX2_finishAll 1 = .ok (.istore_n 1, 1) := dk_60 (dk_at dksX2_finishAll_0 1 rfl rfl)
theorem dX2_finishAll_2 : decode cX2_finishAll 2 = .ok (.iconst 0, 1) := dk_3 (dk_at dksX2_finishAll_0 2 rfl rfl)
theorem dX2_finishAll_3 : decode cX2_finishAll 3 = .ok (.istore_n 2, 1) := dk_61 (dk_at dksX2_finishAll_0 3 rfl rfl)
theorem dX2_finishAll_4 : decode cX2_finishAll 4 = .ok (.iload_n 2, 1) := dk_28 (dk_at dksX2_finishAll_0 4 rfl rfl)
theorem dX2_finishAll_5 : decode cX2_finishAll 5 = .ok (.aload_n 0, 1) := dk_42 (dk_at dksX2_finishAll_0 5 rfl rfl)
theorem dX2_finishAll_6 : decode cX2_finishAll 6 = .ok (.getfield 21, 3) := dk_180 0 21 (dk_at dksX2_finishAll_0 6 rfl rfl)
theorem dX2_finishAll_9 : decode cX2_finishAll 9 = .ok (.invokevirtual 38, 3) := dk_182 0 38 (dk_at dksX2_finishAll_0 9 rfl rfl)
theorem dX2_finishAll_12 : decode cX2_finishAll 12 = .ok (.if_icmp .ge 51, 3) := dk_162 0 51 (dk_at dksX2_finishAll_0 12 rfl rfl)
theorem dX2_finishAll_15 : decode cX2_finishAll 15 = .ok (.aload_n 0, 1) := dk_42 (dk_at dksX2_finishAll_0 15 rfl rfl)
theorem dX2_finishAll_16 : decode cX2_finishAll 16 = .ok (.getfield 21, 3) := dk_180 0 21 (dk_at dksX2_finishAll_0 16 rfl rfl)
theorem dX2_finishAll_19 : decode cX2_finishAll 19 = .ok (.iload_n 2, 1) := dk_28 (dk_at dksX2_finishAll_0 19 rfl rfl)
theorem dX2_finishAll_20 : decode cX2_finishAll 20 = .ok (.invokevirtual 42, 3) := dk_182 0 42 (dk_at dksX2_finishAll_0 20 rfl rfl)
theorem dX2_finishAll_23 : decode cX2_finishAll 23 = .ok (.checkcast 46, 3) := dk_192 0 46 (dk_at dksX2_finishAll_1 0 rfl rfl)
theorem dX2_finishAll_26 : decode cX2_finishAll 26 = .ok (.getfield 217, 3) := dk_180 0 217 (dk_at dksX2_finishAll_1 3 rfl rfl)
theorem dX2_finishAll_29 : decode cX2_finishAll 29 = .ok (.aload_n 0, 1) := dk_42 (dk_at dksX2_finishAll_1 6 rfl rfl)
theorem dX2_finishAll_30 : decode cX2_finishAll 30 = .ok (.getfield 56, 3) := dk_180 0 56 (dk_at dksX2_finishAll_1 7 rfl rfl)
theorem dX2_finishAll_33 : decode cX2_finishAll 33 = .ok (.if_icmp .ne 24, 3) := dk_160 0 24 (dk_at dksX2_finishAll_1 10 rfl rfl)
theorem dX2_finishAll_36 : decode cX2_finishAll 36 = .ok (.aload_n 0, 1) := dk_42 (dk_at dksX2_finishAll_1 13 rfl rfl)
theorem dX2_finishAll_37 : decode cX2_finishAll 37 = .ok (.aload_n 0, 1) := dk_42 (dk_at dksX2_finishAll_1 14 rfl rfl)
theorem dX2_finishAll_38 : decode cX2_finishAll 38 = .ok (.getfield 21, 3) := dk_180 0 21 (dk_at dksX2_finishAll_1 15 rfl rfl)
theorem dX2_finishAll_41 : decode cX2_finishAll 41 = .ok (.iload_n 2, 1) := dk_28 (dk_at dksX2_finishAll_1 18 rfl rfl)
theorem dX2_finishAll_42 : decode cX2_finishAll 42 = .ok (.invokevirtual 169, 3) := dk_182 0 169 (dk_at dksX2_finishAll_1 19 rfl rfl)
theorem dX2_finishAll_45 : decode cX2_finishAll 45 = .ok (.checkcast 46, 3) := dk_192 0 46 (dk_at dksX2_finishAll_2 0 rfl rfl)
theorem dX2_finishAll_48 : decode cX2_finishAll 48 = .ok (.invokevirtual 220, 3) := dk_182 0 220 (dk_at dksX2_finishAll_2 3 rfl rfl)
theorem dX2_finishAll_51 : decode cX2_finishAll 51 = .ok (.iinc 1 1, 3) := dk_132 1 1 (dk_at dksX2_finishAll_2 6 rfl rfl)
theorem dX2_finishAll_54 : decode cX2_finishAll 54 = .ok (.iinc 2 (-1), 3) := dk_132 2 255 (dk_at dksX2_finishAll_2 9 rfl rfl)
theorem dX2_finishAll_57 : decode cX2_finishAll 57 = .ok (.iinc 2 1, 3) := dk_132 2 1 (dk_at dksX2_finishAll_2 12 rfl rfl)
theorem dX2_finishAll_60 : decode cX2_finishAll 60 = .ok (.goto (-56), 3) := dk_167 255 200 (dk_at dksX2_finishAll_2 15 rfl rfl)
theorem dX2_finishAll_63 : decode cX2_finishAll 63 = .ok (.iload_n 1, 1) := dk_27 (dk_at dksX2_finishAll_2 18 rfl rfl)
theorem dX2_finishAll_64 : decode cX2_finishAll 64 = .ok (.ireturn, 1) := dk_172 (dk_at dksX2_finishAll_2 19 rfl rfl)
abbrev cX2_finish : ByteArray := prog_12_method_22_code
def yX2_finish : MethodName := ⟨RX2, "finish", "(LSlidePark$Booking;)V"⟩
def dkwX2_finish_4 : List UInt8 := [183, 0, 212, 182, 0, 215, 177]
abbrev dktX2_finish_4 : List UInt8 := dkwX2_finish_4 ++ []
def dkwX2_finish_3 : List UInt8 := [181, 0, 207, 42, 180, 0, 29, 187, 0, 210, 89, 43, 180, 0, 95, 43, 180, 0, 88, 42, 180, 0, 56]
abbrev dktX2_finish_3 : List UInt8 := dkwX2_finish_3 ++ dktX2_finish_4
def dkwX2_finish_2 : List UInt8 := [182, 0, 204, 42, 180, 0, 18, 43, 180, 0, 95, 182, 0, 42, 192, 0, 75, 89, 180, 0, 207, 4, 96]
abbrev dktX2_finish_2 : List UInt8 := dkwX2_finish_2 ++ dktX2_finish_3
def dkwX2_finish_1 : List UInt8 := [180, 0, 95, 44, 180, 0, 134, 5, 108, 182, 0, 166, 42, 89, 180, 0, 66, 4, 96, 181, 0, 66, 44]
abbrev dktX2_finish_1 : List UInt8 := dkwX2_finish_1 ++ dktX2_finish_2
def dkwX2_finish_0 : List UInt8 := [42, 180, 0, 12, 43, 180, 0, 88, 182, 0, 42, 192, 0, 73, 77, 44, 182, 0, 200, 153, 0, 27, 42, 43]
abbrev dktX2_finish_0 : List UInt8 := dkwX2_finish_0 ++ dktX2_finish_1
theorem dksX2_finish_0 : cX2_finish.data.toList.drop 0 = dktX2_finish_0 := by decide +kernel
theorem dksX2_finish_1 : cX2_finish.data.toList.drop 24 = dktX2_finish_1 := dk_seg dksX2_finish_0 24 rfl rfl
theorem dksX2_finish_2 : cX2_finish.data.toList.drop 47 = dktX2_finish_2 := dk_seg dksX2_finish_1 23 rfl rfl
theorem dksX2_finish_3 : cX2_finish.data.toList.drop 70 = dktX2_finish_3 := dk_seg dksX2_finish_2 23 rfl rfl
theorem dksX2_finish_4 : cX2_finish.data.toList.drop 93 = dktX2_finish_4 := dk_seg dksX2_finish_3 23 rfl rfl
theorem dX2_finish_0 : decode cX2_finish 0 = .ok (.aload_n 0, 1) := dk_42 (dk_at dksX2_finish_0 0 rfl rfl)
theorem dX2_finish_1 : decode cX2_finish 1 = .ok (.getfield 12, 3) := dk_180 0 12 (dk_at dksX2_finish_0 1 rfl rfl)
theorem dX2_finish_4 : decode cX2_finish 4 = .ok (.aload_n 1, 1) := dk_43 (dk_at dksX2_finish_0 4 rfl rfl)
theorem dX2_finish_5 : decode cX2_finish 5 = .ok (.getfield 88, 3) := dk_180 0 88 (dk_at dksX2_finish_0 5 rfl rfl)
theorem dX2_finish_8 : decode cX2_finish 8 = .ok (.invokevirtual 42, 3) := dk_182 0 42 (dk_at dksX2_finish_0 8 rfl rfl)
theorem dX2_finish_11 : decode cX2_finish 11 = .ok (.checkcast 73, 3) := dk_192 0 73 (dk_at dksX2_finish_0 11 rfl rfl)
theorem dX2_finish_14 : decode cX2_finish 14 = .ok (.astore_n 2, 1) := dk_77 (dk_at dksX2_finish_0 14 rfl rfl)
theorem dX2_finish_15 : decode cX2_finish 15 = .ok (.aload_n 2, 1) := dk_44 (dk_at dksX2_finish_0 15 rfl rfl)
theorem dX2_finish_16 : decode cX2_finish 16 = .ok (.invokevirtual 200, 3) := dk_182 0 200 (dk_at dksX2_finish_0 16 rfl rfl)
theorem dX2_finish_19 : decode cX2_finish 19 = .ok (.ifCond .eq 27, 3) := dk_153 0 27 (dk_at dksX2_finish_0 19 rfl rfl)
theorem dX2_finish_22 : decode cX2_finish 22 = .ok (.aload_n 0, 1) := dk_42 (dk_at dksX2_finish_0 22 rfl rfl)
theorem dX2_finish_23 : decode cX2_finish 23 = .ok (.aload_n 1, 1) := dk_43 (dk_at dksX2_finish_0 23 rfl rfl)
theorem dX2_finish_24 : decode cX2_finish 24 = .ok (.getfield 95, 3) := dk_180 0 95 (dk_at dksX2_finish_1 0 rfl rfl)
theorem dX2_finish_27 : decode cX2_finish 27 = .ok (.aload_n 2, 1) := dk_44 (dk_at dksX2_finish_1 3 rfl rfl)
theorem dX2_finish_28 : decode cX2_finish 28 = .ok (.getfield 134, 3) := dk_180 0 134 (dk_at dksX2_finish_1 4 rfl rfl)
theorem dX2_finish_31 : decode cX2_finish 31 = .ok (.iconst 2, 1) := dk_5 (dk_at dksX2_finish_1 7 rfl rfl)
theorem dX2_finish_32 : decode cX2_finish 32 = .ok (.idiv, 1) := dk_108 (dk_at dksX2_finish_1 8 rfl rfl)
theorem dX2_finish_33 : decode cX2_finish 33 = .ok (.invokevirtual 166, 3) := dk_182 0 166 (dk_at dksX2_finish_1 9 rfl rfl)
theorem dX2_finish_36 : decode cX2_finish 36 = .ok (.aload_n 0, 1) := dk_42 (dk_at dksX2_finish_1 12 rfl rfl)
theorem dX2_finish_37 : decode cX2_finish 37 = .ok (.dup, 1) := dk_89 (dk_at dksX2_finish_1 13 rfl rfl)
theorem dX2_finish_38 : decode cX2_finish 38 = .ok (.getfield 66, 3) := dk_180 0 66 (dk_at dksX2_finish_1 14 rfl rfl)
theorem dX2_finish_41 : decode cX2_finish 41 = .ok (.iconst 1, 1) := dk_4 (dk_at dksX2_finish_1 17 rfl rfl)
theorem dX2_finish_42 : decode cX2_finish 42 = .ok (.iadd, 1) := dk_96 (dk_at dksX2_finish_1 18 rfl rfl)
theorem dX2_finish_43 : decode cX2_finish 43 = .ok (.putfield 66, 3) := dk_181 0 66 (dk_at dksX2_finish_1 19 rfl rfl)
theorem dX2_finish_46 : decode cX2_finish 46 = .ok (.aload_n 2, 1) := dk_44 (dk_at dksX2_finish_1 22 rfl rfl)
theorem dX2_finish_47 : decode cX2_finish 47 = .ok (.invokevirtual 204, 3) := dk_182 0 204 (dk_at dksX2_finish_2 0 rfl rfl)
theorem dX2_finish_50 : decode cX2_finish 50 = .ok (.aload_n 0, 1) := dk_42 (dk_at dksX2_finish_2 3 rfl rfl)
theorem dX2_finish_51 : decode cX2_finish 51 = .ok (.getfield 18, 3) := dk_180 0 18 (dk_at dksX2_finish_2 4 rfl rfl)
theorem dX2_finish_54 : decode cX2_finish 54 = .ok (.aload_n 1, 1) := dk_43 (dk_at dksX2_finish_2 7 rfl rfl)
theorem dX2_finish_55 : decode cX2_finish 55 = .ok (.getfield 95, 3) := dk_180 0 95 (dk_at dksX2_finish_2 8 rfl rfl)
theorem dX2_finish_58 : decode cX2_finish 58 = .ok (.invokevirtual 42, 3) := dk_182 0 42 (dk_at dksX2_finish_2 11 rfl rfl)
theorem dX2_finish_61 : decode cX2_finish 61 = .ok (.checkcast 75, 3) := dk_192 0 75 (dk_at dksX2_finish_2 14 rfl rfl)
theorem dX2_finish_64 : decode cX2_finish 64 = .ok (.dup, 1) := dk_89 (dk_at dksX2_finish_2 17 rfl rfl)
theorem dX2_finish_65 : decode cX2_finish 65 = .ok (.getfield 207, 3) := dk_180 0 207 (dk_at dksX2_finish_2 18 rfl rfl)
theorem dX2_finish_68 : decode cX2_finish 68 = .ok (.iconst 1, 1) := dk_4 (dk_at dksX2_finish_2 21 rfl rfl)
theorem dX2_finish_69 : decode cX2_finish 69 = .ok (.iadd, 1) := dk_96 (dk_at dksX2_finish_2 22 rfl rfl)
theorem dX2_finish_70 : decode cX2_finish 70 = .ok (.putfield 207, 3) := dk_181 0 207 (dk_at dksX2_finish_3 0 rfl rfl)
theorem dX2_finish_73 : decode cX2_finish 73 = .ok (.aload_n 0, 1) := dk_42 (dk_at dksX2_finish_3 3 rfl rfl)
theorem dX2_finish_74 : decode cX2_finish 74 = .ok (.getfield 29, 3) := dk_180 0 29 (dk_at dksX2_finish_3 4 rfl rfl)
theorem dX2_finish_77 : decode cX2_finish 77 = .ok (.new 210, 3) := dk_187 0 210 (dk_at dksX2_finish_3 7 rfl rfl)
theorem dX2_finish_80 : decode cX2_finish 80 = .ok (.dup, 1) := dk_89 (dk_at dksX2_finish_3 10 rfl rfl)
theorem dX2_finish_81 : decode cX2_finish 81 = .ok (.aload_n 1, 1) := dk_43 (dk_at dksX2_finish_3 11 rfl rfl)
theorem dX2_finish_82 : decode cX2_finish 82 = .ok (.getfield 95, 3) := dk_180 0 95 (dk_at dksX2_finish_3 12 rfl rfl)
theorem dX2_finish_85 : decode cX2_finish 85 = .ok (.aload_n 1, 1) := dk_43 (dk_at dksX2_finish_3 15 rfl rfl)
theorem dX2_finish_86 : decode cX2_finish 86 = .ok (.getfield 88, 3) := dk_180 0 88 (dk_at dksX2_finish_3 16 rfl rfl)
theorem dX2_finish_89 : decode cX2_finish 89 = .ok (.aload_n 0, 1) := dk_42 (dk_at dksX2_finish_3 19 rfl rfl)
theorem dX2_finish_90 : decode cX2_finish 90 = .ok (.getfield 56, 3) := dk_180 0 56 (dk_at dksX2_finish_3 20 rfl rfl)
theorem dX2_finish_93 : decode cX2_finish 93 = .ok (.invokespecial 212, 3) := dk_183 0 212 (dk_at dksX2_finish_4 0 rfl rfl)
theorem dX2_finish_96 : decode cX2_finish 96 = .ok (.invokevirtual 215, 3) := dk_182 0 215 (dk_at dksX2_finish_4 3 rfl rfl)
theorem dX2_finish_99 : decode cX2_finish 99 = .ok (.return_, 1) := dk_177 (dk_at dksX2_finish_4 6 rfl rfl)
abbrev cX2_firstFree : ByteArray := prog_12_method_26_code
def yX2_firstFree : MethodName := ⟨RX2, "firstFree", "(II)I"⟩
def dkwX2_firstFree_1 : List UInt8 := [132, 3, 1, 167, 255, 231, 2, 172]
abbrev dktX2_firstFree_1 : List UInt8 := dkwX2_firstFree_1 ++ []
def dkwX2_firstFree_0 : List UInt8 := [28, 62, 29, 42, 180, 0, 56, 16, 120, 96, 163, 0, 20, 42, 27, 29, 182, 0, 98, 153, 0, 5, 29, 172]
abbrev dktX2_firstFree_0 : List UInt8 := dkwX2_firstFree_0 ++ dktX2_firstFree_1
theorem dksX2_firstFree_0 : cX2_firstFree.data.toList.drop 0 = dktX2_firstFree_0 := by decide +kernel
theorem dksX2_firstFree_1 : cX2_firstFree.data.toList.drop 24 = dktX2_firstFree_1 := dk_seg dksX2_firstFree_0 24 rfl rfl
theorem dX2_firstFree_0 : decode cX2_firstFree 0 = .ok (.iload_n 2, 1) := dk_28 (dk_at dksX2_firstFree_0 0 rfl rfl)
theorem dX2_firstFree_1 : decode cX2_firstFree 1 = .ok (.istore_n 3, 1) := dk_62 (dk_at dksX2_firstFree_0 1 rfl rfl)
theorem dX2_firstFree_2 : decode cX2_firstFree 2 = .ok (.iload_n 3, 1) := dk_29 (dk_at dksX2_firstFree_0 2 rfl rfl)
theorem dX2_firstFree_3 : decode cX2_firstFree 3 = .ok (.aload_n 0, 1) := dk_42 (dk_at dksX2_firstFree_0 3 rfl rfl)
theorem dX2_firstFree_4 : decode cX2_firstFree 4 = .ok (.getfield 56, 3) := dk_180 0 56 (dk_at dksX2_firstFree_0 4 rfl rfl)
theorem dX2_firstFree_7 : decode cX2_firstFree 7 = .ok (.bipush 120, 2) := dk_16 120 (dk_at dksX2_firstFree_0 7 rfl rfl)
theorem dX2_firstFree_9 : decode cX2_firstFree 9 = .ok (.iadd, 1) := dk_96 (dk_at dksX2_firstFree_0 9 rfl rfl)
theorem dX2_firstFree_10 : decode cX2_firstFree 10 = .ok (.if_icmp .gt 20, 3) := dk_163 0 20 (dk_at dksX2_firstFree_0 10 rfl rfl)
theorem dX2_firstFree_13 : decode cX2_firstFree 13 = .ok (.aload_n 0, 1) := dk_42 (dk_at dksX2_firstFree_0 13 rfl rfl)
theorem dX2_firstFree_14 : decode cX2_firstFree 14 = .ok (.iload_n 1, 1) := dk_27 (dk_at dksX2_firstFree_0 14 rfl rfl)
theorem dX2_firstFree_15 : decode cX2_firstFree 15 = .ok (.iload_n 3, 1) := dk_29 (dk_at dksX2_firstFree_0 15 rfl rfl)
theorem dX2_firstFree_16 : decode cX2_firstFree 16 = .ok (.invokevirtual 98, 3) := dk_182 0 98 (dk_at dksX2_firstFree_0 16 rfl rfl)
theorem dX2_firstFree_19 : decode cX2_firstFree 19 = .ok (.ifCond .eq 5, 3) := dk_153 0 5 (dk_at dksX2_firstFree_0 19 rfl rfl)
theorem dX2_firstFree_22 : decode cX2_firstFree 22 = .ok (.iload_n 3, 1) := dk_29 (dk_at dksX2_firstFree_0 22 rfl rfl)
theorem dX2_firstFree_23 : decode cX2_firstFree 23 = .ok (.ireturn, 1) := dk_172 (dk_at dksX2_firstFree_0 23 rfl rfl)
theorem dX2_firstFree_24 : decode cX2_firstFree 24 = .ok (.iinc 3 1, 3) := dk_132 3 1 (dk_at dksX2_firstFree_1 0 rfl rfl)
theorem dX2_firstFree_27 : decode cX2_firstFree 27 = .ok (.goto (-25), 3) := dk_167 255 231 (dk_at dksX2_firstFree_1 3 rfl rfl)
theorem dX2_firstFree_30 : decode cX2_firstFree 30 = .ok (.iconst (-1), 1) := dk_2 (dk_at dksX2_firstFree_1 6 rfl rfl)
theorem dX2_firstFree_31 : decode cX2_firstFree 31 = .ok (.ireturn, 1) := dk_172 (dk_at dksX2_firstFree_1 7 rfl rfl)
abbrev cX2_firstFreeByGaps : ByteArray := prog_12_method_28_code
def yX2_firstFreeByGaps : MethodName := ⟨RX2, "firstFreeByGaps", "(II)I"⟩
def dkwX2_firstFreeByGaps_4 : List UInt8 := [96, 163, 0, 8, 21, 5, 167, 0, 4, 2, 172]
abbrev dktX2_firstFreeByGaps_4 : List UInt8 := dkwX2_firstFreeByGaps_4 ++ []
def dkwX2_firstFreeByGaps_3 : List UInt8 := [180, 0, 217, 167, 0, 5, 21, 5, 54, 5, 132, 6, 1, 167, 255, 203, 21, 5, 42, 180, 0, 56, 16, 120]
abbrev dktX2_firstFreeByGaps_3 : List UInt8 := dkwX2_firstFreeByGaps_3 ++ dktX2_firstFreeByGaps_4
def dkwX2_firstFreeByGaps_2 : List UInt8 := [21, 5, 21, 5, 21, 4, 96, 182, 0, 91, 153, 0, 18, 45, 21, 6, 182, 0, 42, 192, 0, 46]
abbrev dktX2_firstFreeByGaps_2 : List UInt8 := dkwX2_firstFreeByGaps_2 ++ dktX2_firstFreeByGaps_3
def dkwX2_firstFreeByGaps_1 : List UInt8 := [54, 5, 3, 54, 6, 21, 6, 45, 182, 0, 38, 162, 0, 50, 45, 21, 6, 182, 0, 42, 192, 0, 46]
abbrev dktX2_firstFreeByGaps_1 : List UInt8 := dkwX2_firstFreeByGaps_1 ++ dktX2_firstFreeByGaps_2
def dkwX2_firstFreeByGaps_0 : List UInt8 := [42, 27, 182, 0, 247, 78, 42, 180, 0, 12, 27, 182, 0, 42, 192, 0, 73, 180, 0, 85, 54, 4, 28]
abbrev dktX2_firstFreeByGaps_0 : List UInt8 := dkwX2_firstFreeByGaps_0 ++ dktX2_firstFreeByGaps_1
theorem dksX2_firstFreeByGaps_0 : cX2_firstFreeByGaps.data.toList.drop 0 = dktX2_firstFreeByGaps_0 := by decide +kernel
theorem dksX2_firstFreeByGaps_1 : cX2_firstFreeByGaps.data.toList.drop 23 = dktX2_firstFreeByGaps_1 := dk_seg dksX2_firstFreeByGaps_0 23 rfl rfl
theorem dksX2_firstFreeByGaps_2 : cX2_firstFreeByGaps.data.toList.drop 46 = dktX2_firstFreeByGaps_2 := dk_seg dksX2_firstFreeByGaps_1 23 rfl rfl
theorem dksX2_firstFreeByGaps_3 : cX2_firstFreeByGaps.data.toList.drop 68 = dktX2_firstFreeByGaps_3 := dk_seg dksX2_firstFreeByGaps_2 22 rfl rfl
theorem dksX2_firstFreeByGaps_4 : cX2_firstFreeByGaps.data.toList.drop 92 = dktX2_firstFreeByGaps_4 := dk_seg dksX2_firstFreeByGaps_3 24 rfl rfl
theorem dX2_firstFreeByGaps_0 : decode cX2_firstFreeByGaps 0 = .ok (.aload_n 0, 1) := dk_42 (dk_at dksX2_firstFreeByGaps_0 0 rfl rfl)
theorem dX2_firstFreeByGaps_1 : decode cX2_firstFreeByGaps 1 = .ok (.iload_n 1, 1) := dk_27 (dk_at dksX2_firstFreeByGaps_0 1 rfl rfl)
theorem dX2_firstFreeByGaps_2 : decode cX2_firstFreeByGaps 2 = .ok (.invokevirtual 247, 3) := dk_182 0 247 (dk_at dksX2_firstFreeByGaps_0 2 rfl rfl)
theorem dX2_firstFreeByGaps_5 : decode cX2_firstFreeByGaps 5 = .ok (.astore_n 3, 1) := dk_78 (dk_at dksX2_firstFreeByGaps_0 5 rfl rfl)
theorem dX2_firstFreeByGaps_6 : decode cX2_firstFreeByGaps 6 = .ok (.aload_n 0, 1) := dk_42 (dk_at dksX2_firstFreeByGaps_0 6 rfl rfl)
theorem dX2_firstFreeByGaps_7 : decode cX2_firstFreeByGaps 7 = .ok (.getfield 12, 3) := dk_180 0 12 (dk_at dksX2_firstFreeByGaps_0 7 rfl rfl)
theorem dX2_firstFreeByGaps_10 : decode cX2_firstFreeByGaps 10 = .ok (.iload_n 1, 1) := dk_27 (dk_at dksX2_firstFreeByGaps_0 10 rfl rfl)
theorem dX2_firstFreeByGaps_11 : decode cX2_firstFreeByGaps 11 = .ok (.invokevirtual 42, 3) := dk_182 0 42 (dk_at dksX2_firstFreeByGaps_0 11 rfl rfl)
theorem dX2_firstFreeByGaps_14 : decode cX2_firstFreeByGaps 14 = .ok (.checkcast 73, 3) := dk_192 0 73 (dk_at dksX2_firstFreeByGaps_0 14 rfl rfl)
theorem dX2_firstFreeByGaps_17 : decode cX2_firstFreeByGaps 17 = .ok (.getfield 85, 3) := dk_180 0 85 (dk_at dksX2_firstFreeByGaps_0 17 rfl rfl)
theorem dX2_firstFreeByGaps_20 : decode cX2_firstFreeByGaps 20 = .ok (.istore 4, 2) := dk_54 4 (dk_at dksX2_firstFreeByGaps_0 20 rfl rfl)
theorem dX2_firstFreeByGaps_22 : decode cX2_firstFreeByGaps 22 = .ok (.iload_n 2, 1) := dk_28 (dk_at dksX2_firstFreeByGaps_0 22 rfl rfl)
theorem dX2_firstFreeByGaps_23 : decode cX2_firstFreeByGaps 23 = .ok (.istore 5, 2) := dk_54 5 (dk_at dksX2_firstFreeByGaps_1 0 rfl rfl)
theorem dX2_firstFreeByGaps_25 : decode cX2_firstFreeByGaps 25 = .ok (.iconst 0, 1) := dk_3 (dk_at dksX2_firstFreeByGaps_1 2 rfl rfl)
theorem dX2_firstFreeByGaps_26 : decode cX2_firstFreeByGaps 26 = .ok (.istore 6, 2) := dk_54 6 (dk_at dksX2_firstFreeByGaps_1 3 rfl rfl)
theorem dX2_firstFreeByGaps_28 : decode cX2_firstFreeByGaps 28 = .ok (.iload 6, 2) := dk_21 6 (dk_at dksX2_firstFreeByGaps_1 5 rfl rfl)
theorem dX2_firstFreeByGaps_30 : decode cX2_firstFreeByGaps 30 = .ok (.aload_n 3, 1) := dk_45 (dk_at dksX2_firstFreeByGaps_1 7 rfl rfl)
theorem dX2_firstFreeByGaps_31 : decode cX2_firstFreeByGaps 31 = .ok (.invokevirtual 38, 3) := dk_182 0 38 (dk_at dksX2_firstFreeByGaps_1 8 rfl rfl)
theorem dX2_firstFreeByGaps_34 : decode cX2_firstFreeByGaps 34 = .ok (.if_icmp .ge 50, 3) := dk_162 0 50 (dk_at dksX2_firstFreeByGaps_1 11 rfl rfl)
theorem dX2_firstFreeByGaps_37 : decode cX2_firstFreeByGaps 37 = .ok (.aload_n 3, 1) := dk_45 (dk_at dksX2_firstFreeByGaps_1 14 rfl rfl)
theorem dX2_firstFreeByGaps_38 : decode cX2_firstFreeByGaps 38 = .ok (.iload 6, 2) := dk_21 6 (dk_at dksX2_firstFreeByGaps_1 15 rfl rfl)
theorem dX2_firstFreeByGaps_40 : decode cX2_firstFreeByGaps 40 = .ok (.invokevirtual 42, 3) := dk_182 0 42 (dk_at dksX2_firstFreeByGaps_1 17 rfl rfl)
theorem dX2_firstFreeByGaps_43 : decode cX2_firstFreeByGaps 43 = .ok (.checkcast 46, 3) := dk_192 0 46 (dk_at dksX2_firstFreeByGaps_1 20 rfl rfl)
theorem dX2_firstFreeByGaps_46 : decode cX2_firstFreeByGaps 46 = .ok (.iload 5, 2) := dk_21 5 (dk_at dksX2_firstFreeByGaps_2 0 rfl rfl)
theorem dX2_firstFreeByGaps_48 : decode cX2_firstFreeByGaps 48 = .ok (.iload 5, 2) := dk_21 5 (dk_at dksX2_firstFreeByGaps_2 2 rfl rfl)
theorem dX2_firstFreeByGaps_50 : decode cX2_firstFreeByGaps 50 = .ok (.iload 4, 2) := dk_21 4 (dk_at dksX2_firstFreeByGaps_2 4 rfl rfl)
theorem dX2_firstFreeByGaps_52 : decode cX2_firstFreeByGaps 52 = .ok (.iadd, 1) := dk_96 (dk_at dksX2_firstFreeByGaps_2 6 rfl rfl)
theorem dX2_firstFreeByGaps_53 : decode cX2_firstFreeByGaps 53 = .ok (.invokevirtual 91, 3) := dk_182 0 91 (dk_at dksX2_firstFreeByGaps_2 7 rfl rfl)
theorem dX2_firstFreeByGaps_56 : decode cX2_firstFreeByGaps 56 = .ok (.ifCond .eq 18, 3) := dk_153 0 18 (dk_at dksX2_firstFreeByGaps_2 10 rfl rfl)
theorem dX2_firstFreeByGaps_59 : decode cX2_firstFreeByGaps 59 = .ok (.aload_n 3, 1) := dk_45 (dk_at dksX2_firstFreeByGaps_2 13 rfl rfl)
theorem dX2_firstFreeByGaps_60 : decode cX2_firstFreeByGaps 60 = .ok (.iload 6, 2) := dk_21 6 (dk_at dksX2_firstFreeByGaps_2 14 rfl rfl)
theorem dX2_firstFreeByGaps_62 : decode cX2_firstFreeByGaps 62 = .ok (.invokevirtual 42, 3) := dk_182 0 42 (dk_at dksX2_firstFreeByGaps_2 16 rfl rfl)
theorem dX2_firstFreeByGaps_65 : decode cX2_firstFreeByGaps 65 = .ok (.checkcast 46, 3) := dk_192 0 46 (dk_at dksX2_firstFreeByGaps_2 19 rfl rfl)
theorem dX2_firstFreeByGaps_68 : decode cX2_firstFreeByGaps 68 = .ok (.getfield 217, 3) := dk_180 0 217 (dk_at dksX2_firstFreeByGaps_3 0 rfl rfl)
theorem dX2_firstFreeByGaps_71 : decode cX2_firstFreeByGaps 71 = .ok (.goto 5, 3) := dk_167 0 5 (dk_at dksX2_firstFreeByGaps_3 3 rfl rfl)
theorem dX2_firstFreeByGaps_74 : decode cX2_firstFreeByGaps 74 = .ok (.iload 5, 2) := dk_21 5 (dk_at dksX2_firstFreeByGaps_3 6 rfl rfl)
theorem dX2_firstFreeByGaps_76 : decode cX2_firstFreeByGaps 76 = .ok (.istore 5, 2) := dk_54 5 (dk_at dksX2_firstFreeByGaps_3 8 rfl rfl)
theorem dX2_firstFreeByGaps_78 : decode cX2_firstFreeByGaps 78 = .ok (.iinc 6 1, 3) := dk_132 6 1 (dk_at dksX2_firstFreeByGaps_3 10 rfl rfl)
theorem dX2_firstFreeByGaps_81 : decode cX2_firstFreeByGaps 81 = .ok (.goto (-53), 3) := dk_167 255 203 (dk_at dksX2_firstFreeByGaps_3 13 rfl rfl)
theorem dX2_firstFreeByGaps_84 : decode cX2_firstFreeByGaps 84 = .ok (.iload 5, 2) := dk_21 5 (dk_at dksX2_firstFreeByGaps_3 16 rfl rfl)
theorem dX2_firstFreeByGaps_86 : decode cX2_firstFreeByGaps 86 = .ok (.aload_n 0, 1) := dk_42 (dk_at dksX2_firstFreeByGaps_3 18 rfl rfl)
theorem dX2_firstFreeByGaps_87 : decode cX2_firstFreeByGaps 87 = .ok (.getfield 56, 3) := dk_180 0 56 (dk_at dksX2_firstFreeByGaps_3 19 rfl rfl)
theorem dX2_firstFreeByGaps_90 : decode cX2_firstFreeByGaps 90 = .ok (.bipush 120, 2) := dk_16 120 (dk_at dksX2_firstFreeByGaps_3 22 rfl rfl)
theorem dX2_firstFreeByGaps_92 : decode cX2_firstFreeByGaps 92 = .ok (.iadd, 1) := dk_96 (dk_at dksX2_firstFreeByGaps_4 0 rfl rfl)
theorem dX2_firstFreeByGaps_93 : decode cX2_firstFreeByGaps 93 = .ok (.if_icmp .gt 8, 3) := dk_163 0 8 (dk_at dksX2_firstFreeByGaps_4 1 rfl rfl)
theorem dX2_firstFreeByGaps_96 : decode cX2_firstFreeByGaps 96 = .ok (.iload 5, 2) := dk_21 5 (dk_at dksX2_firstFreeByGaps_4 4 rfl rfl)
theorem dX2_firstFreeByGaps_98 : decode cX2_firstFreeByGaps 98 = .ok (.goto 4, 3) := dk_167 0 4 (dk_at dksX2_firstFreeByGaps_4 6 rfl rfl)
theorem dX2_firstFreeByGaps_101 : decode cX2_firstFreeByGaps 101 = .ok (.iconst (-1), 1) := dk_2 (dk_at dksX2_firstFreeByGaps_4 9 rfl rfl)
theorem dX2_firstFreeByGaps_102 : decode cX2_firstFreeByGaps 102 = .ok (.ireturn, 1) := dk_172 (dk_at dksX2_firstFreeByGaps_4 10 rfl rfl)
abbrev cX2_ofSlide : ByteArray := prog_12_method_27_code
def yX2_ofSlide : MethodName := ⟨RX2, "ofSlide", "(I)Ljava/util/ArrayList;"⟩
def dkwX2_ofSlide_2 : List UInt8 := [27, 160, 0, 10, 44, 25, 4, 182, 0, 48, 87, 132, 3, 1, 167, 255, 206, 44, 176]
abbrev dktX2_ofSlide_2 : List UInt8 := dkwX2_ofSlide_2 ++ []
def dkwX2_ofSlide_1 : List UInt8 := [180, 0, 21, 42, 180, 0, 21, 29, 184, 0, 243, 182, 0, 42, 192, 0, 46, 58, 4, 25, 4, 180, 0, 88]
abbrev dktX2_ofSlide_1 : List UInt8 := dkwX2_ofSlide_1 ++ dktX2_ofSlide_2
def dkwX2_ofSlide_0 : List UInt8 := [187, 0, 9, 89, 183, 0, 11, 77, 3, 62, 29, 42, 180, 0, 21, 182, 0, 38, 162, 0, 45, 42]
abbrev dktX2_ofSlide_0 : List UInt8 := dkwX2_ofSlide_0 ++ dktX2_ofSlide_1
theorem dksX2_ofSlide_0 : cX2_ofSlide.data.toList.drop 0 = dktX2_ofSlide_0 := by decide +kernel
theorem dksX2_ofSlide_1 : cX2_ofSlide.data.toList.drop 22 = dktX2_ofSlide_1 := dk_seg dksX2_ofSlide_0 22 rfl rfl
theorem dksX2_ofSlide_2 : cX2_ofSlide.data.toList.drop 46 = dktX2_ofSlide_2 := dk_seg dksX2_ofSlide_1 24 rfl rfl
theorem dX2_ofSlide_0 : decode cX2_ofSlide 0 = .ok (.new 9, 3) := dk_187 0 9 (dk_at dksX2_ofSlide_0 0 rfl rfl)
theorem dX2_ofSlide_3 : decode cX2_ofSlide 3 = .ok (.dup, 1) := dk_89 (dk_at dksX2_ofSlide_0 3 rfl rfl)
theorem dX2_ofSlide_4 : decode cX2_ofSlide 4 = .ok (.invokespecial 11, 3) := dk_183 0 11 (dk_at dksX2_ofSlide_0 4 rfl rfl)
theorem dX2_ofSlide_7 : decode cX2_ofSlide 7 = .ok (.astore_n 2, 1) := dk_77 (dk_at dksX2_ofSlide_0 7 rfl rfl)
theorem dX2_ofSlide_8 : decode cX2_ofSlide 8 = .ok (.iconst 0, 1) := dk_3 (dk_at dksX2_ofSlide_0 8 rfl rfl)
theorem dX2_ofSlide_9 : decode cX2_ofSlide 9 = .ok (.istore_n 3, 1) := dk_62 (dk_at dksX2_ofSlide_0 9 rfl rfl)
theorem dX2_ofSlide_10 : decode cX2_ofSlide 10 = .ok (.iload_n 3, 1) := dk_29 (dk_at dksX2_ofSlide_0 10 rfl rfl)
theorem dX2_ofSlide_11 : decode cX2_ofSlide 11 = .ok (.aload_n 0, 1) := dk_42 (dk_at dksX2_ofSlide_0 11 rfl rfl)
theorem dX2_ofSlide_12 : decode cX2_ofSlide 12 = .ok (.getfield 21, 3) := dk_180 0 21 (dk_at dksX2_ofSlide_0 12 rfl rfl)
theorem dX2_ofSlide_15 : decode cX2_ofSlide 15 = .ok (.invokevirtual 38, 3) := dk_182 0 38 (dk_at dksX2_ofSlide_0 15 rfl rfl)
theorem dX2_ofSlide_18 : decode cX2_ofSlide 18 = .ok (.if_icmp .ge 45, 3) := dk_162 0 45 (dk_at dksX2_ofSlide_0 18 rfl rfl)
theorem dX2_ofSlide_21 : decode cX2_ofSlide 21 = .ok (.aload_n 0, 1) := dk_42 (dk_at dksX2_ofSlide_0 21 rfl rfl)
theorem dX2_ofSlide_22 : decode cX2_ofSlide 22 = .ok (.getfield 21, 3) := dk_180 0 21 (dk_at dksX2_ofSlide_1 0 rfl rfl)
theorem dX2_ofSlide_25 : decode cX2_ofSlide 25 = .ok (.aload_n 0, 1) := dk_42 (dk_at dksX2_ofSlide_1 3 rfl rfl)
theorem dX2_ofSlide_26 : decode cX2_ofSlide 26 = .ok (.getfield 21, 3) := dk_180 0 21 (dk_at dksX2_ofSlide_1 4 rfl rfl)
theorem dX2_ofSlide_29 : decode cX2_ofSlide 29 = .ok (.iload_n 3, 1) := dk_29 (dk_at dksX2_ofSlide_1 7 rfl rfl)
theorem dX2_ofSlide_30 : decode cX2_ofSlide 30 = .ok (.invokestatic 243, 3) := dk_184 0 243 (dk_at dksX2_ofSlide_1 8 rfl rfl)
theorem dX2_ofSlide_33 : decode cX2_ofSlide 33 = .ok (.invokevirtual 42, 3) := dk_182 0 42 (dk_at dksX2_ofSlide_1 11 rfl rfl)
theorem dX2_ofSlide_36 : decode cX2_ofSlide 36 = .ok (.checkcast 46, 3) := dk_192 0 46 (dk_at dksX2_ofSlide_1 14 rfl rfl)
theorem dX2_ofSlide_39 : decode cX2_ofSlide 39 = .ok (.astore 4, 2) := dk_58 4 (dk_at dksX2_ofSlide_1 17 rfl rfl)
theorem dX2_ofSlide_41 : decode cX2_ofSlide 41 = .ok (.aload 4, 2) := dk_25 4 (dk_at dksX2_ofSlide_1 19 rfl rfl)
theorem dX2_ofSlide_43 : decode cX2_ofSlide 43 = .ok (.getfield 88, 3) := dk_180 0 88 (dk_at dksX2_ofSlide_1 21 rfl rfl)
theorem dX2_ofSlide_46 : decode cX2_ofSlide 46 = .ok (.iload_n 1, 1) := dk_27 (dk_at dksX2_ofSlide_2 0 rfl rfl)
theorem dX2_ofSlide_47 : decode cX2_ofSlide 47 = .ok (.if_icmp .ne 10, 3) := dk_160 0 10 (dk_at dksX2_ofSlide_2 1 rfl rfl)
theorem dX2_ofSlide_50 : decode cX2_ofSlide 50 = .ok (.aload_n 2, 1) := dk_44 (dk_at dksX2_ofSlide_2 4 rfl rfl)
theorem dX2_ofSlide_51 : decode cX2_ofSlide 51 = .ok (.aload 4, 2) := dk_25 4 (dk_at dksX2_ofSlide_2 5 rfl rfl)
theorem dX2_ofSlide_53 : decode cX2_ofSlide 53 = .ok (.invokevirtual 48, 3) := dk_182 0 48 (dk_at dksX2_ofSlide_2 7 rfl rfl)
theorem dX2_ofSlide_56 : decode cX2_ofSlide 56 = .ok (.pop, 1) := dk_87 (dk_at dksX2_ofSlide_2 10 rfl rfl)
theorem dX2_ofSlide_57 : decode cX2_ofSlide 57 = .ok (.iinc 3 1, 3) := dk_132 3 1 (dk_at dksX2_ofSlide_2 11 rfl rfl)
theorem dX2_ofSlide_60 : decode cX2_ofSlide 60 = .ok (.goto (-50), 3) := dk_167 255 206 (dk_at dksX2_ofSlide_2 14 rfl rfl)
theorem dX2_ofSlide_63 : decode cX2_ofSlide 63 = .ok (.aload_n 2, 1) := dk_44 (dk_at dksX2_ofSlide_2 17 rfl rfl)
theorem dX2_ofSlide_64 : decode cX2_ofSlide 64 = .ok (.areturn, 1) := dk_176 (dk_at dksX2_ofSlide_2 18 rfl rfl)
theorem q67 : (Jvm.Cond.initialized "SlidePark$State") ∈ lw_all := lw_g (lw_at lw_m1 2 rfl) rfl
theorem q115 : (Jvm.Cond.instantiable "SlidePark$State" (8 : Nat)) ∈ lw_all := lw_g (lw_at lw_m1 50 rfl) rfl
theorem q117 : (Jvm.Cond.instanceMethod ({ cls := "SlidePark$State", name := "<init>", desc := "()V" } : Jvm.MethodName)) ∈ lw_all := lw_g (lw_at lw_m1 52 rfl) rfl
theorem q118 : (Jvm.Cond.code ({ cls := "SlidePark$State", name := "<init>", desc := "()V" } : Jvm.MethodName) prog_12_method_1_code (1 : Nat) (Option.none : Option Jvm.ClassFile.FieldType)) ∈ lw_all := lw_g (lw_at lw_m1 53 rfl) rfl
theorem q119 : (Jvm.Cond.methodLink "SlidePark$State" (3 : Nat) ({ cls := "java/lang/Object", name := "<init>", desc := "()V" } : Jvm.MethodName)) ∈ lw_all := lw_g (lw_at lw_m1 54 rfl) rfl
theorem q120 : (Jvm.Cond.classLink "SlidePark$State" (9 : Nat) "java/util/ArrayList") ∈ lw_all := lw_g (lw_at lw_m1 55 rfl) rfl
theorem q122 : (Jvm.Cond.methodLink "SlidePark$State" (11 : Nat) ({ cls := "java/util/ArrayList", name := "<init>", desc := "()V" } : Jvm.MethodName)) ∈ lw_all := lw_g (lw_at lw_m1 57 rfl) rfl
theorem q149 : (Jvm.Cond.classLink "SlidePark$State" (24 : Nat) "SlidePark$Latest") ∈ lw_all := lw_g (lw_at lw_m1 84 rfl) rfl
theorem q151 : (Jvm.Cond.methodLink "SlidePark$State" (26 : Nat) ({ cls := "SlidePark$Latest", name := "<init>", desc := "(I)V" } : Jvm.MethodName)) ∈ lw_all := lw_g (lw_at lw_m1 86 rfl) rfl
theorem q164 : (Jvm.Cond.fieldLink "SlidePark$State" (12 : Nat) "SlidePark$State" "slides" "Ljava/util/ArrayList;") ∈ lw_all := lw_g (lw_at lw_m1 99 rfl) rfl
theorem q166 : (Jvm.Cond.fieldLink "SlidePark$State" (18 : Nat) "SlidePark$State" "guests" "Ljava/util/ArrayList;") ∈ lw_all := lw_g (lw_at lw_m1 101 rfl) rfl
theorem q168 : (Jvm.Cond.fieldLink "SlidePark$State" (21 : Nat) "SlidePark$State" "bookings" "Ljava/util/ArrayList;") ∈ lw_all := lw_g (lw_at lw_m1 103 rfl) rfl
theorem q170 : (Jvm.Cond.fieldLink "SlidePark$State" (29 : Nat) "SlidePark$State" "finishes" "LSlidePark$Latest;") ∈ lw_all := lw_g (lw_at lw_m1 105 rfl) rfl
theorem q172 : (Jvm.Cond.fieldLink "SlidePark$State" (56 : Nat) "SlidePark$State" "minute" "I") ∈ lw_all := lw_g (lw_at lw_m1 107 rfl) rfl
theorem q174 : (Jvm.Cond.fieldLink "SlidePark$State" (60 : Nat) "SlidePark$State" "office" "I") ∈ lw_all := lw_g (lw_at lw_m1 109 rfl) rfl
theorem q176 : (Jvm.Cond.fieldLink "SlidePark$State" (63 : Nat) "SlidePark$State" "refunded" "I") ∈ lw_all := lw_g (lw_at lw_m1 111 rfl) rfl
theorem q178 : (Jvm.Cond.fieldLink "SlidePark$State" (66 : Nat) "SlidePark$State" "splashes" "I") ∈ lw_all := lw_g (lw_at lw_m1 113 rfl) rfl
theorem q180 : (Jvm.Cond.lays "SlidePark$State" "SlidePark$State" "slides" "Ljava/util/ArrayList;") ∈ lw_all := lw_g (lw_at lw_m1 115 rfl) rfl
theorem q181 : (Jvm.Cond.soleField "SlidePark$State" "slides") ∈ lw_all := lw_g (lw_at lw_m1 116 rfl) rfl
theorem q182 : (Jvm.Cond.lays "SlidePark$State" "SlidePark$State" "guests" "Ljava/util/ArrayList;") ∈ lw_all := lw_g (lw_at lw_m1 117 rfl) rfl
theorem q183 : (Jvm.Cond.soleField "SlidePark$State" "guests") ∈ lw_all := lw_g (lw_at lw_m1 118 rfl) rfl
theorem q184 : (Jvm.Cond.lays "SlidePark$State" "SlidePark$State" "bookings" "Ljava/util/ArrayList;") ∈ lw_all := lw_g (lw_at lw_m1 119 rfl) rfl
theorem q185 : (Jvm.Cond.soleField "SlidePark$State" "bookings") ∈ lw_all := lw_g (lw_at lw_m1 120 rfl) rfl
theorem q186 : (Jvm.Cond.lays "SlidePark$State" "SlidePark$State" "finishes" "LSlidePark$Latest;") ∈ lw_all := lw_g (lw_at lw_m1 121 rfl) rfl
theorem q187 : (Jvm.Cond.soleField "SlidePark$State" "finishes") ∈ lw_all := lw_g (lw_at lw_m1 122 rfl) rfl
theorem q188 : (Jvm.Cond.lays "SlidePark$State" "SlidePark$State" "minute" "I") ∈ lw_all := lw_g (lw_at lw_m1 123 rfl) rfl
theorem q189 : (Jvm.Cond.soleField "SlidePark$State" "minute") ∈ lw_all := lw_g (lw_at lw_m1 124 rfl) rfl
theorem q190 : (Jvm.Cond.lays "SlidePark$State" "SlidePark$State" "office" "I") ∈ lw_all := lw_g (lw_at lw_m1 125 rfl) rfl
theorem q191 : (Jvm.Cond.soleField "SlidePark$State" "office") ∈ lw_all := lw_g (lw_at lw_m1 126 rfl) rfl
theorem q192 : (Jvm.Cond.lays "SlidePark$State" "SlidePark$State" "refunded" "I") ∈ lw_all := lw_g (lw_at lw_m1 127 rfl) rfl
theorem q193 : (Jvm.Cond.soleField "SlidePark$State" "refunded") ∈ lw_all := lw_g (lw_at lw_m1 128 rfl) rfl
theorem q194 : (Jvm.Cond.lays "SlidePark$State" "SlidePark$State" "splashes" "I") ∈ lw_all := lw_g (lw_at lw_m1 129 rfl) rfl
theorem q195 : (Jvm.Cond.soleField "SlidePark$State" "splashes") ∈ lw_all := lw_g (lw_at lw_m1 130 rfl) rfl
theorem q196 : (Jvm.Cond.superclass "SlidePark$State" "java/lang/Object") ∈ lw_all := lw_g (lw_at lw_m1 131 rfl) rfl
theorem q286 : (Jvm.Cond.instanceMethod ({ cls := "SlidePark$State", name := "mostWatched", desc := "()I" } : Jvm.MethodName)) ∈ lw_all := lw_g (lw_at lw_m1 221 rfl) rfl
theorem q287 : (Jvm.Cond.selects "SlidePark$State" ({ cls := "SlidePark$State", name := "mostWatched", desc := "()I" } : Jvm.MethodName) ({ cls := "SlidePark$State", name := "mostWatched", desc := "()I" } : Jvm.MethodName)) ∈ lw_all := lw_g (lw_at lw_m1 222 rfl) rfl
theorem q288 : (Jvm.Cond.code ({ cls := "SlidePark$State", name := "mostWatched", desc := "()I" } : Jvm.MethodName) prog_12_method_29_code (4 : Nat) (Option.some Jvm.ClassFile.FieldType.int)) ∈ lw_all := lw_g (lw_at lw_m1 223 rfl) rfl
theorem q289 : (Jvm.Cond.methodLink "SlidePark$State" (251 : Nat) ({ cls := "SlidePark$State", name := "firstToFinish", desc := "(I)LSlidePark$Booking;" } : Jvm.MethodName)) ∈ lw_all := lw_g (lw_at lw_m1 224 rfl) rfl
theorem q290 : (Jvm.Cond.privateMethod ({ cls := "SlidePark$State", name := "firstToFinish", desc := "(I)LSlidePark$Booking;" } : Jvm.MethodName)) ∈ lw_tbl := lw_at lw_m1 225 rfl
theorem q291 : (Jvm.Cond.instanceMethod ({ cls := "SlidePark$State", name := "firstToFinish", desc := "(I)LSlidePark$Booking;" } : Jvm.MethodName)) ∈ lw_all := lw_g (lw_at lw_m1 226 rfl) rfl
theorem q292 : (Jvm.Cond.code ({ cls := "SlidePark$State", name := "firstToFinish", desc := "(I)LSlidePark$Booking;" } : Jvm.MethodName) prog_12_method_30_code (5 : Nat) (Option.some (Jvm.ClassFile.FieldType.object "SlidePark$Booking"))) ∈ lw_all := lw_g (lw_at lw_m1 227 rfl) rfl
theorem q293 : (Jvm.Cond.methodLink "SlidePark$State" (38 : Nat) ({ cls := "java/util/ArrayList", name := "size", desc := "()I" } : Jvm.MethodName)) ∈ lw_all := lw_g (lw_at lw_m1 228 rfl) rfl
theorem q294 : (Jvm.Cond.methodLink "SlidePark$State" (42 : Nat) ({ cls := "java/util/ArrayList", name := "get", desc := "(I)Ljava/lang/Object;" } : Jvm.MethodName)) ∈ lw_all := lw_g (lw_at lw_m1 229 rfl) rfl
theorem q308 : (Jvm.Cond.classLink "SlidePark$State" (46 : Nat) "SlidePark$Booking") ∈ lw_all := lw_g (lw_at lw_m2 3 rfl) rfl
theorem q314 : (Jvm.Cond.instanceMethod ({ cls := "SlidePark$State", name := "mostWatchedByTable", desc := "()I" } : Jvm.MethodName)) ∈ lw_all := lw_g (lw_at lw_m2 9 rfl) rfl
theorem q315 : (Jvm.Cond.selects "SlidePark$State" ({ cls := "SlidePark$State", name := "mostWatchedByTable", desc := "()I" } : Jvm.MethodName) ({ cls := "SlidePark$State", name := "mostWatchedByTable", desc := "()I" } : Jvm.MethodName)) ∈ lw_all := lw_g (lw_at lw_m2 10 rfl) rfl
theorem q316 : (Jvm.Cond.code ({ cls := "SlidePark$State", name := "mostWatchedByTable", desc := "()I" } : Jvm.MethodName) prog_12_method_31_code (7 : Nat) (Option.some Jvm.ClassFile.FieldType.int)) ∈ lw_all := lw_g (lw_at lw_m2 11 rfl) rfl
theorem q317 : (Jvm.Cond.methodLinkNest "SlidePark$State" (243 : Nat) ({ cls := "SlidePark", name := "atRank", desc := "(Ljava/util/ArrayList;I)I" } : Jvm.MethodName) "SlidePark") ∈ lw_tbl := lw_at lw_m2 12 rfl
theorem q430 : (Jvm.Cond.methodLink "SlidePark$State" (254 : Nat) ({ cls := "java/lang/Math", name := "max", desc := "(II)I" } : Jvm.MethodName)) ∈ lw_all := lw_g (lw_at lw_m2 125 rfl) rfl
theorem q438 : (Jvm.Cond.instanceMethod ({ cls := "SlidePark$State", name := "mostAtOnce", desc := "()I" } : Jvm.MethodName)) ∈ lw_all := lw_g (lw_at lw_m2 133 rfl) rfl
theorem q439 : (Jvm.Cond.selects "SlidePark$State" ({ cls := "SlidePark$State", name := "mostAtOnce", desc := "()I" } : Jvm.MethodName) ({ cls := "SlidePark$State", name := "mostAtOnce", desc := "()I" } : Jvm.MethodName)) ∈ lw_all := lw_g (lw_at lw_m2 134 rfl) rfl
theorem q440 : (Jvm.Cond.code ({ cls := "SlidePark$State", name := "mostAtOnce", desc := "()I" } : Jvm.MethodName) prog_12_method_32_code (5 : Nat) (Option.some Jvm.ClassFile.FieldType.int)) ∈ lw_all := lw_g (lw_at lw_m2 135 rfl) rfl
theorem q441 : (Jvm.Cond.methodLink "SlidePark$State" (196 : Nat) ({ cls := "SlidePark$Booking", name := "isAt", desc := "(I)Z" } : Jvm.MethodName)) ∈ lw_all := lw_g (lw_at lw_m2 136 rfl) rfl
theorem q453 : (Jvm.Cond.instanceMethod ({ cls := "SlidePark$State", name := "mostAtOnceBySweep", desc := "()I" } : Jvm.MethodName)) ∈ lw_all := lw_g (lw_at lw_m2 148 rfl) rfl
theorem q454 : (Jvm.Cond.selects "SlidePark$State" ({ cls := "SlidePark$State", name := "mostAtOnceBySweep", desc := "()I" } : Jvm.MethodName) ({ cls := "SlidePark$State", name := "mostAtOnceBySweep", desc := "()I" } : Jvm.MethodName)) ∈ lw_all := lw_g (lw_at lw_m2 149 rfl) rfl
theorem q455 : (Jvm.Cond.code ({ cls := "SlidePark$State", name := "mostAtOnceBySweep", desc := "()I" } : Jvm.MethodName) prog_12_method_33_code (6 : Nat) (Option.some Jvm.ClassFile.FieldType.int)) ∈ lw_all := lw_g (lw_at lw_m2 150 rfl) rfl
theorem q470 : (Jvm.Cond.instanceMethod ({ cls := "SlidePark$State", name := "photos", desc := "()I" } : Jvm.MethodName)) ∈ lw_all := lw_g (lw_at lw_m2 165 rfl) rfl
theorem q471 : (Jvm.Cond.selects "SlidePark$State" ({ cls := "SlidePark$State", name := "photos", desc := "()I" } : Jvm.MethodName) ({ cls := "SlidePark$State", name := "photos", desc := "()I" } : Jvm.MethodName)) ∈ lw_all := lw_g (lw_at lw_m2 166 rfl) rfl
theorem q472 : (Jvm.Cond.code ({ cls := "SlidePark$State", name := "photos", desc := "()I" } : Jvm.MethodName) prog_12_method_34_code (4 : Nat) (Option.some Jvm.ClassFile.FieldType.int)) ∈ lw_all := lw_g (lw_at lw_m2 167 rfl) rfl
theorem q473 : (Jvm.Cond.methodLink "SlidePark$State" (260 : Nat) ({ cls := "SlidePark$Latest", name := "size", desc := "()I" } : Jvm.MethodName)) ∈ lw_all := lw_g (lw_at lw_m2 168 rfl) rfl
theorem q474 : (Jvm.Cond.methodLink "SlidePark$State" (261 : Nat) ({ cls := "SlidePark$Latest", name := "get", desc := "(I)Ljava/lang/Object;" } : Jvm.MethodName)) ∈ lw_all := lw_g (lw_at lw_m2 169 rfl) rfl
theorem q479 : (Jvm.Cond.classLink "SlidePark$State" (210 : Nat) "SlidePark$Finish") ∈ lw_all := lw_g (lw_at lw_m2 174 rfl) rfl
theorem q485 : (Jvm.Cond.instanceMethod ({ cls := "SlidePark$State", name := "photosByRuns", desc := "()I" } : Jvm.MethodName)) ∈ lw_all := lw_g (lw_at lw_m2 180 rfl) rfl
theorem q486 : (Jvm.Cond.selects "SlidePark$State" ({ cls := "SlidePark$State", name := "photosByRuns", desc := "()I" } : Jvm.MethodName) ({ cls := "SlidePark$State", name := "photosByRuns", desc := "()I" } : Jvm.MethodName)) ∈ lw_all := lw_g (lw_at lw_m2 181 rfl) rfl
theorem q487 : (Jvm.Cond.code ({ cls := "SlidePark$State", name := "photosByRuns", desc := "()I" } : Jvm.MethodName) prog_12_method_35_code (5 : Nat) (Option.some Jvm.ClassFile.FieldType.int)) ∈ lw_all := lw_g (lw_at lw_m2 182 rfl) rfl
theorem q566 : (Jvm.Cond.instanceMethod ({ cls := "SlidePark$State", name := "copy", desc := "()LSlidePark$State;" } : Jvm.MethodName)) ∈ lw_all := lw_g (lw_at lw_m3 21 rfl) rfl
theorem q567 : (Jvm.Cond.selects "SlidePark$State" ({ cls := "SlidePark$State", name := "copy", desc := "()LSlidePark$State;" } : Jvm.MethodName) ({ cls := "SlidePark$State", name := "copy", desc := "()LSlidePark$State;" } : Jvm.MethodName)) ∈ lw_all := lw_g (lw_at lw_m3 22 rfl) rfl
theorem q568 : (Jvm.Cond.code ({ cls := "SlidePark$State", name := "copy", desc := "()LSlidePark$State;" } : Jvm.MethodName) prog_12_method_2_code (3 : Nat) (Option.some (Jvm.ClassFile.FieldType.object "SlidePark$State"))) ∈ lw_all := lw_g (lw_at lw_m3 23 rfl) rfl
theorem q569 : (Jvm.Cond.classLink "SlidePark$State" (13 : Nat) "SlidePark$State") ∈ lw_all := lw_g (lw_at lw_m3 24 rfl) rfl
theorem q570 : (Jvm.Cond.methodLink "SlidePark$State" (33 : Nat) ({ cls := "SlidePark$State", name := "<init>", desc := "()V" } : Jvm.MethodName)) ∈ lw_all := lw_g (lw_at lw_m3 25 rfl) rfl
theorem q571 : (Jvm.Cond.methodLinkNest "SlidePark$State" (34 : Nat) ({ cls := "SlidePark", name := "copyAll", desc := "(Ljava/util/ArrayList;)Ljava/util/ArrayList;" } : Jvm.MethodName) "SlidePark") ∈ lw_tbl := lw_at lw_m3 26 rfl
theorem q597 : (Jvm.Cond.fieldLinkNest "SlidePark$State" (104 : Nat) "SlidePark$Guest" "coins" "I" "SlidePark") ∈ lw_tbl := lw_at lw_m3 52 rfl
theorem q600 : (Jvm.Cond.fieldLinkNest "SlidePark$State" (207 : Nat) "SlidePark$Guest" "rides" "I" "SlidePark") ∈ lw_tbl := lw_at lw_m3 55 rfl
theorem q658 : (Jvm.Cond.selects "SlidePark$State" ({ cls := "java/lang/Object", name := "getClass", desc := "()Ljava/lang/Class;" } : Jvm.MethodName) ({ cls := "java/lang/Object", name := "getClass", desc := "()Ljava/lang/Class;" } : Jvm.MethodName)) ∈ lw_all := lw_g (lw_at lw_m3 113 rfl) rfl
theorem q730 : (Jvm.Cond.fieldLinkNest "SlidePark$State" (85 : Nat) "SlidePark$Slide" "duration" "I" "SlidePark") ∈ lw_tbl := lw_at lw_m3 185 rfl
theorem q733 : (Jvm.Cond.fieldLinkNest "SlidePark$State" (134 : Nat) "SlidePark$Slide" "price" "I" "SlidePark") ∈ lw_tbl := lw_at lw_m3 188 rfl
theorem q736 : (Jvm.Cond.fieldLinkNest "SlidePark$State" (111 : Nat) "SlidePark$Slide" "queue" "LSlidePark$Line;" "SlidePark") ∈ lw_tbl := lw_at lw_m3 191 rfl
theorem q749 : (Jvm.Cond.castable "SlidePark$State" "SlidePark$Copyable") ∈ lw_tbl := lw_at lw_m3 204 rfl
theorem q750 : (Jvm.Cond.selects "SlidePark$State" ({ cls := "SlidePark$Copyable", name := "copy", desc := "()Ljava/lang/Object;" } : Jvm.MethodName) ({ cls := "SlidePark$State", name := "copy", desc := "()Ljava/lang/Object;" } : Jvm.MethodName)) ∈ lw_all := lw_g (lw_at lw_m3 205 rfl) rfl
theorem q751 : (Jvm.Cond.unhidden "SlidePark$State" "copy" "()Ljava/lang/Object;") ∈ lw_tbl := lw_at lw_m3 206 rfl
theorem q752 : (Jvm.Cond.instanceMethod ({ cls := "SlidePark$State", name := "copy", desc := "()Ljava/lang/Object;" } : Jvm.MethodName)) ∈ lw_all := lw_g (lw_at lw_m3 207 rfl) rfl
theorem q753 : (Jvm.Cond.publicMethod ({ cls := "SlidePark$State", name := "copy", desc := "()Ljava/lang/Object;" } : Jvm.MethodName)) ∈ lw_tbl := lw_at lw_m3 208 rfl
theorem q754 : (Jvm.Cond.code ({ cls := "SlidePark$State", name := "copy", desc := "()Ljava/lang/Object;" } : Jvm.MethodName) prog_12_method_36_code (1 : Nat) (Option.some (Jvm.ClassFile.FieldType.object "java/lang/Object"))) ∈ lw_all := lw_g (lw_at lw_m3 209 rfl) rfl
theorem q755 : (Jvm.Cond.methodLink "SlidePark$State" (263 : Nat) ({ cls := "SlidePark$State", name := "copy", desc := "()LSlidePark$State;" } : Jvm.MethodName)) ∈ lw_all := lw_g (lw_at lw_m3 210 rfl) rfl
theorem q757 : (Jvm.Cond.methodLink "SlidePark$State" (48 : Nat) ({ cls := "java/util/ArrayList", name := "add", desc := "(Ljava/lang/Object;)Z" } : Jvm.MethodName)) ∈ lw_all := lw_g (lw_at lw_m3 212 rfl) rfl
theorem q758 : (Jvm.Cond.methodLink "SlidePark$State" (52 : Nat) ({ cls := "SlidePark$Latest", name := "copy", desc := "()LSlidePark$Latest;" } : Jvm.MethodName)) ∈ lw_all := lw_g (lw_at lw_m3 213 rfl) rfl
theorem q769 : (Jvm.Cond.instanceMethod ({ cls := "SlidePark$State", name := "build", desc := "(II)I" } : Jvm.MethodName)) ∈ lw_all := lw_g (lw_at lw_m3 224 rfl) rfl
theorem q770 : (Jvm.Cond.selects "SlidePark$State" ({ cls := "SlidePark$State", name := "build", desc := "(II)I" } : Jvm.MethodName) ({ cls := "SlidePark$State", name := "build", desc := "(II)I" } : Jvm.MethodName)) ∈ lw_all := lw_g (lw_at lw_m3 225 rfl) rfl
theorem q771 : (Jvm.Cond.code ({ cls := "SlidePark$State", name := "build", desc := "(II)I" } : Jvm.MethodName) prog_12_method_13_code (3 : Nat) (Option.some Jvm.ClassFile.FieldType.int)) ∈ lw_all := lw_g (lw_at lw_m3 226 rfl) rfl
theorem q772 : (Jvm.Cond.methodLinkNest "SlidePark$State" (77 : Nat) ({ cls := "SlidePark", name := "isBetween", desc := "(III)Z" } : Jvm.MethodName) "SlidePark") ∈ lw_tbl := lw_at lw_m3 227 rfl
theorem q773 : (Jvm.Cond.methodLinkNest "SlidePark$State" (81 : Nat) ({ cls := "SlidePark", name := "requireArgument", desc := "(Z)V" } : Jvm.MethodName) "SlidePark") ∈ lw_tbl := lw_at lw_m3 228 rfl
theorem q791 : (Jvm.Cond.methodLinkNest "SlidePark$State" (126 : Nat) ({ cls := "SlidePark", name := "requireState", desc := "(Z)V" } : Jvm.MethodName) "SlidePark") ∈ lw_tbl := lw_at lw_m4 6 rfl
theorem q809 : (Jvm.Cond.classLink "SlidePark$State" (73 : Nat) "SlidePark$Slide") ∈ lw_all := lw_g (lw_at lw_m4 24 rfl) rfl
theorem q810 : (Jvm.Cond.classLink "SlidePark$State" (122 : Nat) "SlidePark$Line") ∈ lw_all := lw_g (lw_at lw_m4 25 rfl) rfl
theorem q811 : (Jvm.Cond.methodLinkNest "SlidePark$State" (129 : Nat) ({ cls := "SlidePark$Line", name := "<init>", desc := "()V" } : Jvm.MethodName) "SlidePark") ∈ lw_tbl := lw_at lw_m4 26 rfl
theorem q812 : (Jvm.Cond.methodLink "SlidePark$State" (130 : Nat) ({ cls := "SlidePark$Slide", name := "<init>", desc := "(IILSlidePark$Line;)V" } : Jvm.MethodName)) ∈ lw_all := lw_g (lw_at lw_m4 27 rfl) rfl
theorem q838 : (Jvm.Cond.instanceMethod ({ cls := "SlidePark$State", name := "addGuest", desc := "()I" } : Jvm.MethodName)) ∈ lw_all := lw_g (lw_at lw_m4 53 rfl) rfl
theorem q839 : (Jvm.Cond.selects "SlidePark$State" ({ cls := "SlidePark$State", name := "addGuest", desc := "()I" } : Jvm.MethodName) ({ cls := "SlidePark$State", name := "addGuest", desc := "()I" } : Jvm.MethodName)) ∈ lw_all := lw_g (lw_at lw_m4 54 rfl) rfl
theorem q840 : (Jvm.Cond.code ({ cls := "SlidePark$State", name := "addGuest", desc := "()I" } : Jvm.MethodName) prog_12_method_14_code (1 : Nat) (Option.some Jvm.ClassFile.FieldType.int)) ∈ lw_all := lw_g (lw_at lw_m4 55 rfl) rfl
theorem q841 : (Jvm.Cond.classLink "SlidePark$State" (75 : Nat) "SlidePark$Guest") ∈ lw_all := lw_g (lw_at lw_m4 56 rfl) rfl
theorem q842 : (Jvm.Cond.methodLinkNest "SlidePark$State" (133 : Nat) ({ cls := "SlidePark$Guest", name := "<init>", desc := "()V" } : Jvm.MethodName) "SlidePark") ∈ lw_tbl := lw_at lw_m4 57 rfl
theorem q884 : (Jvm.Cond.instanceMethod ({ cls := "SlidePark$State", name := "book", desc := "(III)I" } : Jvm.MethodName)) ∈ lw_all := lw_g (lw_at lw_m4 99 rfl) rfl
theorem q885 : (Jvm.Cond.selects "SlidePark$State" ({ cls := "SlidePark$State", name := "book", desc := "(III)I" } : Jvm.MethodName) ({ cls := "SlidePark$State", name := "book", desc := "(III)I" } : Jvm.MethodName)) ∈ lw_all := lw_g (lw_at lw_m4 100 rfl) rfl
theorem q886 : (Jvm.Cond.code ({ cls := "SlidePark$State", name := "book", desc := "(III)I" } : Jvm.MethodName) prog_12_method_16_code (6 : Nat) (Option.some Jvm.ClassFile.FieldType.int)) ∈ lw_all := lw_g (lw_at lw_m4 101 rfl) rfl
theorem q887 : (Jvm.Cond.methodLink "SlidePark$State" (140 : Nat) ({ cls := "SlidePark$State", name := "guest", desc := "(I)LSlidePark$Guest;" } : Jvm.MethodName)) ∈ lw_all := lw_g (lw_at lw_m4 102 rfl) rfl
theorem q888 : (Jvm.Cond.instanceMethod ({ cls := "SlidePark$State", name := "guest", desc := "(I)LSlidePark$Guest;" } : Jvm.MethodName)) ∈ lw_all := lw_g (lw_at lw_m4 103 rfl) rfl
theorem q889 : (Jvm.Cond.selects "SlidePark$State" ({ cls := "SlidePark$State", name := "guest", desc := "(I)LSlidePark$Guest;" } : Jvm.MethodName) ({ cls := "SlidePark$State", name := "guest", desc := "(I)LSlidePark$Guest;" } : Jvm.MethodName)) ∈ lw_all := lw_g (lw_at lw_m4 104 rfl) rfl
theorem q890 : (Jvm.Cond.code ({ cls := "SlidePark$State", name := "guest", desc := "(I)LSlidePark$Guest;" } : Jvm.MethodName) prog_12_method_4_code (2 : Nat) (Option.some (Jvm.ClassFile.FieldType.object "SlidePark$Guest"))) ∈ lw_all := lw_g (lw_at lw_m4 105 rfl) rfl
theorem q891 : (Jvm.Cond.methodLinkNest "SlidePark$State" (69 : Nat) ({ cls := "SlidePark", name := "item", desc := "(Ljava/util/ArrayList;I)Ljava/lang/Object;" } : Jvm.MethodName) "SlidePark") ∈ lw_tbl := lw_at lw_m4 106 rfl
theorem q913 : (Jvm.Cond.methodLink "SlidePark$State" (143 : Nat) ({ cls := "SlidePark$State", name := "slide", desc := "(I)LSlidePark$Slide;" } : Jvm.MethodName)) ∈ lw_all := lw_g (lw_at lw_m4 128 rfl) rfl
theorem q914 : (Jvm.Cond.instanceMethod ({ cls := "SlidePark$State", name := "slide", desc := "(I)LSlidePark$Slide;" } : Jvm.MethodName)) ∈ lw_all := lw_g (lw_at lw_m4 129 rfl) rfl
theorem q915 : (Jvm.Cond.selects "SlidePark$State" ({ cls := "SlidePark$State", name := "slide", desc := "(I)LSlidePark$Slide;" } : Jvm.MethodName) ({ cls := "SlidePark$State", name := "slide", desc := "(I)LSlidePark$Slide;" } : Jvm.MethodName)) ∈ lw_all := lw_g (lw_at lw_m4 130 rfl) rfl
theorem q916 : (Jvm.Cond.code ({ cls := "SlidePark$State", name := "slide", desc := "(I)LSlidePark$Slide;" } : Jvm.MethodName) prog_12_method_3_code (2 : Nat) (Option.some (Jvm.ClassFile.FieldType.object "SlidePark$Slide"))) ∈ lw_all := lw_g (lw_at lw_m4 131 rfl) rfl
theorem q917 : (Jvm.Cond.methodLink "SlidePark$State" (146 : Nat) ({ cls := "SlidePark$State", name := "requireStart", desc := "(I)V" } : Jvm.MethodName)) ∈ lw_all := lw_g (lw_at lw_m4 132 rfl) rfl
theorem q918 : (Jvm.Cond.instanceMethod ({ cls := "SlidePark$State", name := "requireStart", desc := "(I)V" } : Jvm.MethodName)) ∈ lw_all := lw_g (lw_at lw_m4 133 rfl) rfl
theorem q919 : (Jvm.Cond.selects "SlidePark$State" ({ cls := "SlidePark$State", name := "requireStart", desc := "(I)V" } : Jvm.MethodName) ({ cls := "SlidePark$State", name := "requireStart", desc := "(I)V" } : Jvm.MethodName)) ∈ lw_all := lw_g (lw_at lw_m4 134 rfl) rfl
theorem q920 : (Jvm.Cond.code ({ cls := "SlidePark$State", name := "requireStart", desc := "(I)V" } : Jvm.MethodName) prog_12_method_6_code (2 : Nat) (Option.none : Option Jvm.ClassFile.FieldType)) ∈ lw_all := lw_g (lw_at lw_m4 135 rfl) rfl
theorem q921 : (Jvm.Cond.methodLink "SlidePark$State" (149 : Nat) ({ cls := "SlidePark$State", name := "areFree", desc := "(III)Z" } : Jvm.MethodName)) ∈ lw_all := lw_g (lw_at lw_m4 136 rfl) rfl
theorem q922 : (Jvm.Cond.privateMethod ({ cls := "SlidePark$State", name := "areFree", desc := "(III)Z" } : Jvm.MethodName)) ∈ lw_tbl := lw_at lw_m4 137 rfl
theorem q923 : (Jvm.Cond.instanceMethod ({ cls := "SlidePark$State", name := "areFree", desc := "(III)Z" } : Jvm.MethodName)) ∈ lw_all := lw_g (lw_at lw_m4 138 rfl) rfl
theorem q924 : (Jvm.Cond.code ({ cls := "SlidePark$State", name := "areFree", desc := "(III)Z" } : Jvm.MethodName) prog_12_method_9_code (4 : Nat) (Option.some Jvm.ClassFile.FieldType.boolean)) ∈ lw_all := lw_g (lw_at lw_m4 139 rfl) rfl
theorem q925 : (Jvm.Cond.methodLink "SlidePark$State" (98 : Nat) ({ cls := "SlidePark$State", name := "isSlideFree", desc := "(II)Z" } : Jvm.MethodName)) ∈ lw_all := lw_g (lw_at lw_m4 140 rfl) rfl
theorem q926 : (Jvm.Cond.instanceMethod ({ cls := "SlidePark$State", name := "isSlideFree", desc := "(II)Z" } : Jvm.MethodName)) ∈ lw_all := lw_g (lw_at lw_m4 141 rfl) rfl
theorem q927 : (Jvm.Cond.selects "SlidePark$State" ({ cls := "SlidePark$State", name := "isSlideFree", desc := "(II)Z" } : Jvm.MethodName) ({ cls := "SlidePark$State", name := "isSlideFree", desc := "(II)Z" } : Jvm.MethodName)) ∈ lw_all := lw_g (lw_at lw_m4 142 rfl) rfl
theorem q928 : (Jvm.Cond.code ({ cls := "SlidePark$State", name := "isSlideFree", desc := "(II)Z" } : Jvm.MethodName) prog_12_method_7_code (5 : Nat) (Option.some Jvm.ClassFile.FieldType.boolean)) ∈ lw_all := lw_g (lw_at lw_m4 143 rfl) rfl
theorem q929 : (Jvm.Cond.methodLink "SlidePark$State" (91 : Nat) ({ cls := "SlidePark$Booking", name := "overlaps", desc := "(II)Z" } : Jvm.MethodName)) ∈ lw_all := lw_g (lw_at lw_m4 144 rfl) rfl
theorem q933 : (Jvm.Cond.methodLink "SlidePark$State" (101 : Nat) ({ cls := "SlidePark$State", name := "isGuestFree", desc := "(III)Z" } : Jvm.MethodName)) ∈ lw_all := lw_g (lw_at lw_m4 148 rfl) rfl
theorem q934 : (Jvm.Cond.privateMethod ({ cls := "SlidePark$State", name := "isGuestFree", desc := "(III)Z" } : Jvm.MethodName)) ∈ lw_tbl := lw_at lw_m4 149 rfl
theorem q935 : (Jvm.Cond.instanceMethod ({ cls := "SlidePark$State", name := "isGuestFree", desc := "(III)Z" } : Jvm.MethodName)) ∈ lw_all := lw_g (lw_at lw_m4 150 rfl) rfl
theorem q936 : (Jvm.Cond.code ({ cls := "SlidePark$State", name := "isGuestFree", desc := "(III)Z" } : Jvm.MethodName) prog_12_method_8_code (5 : Nat) (Option.some Jvm.ClassFile.FieldType.boolean)) ∈ lw_all := lw_g (lw_at lw_m4 151 rfl) rfl
theorem q937 : (Jvm.Cond.methodLinkNest "SlidePark$State" (152 : Nat) ({ cls := "SlidePark", name := "requireSupported", desc := "(Z)V" } : Jvm.MethodName) "SlidePark") ∈ lw_tbl := lw_at lw_m4 152 rfl
theorem q955 : (Jvm.Cond.methodLink "SlidePark$State" (155 : Nat) ({ cls := "SlidePark$State", name := "makeBooking", desc := "(III)I" } : Jvm.MethodName)) ∈ lw_all := lw_g (lw_at lw_m4 170 rfl) rfl
theorem q956 : (Jvm.Cond.privateMethod ({ cls := "SlidePark$State", name := "makeBooking", desc := "(III)I" } : Jvm.MethodName)) ∈ lw_tbl := lw_at lw_m4 171 rfl
theorem q957 : (Jvm.Cond.instanceMethod ({ cls := "SlidePark$State", name := "makeBooking", desc := "(III)I" } : Jvm.MethodName)) ∈ lw_all := lw_g (lw_at lw_m4 172 rfl) rfl
theorem q958 : (Jvm.Cond.code ({ cls := "SlidePark$State", name := "makeBooking", desc := "(III)I" } : Jvm.MethodName) prog_12_method_15_code (4 : Nat) (Option.some Jvm.ClassFile.FieldType.int)) ∈ lw_all := lw_g (lw_at lw_m4 173 rfl) rfl
theorem q959 : (Jvm.Cond.methodLink "SlidePark$State" (107 : Nat) ({ cls := "SlidePark$State", name := "pay", desc := "(II)V" } : Jvm.MethodName)) ∈ lw_all := lw_g (lw_at lw_m4 174 rfl) rfl
theorem q960 : (Jvm.Cond.privateMethod ({ cls := "SlidePark$State", name := "pay", desc := "(II)V" } : Jvm.MethodName)) ∈ lw_tbl := lw_at lw_m4 175 rfl
theorem q961 : (Jvm.Cond.instanceMethod ({ cls := "SlidePark$State", name := "pay", desc := "(II)V" } : Jvm.MethodName)) ∈ lw_all := lw_g (lw_at lw_m4 176 rfl) rfl
theorem q962 : (Jvm.Cond.code ({ cls := "SlidePark$State", name := "pay", desc := "(II)V" } : Jvm.MethodName) prog_12_method_10_code (3 : Nat) (Option.none : Option Jvm.ClassFile.FieldType)) ∈ lw_all := lw_g (lw_at lw_m4 177 rfl) rfl
theorem q964 : (Jvm.Cond.methodLink "SlidePark$State" (137 : Nat) ({ cls := "SlidePark$Booking", name := "<init>", desc := "(IIII)V" } : Jvm.MethodName)) ∈ lw_all := lw_g (lw_at lw_m4 179 rfl) rfl
theorem q969 : (Jvm.Cond.fieldLinkNest "SlidePark$State" (95 : Nat) "SlidePark$Booking" "guest" "I" "SlidePark") ∈ lw_tbl := lw_at lw_m4 184 rfl
theorem q972 : (Jvm.Cond.fieldLinkNest "SlidePark$State" (88 : Nat) "SlidePark$Booking" "slide" "I" "SlidePark") ∈ lw_tbl := lw_at lw_m4 187 rfl
theorem q975 : (Jvm.Cond.fieldLinkNest "SlidePark$State" (163 : Nat) "SlidePark$Booking" "start" "I" "SlidePark") ∈ lw_tbl := lw_at lw_m4 190 rfl
theorem q978 : (Jvm.Cond.fieldLinkNest "SlidePark$State" (217 : Nat) "SlidePark$Booking" "end" "I" "SlidePark") ∈ lw_tbl := lw_at lw_m4 193 rfl
theorem q996 : (Jvm.Cond.instanceMethod ({ cls := "SlidePark$State", name := "cancel", desc := "(I)I" } : Jvm.MethodName)) ∈ lw_all := lw_g (lw_at lw_m4 211 rfl) rfl
theorem q997 : (Jvm.Cond.selects "SlidePark$State" ({ cls := "SlidePark$State", name := "cancel", desc := "(I)I" } : Jvm.MethodName) ({ cls := "SlidePark$State", name := "cancel", desc := "(I)I" } : Jvm.MethodName)) ∈ lw_all := lw_g (lw_at lw_m4 212 rfl) rfl
theorem q998 : (Jvm.Cond.code ({ cls := "SlidePark$State", name := "cancel", desc := "(I)I" } : Jvm.MethodName) prog_12_method_17_code (3 : Nat) (Option.some Jvm.ClassFile.FieldType.int)) ∈ lw_all := lw_g (lw_at lw_m4 213 rfl) rfl
theorem q999 : (Jvm.Cond.methodLink "SlidePark$State" (159 : Nat) ({ cls := "SlidePark$State", name := "booking", desc := "(I)LSlidePark$Booking;" } : Jvm.MethodName)) ∈ lw_all := lw_g (lw_at lw_m4 214 rfl) rfl
theorem q1000 : (Jvm.Cond.instanceMethod ({ cls := "SlidePark$State", name := "booking", desc := "(I)LSlidePark$Booking;" } : Jvm.MethodName)) ∈ lw_all := lw_g (lw_at lw_m4 215 rfl) rfl
theorem q1001 : (Jvm.Cond.selects "SlidePark$State" ({ cls := "SlidePark$State", name := "booking", desc := "(I)LSlidePark$Booking;" } : Jvm.MethodName) ({ cls := "SlidePark$State", name := "booking", desc := "(I)LSlidePark$Booking;" } : Jvm.MethodName)) ∈ lw_all := lw_g (lw_at lw_m4 216 rfl) rfl
theorem q1002 : (Jvm.Cond.code ({ cls := "SlidePark$State", name := "booking", desc := "(I)LSlidePark$Booking;" } : Jvm.MethodName) prog_12_method_5_code (2 : Nat) (Option.some (Jvm.ClassFile.FieldType.object "SlidePark$Booking"))) ∈ lw_all := lw_g (lw_at lw_m4 217 rfl) rfl
theorem q1003 : (Jvm.Cond.methodLink "SlidePark$State" (166 : Nat) ({ cls := "SlidePark$State", name := "payBack", desc := "(II)V" } : Jvm.MethodName)) ∈ lw_all := lw_g (lw_at lw_m4 218 rfl) rfl
theorem q1004 : (Jvm.Cond.privateMethod ({ cls := "SlidePark$State", name := "payBack", desc := "(II)V" } : Jvm.MethodName)) ∈ lw_tbl := lw_at lw_m4 219 rfl
theorem q1005 : (Jvm.Cond.instanceMethod ({ cls := "SlidePark$State", name := "payBack", desc := "(II)V" } : Jvm.MethodName)) ∈ lw_all := lw_g (lw_at lw_m4 220 rfl) rfl
theorem q1006 : (Jvm.Cond.code ({ cls := "SlidePark$State", name := "payBack", desc := "(II)V" } : Jvm.MethodName) prog_12_method_11_code (3 : Nat) (Option.none : Option Jvm.ClassFile.FieldType)) ∈ lw_all := lw_g (lw_at lw_m4 221 rfl) rfl
theorem q1007 : (Jvm.Cond.methodLink "SlidePark$State" (169 : Nat) ({ cls := "java/util/ArrayList", name := "remove", desc := "(I)Ljava/lang/Object;" } : Jvm.MethodName)) ∈ lw_all := lw_g (lw_at lw_m4 222 rfl) rfl
theorem q1016 : (Jvm.Cond.instanceMethod ({ cls := "SlidePark$State", name := "join", desc := "(II)I" } : Jvm.MethodName)) ∈ lw_all := lw_g (lw_at lw_m4 231 rfl) rfl
theorem q1017 : (Jvm.Cond.selects "SlidePark$State" ({ cls := "SlidePark$State", name := "join", desc := "(II)I" } : Jvm.MethodName) ({ cls := "SlidePark$State", name := "join", desc := "(II)I" } : Jvm.MethodName)) ∈ lw_all := lw_g (lw_at lw_m4 232 rfl) rfl
theorem q1018 : (Jvm.Cond.code ({ cls := "SlidePark$State", name := "join", desc := "(II)I" } : Jvm.MethodName) prog_12_method_18_code (4 : Nat) (Option.some Jvm.ClassFile.FieldType.int)) ∈ lw_all := lw_g (lw_at lw_m4 233 rfl) rfl
theorem q1019 : (Jvm.Cond.methodLink "SlidePark$State" (172 : Nat) ({ cls := "SlidePark$State", name := "queueOf", desc := "(I)I" } : Jvm.MethodName)) ∈ lw_all := lw_g (lw_at lw_m4 234 rfl) rfl
theorem q1020 : (Jvm.Cond.instanceMethod ({ cls := "SlidePark$State", name := "queueOf", desc := "(I)I" } : Jvm.MethodName)) ∈ lw_all := lw_g (lw_at lw_m4 235 rfl) rfl
theorem q1021 : (Jvm.Cond.selects "SlidePark$State" ({ cls := "SlidePark$State", name := "queueOf", desc := "(I)I" } : Jvm.MethodName) ({ cls := "SlidePark$State", name := "queueOf", desc := "(I)I" } : Jvm.MethodName)) ∈ lw_all := lw_g (lw_at lw_m4 236 rfl) rfl
theorem q1022 : (Jvm.Cond.code ({ cls := "SlidePark$State", name := "queueOf", desc := "(I)I" } : Jvm.MethodName) prog_12_method_12_code (3 : Nat) (Option.some Jvm.ClassFile.FieldType.int)) ∈ lw_all := lw_g (lw_at lw_m4 237 rfl) rfl
theorem q1023 : (Jvm.Cond.methodLink "SlidePark$State" (115 : Nat) ({ cls := "java/lang/Integer", name := "valueOf", desc := "(I)Ljava/lang/Integer;" } : Jvm.MethodName)) ∈ lw_all := lw_g (lw_at lw_m4 238 rfl) rfl
theorem q1043 : (Jvm.Cond.methodLink "SlidePark$State" (121 : Nat) ({ cls := "SlidePark$Line", name := "contains", desc := "(Ljava/lang/Object;)Z" } : Jvm.MethodName)) ∈ lw_all := lw_g (lw_at lw_m5 18 rfl) rfl
theorem q1072 : (Jvm.Cond.selects "SlidePark$State" ({ cls := "java/lang/Object", name := "equals", desc := "(Ljava/lang/Object;)Z" } : Jvm.MethodName) ({ cls := "java/lang/Object", name := "equals", desc := "(Ljava/lang/Object;)Z" } : Jvm.MethodName)) ∈ lw_all := lw_g (lw_at lw_m5 47 rfl) rfl
theorem q1098 : (Jvm.Cond.methodLink "SlidePark$State" (176 : Nat) ({ cls := "SlidePark$Line", name := "size", desc := "()I" } : Jvm.MethodName)) ∈ lw_all := lw_g (lw_at lw_m5 73 rfl) rfl
theorem q1102 : (Jvm.Cond.methodLink "SlidePark$State" (177 : Nat) ({ cls := "SlidePark$Line", name := "join", desc := "(Ljava/lang/Object;)V" } : Jvm.MethodName)) ∈ lw_all := lw_g (lw_at lw_m5 77 rfl) rfl
theorem q1115 : (Jvm.Cond.instanceMethod ({ cls := "SlidePark$State", name := "leave", desc := "(I)I" } : Jvm.MethodName)) ∈ lw_all := lw_g (lw_at lw_m5 90 rfl) rfl
theorem q1116 : (Jvm.Cond.selects "SlidePark$State" ({ cls := "SlidePark$State", name := "leave", desc := "(I)I" } : Jvm.MethodName) ({ cls := "SlidePark$State", name := "leave", desc := "(I)I" } : Jvm.MethodName)) ∈ lw_all := lw_g (lw_at lw_m5 91 rfl) rfl
theorem q1117 : (Jvm.Cond.code ({ cls := "SlidePark$State", name := "leave", desc := "(I)I" } : Jvm.MethodName) prog_12_method_19_code (3 : Nat) (Option.some Jvm.ClassFile.FieldType.int)) ∈ lw_all := lw_g (lw_at lw_m5 92 rfl) rfl
theorem q1118 : (Jvm.Cond.methodLinkNest "SlidePark$State" (181 : Nat) ({ cls := "SlidePark", name := "requireElement", desc := "(Z)V" } : Jvm.MethodName) "SlidePark") ∈ lw_tbl := lw_at lw_m5 93 rfl
theorem q1121 : (Jvm.Cond.methodLink "SlidePark$State" (184 : Nat) ({ cls := "SlidePark$Line", name := "remove", desc := "(Ljava/lang/Object;)Z" } : Jvm.MethodName)) ∈ lw_all := lw_g (lw_at lw_m5 96 rfl) rfl
theorem q1137 : (Jvm.Cond.instanceMethod ({ cls := "SlidePark$State", name := "passMinutes", desc := "(I)I" } : Jvm.MethodName)) ∈ lw_all := lw_g (lw_at lw_m5 112 rfl) rfl
theorem q1138 : (Jvm.Cond.selects "SlidePark$State" ({ cls := "SlidePark$State", name := "passMinutes", desc := "(I)I" } : Jvm.MethodName) ({ cls := "SlidePark$State", name := "passMinutes", desc := "(I)I" } : Jvm.MethodName)) ∈ lw_all := lw_g (lw_at lw_m5 113 rfl) rfl
theorem q1139 : (Jvm.Cond.code ({ cls := "SlidePark$State", name := "passMinutes", desc := "(I)I" } : Jvm.MethodName) prog_12_method_25_code (4 : Nat) (Option.some Jvm.ClassFile.FieldType.int)) ∈ lw_all := lw_g (lw_at lw_m5 114 rfl) rfl
theorem q1140 : (Jvm.Cond.methodLink "SlidePark$State" (240 : Nat) ({ cls := "SlidePark$State", name := "passMinute", desc := "()I" } : Jvm.MethodName)) ∈ lw_all := lw_g (lw_at lw_m5 115 rfl) rfl
theorem q1141 : (Jvm.Cond.privateMethod ({ cls := "SlidePark$State", name := "passMinute", desc := "()I" } : Jvm.MethodName)) ∈ lw_tbl := lw_at lw_m5 116 rfl
theorem q1142 : (Jvm.Cond.instanceMethod ({ cls := "SlidePark$State", name := "passMinute", desc := "()I" } : Jvm.MethodName)) ∈ lw_all := lw_g (lw_at lw_m5 117 rfl) rfl
theorem q1143 : (Jvm.Cond.code ({ cls := "SlidePark$State", name := "passMinute", desc := "()I" } : Jvm.MethodName) prog_12_method_24_code (2 : Nat) (Option.some Jvm.ClassFile.FieldType.int)) ∈ lw_all := lw_g (lw_at lw_m5 118 rfl) rfl
theorem q1144 : (Jvm.Cond.methodLink "SlidePark$State" (224 : Nat) ({ cls := "SlidePark$Line", name := "isEmpty", desc := "()Z" } : Jvm.MethodName)) ∈ lw_all := lw_g (lw_at lw_m5 119 rfl) rfl
theorem q1152 : (Jvm.Cond.methodLink "SlidePark$State" (227 : Nat) ({ cls := "SlidePark$State", name := "callFirst", desc := "(I)V" } : Jvm.MethodName)) ∈ lw_all := lw_g (lw_at lw_m5 127 rfl) rfl
theorem q1153 : (Jvm.Cond.privateMethod ({ cls := "SlidePark$State", name := "callFirst", desc := "(I)V" } : Jvm.MethodName)) ∈ lw_tbl := lw_at lw_m5 128 rfl
theorem q1154 : (Jvm.Cond.instanceMethod ({ cls := "SlidePark$State", name := "callFirst", desc := "(I)V" } : Jvm.MethodName)) ∈ lw_all := lw_g (lw_at lw_m5 129 rfl) rfl
theorem q1155 : (Jvm.Cond.code ({ cls := "SlidePark$State", name := "callFirst", desc := "(I)V" } : Jvm.MethodName) prog_12_method_20_code (4 : Nat) (Option.none : Option Jvm.ClassFile.FieldType)) ∈ lw_all := lw_g (lw_at lw_m5 130 rfl) rfl
theorem q1156 : (Jvm.Cond.methodLink "SlidePark$State" (186 : Nat) ({ cls := "SlidePark$Line", name := "first", desc := "()Ljava/lang/Object;" } : Jvm.MethodName)) ∈ lw_all := lw_g (lw_at lw_m5 131 rfl) rfl
theorem q1160 : (Jvm.Cond.classLink "SlidePark$State" (116 : Nat) "java/lang/Integer") ∈ lw_all := lw_g (lw_at lw_m5 135 rfl) rfl
theorem q1161 : (Jvm.Cond.methodLink "SlidePark$State" (190 : Nat) ({ cls := "java/lang/Integer", name := "intValue", desc := "()I" } : Jvm.MethodName)) ∈ lw_all := lw_g (lw_at lw_m5 136 rfl) rfl
theorem q1162 : (Jvm.Cond.methodLink "SlidePark$State" (193 : Nat) ({ cls := "SlidePark$Line", name := "removeFirst", desc := "()V" } : Jvm.MethodName)) ∈ lw_all := lw_g (lw_at lw_m5 137 rfl) rfl
theorem q1167 : (Jvm.Cond.methodLink "SlidePark$State" (230 : Nat) ({ cls := "SlidePark$State", name := "bookingAt", desc := "(II)LSlidePark$Booking;" } : Jvm.MethodName)) ∈ lw_all := lw_g (lw_at lw_m5 142 rfl) rfl
theorem q1168 : (Jvm.Cond.instanceMethod ({ cls := "SlidePark$State", name := "bookingAt", desc := "(II)LSlidePark$Booking;" } : Jvm.MethodName)) ∈ lw_all := lw_g (lw_at lw_m5 143 rfl) rfl
theorem q1169 : (Jvm.Cond.selects "SlidePark$State" ({ cls := "SlidePark$State", name := "bookingAt", desc := "(II)LSlidePark$Booking;" } : Jvm.MethodName) ({ cls := "SlidePark$State", name := "bookingAt", desc := "(II)LSlidePark$Booking;" } : Jvm.MethodName)) ∈ lw_all := lw_g (lw_at lw_m5 144 rfl) rfl
theorem q1170 : (Jvm.Cond.code ({ cls := "SlidePark$State", name := "bookingAt", desc := "(II)LSlidePark$Booking;" } : Jvm.MethodName) prog_12_method_21_code (4 : Nat) (Option.some (Jvm.ClassFile.FieldType.object "SlidePark$Booking"))) ∈ lw_all := lw_g (lw_at lw_m5 145 rfl) rfl
theorem q1171 : (Jvm.Cond.methodLink "SlidePark$State" (234 : Nat) ({ cls := "SlidePark$Slide", name := "dry", desc := "()V" } : Jvm.MethodName)) ∈ lw_all := lw_g (lw_at lw_m5 146 rfl) rfl
theorem q1176 : (Jvm.Cond.methodLink "SlidePark$State" (237 : Nat) ({ cls := "SlidePark$State", name := "finishAll", desc := "()I" } : Jvm.MethodName)) ∈ lw_all := lw_g (lw_at lw_m5 151 rfl) rfl
theorem q1177 : (Jvm.Cond.privateMethod ({ cls := "SlidePark$State", name := "finishAll", desc := "()I" } : Jvm.MethodName)) ∈ lw_tbl := lw_at lw_m5 152 rfl
theorem q1178 : (Jvm.Cond.instanceMethod ({ cls := "SlidePark$State", name := "finishAll", desc := "()I" } : Jvm.MethodName)) ∈ lw_all := lw_g (lw_at lw_m5 153 rfl) rfl
theorem q1179 : (Jvm.Cond.code ({ cls := "SlidePark$State", name := "finishAll", desc := "()I" } : Jvm.MethodName) prog_12_method_23_code (3 : Nat) (Option.some Jvm.ClassFile.FieldType.int)) ∈ lw_all := lw_g (lw_at lw_m5 154 rfl) rfl
theorem q1180 : (Jvm.Cond.methodLink "SlidePark$State" (220 : Nat) ({ cls := "SlidePark$State", name := "finish", desc := "(LSlidePark$Booking;)V" } : Jvm.MethodName)) ∈ lw_all := lw_g (lw_at lw_m5 155 rfl) rfl
theorem q1181 : (Jvm.Cond.privateMethod ({ cls := "SlidePark$State", name := "finish", desc := "(LSlidePark$Booking;)V" } : Jvm.MethodName)) ∈ lw_tbl := lw_at lw_m5 156 rfl
theorem q1182 : (Jvm.Cond.instanceMethod ({ cls := "SlidePark$State", name := "finish", desc := "(LSlidePark$Booking;)V" } : Jvm.MethodName)) ∈ lw_all := lw_g (lw_at lw_m5 157 rfl) rfl
theorem q1183 : (Jvm.Cond.code ({ cls := "SlidePark$State", name := "finish", desc := "(LSlidePark$Booking;)V" } : Jvm.MethodName) prog_12_method_22_code (3 : Nat) (Option.none : Option Jvm.ClassFile.FieldType)) ∈ lw_all := lw_g (lw_at lw_m5 158 rfl) rfl
theorem q1184 : (Jvm.Cond.methodLink "SlidePark$State" (200 : Nat) ({ cls := "SlidePark$Slide", name := "isWet", desc := "()Z" } : Jvm.MethodName)) ∈ lw_all := lw_g (lw_at lw_m5 159 rfl) rfl
theorem q1188 : (Jvm.Cond.methodLink "SlidePark$State" (204 : Nat) ({ cls := "SlidePark$Slide", name := "becomeWetter", desc := "()V" } : Jvm.MethodName)) ∈ lw_all := lw_g (lw_at lw_m5 163 rfl) rfl
theorem q1194 : (Jvm.Cond.methodLink "SlidePark$State" (212 : Nat) ({ cls := "SlidePark$Finish", name := "<init>", desc := "(III)V" } : Jvm.MethodName)) ∈ lw_all := lw_g (lw_at lw_m5 169 rfl) rfl
theorem q1203 : (Jvm.Cond.fieldLinkNest "SlidePark$State" (262 : Nat) "SlidePark$Finish" "minute" "I" "SlidePark") ∈ lw_tbl := lw_at lw_m5 178 rfl
theorem q1212 : (Jvm.Cond.methodLink "SlidePark$State" (215 : Nat) ({ cls := "SlidePark$Latest", name := "add", desc := "(Ljava/lang/Object;)V" } : Jvm.MethodName)) ∈ lw_all := lw_g (lw_at lw_m5 187 rfl) rfl
theorem q1337 : (Jvm.Cond.instanceMethod ({ cls := "SlidePark$State", name := "firstFree", desc := "(II)I" } : Jvm.MethodName)) ∈ lw_all := lw_g (lw_at lw_m6 72 rfl) rfl
theorem q1338 : (Jvm.Cond.selects "SlidePark$State" ({ cls := "SlidePark$State", name := "firstFree", desc := "(II)I" } : Jvm.MethodName) ({ cls := "SlidePark$State", name := "firstFree", desc := "(II)I" } : Jvm.MethodName)) ∈ lw_all := lw_g (lw_at lw_m6 73 rfl) rfl
theorem q1339 : (Jvm.Cond.code ({ cls := "SlidePark$State", name := "firstFree", desc := "(II)I" } : Jvm.MethodName) prog_12_method_26_code (4 : Nat) (Option.some Jvm.ClassFile.FieldType.int)) ∈ lw_all := lw_g (lw_at lw_m6 74 rfl) rfl
theorem q1351 : (Jvm.Cond.instanceMethod ({ cls := "SlidePark$State", name := "firstFreeByGaps", desc := "(II)I" } : Jvm.MethodName)) ∈ lw_all := lw_g (lw_at lw_m6 86 rfl) rfl
theorem q1352 : (Jvm.Cond.selects "SlidePark$State" ({ cls := "SlidePark$State", name := "firstFreeByGaps", desc := "(II)I" } : Jvm.MethodName) ({ cls := "SlidePark$State", name := "firstFreeByGaps", desc := "(II)I" } : Jvm.MethodName)) ∈ lw_all := lw_g (lw_at lw_m6 87 rfl) rfl
theorem q1353 : (Jvm.Cond.code ({ cls := "SlidePark$State", name := "firstFreeByGaps", desc := "(II)I" } : Jvm.MethodName) prog_12_method_28_code (7 : Nat) (Option.some Jvm.ClassFile.FieldType.int)) ∈ lw_all := lw_g (lw_at lw_m6 88 rfl) rfl
theorem q1354 : (Jvm.Cond.methodLink "SlidePark$State" (247 : Nat) ({ cls := "SlidePark$State", name := "ofSlide", desc := "(I)Ljava/util/ArrayList;" } : Jvm.MethodName)) ∈ lw_all := lw_g (lw_at lw_m6 89 rfl) rfl
theorem q1355 : (Jvm.Cond.instanceMethod ({ cls := "SlidePark$State", name := "ofSlide", desc := "(I)Ljava/util/ArrayList;" } : Jvm.MethodName)) ∈ lw_all := lw_g (lw_at lw_m6 90 rfl) rfl
theorem q1356 : (Jvm.Cond.selects "SlidePark$State" ({ cls := "SlidePark$State", name := "ofSlide", desc := "(I)Ljava/util/ArrayList;" } : Jvm.MethodName) ({ cls := "SlidePark$State", name := "ofSlide", desc := "(I)Ljava/util/ArrayList;" } : Jvm.MethodName)) ∈ lw_all := lw_g (lw_at lw_m6 91 rfl) rfl
theorem q1357 : (Jvm.Cond.code ({ cls := "SlidePark$State", name := "ofSlide", desc := "(I)Ljava/util/ArrayList;" } : Jvm.MethodName) prog_12_method_27_code (5 : Nat) (Option.some (Jvm.ClassFile.FieldType.object "java/util/ArrayList"))) ∈ lw_all := lw_g (lw_at lw_m6 92 rfl) rfl
theorem q2396 : (Jvm.Cond.castable "SlidePark$State" "java/lang/Object") ∈ lw_tbl := lw_at lw_m10 171 rfl
theorem in_X2 : ∀ w ∈ wsX20, w ∈ lw_all := lw_in wsX20 [180, 182, 184, 186, 188, 190, 192, 194] (by decide +kernel) (by decide +kernel)

/-! SlidePark$Latest -/
set_option maxRecDepth 100000
def RX3 : String := "SlidePark$Latest"
def TX3 : u_T := fun k => match k with
  | 0 => ("SlidePark$Latest", "items", "Ljava/util/ArrayList;", true)
  | _ => ("SlidePark$Latest", "most", "I", true)
def tyX3 : Nat → FieldType := fun k => match k with
  | 0 => .object "java/util/ArrayList"
  | _ => .int
abbrev wsX30 : List Cond := u_ws RX3 TX3 2
theorem nmX3 : ∀ a, a < 2 → ∀ b, b < 2 → a ≠ b → (TX3 a).2.1 ≠ (TX3 b).2.1 := by decide +kernel
theorem tyX3_ok : ∀ k, k < 2 → parseFieldDescriptor (TX3 k).2.2.1 = some (tyX3 k) := by decide +kernel
abbrev cX3_init : ByteArray := prog_6_method_1_code
def yX3_init : MethodName := ⟨RX3, "<init>", "(I)V"⟩
def dkwX3_init_0 : List UInt8 := [42, 183, 0, 1, 42, 187, 0, 7, 89, 183, 0, 9, 181, 0, 10, 42, 27, 181, 0, 16, 177]
abbrev dktX3_init_0 : List UInt8 := dkwX3_init_0 ++ []
theorem dksX3_init_0 : cX3_init.data.toList.drop 0 = dktX3_init_0 := by decide +kernel
theorem dX3_init_0 : decode cX3_init 0 = .ok (.aload_n 0, 1) := dk_42 (dk_at dksX3_init_0 0 rfl rfl)
theorem dX3_init_1 : decode cX3_init 1 = .ok (.invokespecial 1, 3) := dk_183 0 1 (dk_at dksX3_init_0 1 rfl rfl)
theorem dX3_init_4 : decode cX3_init 4 = .ok (.aload_n 0, 1) := dk_42 (dk_at dksX3_init_0 4 rfl rfl)
theorem dX3_init_5 : decode cX3_init 5 = .ok (.new 7, 3) := dk_187 0 7 (dk_at dksX3_init_0 5 rfl rfl)
theorem dX3_init_8 : decode cX3_init 8 = .ok (.dup, 1) := dk_89 (dk_at dksX3_init_0 8 rfl rfl)
theorem dX3_init_9 : decode cX3_init 9 = .ok (.invokespecial 9, 3) := dk_183 0 9 (dk_at dksX3_init_0 9 rfl rfl)
theorem dX3_init_12 : decode cX3_init 12 = .ok (.putfield 10, 3) := dk_181 0 10 (dk_at dksX3_init_0 12 rfl rfl)
theorem dX3_init_15 : decode cX3_init 15 = .ok (.aload_n 0, 1) := dk_42 (dk_at dksX3_init_0 15 rfl rfl)
theorem dX3_init_16 : decode cX3_init 16 = .ok (.iload_n 1, 1) := dk_27 (dk_at dksX3_init_0 16 rfl rfl)
theorem dX3_init_17 : decode cX3_init 17 = .ok (.putfield 16, 3) := dk_181 0 16 (dk_at dksX3_init_0 17 rfl rfl)
theorem dX3_init_20 : decode cX3_init 20 = .ok (.return_, 1) := dk_177 (dk_at dksX3_init_0 20 rfl rfl)
abbrev cX3_size : ByteArray := prog_6_method_3_code
def yX3_size : MethodName := ⟨RX3, "size", "()I"⟩
def dkwX3_size_0 : List UInt8 := [42, 180, 0, 10, 182, 0, 20, 172]
abbrev dktX3_size_0 : List UInt8 := dkwX3_size_0 ++ []
theorem dksX3_size_0 : cX3_size.data.toList.drop 0 = dktX3_size_0 := by decide +kernel
theorem dX3_size_0 : decode cX3_size 0 = .ok (.aload_n 0, 1) := dk_42 (dk_at dksX3_size_0 0 rfl rfl)
theorem dX3_size_1 : decode cX3_size 1 = .ok (.getfield 10, 3) := dk_180 0 10 (dk_at dksX3_size_0 1 rfl rfl)
theorem dX3_size_4 : decode cX3_size 4 = .ok (.invokevirtual 20, 3) := dk_182 0 20 (dk_at dksX3_size_0 4 rfl rfl)
theorem dX3_size_7 : decode cX3_size 7 = .ok (.ireturn, 1) := dk_172 (dk_at dksX3_size_0 7 rfl rfl)
abbrev cX3_get : ByteArray := prog_6_method_4_code
def yX3_get : MethodName := ⟨RX3, "get", "(I)Ljava/lang/Object;"⟩
def dkwX3_get_0 : List UInt8 := [42, 180, 0, 10, 27, 182, 0, 32, 176]
abbrev dktX3_get_0 : List UInt8 := dkwX3_get_0 ++ []
theorem dksX3_get_0 : cX3_get.data.toList.drop 0 = dktX3_get_0 := by decide +kernel
theorem dX3_get_0 : decode cX3_get 0 = .ok (.aload_n 0, 1) := dk_42 (dk_at dksX3_get_0 0 rfl rfl)
theorem dX3_get_1 : decode cX3_get 1 = .ok (.getfield 10, 3) := dk_180 0 10 (dk_at dksX3_get_0 1 rfl rfl)
theorem dX3_get_4 : decode cX3_get 4 = .ok (.iload_n 1, 1) := dk_27 (dk_at dksX3_get_0 4 rfl rfl)
theorem dX3_get_5 : decode cX3_get 5 = .ok (.invokevirtual 32, 3) := dk_182 0 32 (dk_at dksX3_get_0 5 rfl rfl)
theorem dX3_get_8 : decode cX3_get 8 = .ok (.areturn, 1) := dk_176 (dk_at dksX3_get_0 8 rfl rfl)
abbrev cX3_copy : ByteArray := prog_6_method_9_code
def yX3_copy : MethodName := ⟨RX3, "copy", "()Ljava/lang/Object;"⟩
theorem dX3_copy_0 : decode cX3_copy 0 = .ok (.aload_n 0, 1) := by decide +kernel
theorem dX3_copy_1 : decode cX3_copy 1 = .ok (.invokevirtual 51, 3) := by decide +kernel
theorem dX3_copy_4 : decode cX3_copy 4 = .ok (.areturn, 1) := by decide +kernel
abbrev cX3_copy_2 : ByteArray := prog_6_method_8_code
def yX3_copy_2 : MethodName := ⟨RX3, "copy", "()LSlidePark$Latest;"⟩
def dkwX3_copy_2_2 : List UInt8 := [167, 255, 226, 43, 176]
abbrev dktX3_copy_2_2 : List UInt8 := dkwX3_copy_2_2 ++ []
def dkwX3_copy_2_1 : List UInt8 := [162, 0, 25, 43, 180, 0, 10, 42, 180, 0, 10, 28, 182, 0, 32, 182, 0, 28, 87, 132, 2, 1]
abbrev dktX3_copy_2_1 : List UInt8 := dkwX3_copy_2_1 ++ dktX3_copy_2_2
def dkwX3_copy_2_0 : List UInt8 := [187, 0, 11, 89, 42, 180, 0, 16, 183, 0, 48, 76, 3, 61, 28, 42, 180, 0, 10, 182, 0, 20]
abbrev dktX3_copy_2_0 : List UInt8 := dkwX3_copy_2_0 ++ dktX3_copy_2_1
theorem dksX3_copy_2_0 : cX3_copy_2.data.toList.drop 0 = dktX3_copy_2_0 := by decide +kernel
theorem dksX3_copy_2_1 : cX3_copy_2.data.toList.drop 22 = dktX3_copy_2_1 := dk_seg dksX3_copy_2_0 22 rfl rfl
theorem dksX3_copy_2_2 : cX3_copy_2.data.toList.drop 44 = dktX3_copy_2_2 := dk_seg dksX3_copy_2_1 22 rfl rfl
theorem dX3_copy_2_0 : decode cX3_copy_2 0 = .ok (.new 11, 3) := dk_187 0 11 (dk_at dksX3_copy_2_0 0 rfl rfl)
theorem dX3_copy_2_3 : decode cX3_copy_2 3 = .ok (.dup, 1) := dk_89 (dk_at dksX3_copy_2_0 3 rfl rfl)
theorem dX3_copy_2_4 : decode cX3_copy_2 4 = .ok (.aload_n 0, 1) := dk_42 (dk_at dksX3_copy_2_0 4 rfl rfl)
theorem dX3_copy_2_5 : decode cX3_copy_2 5 = .ok (.getfield 16, 3) := dk_180 0 16 (dk_at dksX3_copy_2_0 5 rfl rfl)
theorem dX3_copy_2_8 : decode cX3_copy_2 8 = .ok (.invokespecial 48, 3) := dk_183 0 48 (dk_at dksX3_copy_2_0 8 rfl rfl)
theorem dX3_copy_2_11 : decode cX3_copy_2 11 = .ok (.astore_n 1, 1) := dk_76 (dk_at dksX3_copy_2_0 11 rfl rfl)
theorem dX3_copy_2_12 : decode cX3_copy_2 12 = .ok (.iconst 0, 1) := dk_3 (dk_at dksX3_copy_2_0 12 rfl rfl)
theorem dX3_copy_2_13 : decode cX3_copy_2 13 = .ok (.istore_n 2, 1) := dk_61 (dk_at dksX3_copy_2_0 13 rfl rfl)
theorem dX3_copy_2_14 : decode cX3_copy_2 14 = .ok (.iload_n 2, 1) := dk_28 (dk_at dksX3_copy_2_0 14 rfl rfl)
theorem dX3_copy_2_15 : decode cX3_copy_2 15 = .ok (.aload_n 0, 1) := dk_42 (dk_at dksX3_copy_2_0 15 rfl rfl)
theorem dX3_copy_2_16 : decode cX3_copy_2 16 = .ok (.getfield 10, 3) := dk_180 0 10 (dk_at dksX3_copy_2_0 16 rfl rfl)
theorem dX3_copy_2_19 : decode cX3_copy_2 19 = .ok (.invokevirtual 20, 3) := dk_182 0 20 (dk_at dksX3_copy_2_0 19 rfl rfl)
theorem dX3_copy_2_22 : decode cX3_copy_2 22 = .ok (.if_icmp .ge 25, 3) := dk_162 0 25 (dk_at dksX3_copy_2_1 0 rfl rfl)
theorem dX3_copy_2_25 : decode cX3_copy_2 25 = .ok (.aload_n 1, 1) := dk_43 (dk_at dksX3_copy_2_1 3 rfl rfl)
theorem dX3_copy_2_26 : decode cX3_copy_2 26 = .ok (.getfield 10, 3) := dk_180 0 10 (dk_at dksX3_copy_2_1 4 rfl rfl)
theorem dX3_copy_2_29 : decode cX3_copy_2 29 = .ok (.aload_n 0, 1) := dk_42 (dk_at dksX3_copy_2_1 7 rfl rfl)
theorem dX3_copy_2_30 : decode cX3_copy_2 30 = .ok (.getfield 10, 3) := dk_180 0 10 (dk_at dksX3_copy_2_1 8 rfl rfl)
theorem dX3_copy_2_33 : decode cX3_copy_2 33 = .ok (.iload_n 2, 1) := dk_28 (dk_at dksX3_copy_2_1 11 rfl rfl)
theorem dX3_copy_2_34 : decode cX3_copy_2 34 = .ok (.invokevirtual 32, 3) := dk_182 0 32 (dk_at dksX3_copy_2_1 12 rfl rfl)
theorem dX3_copy_2_37 : decode cX3_copy_2 37 = .ok (.invokevirtual 28, 3) := dk_182 0 28 (dk_at dksX3_copy_2_1 15 rfl rfl)
theorem dX3_copy_2_40 : decode cX3_copy_2 40 = .ok (.pop, 1) := dk_87 (dk_at dksX3_copy_2_1 18 rfl rfl)
theorem dX3_copy_2_41 : decode cX3_copy_2 41 = .ok (.iinc 2 1, 3) := dk_132 2 1 (dk_at dksX3_copy_2_1 19 rfl rfl)
theorem dX3_copy_2_44 : decode cX3_copy_2 44 = .ok (.goto (-30), 3) := dk_167 255 226 (dk_at dksX3_copy_2_2 0 rfl rfl)
theorem dX3_copy_2_47 : decode cX3_copy_2 47 = .ok (.aload_n 1, 1) := dk_43 (dk_at dksX3_copy_2_2 3 rfl rfl)
theorem dX3_copy_2_48 : decode cX3_copy_2 48 = .ok (.areturn, 1) := dk_176 (dk_at dksX3_copy_2_2 4 rfl rfl)
abbrev cX3_add : ByteArray := prog_6_method_2_code
def yX3_add : MethodName := ⟨RX3, "add", "(Ljava/lang/Object;)V"⟩
def dkwX3_add_1 : List UInt8 := [180, 0, 10, 43, 182, 0, 28, 87, 177]
abbrev dktX3_add_1 : List UInt8 := dkwX3_add_1 ++ []
def dkwX3_add_0 : List UInt8 := [42, 180, 0, 10, 182, 0, 20, 42, 180, 0, 16, 160, 0, 12, 42, 180, 0, 10, 3, 182, 0, 24, 87, 42]
abbrev dktX3_add_0 : List UInt8 := dkwX3_add_0 ++ dktX3_add_1
theorem dksX3_add_0 : cX3_add.data.toList.drop 0 = dktX3_add_0 := by decide +kernel
theorem dksX3_add_1 : cX3_add.data.toList.drop 24 = dktX3_add_1 := dk_seg dksX3_add_0 24 rfl rfl
theorem dX3_add_0 : decode cX3_add 0 = .ok (.aload_n 0, 1) := dk_42 (dk_at dksX3_add_0 0 rfl rfl)
theorem dX3_add_1 : decode cX3_add 1 = .ok (.getfield 10, 3) := dk_180 0 10 (dk_at dksX3_add_0 1 rfl rfl)
theorem dX3_add_4 : decode cX3_add 4 = .ok (.invokevirtual 20, 3) := dk_182 0 20 (dk_at dksX3_add_0 4 rfl rfl)
theorem dX3_add_7 : decode cX3_add 7 = .ok (.aload_n 0, 1) := dk_42 (dk_at dksX3_add_0 7 rfl rfl)
theorem dX3_add_8 : decode cX3_add 8 = .ok (.getfield 16, 3) := dk_180 0 16 (dk_at dksX3_add_0 8 rfl rfl)
theorem dX3_add_11 : decode cX3_add 11 = .ok (.if_icmp .ne 12, 3) := dk_160 0 12 (dk_at dksX3_add_0 11 rfl rfl)
theorem dX3_add_14 : decode cX3_add 14 = .ok (.aload_n 0, 1) := dk_42 (dk_at dksX3_add_0 14 rfl rfl)
theorem dX3_add_15 : decode cX3_add 15 = .ok (.getfield 10, 3) := dk_180 0 10 (dk_at dksX3_add_0 15 rfl rfl)
theorem dX3_add_18 : decode cX3_add 18 = .ok (.iconst 0, 1) := dk_3 (dk_at dksX3_add_0 18 rfl rfl)
theorem dX3_add_19 : decode cX3_add 19 = .ok (.invokevirtual 24, 3) := dk_182 0 24 (dk_at dksX3_add_0 19 rfl rfl)
theorem dX3_add_22 : decode cX3_add 22 = .ok (.pop, 1) := dk_87 (dk_at dksX3_add_0 22 rfl rfl)
theorem dX3_add_23 : decode cX3_add 23 = .ok (.aload_n 0, 1) := dk_42 (dk_at dksX3_add_0 23 rfl rfl)
theorem dX3_add_24 : decode cX3_add 24 = .ok (.getfield 10, 3) := dk_180 0 10 (dk_at dksX3_add_1 0 rfl rfl)
theorem dX3_add_27 : decode cX3_add 27 = .ok (.aload_n 1, 1) := dk_43 (dk_at dksX3_add_1 3 rfl rfl)
theorem dX3_add_28 : decode cX3_add 28 = .ok (.invokevirtual 28, 3) := dk_182 0 28 (dk_at dksX3_add_1 4 rfl rfl)
theorem dX3_add_31 : decode cX3_add 31 = .ok (.pop, 1) := dk_87 (dk_at dksX3_add_1 7 rfl rfl)
theorem dX3_add_32 : decode cX3_add 32 = .ok (.return_, 1) := dk_177 (dk_at dksX3_add_1 8 rfl rfl)
abbrev cX3_back : ByteArray := prog_6_method_5_code
def yX3_back : MethodName := ⟨RX3, "back", "(I)Ljava/lang/Object;"⟩
def dkwX3_back_1 : List UInt8 := [180, 0, 10, 182, 0, 20, 4, 100, 27, 100, 182, 0, 32, 176]
abbrev dktX3_back_1 : List UInt8 := dkwX3_back_1 ++ []
def dkwX3_back_0 : List UInt8 := [27, 3, 42, 180, 0, 10, 182, 0, 20, 4, 100, 184, 0, 35, 184, 0, 41, 42, 180, 0, 10, 42]
abbrev dktX3_back_0 : List UInt8 := dkwX3_back_0 ++ dktX3_back_1
theorem dksX3_back_0 : cX3_back.data.toList.drop 0 = dktX3_back_0 := by decide +kernel
theorem dksX3_back_1 : cX3_back.data.toList.drop 22 = dktX3_back_1 := dk_seg dksX3_back_0 22 rfl rfl
theorem dX3_back_0 : decode cX3_back 0 = .ok (.iload_n 1, 1) := dk_27 (dk_at dksX3_back_0 0 rfl rfl)
theorem dX3_back_1 : decode cX3_back 1 = .ok (.iconst 0, 1) := dk_3 (dk_at dksX3_back_0 1 rfl rfl)
theorem dX3_back_2 : decode cX3_back 2 = .ok (.aload_n 0, 1) := dk_42 (dk_at dksX3_back_0 2 rfl rfl)
theorem dX3_back_3 : decode cX3_back 3 = .ok (.getfield 10, 3) := dk_180 0 10 (dk_at dksX3_back_0 3 rfl rfl)
theorem dX3_back_6 : decode cX3_back 6 = .ok (.invokevirtual 20, 3) := dk_182 0 20 (dk_at dksX3_back_0 6 rfl rfl)
theorem dX3_back_9 : decode cX3_back 9 = .ok (.iconst 1, 1) := dk_4 (dk_at dksX3_back_0 9 rfl rfl)
theorem dX3_back_10 : decode cX3_back 10 = .ok (.isub, 1) := dk_100 (dk_at dksX3_back_0 10 rfl rfl)
theorem dX3_back_11 : decode cX3_back 11 = .ok (.invokestatic 35, 3) := dk_184 0 35 (dk_at dksX3_back_0 11 rfl rfl)
theorem dX3_back_14 : decode cX3_back 14 = .ok (.invokestatic 41, 3) := dk_184 0 41 (dk_at dksX3_back_0 14 rfl rfl)
theorem dX3_back_17 : decode cX3_back 17 = .ok (.aload_n 0, 1) := dk_42 (dk_at dksX3_back_0 17 rfl rfl)
theorem dX3_back_18 : decode cX3_back 18 = .ok (.getfield 10, 3) := dk_180 0 10 (dk_at dksX3_back_0 18 rfl rfl)
theorem dX3_back_21 : decode cX3_back 21 = .ok (.aload_n 0, 1) := dk_42 (dk_at dksX3_back_0 21 rfl rfl)
theorem dX3_back_22 : decode cX3_back 22 = .ok (.getfield 10, 3) := dk_180 0 10 (dk_at dksX3_back_1 0 rfl rfl)
theorem dX3_back_25 : decode cX3_back 25 = .ok (.invokevirtual 20, 3) := dk_182 0 20 (dk_at dksX3_back_1 3 rfl rfl)
theorem dX3_back_28 : decode cX3_back 28 = .ok (.iconst 1, 1) := dk_4 (dk_at dksX3_back_1 6 rfl rfl)
theorem dX3_back_29 : decode cX3_back 29 = .ok (.isub, 1) := dk_100 (dk_at dksX3_back_1 7 rfl rfl)
theorem dX3_back_30 : decode cX3_back 30 = .ok (.iload_n 1, 1) := dk_27 (dk_at dksX3_back_1 8 rfl rfl)
theorem dX3_back_31 : decode cX3_back 31 = .ok (.isub, 1) := dk_100 (dk_at dksX3_back_1 9 rfl rfl)
theorem dX3_back_32 : decode cX3_back 32 = .ok (.invokevirtual 32, 3) := dk_182 0 32 (dk_at dksX3_back_1 10 rfl rfl)
theorem dX3_back_35 : decode cX3_back 35 = .ok (.areturn, 1) := dk_176 (dk_at dksX3_back_1 13 rfl rfl)
abbrev cX3_takeLast : ByteArray := prog_6_method_6_code
def yX3_takeLast : MethodName := ⟨RX3, "takeLast", "()Ljava/lang/Object;"⟩
def dkwX3_takeLast_0 : List UInt8 := [42, 180, 0, 10, 42, 180, 0, 10, 182, 0, 20, 4, 100, 182, 0, 24, 176]
abbrev dktX3_takeLast_0 : List UInt8 := dkwX3_takeLast_0 ++ []
theorem dksX3_takeLast_0 : cX3_takeLast.data.toList.drop 0 = dktX3_takeLast_0 := by decide +kernel
theorem dX3_takeLast_0 : decode cX3_takeLast 0 = .ok (.aload_n 0, 1) := dk_42 (dk_at dksX3_takeLast_0 0 rfl rfl)
theorem dX3_takeLast_1 : decode cX3_takeLast 1 = .ok (.getfield 10, 3) := dk_180 0 10 (dk_at dksX3_takeLast_0 1 rfl rfl)
theorem dX3_takeLast_4 : decode cX3_takeLast 4 = .ok (.aload_n 0, 1) := dk_42 (dk_at dksX3_takeLast_0 4 rfl rfl)
theorem dX3_takeLast_5 : decode cX3_takeLast 5 = .ok (.getfield 10, 3) := dk_180 0 10 (dk_at dksX3_takeLast_0 5 rfl rfl)
theorem dX3_takeLast_8 : decode cX3_takeLast 8 = .ok (.invokevirtual 20, 3) := dk_182 0 20 (dk_at dksX3_takeLast_0 8 rfl rfl)
theorem dX3_takeLast_11 : decode cX3_takeLast 11 = .ok (.iconst 1, 1) := dk_4 (dk_at dksX3_takeLast_0 11 rfl rfl)
theorem dX3_takeLast_12 : decode cX3_takeLast 12 = .ok (.isub, 1) := dk_100 (dk_at dksX3_takeLast_0 12 rfl rfl)
theorem dX3_takeLast_13 : decode cX3_takeLast 13 = .ok (.invokevirtual 24, 3) := dk_182 0 24 (dk_at dksX3_takeLast_0 13 rfl rfl)
theorem dX3_takeLast_16 : decode cX3_takeLast 16 = .ok (.areturn, 1) := dk_176 (dk_at dksX3_takeLast_0 16 rfl rfl)
abbrev cX3_clear : ByteArray := prog_6_method_7_code
def yX3_clear : MethodName := ⟨RX3, "clear", "()V"⟩
def dkwX3_clear_0 : List UInt8 := [42, 180, 0, 10, 182, 0, 45, 177]
abbrev dktX3_clear_0 : List UInt8 := dkwX3_clear_0 ++ []
theorem dksX3_clear_0 : cX3_clear.data.toList.drop 0 = dktX3_clear_0 := by decide +kernel
theorem dX3_clear_0 : decode cX3_clear 0 = .ok (.aload_n 0, 1) := dk_42 (dk_at dksX3_clear_0 0 rfl rfl)
theorem dX3_clear_1 : decode cX3_clear 1 = .ok (.getfield 10, 3) := dk_180 0 10 (dk_at dksX3_clear_0 1 rfl rfl)
theorem dX3_clear_4 : decode cX3_clear 4 = .ok (.invokevirtual 45, 3) := dk_182 0 45 (dk_at dksX3_clear_0 4 rfl rfl)
theorem dX3_clear_7 : decode cX3_clear 7 = .ok (.return_, 1) := dk_177 (dk_at dksX3_clear_0 7 rfl rfl)
theorem q71 : (Jvm.Cond.initialized "SlidePark$Latest") ∈ lw_all := lw_g (lw_at lw_m1 6 rfl) rfl
theorem q150 : (Jvm.Cond.instantiable "SlidePark$Latest" (2 : Nat)) ∈ lw_all := lw_g (lw_at lw_m1 85 rfl) rfl
theorem q152 : (Jvm.Cond.instanceMethod ({ cls := "SlidePark$Latest", name := "<init>", desc := "(I)V" } : Jvm.MethodName)) ∈ lw_all := lw_g (lw_at lw_m1 87 rfl) rfl
theorem q153 : (Jvm.Cond.code ({ cls := "SlidePark$Latest", name := "<init>", desc := "(I)V" } : Jvm.MethodName) prog_6_method_1_code (2 : Nat) (Option.none : Option Jvm.ClassFile.FieldType)) ∈ lw_all := lw_g (lw_at lw_m1 88 rfl) rfl
theorem q154 : (Jvm.Cond.methodLink "SlidePark$Latest" (1 : Nat) ({ cls := "java/lang/Object", name := "<init>", desc := "()V" } : Jvm.MethodName)) ∈ lw_all := lw_g (lw_at lw_m1 89 rfl) rfl
theorem q155 : (Jvm.Cond.classLink "SlidePark$Latest" (7 : Nat) "java/util/ArrayList") ∈ lw_all := lw_g (lw_at lw_m1 90 rfl) rfl
theorem q156 : (Jvm.Cond.methodLink "SlidePark$Latest" (9 : Nat) ({ cls := "java/util/ArrayList", name := "<init>", desc := "()V" } : Jvm.MethodName)) ∈ lw_all := lw_g (lw_at lw_m1 91 rfl) rfl
theorem q157 : (Jvm.Cond.fieldLink "SlidePark$Latest" (10 : Nat) "SlidePark$Latest" "items" "Ljava/util/ArrayList;") ∈ lw_all := lw_g (lw_at lw_m1 92 rfl) rfl
theorem q158 : (Jvm.Cond.fieldLink "SlidePark$Latest" (16 : Nat) "SlidePark$Latest" "most" "I") ∈ lw_all := lw_g (lw_at lw_m1 93 rfl) rfl
theorem q159 : (Jvm.Cond.laysFinal "SlidePark$Latest" "SlidePark$Latest" "items" "Ljava/util/ArrayList;") ∈ lw_all := lw_g (lw_at lw_m1 94 rfl) rfl
theorem q160 : (Jvm.Cond.soleField "SlidePark$Latest" "items") ∈ lw_all := lw_g (lw_at lw_m1 95 rfl) rfl
theorem q161 : (Jvm.Cond.laysFinal "SlidePark$Latest" "SlidePark$Latest" "most" "I") ∈ lw_all := lw_g (lw_at lw_m1 96 rfl) rfl
theorem q162 : (Jvm.Cond.soleField "SlidePark$Latest" "most") ∈ lw_all := lw_g (lw_at lw_m1 97 rfl) rfl
theorem q163 : (Jvm.Cond.superclass "SlidePark$Latest" "java/lang/Object") ∈ lw_all := lw_g (lw_at lw_m1 98 rfl) rfl
theorem q461 : (Jvm.Cond.instanceMethod ({ cls := "SlidePark$Latest", name := "size", desc := "()I" } : Jvm.MethodName)) ∈ lw_all := lw_g (lw_at lw_m2 156 rfl) rfl
theorem q462 : (Jvm.Cond.selects "SlidePark$Latest" ({ cls := "SlidePark$Latest", name := "size", desc := "()I" } : Jvm.MethodName) ({ cls := "SlidePark$Latest", name := "size", desc := "()I" } : Jvm.MethodName)) ∈ lw_all := lw_g (lw_at lw_m2 157 rfl) rfl
theorem q463 : (Jvm.Cond.code ({ cls := "SlidePark$Latest", name := "size", desc := "()I" } : Jvm.MethodName) prog_6_method_3_code (1 : Nat) (Option.some Jvm.ClassFile.FieldType.int)) ∈ lw_all := lw_g (lw_at lw_m2 158 rfl) rfl
theorem q464 : (Jvm.Cond.methodLink "SlidePark$Latest" (20 : Nat) ({ cls := "java/util/ArrayList", name := "size", desc := "()I" } : Jvm.MethodName)) ∈ lw_all := lw_g (lw_at lw_m2 159 rfl) rfl
theorem q475 : (Jvm.Cond.instanceMethod ({ cls := "SlidePark$Latest", name := "get", desc := "(I)Ljava/lang/Object;" } : Jvm.MethodName)) ∈ lw_all := lw_g (lw_at lw_m2 170 rfl) rfl
theorem q476 : (Jvm.Cond.selects "SlidePark$Latest" ({ cls := "SlidePark$Latest", name := "get", desc := "(I)Ljava/lang/Object;" } : Jvm.MethodName) ({ cls := "SlidePark$Latest", name := "get", desc := "(I)Ljava/lang/Object;" } : Jvm.MethodName)) ∈ lw_all := lw_g (lw_at lw_m2 171 rfl) rfl
theorem q477 : (Jvm.Cond.code ({ cls := "SlidePark$Latest", name := "get", desc := "(I)Ljava/lang/Object;" } : Jvm.MethodName) prog_6_method_4_code (2 : Nat) (Option.some (Jvm.ClassFile.FieldType.object "java/lang/Object"))) ∈ lw_all := lw_g (lw_at lw_m2 172 rfl) rfl
theorem q478 : (Jvm.Cond.methodLink "SlidePark$Latest" (32 : Nat) ({ cls := "java/util/ArrayList", name := "get", desc := "(I)Ljava/lang/Object;" } : Jvm.MethodName)) ∈ lw_all := lw_g (lw_at lw_m2 173 rfl) rfl
theorem q607 : (Jvm.Cond.castable "SlidePark$Latest" "SlidePark$Copyable") ∈ lw_tbl := lw_at lw_m3 62 rfl
theorem q608 : (Jvm.Cond.selects "SlidePark$Latest" ({ cls := "SlidePark$Copyable", name := "copy", desc := "()Ljava/lang/Object;" } : Jvm.MethodName) ({ cls := "SlidePark$Latest", name := "copy", desc := "()Ljava/lang/Object;" } : Jvm.MethodName)) ∈ lw_all := lw_g (lw_at lw_m3 63 rfl) rfl
theorem q609 : (Jvm.Cond.unhidden "SlidePark$Latest" "copy" "()Ljava/lang/Object;") ∈ lw_tbl := lw_at lw_m3 64 rfl
theorem q610 : (Jvm.Cond.instanceMethod ({ cls := "SlidePark$Latest", name := "copy", desc := "()Ljava/lang/Object;" } : Jvm.MethodName)) ∈ lw_all := lw_g (lw_at lw_m3 65 rfl) rfl
theorem q611 : (Jvm.Cond.publicMethod ({ cls := "SlidePark$Latest", name := "copy", desc := "()Ljava/lang/Object;" } : Jvm.MethodName)) ∈ lw_tbl := lw_at lw_m3 66 rfl
theorem q612 : (Jvm.Cond.code ({ cls := "SlidePark$Latest", name := "copy", desc := "()Ljava/lang/Object;" } : Jvm.MethodName) prog_6_method_9_code (1 : Nat) (Option.some (Jvm.ClassFile.FieldType.object "java/lang/Object"))) ∈ lw_all := lw_g (lw_at lw_m3 67 rfl) rfl
theorem q613 : (Jvm.Cond.methodLink "SlidePark$Latest" (51 : Nat) ({ cls := "SlidePark$Latest", name := "copy", desc := "()LSlidePark$Latest;" } : Jvm.MethodName)) ∈ lw_all := lw_g (lw_at lw_m3 68 rfl) rfl
theorem q614 : (Jvm.Cond.instanceMethod ({ cls := "SlidePark$Latest", name := "copy", desc := "()LSlidePark$Latest;" } : Jvm.MethodName)) ∈ lw_all := lw_g (lw_at lw_m3 69 rfl) rfl
theorem q615 : (Jvm.Cond.selects "SlidePark$Latest" ({ cls := "SlidePark$Latest", name := "copy", desc := "()LSlidePark$Latest;" } : Jvm.MethodName) ({ cls := "SlidePark$Latest", name := "copy", desc := "()LSlidePark$Latest;" } : Jvm.MethodName)) ∈ lw_all := lw_g (lw_at lw_m3 70 rfl) rfl
theorem q616 : (Jvm.Cond.code ({ cls := "SlidePark$Latest", name := "copy", desc := "()LSlidePark$Latest;" } : Jvm.MethodName) prog_6_method_8_code (3 : Nat) (Option.some (Jvm.ClassFile.FieldType.object "SlidePark$Latest"))) ∈ lw_all := lw_g (lw_at lw_m3 71 rfl) rfl
theorem q617 : (Jvm.Cond.classLink "SlidePark$Latest" (11 : Nat) "SlidePark$Latest") ∈ lw_all := lw_g (lw_at lw_m3 72 rfl) rfl
theorem q618 : (Jvm.Cond.methodLink "SlidePark$Latest" (48 : Nat) ({ cls := "SlidePark$Latest", name := "<init>", desc := "(I)V" } : Jvm.MethodName)) ∈ lw_all := lw_g (lw_at lw_m3 73 rfl) rfl
theorem q619 : (Jvm.Cond.methodLink "SlidePark$Latest" (28 : Nat) ({ cls := "java/util/ArrayList", name := "add", desc := "(Ljava/lang/Object;)Z" } : Jvm.MethodName)) ∈ lw_all := lw_g (lw_at lw_m3 74 rfl) rfl
theorem q653 : (Jvm.Cond.selects "SlidePark$Latest" ({ cls := "java/lang/Object", name := "getClass", desc := "()Ljava/lang/Class;" } : Jvm.MethodName) ({ cls := "java/lang/Object", name := "getClass", desc := "()Ljava/lang/Class;" } : Jvm.MethodName)) ∈ lw_all := lw_g (lw_at lw_m3 108 rfl) rfl
theorem q818 : (Jvm.Cond.instanceMethod ({ cls := "SlidePark$Latest", name := "add", desc := "(Ljava/lang/Object;)V" } : Jvm.MethodName)) ∈ lw_all := lw_g (lw_at lw_m4 33 rfl) rfl
theorem q819 : (Jvm.Cond.selects "SlidePark$Latest" ({ cls := "SlidePark$Latest", name := "add", desc := "(Ljava/lang/Object;)V" } : Jvm.MethodName) ({ cls := "SlidePark$Latest", name := "add", desc := "(Ljava/lang/Object;)V" } : Jvm.MethodName)) ∈ lw_all := lw_g (lw_at lw_m4 34 rfl) rfl
theorem q820 : (Jvm.Cond.code ({ cls := "SlidePark$Latest", name := "add", desc := "(Ljava/lang/Object;)V" } : Jvm.MethodName) prog_6_method_2_code (2 : Nat) (Option.none : Option Jvm.ClassFile.FieldType)) ∈ lw_all := lw_g (lw_at lw_m4 35 rfl) rfl
theorem q821 : (Jvm.Cond.methodLink "SlidePark$Latest" (24 : Nat) ({ cls := "java/util/ArrayList", name := "remove", desc := "(I)Ljava/lang/Object;" } : Jvm.MethodName)) ∈ lw_all := lw_g (lw_at lw_m4 36 rfl) rfl
theorem q1067 : (Jvm.Cond.selects "SlidePark$Latest" ({ cls := "java/lang/Object", name := "equals", desc := "(Ljava/lang/Object;)Z" } : Jvm.MethodName) ({ cls := "java/lang/Object", name := "equals", desc := "(Ljava/lang/Object;)Z" } : Jvm.MethodName)) ∈ lw_all := lw_g (lw_at lw_m5 42 rfl) rfl
theorem q1366 : (Jvm.Cond.instanceMethod ({ cls := "SlidePark$Latest", name := "back", desc := "(I)Ljava/lang/Object;" } : Jvm.MethodName)) ∈ lw_all := lw_g (lw_at lw_m6 101 rfl) rfl
theorem q1367 : (Jvm.Cond.selects "SlidePark$Latest" ({ cls := "SlidePark$Latest", name := "back", desc := "(I)Ljava/lang/Object;" } : Jvm.MethodName) ({ cls := "SlidePark$Latest", name := "back", desc := "(I)Ljava/lang/Object;" } : Jvm.MethodName)) ∈ lw_all := lw_g (lw_at lw_m6 102 rfl) rfl
theorem q1368 : (Jvm.Cond.code ({ cls := "SlidePark$Latest", name := "back", desc := "(I)Ljava/lang/Object;" } : Jvm.MethodName) prog_6_method_5_code (2 : Nat) (Option.some (Jvm.ClassFile.FieldType.object "java/lang/Object"))) ∈ lw_all := lw_g (lw_at lw_m6 103 rfl) rfl
theorem q1369 : (Jvm.Cond.methodLinkNest "SlidePark$Latest" (35 : Nat) ({ cls := "SlidePark", name := "isBetween", desc := "(III)Z" } : Jvm.MethodName) "SlidePark") ∈ lw_tbl := lw_at lw_m6 104 rfl
theorem q1370 : (Jvm.Cond.methodLinkNest "SlidePark$Latest" (41 : Nat) ({ cls := "SlidePark", name := "requireElement", desc := "(Z)V" } : Jvm.MethodName) "SlidePark") ∈ lw_tbl := lw_at lw_m6 105 rfl
theorem q1892 : (Jvm.Cond.instanceMethod ({ cls := "SlidePark$Latest", name := "takeLast", desc := "()Ljava/lang/Object;" } : Jvm.MethodName)) ∈ lw_all := lw_g (lw_at lw_m8 147 rfl) rfl
theorem q1893 : (Jvm.Cond.selects "SlidePark$Latest" ({ cls := "SlidePark$Latest", name := "takeLast", desc := "()Ljava/lang/Object;" } : Jvm.MethodName) ({ cls := "SlidePark$Latest", name := "takeLast", desc := "()Ljava/lang/Object;" } : Jvm.MethodName)) ∈ lw_all := lw_g (lw_at lw_m8 148 rfl) rfl
theorem q1894 : (Jvm.Cond.code ({ cls := "SlidePark$Latest", name := "takeLast", desc := "()Ljava/lang/Object;" } : Jvm.MethodName) prog_6_method_6_code (1 : Nat) (Option.some (Jvm.ClassFile.FieldType.object "java/lang/Object"))) ∈ lw_all := lw_g (lw_at lw_m8 149 rfl) rfl
theorem q1903 : (Jvm.Cond.instanceMethod ({ cls := "SlidePark$Latest", name := "clear", desc := "()V" } : Jvm.MethodName)) ∈ lw_all := lw_g (lw_at lw_m8 158 rfl) rfl
theorem q1904 : (Jvm.Cond.selects "SlidePark$Latest" ({ cls := "SlidePark$Latest", name := "clear", desc := "()V" } : Jvm.MethodName) ({ cls := "SlidePark$Latest", name := "clear", desc := "()V" } : Jvm.MethodName)) ∈ lw_all := lw_g (lw_at lw_m8 159 rfl) rfl
theorem q1905 : (Jvm.Cond.code ({ cls := "SlidePark$Latest", name := "clear", desc := "()V" } : Jvm.MethodName) prog_6_method_7_code (1 : Nat) (Option.none : Option Jvm.ClassFile.FieldType)) ∈ lw_all := lw_g (lw_at lw_m8 160 rfl) rfl
theorem q1906 : (Jvm.Cond.methodLink "SlidePark$Latest" (45 : Nat) ({ cls := "java/util/ArrayList", name := "clear", desc := "()V" } : Jvm.MethodName)) ∈ lw_all := lw_g (lw_at lw_m8 161 rfl) rfl
theorem q2398 : (Jvm.Cond.castable "SlidePark$Latest" "java/lang/Object") ∈ lw_tbl := lw_at lw_m10 173 rfl
theorem in_X3 : ∀ w ∈ wsX30, w ∈ lw_all := lw_in wsX30 [159, 161] (by decide +kernel) (by decide +kernel)

/-! SlidePark$Guest -/
set_option maxRecDepth 100000
def RX5 : String := "SlidePark$Guest"
def TX5 : u_T := fun k => match k with
  | 0 => ("SlidePark$Guest", "coins", "I", false)
  | _ => ("SlidePark$Guest", "rides", "I", false)
def tyX5 : Nat → FieldType := fun k => match k with
  | 0 => .int
  | _ => .int
abbrev wsX50 : List Cond := u_ws RX5 TX5 2
theorem nmX5 : ∀ a, a < 2 → ∀ b, b < 2 → a ≠ b → (TX5 a).2.1 ≠ (TX5 b).2.1 := by decide +kernel
theorem tyX5_ok : ∀ k, k < 2 → parseFieldDescriptor (TX5 k).2.2.1 = some (tyX5 k) := by decide +kernel
abbrev cX5_isAheadOf : ByteArray := prog_5_method_5_code
def yX5_isAheadOf : MethodName := ⟨RX5, "isAheadOf", "(Ljava/lang/Object;Z)Z"⟩
def dkwX5_isAheadOf_0 : List UInt8 := [42, 43, 192, 0, 10, 28, 182, 0, 23, 172]
abbrev dktX5_isAheadOf_0 : List UInt8 := dkwX5_isAheadOf_0 ++ []
theorem dksX5_isAheadOf_0 : cX5_isAheadOf.data.toList.drop 0 = dktX5_isAheadOf_0 := by decide +kernel
theorem dX5_isAheadOf_0 : decode cX5_isAheadOf 0 = .ok (.aload_n 0, 1) := dk_42 (dk_at dksX5_isAheadOf_0 0 rfl rfl)
theorem dX5_isAheadOf_1 : decode cX5_isAheadOf 1 = .ok (.aload_n 1, 1) := dk_43 (dk_at dksX5_isAheadOf_0 1 rfl rfl)
theorem dX5_isAheadOf_2 : decode cX5_isAheadOf 2 = .ok (.checkcast 10, 3) := dk_192 0 10 (dk_at dksX5_isAheadOf_0 2 rfl rfl)
theorem dX5_isAheadOf_5 : decode cX5_isAheadOf 5 = .ok (.iload_n 2, 1) := dk_28 (dk_at dksX5_isAheadOf_0 5 rfl rfl)
theorem dX5_isAheadOf_6 : decode cX5_isAheadOf 6 = .ok (.invokevirtual 23, 3) := dk_182 0 23 (dk_at dksX5_isAheadOf_0 6 rfl rfl)
theorem dX5_isAheadOf_9 : decode cX5_isAheadOf 9 = .ok (.ireturn, 1) := dk_172 (dk_at dksX5_isAheadOf_0 9 rfl rfl)
abbrev cX5_isAheadOf_2 : ByteArray := prog_5_method_3_code
def yX5_isAheadOf_2 : MethodName := ⟨RX5, "isAheadOf", "(LSlidePark$Guest;Z)Z"⟩
def dkwX5_isAheadOf_2_2 : List UInt8 := [164, 0, 7, 4, 167, 0, 8, 3, 167, 0, 4, 28, 172]
abbrev dktX5_isAheadOf_2_2 : List UInt8 := dkwX5_isAheadOf_2_2 ++ []
def dkwX5_isAheadOf_2_1 : List UInt8 := [167, 0, 4, 3, 172, 42, 180, 0, 9, 43, 180, 0, 9, 159, 0, 22, 42, 180, 0, 9, 43, 180, 0, 9]
abbrev dktX5_isAheadOf_2_1 : List UInt8 := dkwX5_isAheadOf_2_1 ++ dktX5_isAheadOf_2_2
def dkwX5_isAheadOf_2_0 : List UInt8 := [42, 180, 0, 16, 43, 180, 0, 16, 159, 0, 20, 42, 180, 0, 16, 43, 180, 0, 16, 164, 0, 7, 4]
abbrev dktX5_isAheadOf_2_0 : List UInt8 := dkwX5_isAheadOf_2_0 ++ dktX5_isAheadOf_2_1
theorem dksX5_isAheadOf_2_0 : cX5_isAheadOf_2.data.toList.drop 0 = dktX5_isAheadOf_2_0 := by decide +kernel
theorem dksX5_isAheadOf_2_1 : cX5_isAheadOf_2.data.toList.drop 23 = dktX5_isAheadOf_2_1 := dk_seg dksX5_isAheadOf_2_0 23 rfl rfl
theorem dksX5_isAheadOf_2_2 : cX5_isAheadOf_2.data.toList.drop 47 = dktX5_isAheadOf_2_2 := dk_seg dksX5_isAheadOf_2_1 24 rfl rfl
theorem dX5_isAheadOf_2_0 : decode cX5_isAheadOf_2 0 = .ok (.aload_n 0, 1) := dk_42 (dk_at dksX5_isAheadOf_2_0 0 rfl rfl)
theorem dX5_isAheadOf_2_1 : decode cX5_isAheadOf_2 1 = .ok (.getfield 16, 3) := dk_180 0 16 (dk_at dksX5_isAheadOf_2_0 1 rfl rfl)
theorem dX5_isAheadOf_2_4 : decode cX5_isAheadOf_2 4 = .ok (.aload_n 1, 1) := dk_43 (dk_at dksX5_isAheadOf_2_0 4 rfl rfl)
theorem dX5_isAheadOf_2_5 : decode cX5_isAheadOf_2 5 = .ok (.getfield 16, 3) := dk_180 0 16 (dk_at dksX5_isAheadOf_2_0 5 rfl rfl)
theorem dX5_isAheadOf_2_8 : decode cX5_isAheadOf_2 8 = .ok (.if_icmp .eq 20, 3) := dk_159 0 20 (dk_at dksX5_isAheadOf_2_0 8 rfl rfl)
theorem dX5_isAheadOf_2_11 : decode cX5_isAheadOf_2 11 = .ok (.aload_n 0, 1) := dk_42 (dk_at dksX5_isAheadOf_2_0 11 rfl rfl)
theorem dX5_isAheadOf_2_12 : decode cX5_isAheadOf_2 12 = .ok (.getfield 16, 3) := dk_180 0 16 (dk_at dksX5_isAheadOf_2_0 12 rfl rfl)
theorem dX5_isAheadOf_2_15 : decode cX5_isAheadOf_2 15 = .ok (.aload_n 1, 1) := dk_43 (dk_at dksX5_isAheadOf_2_0 15 rfl rfl)
theorem dX5_isAheadOf_2_16 : decode cX5_isAheadOf_2 16 = .ok (.getfield 16, 3) := dk_180 0 16 (dk_at dksX5_isAheadOf_2_0 16 rfl rfl)
theorem dX5_isAheadOf_2_19 : decode cX5_isAheadOf_2 19 = .ok (.if_icmp .le 7, 3) := dk_164 0 7 (dk_at dksX5_isAheadOf_2_0 19 rfl rfl)
theorem dX5_isAheadOf_2_22 : decode cX5_isAheadOf_2 22 = .ok (.iconst 1, 1) := dk_4 (dk_at dksX5_isAheadOf_2_0 22 rfl rfl)
theorem dX5_isAheadOf_2_23 : decode cX5_isAheadOf_2 23 = .ok (.goto 4, 3) := dk_167 0 4 (dk_at dksX5_isAheadOf_2_1 0 rfl rfl)
theorem dX5_isAheadOf_2_26 : decode cX5_isAheadOf_2 26 = .ok (.iconst 0, 1) := dk_3 (dk_at dksX5_isAheadOf_2_1 3 rfl rfl)
theorem dX5_isAheadOf_2_27 : decode cX5_isAheadOf_2 27 = .ok (.ireturn, 1) := dk_172 (dk_at dksX5_isAheadOf_2_1 4 rfl rfl)
theorem dX5_isAheadOf_2_28 : decode cX5_isAheadOf_2 28 = .ok (.aload_n 0, 1) := dk_42 (dk_at dksX5_isAheadOf_2_1 5 rfl rfl)
theorem dX5_isAheadOf_2_29 : decode cX5_isAheadOf_2 29 = .ok (.getfield 9, 3) := dk_180 0 9 (dk_at dksX5_isAheadOf_2_1 6 rfl rfl)
theorem dX5_isAheadOf_2_32 : decode cX5_isAheadOf_2 32 = .ok (.aload_n 1, 1) := dk_43 (dk_at dksX5_isAheadOf_2_1 9 rfl rfl)
theorem dX5_isAheadOf_2_33 : decode cX5_isAheadOf_2 33 = .ok (.getfield 9, 3) := dk_180 0 9 (dk_at dksX5_isAheadOf_2_1 10 rfl rfl)
theorem dX5_isAheadOf_2_36 : decode cX5_isAheadOf_2 36 = .ok (.if_icmp .eq 22, 3) := dk_159 0 22 (dk_at dksX5_isAheadOf_2_1 13 rfl rfl)
theorem dX5_isAheadOf_2_39 : decode cX5_isAheadOf_2 39 = .ok (.aload_n 0, 1) := dk_42 (dk_at dksX5_isAheadOf_2_1 16 rfl rfl)
theorem dX5_isAheadOf_2_40 : decode cX5_isAheadOf_2 40 = .ok (.getfield 9, 3) := dk_180 0 9 (dk_at dksX5_isAheadOf_2_1 17 rfl rfl)
theorem dX5_isAheadOf_2_43 : decode cX5_isAheadOf_2 43 = .ok (.aload_n 1, 1) := dk_43 (dk_at dksX5_isAheadOf_2_1 20 rfl rfl)
theorem dX5_isAheadOf_2_44 : decode cX5_isAheadOf_2 44 = .ok (.getfield 9, 3) := dk_180 0 9 (dk_at dksX5_isAheadOf_2_1 21 rfl rfl)
theorem dX5_isAheadOf_2_47 : decode cX5_isAheadOf_2 47 = .ok (.if_icmp .le 7, 3) := dk_164 0 7 (dk_at dksX5_isAheadOf_2_2 0 rfl rfl)
theorem dX5_isAheadOf_2_50 : decode cX5_isAheadOf_2 50 = .ok (.iconst 1, 1) := dk_4 (dk_at dksX5_isAheadOf_2_2 3 rfl rfl)
theorem dX5_isAheadOf_2_51 : decode cX5_isAheadOf_2 51 = .ok (.goto 8, 3) := dk_167 0 8 (dk_at dksX5_isAheadOf_2_2 4 rfl rfl)
theorem dX5_isAheadOf_2_54 : decode cX5_isAheadOf_2 54 = .ok (.iconst 0, 1) := dk_3 (dk_at dksX5_isAheadOf_2_2 7 rfl rfl)
theorem dX5_isAheadOf_2_55 : decode cX5_isAheadOf_2 55 = .ok (.goto 4, 3) := dk_167 0 4 (dk_at dksX5_isAheadOf_2_2 8 rfl rfl)
theorem dX5_isAheadOf_2_58 : decode cX5_isAheadOf_2 58 = .ok (.iload_n 2, 1) := dk_28 (dk_at dksX5_isAheadOf_2_2 11 rfl rfl)
theorem dX5_isAheadOf_2_59 : decode cX5_isAheadOf_2 59 = .ok (.ireturn, 1) := dk_172 (dk_at dksX5_isAheadOf_2_2 12 rfl rfl)
abbrev cX5_copy : ByteArray := prog_5_method_4_code
def yX5_copy : MethodName := ⟨RX5, "copy", "()Ljava/lang/Object;"⟩
theorem dX5_copy_0 : decode cX5_copy 0 = .ok (.aload_n 0, 1) := by decide +kernel
theorem dX5_copy_1 : decode cX5_copy 1 = .ok (.invokevirtual 19, 3) := by decide +kernel
theorem dX5_copy_4 : decode cX5_copy 4 = .ok (.areturn, 1) := by decide +kernel
abbrev cX5_copy_2 : ByteArray := prog_5_method_2_code
def yX5_copy_2 : MethodName := ⟨RX5, "copy", "()LSlidePark$Guest;"⟩
def dkwX5_copy_2_1 : List UInt8 := [43, 176]
abbrev dktX5_copy_2_1 : List UInt8 := dkwX5_copy_2_1 ++ []
def dkwX5_copy_2_0 : List UInt8 := [187, 0, 10, 89, 183, 0, 15, 76, 43, 42, 180, 0, 9, 181, 0, 9, 43, 42, 180, 0, 16, 181, 0, 16]
abbrev dktX5_copy_2_0 : List UInt8 := dkwX5_copy_2_0 ++ dktX5_copy_2_1
theorem dksX5_copy_2_0 : cX5_copy_2.data.toList.drop 0 = dktX5_copy_2_0 := by decide +kernel
theorem dksX5_copy_2_1 : cX5_copy_2.data.toList.drop 24 = dktX5_copy_2_1 := dk_seg dksX5_copy_2_0 24 rfl rfl
theorem dX5_copy_2_0 : decode cX5_copy_2 0 = .ok (.new 10, 3) := dk_187 0 10 (dk_at dksX5_copy_2_0 0 rfl rfl)
theorem dX5_copy_2_3 : decode cX5_copy_2 3 = .ok (.dup, 1) := dk_89 (dk_at dksX5_copy_2_0 3 rfl rfl)
theorem dX5_copy_2_4 : decode cX5_copy_2 4 = .ok (.invokespecial 15, 3) := dk_183 0 15 (dk_at dksX5_copy_2_0 4 rfl rfl)
theorem dX5_copy_2_7 : decode cX5_copy_2 7 = .ok (.astore_n 1, 1) := dk_76 (dk_at dksX5_copy_2_0 7 rfl rfl)
theorem dX5_copy_2_8 : decode cX5_copy_2 8 = .ok (.aload_n 1, 1) := dk_43 (dk_at dksX5_copy_2_0 8 rfl rfl)
theorem dX5_copy_2_9 : decode cX5_copy_2 9 = .ok (.aload_n 0, 1) := dk_42 (dk_at dksX5_copy_2_0 9 rfl rfl)
theorem dX5_copy_2_10 : decode cX5_copy_2 10 = .ok (.getfield 9, 3) := dk_180 0 9 (dk_at dksX5_copy_2_0 10 rfl rfl)
theorem dX5_copy_2_13 : decode cX5_copy_2 13 = .ok (.putfield 9, 3) := dk_181 0 9 (dk_at dksX5_copy_2_0 13 rfl rfl)
theorem dX5_copy_2_16 : decode cX5_copy_2 16 = .ok (.aload_n 1, 1) := dk_43 (dk_at dksX5_copy_2_0 16 rfl rfl)
theorem dX5_copy_2_17 : decode cX5_copy_2 17 = .ok (.aload_n 0, 1) := dk_42 (dk_at dksX5_copy_2_0 17 rfl rfl)
theorem dX5_copy_2_18 : decode cX5_copy_2 18 = .ok (.getfield 16, 3) := dk_180 0 16 (dk_at dksX5_copy_2_0 18 rfl rfl)
theorem dX5_copy_2_21 : decode cX5_copy_2 21 = .ok (.putfield 16, 3) := dk_181 0 16 (dk_at dksX5_copy_2_0 21 rfl rfl)
theorem dX5_copy_2_24 : decode cX5_copy_2 24 = .ok (.aload_n 1, 1) := dk_43 (dk_at dksX5_copy_2_1 0 rfl rfl)
theorem dX5_copy_2_25 : decode cX5_copy_2 25 = .ok (.areturn, 1) := dk_176 (dk_at dksX5_copy_2_1 1 rfl rfl)
abbrev cX5_init : ByteArray := prog_5_method_1_code
def yX5_init : MethodName := ⟨RX5, "<init>", "()V"⟩
def dkwX5_init_0 : List UInt8 := [42, 183, 0, 3, 42, 16, 50, 181, 0, 9, 177]
abbrev dktX5_init_0 : List UInt8 := dkwX5_init_0 ++ []
theorem dksX5_init_0 : cX5_init.data.toList.drop 0 = dktX5_init_0 := by decide +kernel
theorem dX5_init_0 : decode cX5_init 0 = .ok (.aload_n 0, 1) := dk_42 (dk_at dksX5_init_0 0 rfl rfl)
theorem dX5_init_1 : decode cX5_init 1 = .ok (.invokespecial 3, 3) := dk_183 0 3 (dk_at dksX5_init_0 1 rfl rfl)
theorem dX5_init_4 : decode cX5_init 4 = .ok (.aload_n 0, 1) := dk_42 (dk_at dksX5_init_0 4 rfl rfl)
theorem dX5_init_5 : decode cX5_init 5 = .ok (.bipush 50, 2) := dk_16 50 (dk_at dksX5_init_0 5 rfl rfl)
theorem dX5_init_7 : decode cX5_init 7 = .ok (.putfield 9, 3) := dk_181 0 9 (dk_at dksX5_init_0 7 rfl rfl)
theorem dX5_init_10 : decode cX5_init 10 = .ok (.return_, 1) := dk_177 (dk_at dksX5_init_0 10 rfl rfl)
theorem q79 : (Jvm.Cond.initialized "SlidePark$Guest") ∈ lw_all := lw_g (lw_at lw_m1 14 rfl) rfl
theorem q337 : (Jvm.Cond.castable "SlidePark$Guest" "SlidePark$Ranked") ∈ lw_tbl := lw_at lw_m2 32 rfl
theorem q338 : (Jvm.Cond.selects "SlidePark$Guest" ({ cls := "SlidePark$Ranked", name := "isAheadOf", desc := "(Ljava/lang/Object;Z)Z" } : Jvm.MethodName) ({ cls := "SlidePark$Guest", name := "isAheadOf", desc := "(Ljava/lang/Object;Z)Z" } : Jvm.MethodName)) ∈ lw_all := lw_g (lw_at lw_m2 33 rfl) rfl
theorem q339 : (Jvm.Cond.unhidden "SlidePark$Guest" "isAheadOf" "(Ljava/lang/Object;Z)Z") ∈ lw_tbl := lw_at lw_m2 34 rfl
theorem q340 : (Jvm.Cond.instanceMethod ({ cls := "SlidePark$Guest", name := "isAheadOf", desc := "(Ljava/lang/Object;Z)Z" } : Jvm.MethodName)) ∈ lw_all := lw_g (lw_at lw_m2 35 rfl) rfl
theorem q341 : (Jvm.Cond.publicMethod ({ cls := "SlidePark$Guest", name := "isAheadOf", desc := "(Ljava/lang/Object;Z)Z" } : Jvm.MethodName)) ∈ lw_tbl := lw_at lw_m2 36 rfl
theorem q342 : (Jvm.Cond.code ({ cls := "SlidePark$Guest", name := "isAheadOf", desc := "(Ljava/lang/Object;Z)Z" } : Jvm.MethodName) prog_5_method_5_code (3 : Nat) (Option.some Jvm.ClassFile.FieldType.boolean)) ∈ lw_all := lw_g (lw_at lw_m2 37 rfl) rfl
theorem q343 : (Jvm.Cond.classLink "SlidePark$Guest" (10 : Nat) "SlidePark$Guest") ∈ lw_all := lw_g (lw_at lw_m2 38 rfl) rfl
theorem q344 : (Jvm.Cond.methodLink "SlidePark$Guest" (23 : Nat) ({ cls := "SlidePark$Guest", name := "isAheadOf", desc := "(LSlidePark$Guest;Z)Z" } : Jvm.MethodName)) ∈ lw_all := lw_g (lw_at lw_m2 39 rfl) rfl
theorem q345 : (Jvm.Cond.instanceMethod ({ cls := "SlidePark$Guest", name := "isAheadOf", desc := "(LSlidePark$Guest;Z)Z" } : Jvm.MethodName)) ∈ lw_all := lw_g (lw_at lw_m2 40 rfl) rfl
theorem q346 : (Jvm.Cond.selects "SlidePark$Guest" ({ cls := "SlidePark$Guest", name := "isAheadOf", desc := "(LSlidePark$Guest;Z)Z" } : Jvm.MethodName) ({ cls := "SlidePark$Guest", name := "isAheadOf", desc := "(LSlidePark$Guest;Z)Z" } : Jvm.MethodName)) ∈ lw_all := lw_g (lw_at lw_m2 41 rfl) rfl
theorem q347 : (Jvm.Cond.code ({ cls := "SlidePark$Guest", name := "isAheadOf", desc := "(LSlidePark$Guest;Z)Z" } : Jvm.MethodName) prog_5_method_3_code (3 : Nat) (Option.some Jvm.ClassFile.FieldType.boolean)) ∈ lw_all := lw_g (lw_at lw_m2 42 rfl) rfl
theorem q581 : (Jvm.Cond.castable "SlidePark$Guest" "SlidePark$Copyable") ∈ lw_tbl := lw_at lw_m3 36 rfl
theorem q582 : (Jvm.Cond.selects "SlidePark$Guest" ({ cls := "SlidePark$Copyable", name := "copy", desc := "()Ljava/lang/Object;" } : Jvm.MethodName) ({ cls := "SlidePark$Guest", name := "copy", desc := "()Ljava/lang/Object;" } : Jvm.MethodName)) ∈ lw_all := lw_g (lw_at lw_m3 37 rfl) rfl
theorem q583 : (Jvm.Cond.unhidden "SlidePark$Guest" "copy" "()Ljava/lang/Object;") ∈ lw_tbl := lw_at lw_m3 38 rfl
theorem q584 : (Jvm.Cond.instanceMethod ({ cls := "SlidePark$Guest", name := "copy", desc := "()Ljava/lang/Object;" } : Jvm.MethodName)) ∈ lw_all := lw_g (lw_at lw_m3 39 rfl) rfl
theorem q585 : (Jvm.Cond.publicMethod ({ cls := "SlidePark$Guest", name := "copy", desc := "()Ljava/lang/Object;" } : Jvm.MethodName)) ∈ lw_tbl := lw_at lw_m3 40 rfl
theorem q586 : (Jvm.Cond.code ({ cls := "SlidePark$Guest", name := "copy", desc := "()Ljava/lang/Object;" } : Jvm.MethodName) prog_5_method_4_code (1 : Nat) (Option.some (Jvm.ClassFile.FieldType.object "java/lang/Object"))) ∈ lw_all := lw_g (lw_at lw_m3 41 rfl) rfl
theorem q587 : (Jvm.Cond.methodLink "SlidePark$Guest" (19 : Nat) ({ cls := "SlidePark$Guest", name := "copy", desc := "()LSlidePark$Guest;" } : Jvm.MethodName)) ∈ lw_all := lw_g (lw_at lw_m3 42 rfl) rfl
theorem q588 : (Jvm.Cond.instanceMethod ({ cls := "SlidePark$Guest", name := "copy", desc := "()LSlidePark$Guest;" } : Jvm.MethodName)) ∈ lw_all := lw_g (lw_at lw_m3 43 rfl) rfl
theorem q589 : (Jvm.Cond.selects "SlidePark$Guest" ({ cls := "SlidePark$Guest", name := "copy", desc := "()LSlidePark$Guest;" } : Jvm.MethodName) ({ cls := "SlidePark$Guest", name := "copy", desc := "()LSlidePark$Guest;" } : Jvm.MethodName)) ∈ lw_all := lw_g (lw_at lw_m3 44 rfl) rfl
theorem q590 : (Jvm.Cond.code ({ cls := "SlidePark$Guest", name := "copy", desc := "()LSlidePark$Guest;" } : Jvm.MethodName) prog_5_method_2_code (2 : Nat) (Option.some (Jvm.ClassFile.FieldType.object "SlidePark$Guest"))) ∈ lw_all := lw_g (lw_at lw_m3 45 rfl) rfl
theorem q591 : (Jvm.Cond.instantiable "SlidePark$Guest" (2 : Nat)) ∈ lw_all := lw_g (lw_at lw_m3 46 rfl) rfl
theorem q592 : (Jvm.Cond.methodLink "SlidePark$Guest" (15 : Nat) ({ cls := "SlidePark$Guest", name := "<init>", desc := "()V" } : Jvm.MethodName)) ∈ lw_all := lw_g (lw_at lw_m3 47 rfl) rfl
theorem q593 : (Jvm.Cond.instanceMethod ({ cls := "SlidePark$Guest", name := "<init>", desc := "()V" } : Jvm.MethodName)) ∈ lw_all := lw_g (lw_at lw_m3 48 rfl) rfl
theorem q594 : (Jvm.Cond.code ({ cls := "SlidePark$Guest", name := "<init>", desc := "()V" } : Jvm.MethodName) prog_5_method_1_code (1 : Nat) (Option.none : Option Jvm.ClassFile.FieldType)) ∈ lw_all := lw_g (lw_at lw_m3 49 rfl) rfl
theorem q595 : (Jvm.Cond.methodLink "SlidePark$Guest" (3 : Nat) ({ cls := "java/lang/Object", name := "<init>", desc := "()V" } : Jvm.MethodName)) ∈ lw_all := lw_g (lw_at lw_m3 50 rfl) rfl
theorem q596 : (Jvm.Cond.fieldLink "SlidePark$Guest" (9 : Nat) "SlidePark$Guest" "coins" "I") ∈ lw_all := lw_g (lw_at lw_m3 51 rfl) rfl
theorem q599 : (Jvm.Cond.fieldLink "SlidePark$Guest" (16 : Nat) "SlidePark$Guest" "rides" "I") ∈ lw_all := lw_g (lw_at lw_m3 54 rfl) rfl
theorem q602 : (Jvm.Cond.lays "SlidePark$Guest" "SlidePark$Guest" "coins" "I") ∈ lw_all := lw_g (lw_at lw_m3 57 rfl) rfl
theorem q603 : (Jvm.Cond.soleField "SlidePark$Guest" "coins") ∈ lw_all := lw_g (lw_at lw_m3 58 rfl) rfl
theorem q604 : (Jvm.Cond.lays "SlidePark$Guest" "SlidePark$Guest" "rides" "I") ∈ lw_all := lw_g (lw_at lw_m3 59 rfl) rfl
theorem q605 : (Jvm.Cond.soleField "SlidePark$Guest" "rides") ∈ lw_all := lw_g (lw_at lw_m3 60 rfl) rfl
theorem q606 : (Jvm.Cond.superclass "SlidePark$Guest" "java/lang/Object") ∈ lw_all := lw_g (lw_at lw_m3 61 rfl) rfl
theorem q652 : (Jvm.Cond.selects "SlidePark$Guest" ({ cls := "java/lang/Object", name := "getClass", desc := "()Ljava/lang/Class;" } : Jvm.MethodName) ({ cls := "java/lang/Object", name := "getClass", desc := "()Ljava/lang/Class;" } : Jvm.MethodName)) ∈ lw_all := lw_g (lw_at lw_m3 107 rfl) rfl
theorem q1066 : (Jvm.Cond.selects "SlidePark$Guest" ({ cls := "java/lang/Object", name := "equals", desc := "(Ljava/lang/Object;)Z" } : Jvm.MethodName) ({ cls := "java/lang/Object", name := "equals", desc := "(Ljava/lang/Object;)Z" } : Jvm.MethodName)) ∈ lw_all := lw_g (lw_at lw_m5 41 rfl) rfl
theorem q2405 : (Jvm.Cond.castable "SlidePark$Guest" "java/lang/Object") ∈ lw_tbl := lw_at lw_m10 180 rfl
theorem in_X5 : ∀ w ∈ wsX50, w ∈ lw_all := lw_in wsX50 [602, 604] (by decide +kernel) (by decide +kernel)

/-! SlidePark$Line -/
set_option maxRecDepth 100000
def RX6 : String := "SlidePark$Line"
def TX6 : u_T := fun k => match k with
  | _ => ("SlidePark$Line", "items", "Ljava/util/ArrayList;", true)
def tyX6 : Nat → FieldType := fun k => match k with
  | _ => .object "java/util/ArrayList"
abbrev wsX60 : List Cond := u_ws RX6 TX6 1
theorem nmX6 : ∀ a, a < 1 → ∀ b, b < 1 → a ≠ b → (TX6 a).2.1 ≠ (TX6 b).2.1 := by decide +kernel
theorem tyX6_ok : ∀ k, k < 1 → parseFieldDescriptor (TX6 k).2.2.1 = some (tyX6 k) := by decide +kernel
abbrev cX6_copy : ByteArray := prog_7_method_11_code
def yX6_copy : MethodName := ⟨RX6, "copy", "()Ljava/lang/Object;"⟩
theorem dX6_copy_0 : decode cX6_copy 0 = .ok (.aload_n 0, 1) := by decide +kernel
theorem dX6_copy_1 : decode cX6_copy 1 = .ok (.invokevirtual 51, 3) := by decide +kernel
theorem dX6_copy_4 : decode cX6_copy 4 = .ok (.areturn, 1) := by decide +kernel
abbrev cX6_copy_2 : ByteArray := prog_7_method_10_code
def yX6_copy_2 : MethodName := ⟨RX6, "copy", "()LSlidePark$Line;"⟩
def dkwX6_copy_2_1 : List UInt8 := [180, 0, 10, 42, 180, 0, 10, 28, 182, 0, 24, 182, 0, 38, 87, 132, 2, 1, 167, 255, 226, 43, 176]
abbrev dktX6_copy_2_1 : List UInt8 := dkwX6_copy_2_1 ++ []
def dkwX6_copy_2_0 : List UInt8 := [187, 0, 11, 89, 183, 0, 50, 76, 3, 61, 28, 42, 180, 0, 10, 182, 0, 20, 162, 0, 25, 43]
abbrev dktX6_copy_2_0 : List UInt8 := dkwX6_copy_2_0 ++ dktX6_copy_2_1
theorem dksX6_copy_2_0 : cX6_copy_2.data.toList.drop 0 = dktX6_copy_2_0 := by decide +kernel
theorem dksX6_copy_2_1 : cX6_copy_2.data.toList.drop 22 = dktX6_copy_2_1 := dk_seg dksX6_copy_2_0 22 rfl rfl
theorem dX6_copy_2_0 : decode cX6_copy_2 0 = .ok (.new 11, 3) := dk_187 0 11 (dk_at dksX6_copy_2_0 0 rfl rfl)
theorem dX6_copy_2_3 : decode cX6_copy_2 3 = .ok (.dup, 1) := dk_89 (dk_at dksX6_copy_2_0 3 rfl rfl)
theorem dX6_copy_2_4 : decode cX6_copy_2 4 = .ok (.invokespecial 50, 3) := dk_183 0 50 (dk_at dksX6_copy_2_0 4 rfl rfl)
theorem dX6_copy_2_7 : decode cX6_copy_2 7 = .ok (.astore_n 1, 1) := dk_76 (dk_at dksX6_copy_2_0 7 rfl rfl)
theorem dX6_copy_2_8 : decode cX6_copy_2 8 = .ok (.iconst 0, 1) := dk_3 (dk_at dksX6_copy_2_0 8 rfl rfl)
theorem dX6_copy_2_9 : decode cX6_copy_2 9 = .ok (.istore_n 2, 1) := dk_61 (dk_at dksX6_copy_2_0 9 rfl rfl)
theorem dX6_copy_2_10 : decode cX6_copy_2 10 = .ok (.iload_n 2, 1) := dk_28 (dk_at dksX6_copy_2_0 10 rfl rfl)
theorem dX6_copy_2_11 : decode cX6_copy_2 11 = .ok (.aload_n 0, 1) := dk_42 (dk_at dksX6_copy_2_0 11 rfl rfl)
theorem dX6_copy_2_12 : decode cX6_copy_2 12 = .ok (.getfield 10, 3) := dk_180 0 10 (dk_at dksX6_copy_2_0 12 rfl rfl)
theorem dX6_copy_2_15 : decode cX6_copy_2 15 = .ok (.invokevirtual 20, 3) := dk_182 0 20 (dk_at dksX6_copy_2_0 15 rfl rfl)
theorem dX6_copy_2_18 : decode cX6_copy_2 18 = .ok (.if_icmp .ge 25, 3) := dk_162 0 25 (dk_at dksX6_copy_2_0 18 rfl rfl)
theorem dX6_copy_2_21 : decode cX6_copy_2 21 = .ok (.aload_n 1, 1) := dk_43 (dk_at dksX6_copy_2_0 21 rfl rfl)
theorem dX6_copy_2_22 : decode cX6_copy_2 22 = .ok (.getfield 10, 3) := dk_180 0 10 (dk_at dksX6_copy_2_1 0 rfl rfl)
theorem dX6_copy_2_25 : decode cX6_copy_2 25 = .ok (.aload_n 0, 1) := dk_42 (dk_at dksX6_copy_2_1 3 rfl rfl)
theorem dX6_copy_2_26 : decode cX6_copy_2 26 = .ok (.getfield 10, 3) := dk_180 0 10 (dk_at dksX6_copy_2_1 4 rfl rfl)
theorem dX6_copy_2_29 : decode cX6_copy_2 29 = .ok (.iload_n 2, 1) := dk_28 (dk_at dksX6_copy_2_1 7 rfl rfl)
theorem dX6_copy_2_30 : decode cX6_copy_2 30 = .ok (.invokevirtual 24, 3) := dk_182 0 24 (dk_at dksX6_copy_2_1 8 rfl rfl)
theorem dX6_copy_2_33 : decode cX6_copy_2 33 = .ok (.invokevirtual 38, 3) := dk_182 0 38 (dk_at dksX6_copy_2_1 11 rfl rfl)
theorem dX6_copy_2_36 : decode cX6_copy_2 36 = .ok (.pop, 1) := dk_87 (dk_at dksX6_copy_2_1 14 rfl rfl)
theorem dX6_copy_2_37 : decode cX6_copy_2 37 = .ok (.iinc 2 1, 3) := dk_132 2 1 (dk_at dksX6_copy_2_1 15 rfl rfl)
theorem dX6_copy_2_40 : decode cX6_copy_2 40 = .ok (.goto (-30), 3) := dk_167 255 226 (dk_at dksX6_copy_2_1 18 rfl rfl)
theorem dX6_copy_2_43 : decode cX6_copy_2 43 = .ok (.aload_n 1, 1) := dk_43 (dk_at dksX6_copy_2_1 21 rfl rfl)
theorem dX6_copy_2_44 : decode cX6_copy_2 44 = .ok (.areturn, 1) := dk_176 (dk_at dksX6_copy_2_1 22 rfl rfl)
abbrev cX6_init : ByteArray := prog_7_method_1_code
def yX6_init : MethodName := ⟨RX6, "<init>", "()V"⟩
def dkwX6_init_0 : List UInt8 := [42, 183, 0, 1, 42, 187, 0, 7, 89, 183, 0, 9, 181, 0, 10, 177]
abbrev dktX6_init_0 : List UInt8 := dkwX6_init_0 ++ []
theorem dksX6_init_0 : cX6_init.data.toList.drop 0 = dktX6_init_0 := by decide +kernel
theorem dX6_init_0 : decode cX6_init 0 = .ok (.aload_n 0, 1) := dk_42 (dk_at dksX6_init_0 0 rfl rfl)
theorem dX6_init_1 : decode cX6_init 1 = .ok (.invokespecial 1, 3) := dk_183 0 1 (dk_at dksX6_init_0 1 rfl rfl)
theorem dX6_init_4 : decode cX6_init 4 = .ok (.aload_n 0, 1) := dk_42 (dk_at dksX6_init_0 4 rfl rfl)
theorem dX6_init_5 : decode cX6_init 5 = .ok (.new 7, 3) := dk_187 0 7 (dk_at dksX6_init_0 5 rfl rfl)
theorem dX6_init_8 : decode cX6_init 8 = .ok (.dup, 1) := dk_89 (dk_at dksX6_init_0 8 rfl rfl)
theorem dX6_init_9 : decode cX6_init 9 = .ok (.invokespecial 9, 3) := dk_183 0 9 (dk_at dksX6_init_0 9 rfl rfl)
theorem dX6_init_12 : decode cX6_init 12 = .ok (.putfield 10, 3) := dk_181 0 10 (dk_at dksX6_init_0 12 rfl rfl)
theorem dX6_init_15 : decode cX6_init 15 = .ok (.return_, 1) := dk_177 (dk_at dksX6_init_0 15 rfl rfl)
abbrev cX6_contains : ByteArray := prog_7_method_9_code
def yX6_contains : MethodName := ⟨RX6, "contains", "(Ljava/lang/Object;)Z"⟩
def dkwX6_contains_0 : List UInt8 := [42, 180, 0, 10, 43, 182, 0, 47, 172]
abbrev dktX6_contains_0 : List UInt8 := dkwX6_contains_0 ++ []
theorem dksX6_contains_0 : cX6_contains.data.toList.drop 0 = dktX6_contains_0 := by decide +kernel
theorem dX6_contains_0 : decode cX6_contains 0 = .ok (.aload_n 0, 1) := dk_42 (dk_at dksX6_contains_0 0 rfl rfl)
theorem dX6_contains_1 : decode cX6_contains 1 = .ok (.getfield 10, 3) := dk_180 0 10 (dk_at dksX6_contains_0 1 rfl rfl)
theorem dX6_contains_4 : decode cX6_contains 4 = .ok (.aload_n 1, 1) := dk_43 (dk_at dksX6_contains_0 4 rfl rfl)
theorem dX6_contains_5 : decode cX6_contains 5 = .ok (.invokevirtual 47, 3) := dk_182 0 47 (dk_at dksX6_contains_0 5 rfl rfl)
theorem dX6_contains_8 : decode cX6_contains 8 = .ok (.ireturn, 1) := dk_172 (dk_at dksX6_contains_0 8 rfl rfl)
abbrev cX6_size : ByteArray := prog_7_method_3_code
def yX6_size : MethodName := ⟨RX6, "size", "()I"⟩
def dkwX6_size_0 : List UInt8 := [42, 180, 0, 10, 182, 0, 20, 172]
abbrev dktX6_size_0 : List UInt8 := dkwX6_size_0 ++ []
theorem dksX6_size_0 : cX6_size.data.toList.drop 0 = dktX6_size_0 := by decide +kernel
theorem dX6_size_0 : decode cX6_size 0 = .ok (.aload_n 0, 1) := dk_42 (dk_at dksX6_size_0 0 rfl rfl)
theorem dX6_size_1 : decode cX6_size 1 = .ok (.getfield 10, 3) := dk_180 0 10 (dk_at dksX6_size_0 1 rfl rfl)
theorem dX6_size_4 : decode cX6_size 4 = .ok (.invokevirtual 20, 3) := dk_182 0 20 (dk_at dksX6_size_0 4 rfl rfl)
theorem dX6_size_7 : decode cX6_size 7 = .ok (.ireturn, 1) := dk_172 (dk_at dksX6_size_0 7 rfl rfl)
abbrev cX6_join : ByteArray := prog_7_method_6_code
def yX6_join : MethodName := ⟨RX6, "join", "(Ljava/lang/Object;)V"⟩
def dkwX6_join_0 : List UInt8 := [42, 180, 0, 10, 43, 182, 0, 38, 87, 177]
abbrev dktX6_join_0 : List UInt8 := dkwX6_join_0 ++ []
theorem dksX6_join_0 : cX6_join.data.toList.drop 0 = dktX6_join_0 := by decide +kernel
theorem dX6_join_0 : decode cX6_join 0 = .ok (.aload_n 0, 1) := dk_42 (dk_at dksX6_join_0 0 rfl rfl)
theorem dX6_join_1 : decode cX6_join 1 = .ok (.getfield 10, 3) := dk_180 0 10 (dk_at dksX6_join_0 1 rfl rfl)
theorem dX6_join_4 : decode cX6_join 4 = .ok (.aload_n 1, 1) := dk_43 (dk_at dksX6_join_0 4 rfl rfl)
theorem dX6_join_5 : decode cX6_join 5 = .ok (.invokevirtual 38, 3) := dk_182 0 38 (dk_at dksX6_join_0 5 rfl rfl)
theorem dX6_join_8 : decode cX6_join 8 = .ok (.pop, 1) := dk_87 (dk_at dksX6_join_0 8 rfl rfl)
theorem dX6_join_9 : decode cX6_join 9 = .ok (.return_, 1) := dk_177 (dk_at dksX6_join_0 9 rfl rfl)
abbrev cX6_remove : ByteArray := prog_7_method_8_code
def yX6_remove : MethodName := ⟨RX6, "remove", "(Ljava/lang/Object;)Z"⟩
def dkwX6_remove_0 : List UInt8 := [42, 180, 0, 10, 43, 182, 0, 45, 172]
abbrev dktX6_remove_0 : List UInt8 := dkwX6_remove_0 ++ []
theorem dksX6_remove_0 : cX6_remove.data.toList.drop 0 = dktX6_remove_0 := by decide +kernel
theorem dX6_remove_0 : decode cX6_remove 0 = .ok (.aload_n 0, 1) := dk_42 (dk_at dksX6_remove_0 0 rfl rfl)
theorem dX6_remove_1 : decode cX6_remove 1 = .ok (.getfield 10, 3) := dk_180 0 10 (dk_at dksX6_remove_0 1 rfl rfl)
theorem dX6_remove_4 : decode cX6_remove 4 = .ok (.aload_n 1, 1) := dk_43 (dk_at dksX6_remove_0 4 rfl rfl)
theorem dX6_remove_5 : decode cX6_remove 5 = .ok (.invokevirtual 45, 3) := dk_182 0 45 (dk_at dksX6_remove_0 5 rfl rfl)
theorem dX6_remove_8 : decode cX6_remove 8 = .ok (.ireturn, 1) := dk_172 (dk_at dksX6_remove_0 8 rfl rfl)
abbrev cX6_isEmpty : ByteArray := prog_7_method_2_code
def yX6_isEmpty : MethodName := ⟨RX6, "isEmpty", "()Z"⟩
def dkwX6_isEmpty_0 : List UInt8 := [42, 180, 0, 10, 182, 0, 16, 172]
abbrev dktX6_isEmpty_0 : List UInt8 := dkwX6_isEmpty_0 ++ []
theorem dksX6_isEmpty_0 : cX6_isEmpty.data.toList.drop 0 = dktX6_isEmpty_0 := by decide +kernel
theorem dX6_isEmpty_0 : decode cX6_isEmpty 0 = .ok (.aload_n 0, 1) := dk_42 (dk_at dksX6_isEmpty_0 0 rfl rfl)
theorem dX6_isEmpty_1 : decode cX6_isEmpty 1 = .ok (.getfield 10, 3) := dk_180 0 10 (dk_at dksX6_isEmpty_0 1 rfl rfl)
theorem dX6_isEmpty_4 : decode cX6_isEmpty 4 = .ok (.invokevirtual 16, 3) := dk_182 0 16 (dk_at dksX6_isEmpty_0 4 rfl rfl)
theorem dX6_isEmpty_7 : decode cX6_isEmpty 7 = .ok (.ireturn, 1) := dk_172 (dk_at dksX6_isEmpty_0 7 rfl rfl)
abbrev cX6_first : ByteArray := prog_7_method_4_code
def yX6_first : MethodName := ⟨RX6, "first", "()Ljava/lang/Object;"⟩
def dkwX6_first_0 : List UInt8 := [42, 180, 0, 10, 3, 182, 0, 24, 176]
abbrev dktX6_first_0 : List UInt8 := dkwX6_first_0 ++ []
theorem dksX6_first_0 : cX6_first.data.toList.drop 0 = dktX6_first_0 := by decide +kernel
theorem dX6_first_0 : decode cX6_first 0 = .ok (.aload_n 0, 1) := dk_42 (dk_at dksX6_first_0 0 rfl rfl)
theorem dX6_first_1 : decode cX6_first 1 = .ok (.getfield 10, 3) := dk_180 0 10 (dk_at dksX6_first_0 1 rfl rfl)
theorem dX6_first_4 : decode cX6_first 4 = .ok (.iconst 0, 1) := dk_3 (dk_at dksX6_first_0 4 rfl rfl)
theorem dX6_first_5 : decode cX6_first 5 = .ok (.invokevirtual 24, 3) := dk_182 0 24 (dk_at dksX6_first_0 5 rfl rfl)
theorem dX6_first_8 : decode cX6_first 8 = .ok (.areturn, 1) := dk_176 (dk_at dksX6_first_0 8 rfl rfl)
abbrev cX6_removeFirst : ByteArray := prog_7_method_7_code
def yX6_removeFirst : MethodName := ⟨RX6, "removeFirst", "()V"⟩
def dkwX6_removeFirst_0 : List UInt8 := [42, 180, 0, 10, 3, 182, 0, 42, 87, 177]
abbrev dktX6_removeFirst_0 : List UInt8 := dkwX6_removeFirst_0 ++ []
theorem dksX6_removeFirst_0 : cX6_removeFirst.data.toList.drop 0 = dktX6_removeFirst_0 := by decide +kernel
theorem dX6_removeFirst_0 : decode cX6_removeFirst 0 = .ok (.aload_n 0, 1) := dk_42 (dk_at dksX6_removeFirst_0 0 rfl rfl)
theorem dX6_removeFirst_1 : decode cX6_removeFirst 1 = .ok (.getfield 10, 3) := dk_180 0 10 (dk_at dksX6_removeFirst_0 1 rfl rfl)
theorem dX6_removeFirst_4 : decode cX6_removeFirst 4 = .ok (.iconst 0, 1) := dk_3 (dk_at dksX6_removeFirst_0 4 rfl rfl)
theorem dX6_removeFirst_5 : decode cX6_removeFirst 5 = .ok (.invokevirtual 42, 3) := dk_182 0 42 (dk_at dksX6_removeFirst_0 5 rfl rfl)
theorem dX6_removeFirst_8 : decode cX6_removeFirst 8 = .ok (.pop, 1) := dk_87 (dk_at dksX6_removeFirst_0 8 rfl rfl)
theorem dX6_removeFirst_9 : decode cX6_removeFirst 9 = .ok (.return_, 1) := dk_177 (dk_at dksX6_removeFirst_0 9 rfl rfl)
abbrev cX6_at : ByteArray := prog_7_method_5_code
def yX6_at : MethodName := ⟨RX6, "at", "(I)Ljava/lang/Object;"⟩
def dkwX6_at_1 : List UInt8 := [182, 0, 24, 176]
abbrev dktX6_at_1 : List UInt8 := dkwX6_at_1 ++ []
def dkwX6_at_0 : List UInt8 := [27, 3, 42, 180, 0, 10, 182, 0, 20, 4, 100, 184, 0, 28, 184, 0, 34, 42, 180, 0, 10, 27]
abbrev dktX6_at_0 : List UInt8 := dkwX6_at_0 ++ dktX6_at_1
theorem dksX6_at_0 : cX6_at.data.toList.drop 0 = dktX6_at_0 := by decide +kernel
theorem dksX6_at_1 : cX6_at.data.toList.drop 22 = dktX6_at_1 := dk_seg dksX6_at_0 22 rfl rfl
theorem dX6_at_0 : decode cX6_at 0 = .ok (.iload_n 1, 1) := dk_27 (dk_at dksX6_at_0 0 rfl rfl)
theorem dX6_at_1 : decode cX6_at 1 = .ok (.iconst 0, 1) := dk_3 (dk_at dksX6_at_0 1 rfl rfl)
theorem dX6_at_2 : decode cX6_at 2 = .ok (.aload_n 0, 1) := dk_42 (dk_at dksX6_at_0 2 rfl rfl)
theorem dX6_at_3 : decode cX6_at 3 = .ok (.getfield 10, 3) := dk_180 0 10 (dk_at dksX6_at_0 3 rfl rfl)
theorem dX6_at_6 : decode cX6_at 6 = .ok (.invokevirtual 20, 3) := dk_182 0 20 (dk_at dksX6_at_0 6 rfl rfl)
theorem dX6_at_9 : decode cX6_at 9 = .ok (.iconst 1, 1) := dk_4 (dk_at dksX6_at_0 9 rfl rfl)
theorem dX6_at_10 : decode cX6_at 10 = .ok (.isub, 1) := dk_100 (dk_at dksX6_at_0 10 rfl rfl)
theorem dX6_at_11 : decode cX6_at 11 = .ok (.invokestatic 28, 3) := dk_184 0 28 (dk_at dksX6_at_0 11 rfl rfl)
theorem dX6_at_14 : decode cX6_at 14 = .ok (.invokestatic 34, 3) := dk_184 0 34 (dk_at dksX6_at_0 14 rfl rfl)
theorem dX6_at_17 : decode cX6_at 17 = .ok (.aload_n 0, 1) := dk_42 (dk_at dksX6_at_0 17 rfl rfl)
theorem dX6_at_18 : decode cX6_at 18 = .ok (.getfield 10, 3) := dk_180 0 10 (dk_at dksX6_at_0 18 rfl rfl)
theorem dX6_at_21 : decode cX6_at 21 = .ok (.iload_n 1, 1) := dk_27 (dk_at dksX6_at_0 21 rfl rfl)
theorem dX6_at_22 : decode cX6_at 22 = .ok (.invokevirtual 24, 3) := dk_182 0 24 (dk_at dksX6_at_1 0 rfl rfl)
theorem dX6_at_25 : decode cX6_at 25 = .ok (.areturn, 1) := dk_176 (dk_at dksX6_at_1 3 rfl rfl)
theorem q84 : (Jvm.Cond.initialized "SlidePark$Line") ∈ lw_all := lw_g (lw_at lw_m1 19 rfl) rfl
theorem q654 : (Jvm.Cond.selects "SlidePark$Line" ({ cls := "java/lang/Object", name := "getClass", desc := "()Ljava/lang/Class;" } : Jvm.MethodName) ({ cls := "java/lang/Object", name := "getClass", desc := "()Ljava/lang/Class;" } : Jvm.MethodName)) ∈ lw_all := lw_g (lw_at lw_m3 109 rfl) rfl
theorem q688 : (Jvm.Cond.castable "SlidePark$Line" "SlidePark$Copyable") ∈ lw_tbl := lw_at lw_m3 143 rfl
theorem q689 : (Jvm.Cond.selects "SlidePark$Line" ({ cls := "SlidePark$Copyable", name := "copy", desc := "()Ljava/lang/Object;" } : Jvm.MethodName) ({ cls := "SlidePark$Line", name := "copy", desc := "()Ljava/lang/Object;" } : Jvm.MethodName)) ∈ lw_all := lw_g (lw_at lw_m3 144 rfl) rfl
theorem q690 : (Jvm.Cond.unhidden "SlidePark$Line" "copy" "()Ljava/lang/Object;") ∈ lw_tbl := lw_at lw_m3 145 rfl
theorem q691 : (Jvm.Cond.instanceMethod ({ cls := "SlidePark$Line", name := "copy", desc := "()Ljava/lang/Object;" } : Jvm.MethodName)) ∈ lw_all := lw_g (lw_at lw_m3 146 rfl) rfl
theorem q692 : (Jvm.Cond.publicMethod ({ cls := "SlidePark$Line", name := "copy", desc := "()Ljava/lang/Object;" } : Jvm.MethodName)) ∈ lw_tbl := lw_at lw_m3 147 rfl
theorem q693 : (Jvm.Cond.code ({ cls := "SlidePark$Line", name := "copy", desc := "()Ljava/lang/Object;" } : Jvm.MethodName) prog_7_method_11_code (1 : Nat) (Option.some (Jvm.ClassFile.FieldType.object "java/lang/Object"))) ∈ lw_all := lw_g (lw_at lw_m3 148 rfl) rfl
theorem q694 : (Jvm.Cond.methodLink "SlidePark$Line" (51 : Nat) ({ cls := "SlidePark$Line", name := "copy", desc := "()LSlidePark$Line;" } : Jvm.MethodName)) ∈ lw_all := lw_g (lw_at lw_m3 149 rfl) rfl
theorem q695 : (Jvm.Cond.instanceMethod ({ cls := "SlidePark$Line", name := "copy", desc := "()LSlidePark$Line;" } : Jvm.MethodName)) ∈ lw_all := lw_g (lw_at lw_m3 150 rfl) rfl
theorem q696 : (Jvm.Cond.selects "SlidePark$Line" ({ cls := "SlidePark$Line", name := "copy", desc := "()LSlidePark$Line;" } : Jvm.MethodName) ({ cls := "SlidePark$Line", name := "copy", desc := "()LSlidePark$Line;" } : Jvm.MethodName)) ∈ lw_all := lw_g (lw_at lw_m3 151 rfl) rfl
theorem q697 : (Jvm.Cond.code ({ cls := "SlidePark$Line", name := "copy", desc := "()LSlidePark$Line;" } : Jvm.MethodName) prog_7_method_10_code (3 : Nat) (Option.some (Jvm.ClassFile.FieldType.object "SlidePark$Line"))) ∈ lw_all := lw_g (lw_at lw_m3 152 rfl) rfl
theorem q698 : (Jvm.Cond.classLink "SlidePark$Line" (11 : Nat) "SlidePark$Line") ∈ lw_all := lw_g (lw_at lw_m3 153 rfl) rfl
theorem q699 : (Jvm.Cond.instantiable "SlidePark$Line" (1 : Nat)) ∈ lw_all := lw_g (lw_at lw_m3 154 rfl) rfl
theorem q700 : (Jvm.Cond.methodLink "SlidePark$Line" (50 : Nat) ({ cls := "SlidePark$Line", name := "<init>", desc := "()V" } : Jvm.MethodName)) ∈ lw_all := lw_g (lw_at lw_m3 155 rfl) rfl
theorem q701 : (Jvm.Cond.instanceMethod ({ cls := "SlidePark$Line", name := "<init>", desc := "()V" } : Jvm.MethodName)) ∈ lw_all := lw_g (lw_at lw_m3 156 rfl) rfl
theorem q702 : (Jvm.Cond.code ({ cls := "SlidePark$Line", name := "<init>", desc := "()V" } : Jvm.MethodName) prog_7_method_1_code (1 : Nat) (Option.none : Option Jvm.ClassFile.FieldType)) ∈ lw_all := lw_g (lw_at lw_m3 157 rfl) rfl
theorem q703 : (Jvm.Cond.methodLink "SlidePark$Line" (1 : Nat) ({ cls := "java/lang/Object", name := "<init>", desc := "()V" } : Jvm.MethodName)) ∈ lw_all := lw_g (lw_at lw_m3 158 rfl) rfl
theorem q704 : (Jvm.Cond.classLink "SlidePark$Line" (7 : Nat) "java/util/ArrayList") ∈ lw_all := lw_g (lw_at lw_m3 159 rfl) rfl
theorem q705 : (Jvm.Cond.methodLink "SlidePark$Line" (9 : Nat) ({ cls := "java/util/ArrayList", name := "<init>", desc := "()V" } : Jvm.MethodName)) ∈ lw_all := lw_g (lw_at lw_m3 160 rfl) rfl
theorem q706 : (Jvm.Cond.fieldLink "SlidePark$Line" (10 : Nat) "SlidePark$Line" "items" "Ljava/util/ArrayList;") ∈ lw_all := lw_g (lw_at lw_m3 161 rfl) rfl
theorem q707 : (Jvm.Cond.laysFinal "SlidePark$Line" "SlidePark$Line" "items" "Ljava/util/ArrayList;") ∈ lw_all := lw_g (lw_at lw_m3 162 rfl) rfl
theorem q708 : (Jvm.Cond.soleField "SlidePark$Line" "items") ∈ lw_all := lw_g (lw_at lw_m3 163 rfl) rfl
theorem q709 : (Jvm.Cond.superclass "SlidePark$Line" "java/lang/Object") ∈ lw_all := lw_g (lw_at lw_m3 164 rfl) rfl
theorem q710 : (Jvm.Cond.methodLink "SlidePark$Line" (20 : Nat) ({ cls := "java/util/ArrayList", name := "size", desc := "()I" } : Jvm.MethodName)) ∈ lw_all := lw_g (lw_at lw_m3 165 rfl) rfl
theorem q711 : (Jvm.Cond.methodLink "SlidePark$Line" (24 : Nat) ({ cls := "java/util/ArrayList", name := "get", desc := "(I)Ljava/lang/Object;" } : Jvm.MethodName)) ∈ lw_all := lw_g (lw_at lw_m3 166 rfl) rfl
theorem q712 : (Jvm.Cond.methodLink "SlidePark$Line" (38 : Nat) ({ cls := "java/util/ArrayList", name := "add", desc := "(Ljava/lang/Object;)Z" } : Jvm.MethodName)) ∈ lw_all := lw_g (lw_at lw_m3 167 rfl) rfl
theorem q1044 : (Jvm.Cond.instanceMethod ({ cls := "SlidePark$Line", name := "contains", desc := "(Ljava/lang/Object;)Z" } : Jvm.MethodName)) ∈ lw_all := lw_g (lw_at lw_m5 19 rfl) rfl
theorem q1045 : (Jvm.Cond.selects "SlidePark$Line" ({ cls := "SlidePark$Line", name := "contains", desc := "(Ljava/lang/Object;)Z" } : Jvm.MethodName) ({ cls := "SlidePark$Line", name := "contains", desc := "(Ljava/lang/Object;)Z" } : Jvm.MethodName)) ∈ lw_all := lw_g (lw_at lw_m5 20 rfl) rfl
theorem q1046 : (Jvm.Cond.code ({ cls := "SlidePark$Line", name := "contains", desc := "(Ljava/lang/Object;)Z" } : Jvm.MethodName) prog_7_method_9_code (2 : Nat) (Option.some Jvm.ClassFile.FieldType.boolean)) ∈ lw_all := lw_g (lw_at lw_m5 21 rfl) rfl
theorem q1047 : (Jvm.Cond.methodLink "SlidePark$Line" (47 : Nat) ({ cls := "java/util/ArrayList", name := "contains", desc := "(Ljava/lang/Object;)Z" } : Jvm.MethodName)) ∈ lw_all := lw_g (lw_at lw_m5 22 rfl) rfl
theorem q1068 : (Jvm.Cond.selects "SlidePark$Line" ({ cls := "java/lang/Object", name := "equals", desc := "(Ljava/lang/Object;)Z" } : Jvm.MethodName) ({ cls := "java/lang/Object", name := "equals", desc := "(Ljava/lang/Object;)Z" } : Jvm.MethodName)) ∈ lw_all := lw_g (lw_at lw_m5 43 rfl) rfl
theorem q1099 : (Jvm.Cond.instanceMethod ({ cls := "SlidePark$Line", name := "size", desc := "()I" } : Jvm.MethodName)) ∈ lw_all := lw_g (lw_at lw_m5 74 rfl) rfl
theorem q1100 : (Jvm.Cond.selects "SlidePark$Line" ({ cls := "SlidePark$Line", name := "size", desc := "()I" } : Jvm.MethodName) ({ cls := "SlidePark$Line", name := "size", desc := "()I" } : Jvm.MethodName)) ∈ lw_all := lw_g (lw_at lw_m5 75 rfl) rfl
theorem q1101 : (Jvm.Cond.code ({ cls := "SlidePark$Line", name := "size", desc := "()I" } : Jvm.MethodName) prog_7_method_3_code (1 : Nat) (Option.some Jvm.ClassFile.FieldType.int)) ∈ lw_all := lw_g (lw_at lw_m5 76 rfl) rfl
theorem q1103 : (Jvm.Cond.instanceMethod ({ cls := "SlidePark$Line", name := "join", desc := "(Ljava/lang/Object;)V" } : Jvm.MethodName)) ∈ lw_all := lw_g (lw_at lw_m5 78 rfl) rfl
theorem q1104 : (Jvm.Cond.selects "SlidePark$Line" ({ cls := "SlidePark$Line", name := "join", desc := "(Ljava/lang/Object;)V" } : Jvm.MethodName) ({ cls := "SlidePark$Line", name := "join", desc := "(Ljava/lang/Object;)V" } : Jvm.MethodName)) ∈ lw_all := lw_g (lw_at lw_m5 79 rfl) rfl
theorem q1105 : (Jvm.Cond.code ({ cls := "SlidePark$Line", name := "join", desc := "(Ljava/lang/Object;)V" } : Jvm.MethodName) prog_7_method_6_code (2 : Nat) (Option.none : Option Jvm.ClassFile.FieldType)) ∈ lw_all := lw_g (lw_at lw_m5 80 rfl) rfl
theorem q1122 : (Jvm.Cond.instanceMethod ({ cls := "SlidePark$Line", name := "remove", desc := "(Ljava/lang/Object;)Z" } : Jvm.MethodName)) ∈ lw_all := lw_g (lw_at lw_m5 97 rfl) rfl
theorem q1123 : (Jvm.Cond.selects "SlidePark$Line" ({ cls := "SlidePark$Line", name := "remove", desc := "(Ljava/lang/Object;)Z" } : Jvm.MethodName) ({ cls := "SlidePark$Line", name := "remove", desc := "(Ljava/lang/Object;)Z" } : Jvm.MethodName)) ∈ lw_all := lw_g (lw_at lw_m5 98 rfl) rfl
theorem q1124 : (Jvm.Cond.code ({ cls := "SlidePark$Line", name := "remove", desc := "(Ljava/lang/Object;)Z" } : Jvm.MethodName) prog_7_method_8_code (2 : Nat) (Option.some Jvm.ClassFile.FieldType.boolean)) ∈ lw_all := lw_g (lw_at lw_m5 99 rfl) rfl
theorem q1125 : (Jvm.Cond.methodLink "SlidePark$Line" (45 : Nat) ({ cls := "java/util/ArrayList", name := "remove", desc := "(Ljava/lang/Object;)Z" } : Jvm.MethodName)) ∈ lw_all := lw_g (lw_at lw_m5 100 rfl) rfl
theorem q1145 : (Jvm.Cond.instanceMethod ({ cls := "SlidePark$Line", name := "isEmpty", desc := "()Z" } : Jvm.MethodName)) ∈ lw_all := lw_g (lw_at lw_m5 120 rfl) rfl
theorem q1146 : (Jvm.Cond.selects "SlidePark$Line" ({ cls := "SlidePark$Line", name := "isEmpty", desc := "()Z" } : Jvm.MethodName) ({ cls := "SlidePark$Line", name := "isEmpty", desc := "()Z" } : Jvm.MethodName)) ∈ lw_all := lw_g (lw_at lw_m5 121 rfl) rfl
theorem q1147 : (Jvm.Cond.code ({ cls := "SlidePark$Line", name := "isEmpty", desc := "()Z" } : Jvm.MethodName) prog_7_method_2_code (1 : Nat) (Option.some Jvm.ClassFile.FieldType.boolean)) ∈ lw_all := lw_g (lw_at lw_m5 122 rfl) rfl
theorem q1148 : (Jvm.Cond.methodLink "SlidePark$Line" (16 : Nat) ({ cls := "java/util/ArrayList", name := "isEmpty", desc := "()Z" } : Jvm.MethodName)) ∈ lw_all := lw_g (lw_at lw_m5 123 rfl) rfl
theorem q1157 : (Jvm.Cond.instanceMethod ({ cls := "SlidePark$Line", name := "first", desc := "()Ljava/lang/Object;" } : Jvm.MethodName)) ∈ lw_all := lw_g (lw_at lw_m5 132 rfl) rfl
theorem q1158 : (Jvm.Cond.selects "SlidePark$Line" ({ cls := "SlidePark$Line", name := "first", desc := "()Ljava/lang/Object;" } : Jvm.MethodName) ({ cls := "SlidePark$Line", name := "first", desc := "()Ljava/lang/Object;" } : Jvm.MethodName)) ∈ lw_all := lw_g (lw_at lw_m5 133 rfl) rfl
theorem q1159 : (Jvm.Cond.code ({ cls := "SlidePark$Line", name := "first", desc := "()Ljava/lang/Object;" } : Jvm.MethodName) prog_7_method_4_code (1 : Nat) (Option.some (Jvm.ClassFile.FieldType.object "java/lang/Object"))) ∈ lw_all := lw_g (lw_at lw_m5 134 rfl) rfl
theorem q1163 : (Jvm.Cond.instanceMethod ({ cls := "SlidePark$Line", name := "removeFirst", desc := "()V" } : Jvm.MethodName)) ∈ lw_all := lw_g (lw_at lw_m5 138 rfl) rfl
theorem q1164 : (Jvm.Cond.selects "SlidePark$Line" ({ cls := "SlidePark$Line", name := "removeFirst", desc := "()V" } : Jvm.MethodName) ({ cls := "SlidePark$Line", name := "removeFirst", desc := "()V" } : Jvm.MethodName)) ∈ lw_all := lw_g (lw_at lw_m5 139 rfl) rfl
theorem q1165 : (Jvm.Cond.code ({ cls := "SlidePark$Line", name := "removeFirst", desc := "()V" } : Jvm.MethodName) prog_7_method_7_code (1 : Nat) (Option.none : Option Jvm.ClassFile.FieldType)) ∈ lw_all := lw_g (lw_at lw_m5 140 rfl) rfl
theorem q1166 : (Jvm.Cond.methodLink "SlidePark$Line" (42 : Nat) ({ cls := "java/util/ArrayList", name := "remove", desc := "(I)Ljava/lang/Object;" } : Jvm.MethodName)) ∈ lw_all := lw_g (lw_at lw_m5 141 rfl) rfl
theorem q1276 : (Jvm.Cond.instanceMethod ({ cls := "SlidePark$Line", name := "at", desc := "(I)Ljava/lang/Object;" } : Jvm.MethodName)) ∈ lw_all := lw_g (lw_at lw_m6 11 rfl) rfl
theorem q1277 : (Jvm.Cond.selects "SlidePark$Line" ({ cls := "SlidePark$Line", name := "at", desc := "(I)Ljava/lang/Object;" } : Jvm.MethodName) ({ cls := "SlidePark$Line", name := "at", desc := "(I)Ljava/lang/Object;" } : Jvm.MethodName)) ∈ lw_all := lw_g (lw_at lw_m6 12 rfl) rfl
theorem q1278 : (Jvm.Cond.code ({ cls := "SlidePark$Line", name := "at", desc := "(I)Ljava/lang/Object;" } : Jvm.MethodName) prog_7_method_5_code (2 : Nat) (Option.some (Jvm.ClassFile.FieldType.object "java/lang/Object"))) ∈ lw_all := lw_g (lw_at lw_m6 13 rfl) rfl
theorem q1279 : (Jvm.Cond.methodLinkNest "SlidePark$Line" (28 : Nat) ({ cls := "SlidePark", name := "isBetween", desc := "(III)Z" } : Jvm.MethodName) "SlidePark") ∈ lw_tbl := lw_at lw_m6 14 rfl
theorem q1280 : (Jvm.Cond.methodLinkNest "SlidePark$Line" (34 : Nat) ({ cls := "SlidePark", name := "requireElement", desc := "(Z)V" } : Jvm.MethodName) "SlidePark") ∈ lw_tbl := lw_at lw_m6 15 rfl
theorem q2404 : (Jvm.Cond.castable "SlidePark$Line" "java/lang/Object") ∈ lw_tbl := lw_at lw_m10 179 rfl
theorem in_X6 : ∀ w ∈ wsX60, w ∈ lw_all := lw_in wsX60 [707] (by decide +kernel) (by decide +kernel)

/-! SlidePark$Slide -/
set_option maxRecDepth 100000
def RX7 : String := "SlidePark$Slide"
def TX7 : u_T := fun k => match k with
  | 0 => ("SlidePark$Slide", "duration", "I", true)
  | 1 => ("SlidePark$Slide", "price", "I", true)
  | 2 => ("SlidePark$Slide", "queue", "LSlidePark$Line;", true)
  | _ => ("SlidePark$Slide", "wetness", "I", false)
def tyX7 : Nat → FieldType := fun k => match k with
  | 0 => .int
  | 1 => .int
  | 2 => .object "SlidePark$Line"
  | _ => .int
abbrev wsX70 : List Cond := u_ws RX7 TX7 4
theorem nmX7 : ∀ a, a < 4 → ∀ b, b < 4 → a ≠ b → (TX7 a).2.1 ≠ (TX7 b).2.1 := by decide +kernel
theorem tyX7_ok : ∀ k, k < 4 → parseFieldDescriptor (TX7 k).2.2.1 = some (tyX7 k) := by decide +kernel
abbrev cX7_isAheadOf : ByteArray := prog_11_method_8_code
def yX7_isAheadOf : MethodName := ⟨RX7, "isAheadOf", "(Ljava/lang/Object;Z)Z"⟩
def dkwX7_isAheadOf_0 : List UInt8 := [42, 43, 192, 0, 10, 28, 182, 0, 46, 172]
abbrev dktX7_isAheadOf_0 : List UInt8 := dkwX7_isAheadOf_0 ++ []
theorem dksX7_isAheadOf_0 : cX7_isAheadOf.data.toList.drop 0 = dktX7_isAheadOf_0 := by decide +kernel
theorem dX7_isAheadOf_0 : decode cX7_isAheadOf 0 = .ok (.aload_n 0, 1) := dk_42 (dk_at dksX7_isAheadOf_0 0 rfl rfl)
theorem dX7_isAheadOf_1 : decode cX7_isAheadOf 1 = .ok (.aload_n 1, 1) := dk_43 (dk_at dksX7_isAheadOf_0 1 rfl rfl)
theorem dX7_isAheadOf_2 : decode cX7_isAheadOf 2 = .ok (.checkcast 10, 3) := dk_192 0 10 (dk_at dksX7_isAheadOf_0 2 rfl rfl)
theorem dX7_isAheadOf_5 : decode cX7_isAheadOf 5 = .ok (.iload_n 2, 1) := dk_28 (dk_at dksX7_isAheadOf_0 5 rfl rfl)
theorem dX7_isAheadOf_6 : decode cX7_isAheadOf 6 = .ok (.invokevirtual 46, 3) := dk_182 0 46 (dk_at dksX7_isAheadOf_0 6 rfl rfl)
theorem dX7_isAheadOf_9 : decode cX7_isAheadOf 9 = .ok (.ireturn, 1) := dk_172 (dk_at dksX7_isAheadOf_0 9 rfl rfl)
abbrev cX7_isAheadOf_2 : ByteArray := prog_11_method_6_code
def yX7_isAheadOf_2 : MethodName := ⟨RX7, "isAheadOf", "(LSlidePark$Slide;Z)Z"⟩
def dkwX7_isAheadOf_2_1 : List UInt8 := [167, 0, 8, 3, 167, 0, 4, 28, 172]
abbrev dktX7_isAheadOf_2_1 : List UInt8 := dkwX7_isAheadOf_2_1 ++ []
def dkwX7_isAheadOf_2_0 : List UInt8 := [42, 180, 0, 22, 43, 180, 0, 22, 159, 0, 22, 42, 180, 0, 22, 43, 180, 0, 22, 164, 0, 7, 4]
abbrev dktX7_isAheadOf_2_0 : List UInt8 := dkwX7_isAheadOf_2_0 ++ dktX7_isAheadOf_2_1
theorem dksX7_isAheadOf_2_0 : cX7_isAheadOf_2.data.toList.drop 0 = dktX7_isAheadOf_2_0 := by decide +kernel
theorem dksX7_isAheadOf_2_1 : cX7_isAheadOf_2.data.toList.drop 23 = dktX7_isAheadOf_2_1 := dk_seg dksX7_isAheadOf_2_0 23 rfl rfl
theorem dX7_isAheadOf_2_0 : decode cX7_isAheadOf_2 0 = .ok (.aload_n 0, 1) := dk_42 (dk_at dksX7_isAheadOf_2_0 0 rfl rfl)
theorem dX7_isAheadOf_2_1 : decode cX7_isAheadOf_2 1 = .ok (.getfield 22, 3) := dk_180 0 22 (dk_at dksX7_isAheadOf_2_0 1 rfl rfl)
theorem dX7_isAheadOf_2_4 : decode cX7_isAheadOf_2 4 = .ok (.aload_n 1, 1) := dk_43 (dk_at dksX7_isAheadOf_2_0 4 rfl rfl)
theorem dX7_isAheadOf_2_5 : decode cX7_isAheadOf_2 5 = .ok (.getfield 22, 3) := dk_180 0 22 (dk_at dksX7_isAheadOf_2_0 5 rfl rfl)
theorem dX7_isAheadOf_2_8 : decode cX7_isAheadOf_2 8 = .ok (.if_icmp .eq 22, 3) := dk_159 0 22 (dk_at dksX7_isAheadOf_2_0 8 rfl rfl)
theorem dX7_isAheadOf_2_11 : decode cX7_isAheadOf_2 11 = .ok (.aload_n 0, 1) := dk_42 (dk_at dksX7_isAheadOf_2_0 11 rfl rfl)
theorem dX7_isAheadOf_2_12 : decode cX7_isAheadOf_2 12 = .ok (.getfield 22, 3) := dk_180 0 22 (dk_at dksX7_isAheadOf_2_0 12 rfl rfl)
theorem dX7_isAheadOf_2_15 : decode cX7_isAheadOf_2 15 = .ok (.aload_n 1, 1) := dk_43 (dk_at dksX7_isAheadOf_2_0 15 rfl rfl)
theorem dX7_isAheadOf_2_16 : decode cX7_isAheadOf_2 16 = .ok (.getfield 22, 3) := dk_180 0 22 (dk_at dksX7_isAheadOf_2_0 16 rfl rfl)
theorem dX7_isAheadOf_2_19 : decode cX7_isAheadOf_2 19 = .ok (.if_icmp .le 7, 3) := dk_164 0 7 (dk_at dksX7_isAheadOf_2_0 19 rfl rfl)
theorem dX7_isAheadOf_2_22 : decode cX7_isAheadOf_2 22 = .ok (.iconst 1, 1) := dk_4 (dk_at dksX7_isAheadOf_2_0 22 rfl rfl)
theorem dX7_isAheadOf_2_23 : decode cX7_isAheadOf_2 23 = .ok (.goto 8, 3) := dk_167 0 8 (dk_at dksX7_isAheadOf_2_1 0 rfl rfl)
theorem dX7_isAheadOf_2_26 : decode cX7_isAheadOf_2 26 = .ok (.iconst 0, 1) := dk_3 (dk_at dksX7_isAheadOf_2_1 3 rfl rfl)
theorem dX7_isAheadOf_2_27 : decode cX7_isAheadOf_2 27 = .ok (.goto 4, 3) := dk_167 0 4 (dk_at dksX7_isAheadOf_2_1 4 rfl rfl)
theorem dX7_isAheadOf_2_30 : decode cX7_isAheadOf_2 30 = .ok (.iload_n 2, 1) := dk_28 (dk_at dksX7_isAheadOf_2_1 7 rfl rfl)
theorem dX7_isAheadOf_2_31 : decode cX7_isAheadOf_2 31 = .ok (.ireturn, 1) := dk_172 (dk_at dksX7_isAheadOf_2_1 8 rfl rfl)
abbrev cX7_copy : ByteArray := prog_11_method_7_code
def yX7_copy : MethodName := ⟨RX7, "copy", "()Ljava/lang/Object;"⟩
theorem dX7_copy_0 : decode cX7_copy 0 = .ok (.aload_n 0, 1) := by decide +kernel
theorem dX7_copy_1 : decode cX7_copy 1 = .ok (.invokevirtual 43, 3) := by decide +kernel
theorem dX7_copy_4 : decode cX7_copy 4 = .ok (.areturn, 1) := by decide +kernel
abbrev cX7_copy_2 : ByteArray := prog_11_method_5_code
def yX7_copy_2 : MethodName := ⟨RX7, "copy", "()LSlidePark$Slide;"⟩
def dkwX7_copy_2_1 : List UInt8 := [42, 180, 0, 22, 181, 0, 22, 43, 176]
abbrev dktX7_copy_2_1 : List UInt8 := dkwX7_copy_2_1 ++ []
def dkwX7_copy_2_0 : List UInt8 := [187, 0, 10, 89, 42, 180, 0, 9, 42, 180, 0, 15, 42, 180, 0, 18, 182, 0, 34, 183, 0, 40, 76, 43]
abbrev dktX7_copy_2_0 : List UInt8 := dkwX7_copy_2_0 ++ dktX7_copy_2_1
theorem dksX7_copy_2_0 : cX7_copy_2.data.toList.drop 0 = dktX7_copy_2_0 := by decide +kernel
theorem dksX7_copy_2_1 : cX7_copy_2.data.toList.drop 24 = dktX7_copy_2_1 := dk_seg dksX7_copy_2_0 24 rfl rfl
theorem dX7_copy_2_0 : decode cX7_copy_2 0 = .ok (.new 10, 3) := dk_187 0 10 (dk_at dksX7_copy_2_0 0 rfl rfl)
theorem dX7_copy_2_3 : decode cX7_copy_2 3 = .ok (.dup, 1) := dk_89 (dk_at dksX7_copy_2_0 3 rfl rfl)
theorem dX7_copy_2_4 : decode cX7_copy_2 4 = .ok (.aload_n 0, 1) := dk_42 (dk_at dksX7_copy_2_0 4 rfl rfl)
theorem dX7_copy_2_5 : decode cX7_copy_2 5 = .ok (.getfield 9, 3) := dk_180 0 9 (dk_at dksX7_copy_2_0 5 rfl rfl)
theorem dX7_copy_2_8 : decode cX7_copy_2 8 = .ok (.aload_n 0, 1) := dk_42 (dk_at dksX7_copy_2_0 8 rfl rfl)
theorem dX7_copy_2_9 : decode cX7_copy_2 9 = .ok (.getfield 15, 3) := dk_180 0 15 (dk_at dksX7_copy_2_0 9 rfl rfl)
theorem dX7_copy_2_12 : decode cX7_copy_2 12 = .ok (.aload_n 0, 1) := dk_42 (dk_at dksX7_copy_2_0 12 rfl rfl)
theorem dX7_copy_2_13 : decode cX7_copy_2 13 = .ok (.getfield 18, 3) := dk_180 0 18 (dk_at dksX7_copy_2_0 13 rfl rfl)
theorem dX7_copy_2_16 : decode cX7_copy_2 16 = .ok (.invokevirtual 34, 3) := dk_182 0 34 (dk_at dksX7_copy_2_0 16 rfl rfl)
theorem dX7_copy_2_19 : decode cX7_copy_2 19 = .ok (.invokespecial 40, 3) := dk_183 0 40 (dk_at dksX7_copy_2_0 19 rfl rfl)
theorem dX7_copy_2_22 : decode cX7_copy_2 22 = .ok (.astore_n 1, 1) := dk_76 (dk_at dksX7_copy_2_0 22 rfl rfl)
theorem dX7_copy_2_23 : decode cX7_copy_2 23 = .ok (.aload_n 1, 1) := dk_43 (dk_at dksX7_copy_2_0 23 rfl rfl)
theorem dX7_copy_2_24 : decode cX7_copy_2 24 = .ok (.aload_n 0, 1) := dk_42 (dk_at dksX7_copy_2_1 0 rfl rfl)
theorem dX7_copy_2_25 : decode cX7_copy_2 25 = .ok (.getfield 22, 3) := dk_180 0 22 (dk_at dksX7_copy_2_1 1 rfl rfl)
theorem dX7_copy_2_28 : decode cX7_copy_2 28 = .ok (.putfield 22, 3) := dk_181 0 22 (dk_at dksX7_copy_2_1 4 rfl rfl)
theorem dX7_copy_2_31 : decode cX7_copy_2 31 = .ok (.aload_n 1, 1) := dk_43 (dk_at dksX7_copy_2_1 7 rfl rfl)
theorem dX7_copy_2_32 : decode cX7_copy_2 32 = .ok (.areturn, 1) := dk_176 (dk_at dksX7_copy_2_1 8 rfl rfl)
abbrev cX7_init : ByteArray := prog_11_method_1_code
def yX7_init : MethodName := ⟨RX7, "<init>", "(IILSlidePark$Line;)V"⟩
def dkwX7_init_0 : List UInt8 := [42, 183, 0, 3, 42, 27, 181, 0, 9, 42, 28, 181, 0, 15, 42, 45, 181, 0, 18, 177]
abbrev dktX7_init_0 : List UInt8 := dkwX7_init_0 ++ []
theorem dksX7_init_0 : cX7_init.data.toList.drop 0 = dktX7_init_0 := by decide +kernel
theorem dX7_init_0 : decode cX7_init 0 = .ok (.aload_n 0, 1) := dk_42 (dk_at dksX7_init_0 0 rfl rfl)
theorem dX7_init_1 : decode cX7_init 1 = .ok (.invokespecial 3, 3) := dk_183 0 3 (dk_at dksX7_init_0 1 rfl rfl)
theorem dX7_init_4 : decode cX7_init 4 = .ok (.aload_n 0, 1) := dk_42 (dk_at dksX7_init_0 4 rfl rfl)
theorem dX7_init_5 : decode cX7_init 5 = .ok (.iload_n 1, 1) := dk_27 (dk_at dksX7_init_0 5 rfl rfl)
theorem dX7_init_6 : decode cX7_init 6 = .ok (.putfield 9, 3) := dk_181 0 9 (dk_at dksX7_init_0 6 rfl rfl)
theorem dX7_init_9 : decode cX7_init 9 = .ok (.aload_n 0, 1) := dk_42 (dk_at dksX7_init_0 9 rfl rfl)
theorem dX7_init_10 : decode cX7_init 10 = .ok (.iload_n 2, 1) := dk_28 (dk_at dksX7_init_0 10 rfl rfl)
theorem dX7_init_11 : decode cX7_init 11 = .ok (.putfield 15, 3) := dk_181 0 15 (dk_at dksX7_init_0 11 rfl rfl)
theorem dX7_init_14 : decode cX7_init 14 = .ok (.aload_n 0, 1) := dk_42 (dk_at dksX7_init_0 14 rfl rfl)
theorem dX7_init_15 : decode cX7_init 15 = .ok (.aload_n 3, 1) := dk_45 (dk_at dksX7_init_0 15 rfl rfl)
theorem dX7_init_16 : decode cX7_init 16 = .ok (.putfield 18, 3) := dk_181 0 18 (dk_at dksX7_init_0 16 rfl rfl)
theorem dX7_init_19 : decode cX7_init 19 = .ok (.return_, 1) := dk_177 (dk_at dksX7_init_0 19 rfl rfl)
abbrev cX7_dry : ByteArray := prog_11_method_4_code
def yX7_dry : MethodName := ⟨RX7, "dry", "()V"⟩
def dkwX7_dry_0 : List UInt8 := [42, 3, 42, 180, 0, 22, 4, 100, 184, 0, 31, 181, 0, 22, 177]
abbrev dktX7_dry_0 : List UInt8 := dkwX7_dry_0 ++ []
theorem dksX7_dry_0 : cX7_dry.data.toList.drop 0 = dktX7_dry_0 := by decide +kernel
theorem dX7_dry_0 : decode cX7_dry 0 = .ok (.aload_n 0, 1) := dk_42 (dk_at dksX7_dry_0 0 rfl rfl)
theorem dX7_dry_1 : decode cX7_dry 1 = .ok (.iconst 0, 1) := dk_3 (dk_at dksX7_dry_0 1 rfl rfl)
theorem dX7_dry_2 : decode cX7_dry 2 = .ok (.aload_n 0, 1) := dk_42 (dk_at dksX7_dry_0 2 rfl rfl)
theorem dX7_dry_3 : decode cX7_dry 3 = .ok (.getfield 22, 3) := dk_180 0 22 (dk_at dksX7_dry_0 3 rfl rfl)
theorem dX7_dry_6 : decode cX7_dry 6 = .ok (.iconst 1, 1) := dk_4 (dk_at dksX7_dry_0 6 rfl rfl)
theorem dX7_dry_7 : decode cX7_dry 7 = .ok (.isub, 1) := dk_100 (dk_at dksX7_dry_0 7 rfl rfl)
theorem dX7_dry_8 : decode cX7_dry 8 = .ok (.invokestatic 31, 3) := dk_184 0 31 (dk_at dksX7_dry_0 8 rfl rfl)
theorem dX7_dry_11 : decode cX7_dry 11 = .ok (.putfield 22, 3) := dk_181 0 22 (dk_at dksX7_dry_0 11 rfl rfl)
theorem dX7_dry_14 : decode cX7_dry 14 = .ok (.return_, 1) := dk_177 (dk_at dksX7_dry_0 14 rfl rfl)
abbrev cX7_isWet : ByteArray := prog_11_method_2_code
def yX7_isWet : MethodName := ⟨RX7, "isWet", "()Z"⟩
def dkwX7_isWet_0 : List UInt8 := [42, 180, 0, 22, 8, 161, 0, 7, 4, 167, 0, 4, 3, 172]
abbrev dktX7_isWet_0 : List UInt8 := dkwX7_isWet_0 ++ []
theorem dksX7_isWet_0 : cX7_isWet.data.toList.drop 0 = dktX7_isWet_0 := by decide +kernel
theorem dX7_isWet_0 : decode cX7_isWet 0 = .ok (.aload_n 0, 1) := dk_42 (dk_at dksX7_isWet_0 0 rfl rfl)
theorem dX7_isWet_1 : decode cX7_isWet 1 = .ok (.getfield 22, 3) := dk_180 0 22 (dk_at dksX7_isWet_0 1 rfl rfl)
theorem dX7_isWet_4 : decode cX7_isWet 4 = .ok (.iconst 5, 1) := dk_8 (dk_at dksX7_isWet_0 4 rfl rfl)
theorem dX7_isWet_5 : decode cX7_isWet 5 = .ok (.if_icmp .lt 7, 3) := dk_161 0 7 (dk_at dksX7_isWet_0 5 rfl rfl)
theorem dX7_isWet_8 : decode cX7_isWet 8 = .ok (.iconst 1, 1) := dk_4 (dk_at dksX7_isWet_0 8 rfl rfl)
theorem dX7_isWet_9 : decode cX7_isWet 9 = .ok (.goto 4, 3) := dk_167 0 4 (dk_at dksX7_isWet_0 9 rfl rfl)
theorem dX7_isWet_12 : decode cX7_isWet 12 = .ok (.iconst 0, 1) := dk_3 (dk_at dksX7_isWet_0 12 rfl rfl)
theorem dX7_isWet_13 : decode cX7_isWet 13 = .ok (.ireturn, 1) := dk_172 (dk_at dksX7_isWet_0 13 rfl rfl)
abbrev cX7_becomeWetter : ByteArray := prog_11_method_3_code
def yX7_becomeWetter : MethodName := ⟨RX7, "becomeWetter", "()V"⟩
def dkwX7_becomeWetter_0 : List UInt8 := [42, 16, 9, 42, 180, 0, 22, 5, 96, 184, 0, 25, 181, 0, 22, 177]
abbrev dktX7_becomeWetter_0 : List UInt8 := dkwX7_becomeWetter_0 ++ []
theorem dksX7_becomeWetter_0 : cX7_becomeWetter.data.toList.drop 0 = dktX7_becomeWetter_0 := by decide +kernel
theorem dX7_becomeWetter_0 : decode cX7_becomeWetter 0 = .ok (.aload_n 0, 1) := dk_42 (dk_at dksX7_becomeWetter_0 0 rfl rfl)
theorem dX7_becomeWetter_1 : decode cX7_becomeWetter 1 = .ok (.bipush 9, 2) := dk_16 9 (dk_at dksX7_becomeWetter_0 1 rfl rfl)
theorem dX7_becomeWetter_3 : decode cX7_becomeWetter 3 = .ok (.aload_n 0, 1) := dk_42 (dk_at dksX7_becomeWetter_0 3 rfl rfl)
theorem dX7_becomeWetter_4 : decode cX7_becomeWetter 4 = .ok (.getfield 22, 3) := dk_180 0 22 (dk_at dksX7_becomeWetter_0 4 rfl rfl)
theorem dX7_becomeWetter_7 : decode cX7_becomeWetter 7 = .ok (.iconst 2, 1) := dk_5 (dk_at dksX7_becomeWetter_0 7 rfl rfl)
theorem dX7_becomeWetter_8 : decode cX7_becomeWetter 8 = .ok (.iadd, 1) := dk_96 (dk_at dksX7_becomeWetter_0 8 rfl rfl)
theorem dX7_becomeWetter_9 : decode cX7_becomeWetter 9 = .ok (.invokestatic 25, 3) := dk_184 0 25 (dk_at dksX7_becomeWetter_0 9 rfl rfl)
theorem dX7_becomeWetter_12 : decode cX7_becomeWetter 12 = .ok (.putfield 22, 3) := dk_181 0 22 (dk_at dksX7_becomeWetter_0 12 rfl rfl)
theorem dX7_becomeWetter_15 : decode cX7_becomeWetter 15 = .ok (.return_, 1) := dk_177 (dk_at dksX7_becomeWetter_0 15 rfl rfl)
theorem q85 : (Jvm.Cond.initialized "SlidePark$Slide") ∈ lw_all := lw_g (lw_at lw_m1 20 rfl) rfl
theorem q348 : (Jvm.Cond.castable "SlidePark$Slide" "SlidePark$Ranked") ∈ lw_tbl := lw_at lw_m2 43 rfl
theorem q349 : (Jvm.Cond.selects "SlidePark$Slide" ({ cls := "SlidePark$Ranked", name := "isAheadOf", desc := "(Ljava/lang/Object;Z)Z" } : Jvm.MethodName) ({ cls := "SlidePark$Slide", name := "isAheadOf", desc := "(Ljava/lang/Object;Z)Z" } : Jvm.MethodName)) ∈ lw_all := lw_g (lw_at lw_m2 44 rfl) rfl
theorem q350 : (Jvm.Cond.unhidden "SlidePark$Slide" "isAheadOf" "(Ljava/lang/Object;Z)Z") ∈ lw_tbl := lw_at lw_m2 45 rfl
theorem q351 : (Jvm.Cond.instanceMethod ({ cls := "SlidePark$Slide", name := "isAheadOf", desc := "(Ljava/lang/Object;Z)Z" } : Jvm.MethodName)) ∈ lw_all := lw_g (lw_at lw_m2 46 rfl) rfl
theorem q352 : (Jvm.Cond.publicMethod ({ cls := "SlidePark$Slide", name := "isAheadOf", desc := "(Ljava/lang/Object;Z)Z" } : Jvm.MethodName)) ∈ lw_tbl := lw_at lw_m2 47 rfl
theorem q353 : (Jvm.Cond.code ({ cls := "SlidePark$Slide", name := "isAheadOf", desc := "(Ljava/lang/Object;Z)Z" } : Jvm.MethodName) prog_11_method_8_code (3 : Nat) (Option.some Jvm.ClassFile.FieldType.boolean)) ∈ lw_all := lw_g (lw_at lw_m2 48 rfl) rfl
theorem q354 : (Jvm.Cond.classLink "SlidePark$Slide" (10 : Nat) "SlidePark$Slide") ∈ lw_all := lw_g (lw_at lw_m2 49 rfl) rfl
theorem q355 : (Jvm.Cond.methodLink "SlidePark$Slide" (46 : Nat) ({ cls := "SlidePark$Slide", name := "isAheadOf", desc := "(LSlidePark$Slide;Z)Z" } : Jvm.MethodName)) ∈ lw_all := lw_g (lw_at lw_m2 50 rfl) rfl
theorem q356 : (Jvm.Cond.instanceMethod ({ cls := "SlidePark$Slide", name := "isAheadOf", desc := "(LSlidePark$Slide;Z)Z" } : Jvm.MethodName)) ∈ lw_all := lw_g (lw_at lw_m2 51 rfl) rfl
theorem q357 : (Jvm.Cond.selects "SlidePark$Slide" ({ cls := "SlidePark$Slide", name := "isAheadOf", desc := "(LSlidePark$Slide;Z)Z" } : Jvm.MethodName) ({ cls := "SlidePark$Slide", name := "isAheadOf", desc := "(LSlidePark$Slide;Z)Z" } : Jvm.MethodName)) ∈ lw_all := lw_g (lw_at lw_m2 52 rfl) rfl
theorem q358 : (Jvm.Cond.code ({ cls := "SlidePark$Slide", name := "isAheadOf", desc := "(LSlidePark$Slide;Z)Z" } : Jvm.MethodName) prog_11_method_6_code (3 : Nat) (Option.some Jvm.ClassFile.FieldType.boolean)) ∈ lw_all := lw_g (lw_at lw_m2 53 rfl) rfl
theorem q657 : (Jvm.Cond.selects "SlidePark$Slide" ({ cls := "java/lang/Object", name := "getClass", desc := "()Ljava/lang/Class;" } : Jvm.MethodName) ({ cls := "java/lang/Object", name := "getClass", desc := "()Ljava/lang/Class;" } : Jvm.MethodName)) ∈ lw_all := lw_g (lw_at lw_m3 112 rfl) rfl
theorem q713 : (Jvm.Cond.castable "SlidePark$Slide" "SlidePark$Copyable") ∈ lw_tbl := lw_at lw_m3 168 rfl
theorem q714 : (Jvm.Cond.selects "SlidePark$Slide" ({ cls := "SlidePark$Copyable", name := "copy", desc := "()Ljava/lang/Object;" } : Jvm.MethodName) ({ cls := "SlidePark$Slide", name := "copy", desc := "()Ljava/lang/Object;" } : Jvm.MethodName)) ∈ lw_all := lw_g (lw_at lw_m3 169 rfl) rfl
theorem q715 : (Jvm.Cond.unhidden "SlidePark$Slide" "copy" "()Ljava/lang/Object;") ∈ lw_tbl := lw_at lw_m3 170 rfl
theorem q716 : (Jvm.Cond.instanceMethod ({ cls := "SlidePark$Slide", name := "copy", desc := "()Ljava/lang/Object;" } : Jvm.MethodName)) ∈ lw_all := lw_g (lw_at lw_m3 171 rfl) rfl
theorem q717 : (Jvm.Cond.publicMethod ({ cls := "SlidePark$Slide", name := "copy", desc := "()Ljava/lang/Object;" } : Jvm.MethodName)) ∈ lw_tbl := lw_at lw_m3 172 rfl
theorem q718 : (Jvm.Cond.code ({ cls := "SlidePark$Slide", name := "copy", desc := "()Ljava/lang/Object;" } : Jvm.MethodName) prog_11_method_7_code (1 : Nat) (Option.some (Jvm.ClassFile.FieldType.object "java/lang/Object"))) ∈ lw_all := lw_g (lw_at lw_m3 173 rfl) rfl
theorem q719 : (Jvm.Cond.methodLink "SlidePark$Slide" (43 : Nat) ({ cls := "SlidePark$Slide", name := "copy", desc := "()LSlidePark$Slide;" } : Jvm.MethodName)) ∈ lw_all := lw_g (lw_at lw_m3 174 rfl) rfl
theorem q720 : (Jvm.Cond.instanceMethod ({ cls := "SlidePark$Slide", name := "copy", desc := "()LSlidePark$Slide;" } : Jvm.MethodName)) ∈ lw_all := lw_g (lw_at lw_m3 175 rfl) rfl
theorem q721 : (Jvm.Cond.selects "SlidePark$Slide" ({ cls := "SlidePark$Slide", name := "copy", desc := "()LSlidePark$Slide;" } : Jvm.MethodName) ({ cls := "SlidePark$Slide", name := "copy", desc := "()LSlidePark$Slide;" } : Jvm.MethodName)) ∈ lw_all := lw_g (lw_at lw_m3 176 rfl) rfl
theorem q722 : (Jvm.Cond.code ({ cls := "SlidePark$Slide", name := "copy", desc := "()LSlidePark$Slide;" } : Jvm.MethodName) prog_11_method_5_code (2 : Nat) (Option.some (Jvm.ClassFile.FieldType.object "SlidePark$Slide"))) ∈ lw_all := lw_g (lw_at lw_m3 177 rfl) rfl
theorem q723 : (Jvm.Cond.instantiable "SlidePark$Slide" (4 : Nat)) ∈ lw_all := lw_g (lw_at lw_m3 178 rfl) rfl
theorem q724 : (Jvm.Cond.methodLink "SlidePark$Slide" (34 : Nat) ({ cls := "SlidePark$Line", name := "copy", desc := "()LSlidePark$Line;" } : Jvm.MethodName)) ∈ lw_all := lw_g (lw_at lw_m3 179 rfl) rfl
theorem q725 : (Jvm.Cond.methodLink "SlidePark$Slide" (40 : Nat) ({ cls := "SlidePark$Slide", name := "<init>", desc := "(IILSlidePark$Line;)V" } : Jvm.MethodName)) ∈ lw_all := lw_g (lw_at lw_m3 180 rfl) rfl
theorem q726 : (Jvm.Cond.instanceMethod ({ cls := "SlidePark$Slide", name := "<init>", desc := "(IILSlidePark$Line;)V" } : Jvm.MethodName)) ∈ lw_all := lw_g (lw_at lw_m3 181 rfl) rfl
theorem q727 : (Jvm.Cond.code ({ cls := "SlidePark$Slide", name := "<init>", desc := "(IILSlidePark$Line;)V" } : Jvm.MethodName) prog_11_method_1_code (4 : Nat) (Option.none : Option Jvm.ClassFile.FieldType)) ∈ lw_all := lw_g (lw_at lw_m3 182 rfl) rfl
theorem q728 : (Jvm.Cond.methodLink "SlidePark$Slide" (3 : Nat) ({ cls := "java/lang/Object", name := "<init>", desc := "()V" } : Jvm.MethodName)) ∈ lw_all := lw_g (lw_at lw_m3 183 rfl) rfl
theorem q729 : (Jvm.Cond.fieldLink "SlidePark$Slide" (9 : Nat) "SlidePark$Slide" "duration" "I") ∈ lw_all := lw_g (lw_at lw_m3 184 rfl) rfl
theorem q732 : (Jvm.Cond.fieldLink "SlidePark$Slide" (15 : Nat) "SlidePark$Slide" "price" "I") ∈ lw_all := lw_g (lw_at lw_m3 187 rfl) rfl
theorem q735 : (Jvm.Cond.fieldLink "SlidePark$Slide" (18 : Nat) "SlidePark$Slide" "queue" "LSlidePark$Line;") ∈ lw_all := lw_g (lw_at lw_m3 190 rfl) rfl
theorem q738 : (Jvm.Cond.fieldLink "SlidePark$Slide" (22 : Nat) "SlidePark$Slide" "wetness" "I") ∈ lw_all := lw_g (lw_at lw_m3 193 rfl) rfl
theorem q740 : (Jvm.Cond.laysFinal "SlidePark$Slide" "SlidePark$Slide" "duration" "I") ∈ lw_all := lw_g (lw_at lw_m3 195 rfl) rfl
theorem q741 : (Jvm.Cond.soleField "SlidePark$Slide" "duration") ∈ lw_all := lw_g (lw_at lw_m3 196 rfl) rfl
theorem q742 : (Jvm.Cond.laysFinal "SlidePark$Slide" "SlidePark$Slide" "price" "I") ∈ lw_all := lw_g (lw_at lw_m3 197 rfl) rfl
theorem q743 : (Jvm.Cond.soleField "SlidePark$Slide" "price") ∈ lw_all := lw_g (lw_at lw_m3 198 rfl) rfl
theorem q744 : (Jvm.Cond.laysFinal "SlidePark$Slide" "SlidePark$Slide" "queue" "LSlidePark$Line;") ∈ lw_all := lw_g (lw_at lw_m3 199 rfl) rfl
theorem q745 : (Jvm.Cond.soleField "SlidePark$Slide" "queue") ∈ lw_all := lw_g (lw_at lw_m3 200 rfl) rfl
theorem q746 : (Jvm.Cond.lays "SlidePark$Slide" "SlidePark$Slide" "wetness" "I") ∈ lw_all := lw_g (lw_at lw_m3 201 rfl) rfl
theorem q747 : (Jvm.Cond.soleField "SlidePark$Slide" "wetness") ∈ lw_all := lw_g (lw_at lw_m3 202 rfl) rfl
theorem q748 : (Jvm.Cond.superclass "SlidePark$Slide" "java/lang/Object") ∈ lw_all := lw_g (lw_at lw_m3 203 rfl) rfl
theorem q1071 : (Jvm.Cond.selects "SlidePark$Slide" ({ cls := "java/lang/Object", name := "equals", desc := "(Ljava/lang/Object;)Z" } : Jvm.MethodName) ({ cls := "java/lang/Object", name := "equals", desc := "(Ljava/lang/Object;)Z" } : Jvm.MethodName)) ∈ lw_all := lw_g (lw_at lw_m5 46 rfl) rfl
theorem q1172 : (Jvm.Cond.instanceMethod ({ cls := "SlidePark$Slide", name := "dry", desc := "()V" } : Jvm.MethodName)) ∈ lw_all := lw_g (lw_at lw_m5 147 rfl) rfl
theorem q1173 : (Jvm.Cond.selects "SlidePark$Slide" ({ cls := "SlidePark$Slide", name := "dry", desc := "()V" } : Jvm.MethodName) ({ cls := "SlidePark$Slide", name := "dry", desc := "()V" } : Jvm.MethodName)) ∈ lw_all := lw_g (lw_at lw_m5 148 rfl) rfl
theorem q1174 : (Jvm.Cond.code ({ cls := "SlidePark$Slide", name := "dry", desc := "()V" } : Jvm.MethodName) prog_11_method_4_code (1 : Nat) (Option.none : Option Jvm.ClassFile.FieldType)) ∈ lw_all := lw_g (lw_at lw_m5 149 rfl) rfl
theorem q1175 : (Jvm.Cond.methodLink "SlidePark$Slide" (31 : Nat) ({ cls := "java/lang/Math", name := "max", desc := "(II)I" } : Jvm.MethodName)) ∈ lw_all := lw_g (lw_at lw_m5 150 rfl) rfl
theorem q1185 : (Jvm.Cond.instanceMethod ({ cls := "SlidePark$Slide", name := "isWet", desc := "()Z" } : Jvm.MethodName)) ∈ lw_all := lw_g (lw_at lw_m5 160 rfl) rfl
theorem q1186 : (Jvm.Cond.selects "SlidePark$Slide" ({ cls := "SlidePark$Slide", name := "isWet", desc := "()Z" } : Jvm.MethodName) ({ cls := "SlidePark$Slide", name := "isWet", desc := "()Z" } : Jvm.MethodName)) ∈ lw_all := lw_g (lw_at lw_m5 161 rfl) rfl
theorem q1187 : (Jvm.Cond.code ({ cls := "SlidePark$Slide", name := "isWet", desc := "()Z" } : Jvm.MethodName) prog_11_method_2_code (1 : Nat) (Option.some Jvm.ClassFile.FieldType.boolean)) ∈ lw_all := lw_g (lw_at lw_m5 162 rfl) rfl
theorem q1189 : (Jvm.Cond.instanceMethod ({ cls := "SlidePark$Slide", name := "becomeWetter", desc := "()V" } : Jvm.MethodName)) ∈ lw_all := lw_g (lw_at lw_m5 164 rfl) rfl
theorem q1190 : (Jvm.Cond.selects "SlidePark$Slide" ({ cls := "SlidePark$Slide", name := "becomeWetter", desc := "()V" } : Jvm.MethodName) ({ cls := "SlidePark$Slide", name := "becomeWetter", desc := "()V" } : Jvm.MethodName)) ∈ lw_all := lw_g (lw_at lw_m5 165 rfl) rfl
theorem q1191 : (Jvm.Cond.code ({ cls := "SlidePark$Slide", name := "becomeWetter", desc := "()V" } : Jvm.MethodName) prog_11_method_3_code (1 : Nat) (Option.none : Option Jvm.ClassFile.FieldType)) ∈ lw_all := lw_g (lw_at lw_m5 166 rfl) rfl
theorem q1192 : (Jvm.Cond.methodLink "SlidePark$Slide" (25 : Nat) ({ cls := "java/lang/Math", name := "min", desc := "(II)I" } : Jvm.MethodName)) ∈ lw_all := lw_g (lw_at lw_m5 167 rfl) rfl
theorem q2403 : (Jvm.Cond.castable "SlidePark$Slide" "java/lang/Object") ∈ lw_tbl := lw_at lw_m10 178 rfl
theorem in_X7 : ∀ w ∈ wsX70, w ∈ lw_all := lw_in wsX70 [740, 742, 744, 746] (by decide +kernel) (by decide +kernel)

/-! SlidePark$Booking -/
set_option maxRecDepth 100000
def RX8 : String := "SlidePark$Booking"
def TX8 : u_T := fun k => match k with
  | 0 => ("SlidePark$Booking", "guest", "I", true)
  | 1 => ("SlidePark$Booking", "slide", "I", true)
  | 2 => ("SlidePark$Booking", "start", "I", true)
  | _ => ("SlidePark$Booking", "end", "I", true)
def tyX8 : Nat → FieldType := fun k => match k with
  | 0 => .int
  | 1 => .int
  | 2 => .int
  | _ => .int
abbrev wsX80 : List Cond := u_ws RX8 TX8 4
theorem nmX8 : ∀ a, a < 4 → ∀ b, b < 4 → a ≠ b → (TX8 a).2.1 ≠ (TX8 b).2.1 := by decide +kernel
theorem tyX8_ok : ∀ k, k < 4 → parseFieldDescriptor (TX8 k).2.2.1 = some (tyX8 k) := by decide +kernel
abbrev cX8_isAheadOf : ByteArray := prog_2_method_5_code
def yX8_isAheadOf : MethodName := ⟨RX8, "isAheadOf", "(Ljava/lang/Object;Z)Z"⟩
def dkwX8_isAheadOf_0 : List UInt8 := [42, 43, 192, 0, 8, 28, 182, 0, 28, 172]
abbrev dktX8_isAheadOf_0 : List UInt8 := dkwX8_isAheadOf_0 ++ []
theorem dksX8_isAheadOf_0 : cX8_isAheadOf.data.toList.drop 0 = dktX8_isAheadOf_0 := by decide +kernel
theorem dX8_isAheadOf_0 : decode cX8_isAheadOf 0 = .ok (.aload_n 0, 1) := dk_42 (dk_at dksX8_isAheadOf_0 0 rfl rfl)
theorem dX8_isAheadOf_1 : decode cX8_isAheadOf 1 = .ok (.aload_n 1, 1) := dk_43 (dk_at dksX8_isAheadOf_0 1 rfl rfl)
theorem dX8_isAheadOf_2 : decode cX8_isAheadOf 2 = .ok (.checkcast 8, 3) := dk_192 0 8 (dk_at dksX8_isAheadOf_0 2 rfl rfl)
theorem dX8_isAheadOf_5 : decode cX8_isAheadOf 5 = .ok (.iload_n 2, 1) := dk_28 (dk_at dksX8_isAheadOf_0 5 rfl rfl)
theorem dX8_isAheadOf_6 : decode cX8_isAheadOf 6 = .ok (.invokevirtual 28, 3) := dk_182 0 28 (dk_at dksX8_isAheadOf_0 6 rfl rfl)
theorem dX8_isAheadOf_9 : decode cX8_isAheadOf 9 = .ok (.ireturn, 1) := dk_172 (dk_at dksX8_isAheadOf_0 9 rfl rfl)
abbrev cX8_isAheadOf_2 : ByteArray := prog_2_method_4_code
def yX8_isAheadOf_2 : MethodName := ⟨RX8, "isAheadOf", "(LSlidePark$Booking;Z)Z"⟩
def dkwX8_isAheadOf_2_2 : List UInt8 := [162, 0, 7, 4, 167, 0, 8, 3, 167, 0, 4, 28, 172]
abbrev dktX8_isAheadOf_2_2 : List UInt8 := dkwX8_isAheadOf_2_2 ++ []
def dkwX8_isAheadOf_2_1 : List UInt8 := [167, 0, 4, 3, 172, 42, 180, 0, 13, 43, 180, 0, 13, 159, 0, 22, 42, 180, 0, 13, 43, 180, 0, 13]
abbrev dktX8_isAheadOf_2_1 : List UInt8 := dkwX8_isAheadOf_2_1 ++ dktX8_isAheadOf_2_2
def dkwX8_isAheadOf_2_0 : List UInt8 := [42, 180, 0, 16, 43, 180, 0, 16, 159, 0, 20, 42, 180, 0, 16, 43, 180, 0, 16, 162, 0, 7, 4]
abbrev dktX8_isAheadOf_2_0 : List UInt8 := dkwX8_isAheadOf_2_0 ++ dktX8_isAheadOf_2_1
theorem dksX8_isAheadOf_2_0 : cX8_isAheadOf_2.data.toList.drop 0 = dktX8_isAheadOf_2_0 := by decide +kernel
theorem dksX8_isAheadOf_2_1 : cX8_isAheadOf_2.data.toList.drop 23 = dktX8_isAheadOf_2_1 := dk_seg dksX8_isAheadOf_2_0 23 rfl rfl
theorem dksX8_isAheadOf_2_2 : cX8_isAheadOf_2.data.toList.drop 47 = dktX8_isAheadOf_2_2 := dk_seg dksX8_isAheadOf_2_1 24 rfl rfl
theorem dX8_isAheadOf_2_0 : decode cX8_isAheadOf_2 0 = .ok (.aload_n 0, 1) := dk_42 (dk_at dksX8_isAheadOf_2_0 0 rfl rfl)
theorem dX8_isAheadOf_2_1 : decode cX8_isAheadOf_2 1 = .ok (.getfield 16, 3) := dk_180 0 16 (dk_at dksX8_isAheadOf_2_0 1 rfl rfl)
theorem dX8_isAheadOf_2_4 : decode cX8_isAheadOf_2 4 = .ok (.aload_n 1, 1) := dk_43 (dk_at dksX8_isAheadOf_2_0 4 rfl rfl)
theorem dX8_isAheadOf_2_5 : decode cX8_isAheadOf_2 5 = .ok (.getfield 16, 3) := dk_180 0 16 (dk_at dksX8_isAheadOf_2_0 5 rfl rfl)
theorem dX8_isAheadOf_2_8 : decode cX8_isAheadOf_2 8 = .ok (.if_icmp .eq 20, 3) := dk_159 0 20 (dk_at dksX8_isAheadOf_2_0 8 rfl rfl)
theorem dX8_isAheadOf_2_11 : decode cX8_isAheadOf_2 11 = .ok (.aload_n 0, 1) := dk_42 (dk_at dksX8_isAheadOf_2_0 11 rfl rfl)
theorem dX8_isAheadOf_2_12 : decode cX8_isAheadOf_2 12 = .ok (.getfield 16, 3) := dk_180 0 16 (dk_at dksX8_isAheadOf_2_0 12 rfl rfl)
theorem dX8_isAheadOf_2_15 : decode cX8_isAheadOf_2 15 = .ok (.aload_n 1, 1) := dk_43 (dk_at dksX8_isAheadOf_2_0 15 rfl rfl)
theorem dX8_isAheadOf_2_16 : decode cX8_isAheadOf_2 16 = .ok (.getfield 16, 3) := dk_180 0 16 (dk_at dksX8_isAheadOf_2_0 16 rfl rfl)
theorem dX8_isAheadOf_2_19 : decode cX8_isAheadOf_2 19 = .ok (.if_icmp .ge 7, 3) := dk_162 0 7 (dk_at dksX8_isAheadOf_2_0 19 rfl rfl)
theorem dX8_isAheadOf_2_22 : decode cX8_isAheadOf_2 22 = .ok (.iconst 1, 1) := dk_4 (dk_at dksX8_isAheadOf_2_0 22 rfl rfl)
theorem dX8_isAheadOf_2_23 : decode cX8_isAheadOf_2 23 = .ok (.goto 4, 3) := dk_167 0 4 (dk_at dksX8_isAheadOf_2_1 0 rfl rfl)
theorem dX8_isAheadOf_2_26 : decode cX8_isAheadOf_2 26 = .ok (.iconst 0, 1) := dk_3 (dk_at dksX8_isAheadOf_2_1 3 rfl rfl)
theorem dX8_isAheadOf_2_27 : decode cX8_isAheadOf_2 27 = .ok (.ireturn, 1) := dk_172 (dk_at dksX8_isAheadOf_2_1 4 rfl rfl)
theorem dX8_isAheadOf_2_28 : decode cX8_isAheadOf_2 28 = .ok (.aload_n 0, 1) := dk_42 (dk_at dksX8_isAheadOf_2_1 5 rfl rfl)
theorem dX8_isAheadOf_2_29 : decode cX8_isAheadOf_2 29 = .ok (.getfield 13, 3) := dk_180 0 13 (dk_at dksX8_isAheadOf_2_1 6 rfl rfl)
theorem dX8_isAheadOf_2_32 : decode cX8_isAheadOf_2 32 = .ok (.aload_n 1, 1) := dk_43 (dk_at dksX8_isAheadOf_2_1 9 rfl rfl)
theorem dX8_isAheadOf_2_33 : decode cX8_isAheadOf_2 33 = .ok (.getfield 13, 3) := dk_180 0 13 (dk_at dksX8_isAheadOf_2_1 10 rfl rfl)
theorem dX8_isAheadOf_2_36 : decode cX8_isAheadOf_2 36 = .ok (.if_icmp .eq 22, 3) := dk_159 0 22 (dk_at dksX8_isAheadOf_2_1 13 rfl rfl)
theorem dX8_isAheadOf_2_39 : decode cX8_isAheadOf_2 39 = .ok (.aload_n 0, 1) := dk_42 (dk_at dksX8_isAheadOf_2_1 16 rfl rfl)
theorem dX8_isAheadOf_2_40 : decode cX8_isAheadOf_2 40 = .ok (.getfield 13, 3) := dk_180 0 13 (dk_at dksX8_isAheadOf_2_1 17 rfl rfl)
theorem dX8_isAheadOf_2_43 : decode cX8_isAheadOf_2 43 = .ok (.aload_n 1, 1) := dk_43 (dk_at dksX8_isAheadOf_2_1 20 rfl rfl)
theorem dX8_isAheadOf_2_44 : decode cX8_isAheadOf_2 44 = .ok (.getfield 13, 3) := dk_180 0 13 (dk_at dksX8_isAheadOf_2_1 21 rfl rfl)
theorem dX8_isAheadOf_2_47 : decode cX8_isAheadOf_2 47 = .ok (.if_icmp .ge 7, 3) := dk_162 0 7 (dk_at dksX8_isAheadOf_2_2 0 rfl rfl)
theorem dX8_isAheadOf_2_50 : decode cX8_isAheadOf_2 50 = .ok (.iconst 1, 1) := dk_4 (dk_at dksX8_isAheadOf_2_2 3 rfl rfl)
theorem dX8_isAheadOf_2_51 : decode cX8_isAheadOf_2 51 = .ok (.goto 8, 3) := dk_167 0 8 (dk_at dksX8_isAheadOf_2_2 4 rfl rfl)
theorem dX8_isAheadOf_2_54 : decode cX8_isAheadOf_2 54 = .ok (.iconst 0, 1) := dk_3 (dk_at dksX8_isAheadOf_2_2 7 rfl rfl)
theorem dX8_isAheadOf_2_55 : decode cX8_isAheadOf_2 55 = .ok (.goto 4, 3) := dk_167 0 4 (dk_at dksX8_isAheadOf_2_2 8 rfl rfl)
theorem dX8_isAheadOf_2_58 : decode cX8_isAheadOf_2 58 = .ok (.iload_n 2, 1) := dk_28 (dk_at dksX8_isAheadOf_2_2 11 rfl rfl)
theorem dX8_isAheadOf_2_59 : decode cX8_isAheadOf_2 59 = .ok (.ireturn, 1) := dk_172 (dk_at dksX8_isAheadOf_2_2 12 rfl rfl)
abbrev cX8_isAt : ByteArray := prog_2_method_2_code
def yX8_isAt : MethodName := ⟨RX8, "isAt", "(I)Z"⟩
def dkwX8_isAt_0 : List UInt8 := [27, 42, 180, 0, 16, 42, 180, 0, 19, 4, 100, 184, 0, 22, 172]
abbrev dktX8_isAt_0 : List UInt8 := dkwX8_isAt_0 ++ []
theorem dksX8_isAt_0 : cX8_isAt.data.toList.drop 0 = dktX8_isAt_0 := by decide +kernel
theorem dX8_isAt_0 : decode cX8_isAt 0 = .ok (.iload_n 1, 1) := dk_27 (dk_at dksX8_isAt_0 0 rfl rfl)
theorem dX8_isAt_1 : decode cX8_isAt 1 = .ok (.aload_n 0, 1) := dk_42 (dk_at dksX8_isAt_0 1 rfl rfl)
theorem dX8_isAt_2 : decode cX8_isAt 2 = .ok (.getfield 16, 3) := dk_180 0 16 (dk_at dksX8_isAt_0 2 rfl rfl)
theorem dX8_isAt_5 : decode cX8_isAt 5 = .ok (.aload_n 0, 1) := dk_42 (dk_at dksX8_isAt_0 5 rfl rfl)
theorem dX8_isAt_6 : decode cX8_isAt 6 = .ok (.getfield 19, 3) := dk_180 0 19 (dk_at dksX8_isAt_0 6 rfl rfl)
theorem dX8_isAt_9 : decode cX8_isAt 9 = .ok (.iconst 1, 1) := dk_4 (dk_at dksX8_isAt_0 9 rfl rfl)
theorem dX8_isAt_10 : decode cX8_isAt 10 = .ok (.isub, 1) := dk_100 (dk_at dksX8_isAt_0 10 rfl rfl)
theorem dX8_isAt_11 : decode cX8_isAt 11 = .ok (.invokestatic 22, 3) := dk_184 0 22 (dk_at dksX8_isAt_0 11 rfl rfl)
theorem dX8_isAt_14 : decode cX8_isAt 14 = .ok (.ireturn, 1) := dk_172 (dk_at dksX8_isAt_0 14 rfl rfl)
abbrev cX8_overlaps : ByteArray := prog_2_method_3_code
def yX8_overlaps : MethodName := ⟨RX8, "overlaps", "(II)Z"⟩
def dkwX8_overlaps_0 : List UInt8 := [42, 180, 0, 16, 28, 162, 0, 15, 27, 42, 180, 0, 19, 162, 0, 7, 4, 167, 0, 4, 3, 172]
abbrev dktX8_overlaps_0 : List UInt8 := dkwX8_overlaps_0 ++ []
theorem dksX8_overlaps_0 : cX8_overlaps.data.toList.drop 0 = dktX8_overlaps_0 := by decide +kernel
theorem dX8_overlaps_0 : decode cX8_overlaps 0 = .ok (.aload_n 0, 1) := dk_42 (dk_at dksX8_overlaps_0 0 rfl rfl)
theorem dX8_overlaps_1 : decode cX8_overlaps 1 = .ok (.getfield 16, 3) := dk_180 0 16 (dk_at dksX8_overlaps_0 1 rfl rfl)
theorem dX8_overlaps_4 : decode cX8_overlaps 4 = .ok (.iload_n 2, 1) := dk_28 (dk_at dksX8_overlaps_0 4 rfl rfl)
theorem dX8_overlaps_5 : decode cX8_overlaps 5 = .ok (.if_icmp .ge 15, 3) := dk_162 0 15 (dk_at dksX8_overlaps_0 5 rfl rfl)
theorem dX8_overlaps_8 : decode cX8_overlaps 8 = .ok (.iload_n 1, 1) := dk_27 (dk_at dksX8_overlaps_0 8 rfl rfl)
theorem dX8_overlaps_9 : decode cX8_overlaps 9 = .ok (.aload_n 0, 1) := dk_42 (dk_at dksX8_overlaps_0 9 rfl rfl)
theorem dX8_overlaps_10 : decode cX8_overlaps 10 = .ok (.getfield 19, 3) := dk_180 0 19 (dk_at dksX8_overlaps_0 10 rfl rfl)
theorem dX8_overlaps_13 : decode cX8_overlaps 13 = .ok (.if_icmp .ge 7, 3) := dk_162 0 7 (dk_at dksX8_overlaps_0 13 rfl rfl)
theorem dX8_overlaps_16 : decode cX8_overlaps 16 = .ok (.iconst 1, 1) := dk_4 (dk_at dksX8_overlaps_0 16 rfl rfl)
theorem dX8_overlaps_17 : decode cX8_overlaps 17 = .ok (.goto 4, 3) := dk_167 0 4 (dk_at dksX8_overlaps_0 17 rfl rfl)
theorem dX8_overlaps_20 : decode cX8_overlaps 20 = .ok (.iconst 0, 1) := dk_3 (dk_at dksX8_overlaps_0 20 rfl rfl)
theorem dX8_overlaps_21 : decode cX8_overlaps 21 = .ok (.ireturn, 1) := dk_172 (dk_at dksX8_overlaps_0 21 rfl rfl)
abbrev cX8_init : ByteArray := prog_2_method_1_code
def yX8_init : MethodName := ⟨RX8, "<init>", "(IIII)V"⟩
def dkwX8_init_1 : List UInt8 := [181, 0, 19, 177]
abbrev dktX8_init_1 : List UInt8 := dkwX8_init_1 ++ []
def dkwX8_init_0 : List UInt8 := [42, 183, 0, 1, 42, 27, 181, 0, 7, 42, 28, 181, 0, 13, 42, 29, 181, 0, 16, 42, 21, 4]
abbrev dktX8_init_0 : List UInt8 := dkwX8_init_0 ++ dktX8_init_1
theorem dksX8_init_0 : cX8_init.data.toList.drop 0 = dktX8_init_0 := by decide +kernel
theorem dksX8_init_1 : cX8_init.data.toList.drop 22 = dktX8_init_1 := dk_seg dksX8_init_0 22 rfl rfl
theorem dX8_init_0 : decode cX8_init 0 = .ok (.aload_n 0, 1) := dk_42 (dk_at dksX8_init_0 0 rfl rfl)
theorem dX8_init_1 : decode cX8_init 1 = .ok (.invokespecial 1, 3) := dk_183 0 1 (dk_at dksX8_init_0 1 rfl rfl)
theorem dX8_init_4 : decode cX8_init 4 = .ok (.aload_n 0, 1) := dk_42 (dk_at dksX8_init_0 4 rfl rfl)
theorem dX8_init_5 : decode cX8_init 5 = .ok (.iload_n 1, 1) := dk_27 (dk_at dksX8_init_0 5 rfl rfl)
theorem dX8_init_6 : decode cX8_init 6 = .ok (.putfield 7, 3) := dk_181 0 7 (dk_at dksX8_init_0 6 rfl rfl)
theorem dX8_init_9 : decode cX8_init 9 = .ok (.aload_n 0, 1) := dk_42 (dk_at dksX8_init_0 9 rfl rfl)
theorem dX8_init_10 : decode cX8_init 10 = .ok (.iload_n 2, 1) := dk_28 (dk_at dksX8_init_0 10 rfl rfl)
theorem dX8_init_11 : decode cX8_init 11 = .ok (.putfield 13, 3) := dk_181 0 13 (dk_at dksX8_init_0 11 rfl rfl)
theorem dX8_init_14 : decode cX8_init 14 = .ok (.aload_n 0, 1) := dk_42 (dk_at dksX8_init_0 14 rfl rfl)
theorem dX8_init_15 : decode cX8_init 15 = .ok (.iload_n 3, 1) := dk_29 (dk_at dksX8_init_0 15 rfl rfl)
theorem dX8_init_16 : decode cX8_init 16 = .ok (.putfield 16, 3) := dk_181 0 16 (dk_at dksX8_init_0 16 rfl rfl)
theorem dX8_init_19 : decode cX8_init 19 = .ok (.aload_n 0, 1) := dk_42 (dk_at dksX8_init_0 19 rfl rfl)
theorem dX8_init_20 : decode cX8_init 20 = .ok (.iload 4, 2) := dk_21 4 (dk_at dksX8_init_0 20 rfl rfl)
theorem dX8_init_22 : decode cX8_init 22 = .ok (.putfield 19, 3) := dk_181 0 19 (dk_at dksX8_init_1 0 rfl rfl)
theorem dX8_init_25 : decode cX8_init 25 = .ok (.return_, 1) := dk_177 (dk_at dksX8_init_1 3 rfl rfl)
theorem q94 : (Jvm.Cond.initialized "SlidePark$Booking") ∈ lw_all := lw_g (lw_at lw_m1 29 rfl) rfl
theorem q326 : (Jvm.Cond.castable "SlidePark$Booking" "SlidePark$Ranked") ∈ lw_tbl := lw_at lw_m2 21 rfl
theorem q327 : (Jvm.Cond.selects "SlidePark$Booking" ({ cls := "SlidePark$Ranked", name := "isAheadOf", desc := "(Ljava/lang/Object;Z)Z" } : Jvm.MethodName) ({ cls := "SlidePark$Booking", name := "isAheadOf", desc := "(Ljava/lang/Object;Z)Z" } : Jvm.MethodName)) ∈ lw_all := lw_g (lw_at lw_m2 22 rfl) rfl
theorem q328 : (Jvm.Cond.unhidden "SlidePark$Booking" "isAheadOf" "(Ljava/lang/Object;Z)Z") ∈ lw_tbl := lw_at lw_m2 23 rfl
theorem q329 : (Jvm.Cond.instanceMethod ({ cls := "SlidePark$Booking", name := "isAheadOf", desc := "(Ljava/lang/Object;Z)Z" } : Jvm.MethodName)) ∈ lw_all := lw_g (lw_at lw_m2 24 rfl) rfl
theorem q330 : (Jvm.Cond.publicMethod ({ cls := "SlidePark$Booking", name := "isAheadOf", desc := "(Ljava/lang/Object;Z)Z" } : Jvm.MethodName)) ∈ lw_tbl := lw_at lw_m2 25 rfl
theorem q331 : (Jvm.Cond.code ({ cls := "SlidePark$Booking", name := "isAheadOf", desc := "(Ljava/lang/Object;Z)Z" } : Jvm.MethodName) prog_2_method_5_code (3 : Nat) (Option.some Jvm.ClassFile.FieldType.boolean)) ∈ lw_all := lw_g (lw_at lw_m2 26 rfl) rfl
theorem q332 : (Jvm.Cond.classLink "SlidePark$Booking" (8 : Nat) "SlidePark$Booking") ∈ lw_all := lw_g (lw_at lw_m2 27 rfl) rfl
theorem q333 : (Jvm.Cond.methodLink "SlidePark$Booking" (28 : Nat) ({ cls := "SlidePark$Booking", name := "isAheadOf", desc := "(LSlidePark$Booking;Z)Z" } : Jvm.MethodName)) ∈ lw_all := lw_g (lw_at lw_m2 28 rfl) rfl
theorem q334 : (Jvm.Cond.instanceMethod ({ cls := "SlidePark$Booking", name := "isAheadOf", desc := "(LSlidePark$Booking;Z)Z" } : Jvm.MethodName)) ∈ lw_all := lw_g (lw_at lw_m2 29 rfl) rfl
theorem q335 : (Jvm.Cond.selects "SlidePark$Booking" ({ cls := "SlidePark$Booking", name := "isAheadOf", desc := "(LSlidePark$Booking;Z)Z" } : Jvm.MethodName) ({ cls := "SlidePark$Booking", name := "isAheadOf", desc := "(LSlidePark$Booking;Z)Z" } : Jvm.MethodName)) ∈ lw_all := lw_g (lw_at lw_m2 30 rfl) rfl
theorem q336 : (Jvm.Cond.code ({ cls := "SlidePark$Booking", name := "isAheadOf", desc := "(LSlidePark$Booking;Z)Z" } : Jvm.MethodName) prog_2_method_4_code (3 : Nat) (Option.some Jvm.ClassFile.FieldType.boolean)) ∈ lw_all := lw_g (lw_at lw_m2 31 rfl) rfl
theorem q442 : (Jvm.Cond.instanceMethod ({ cls := "SlidePark$Booking", name := "isAt", desc := "(I)Z" } : Jvm.MethodName)) ∈ lw_all := lw_g (lw_at lw_m2 137 rfl) rfl
theorem q443 : (Jvm.Cond.selects "SlidePark$Booking" ({ cls := "SlidePark$Booking", name := "isAt", desc := "(I)Z" } : Jvm.MethodName) ({ cls := "SlidePark$Booking", name := "isAt", desc := "(I)Z" } : Jvm.MethodName)) ∈ lw_all := lw_g (lw_at lw_m2 138 rfl) rfl
theorem q444 : (Jvm.Cond.code ({ cls := "SlidePark$Booking", name := "isAt", desc := "(I)Z" } : Jvm.MethodName) prog_2_method_2_code (2 : Nat) (Option.some Jvm.ClassFile.FieldType.boolean)) ∈ lw_all := lw_g (lw_at lw_m2 139 rfl) rfl
theorem q445 : (Jvm.Cond.methodLinkNest "SlidePark$Booking" (22 : Nat) ({ cls := "SlidePark", name := "isBetween", desc := "(III)Z" } : Jvm.MethodName) "SlidePark") ∈ lw_tbl := lw_at lw_m2 140 rfl
theorem q650 : (Jvm.Cond.selects "SlidePark$Booking" ({ cls := "java/lang/Object", name := "getClass", desc := "()Ljava/lang/Class;" } : Jvm.MethodName) ({ cls := "java/lang/Object", name := "getClass", desc := "()Ljava/lang/Class;" } : Jvm.MethodName)) ∈ lw_all := lw_g (lw_at lw_m3 105 rfl) rfl
theorem q930 : (Jvm.Cond.instanceMethod ({ cls := "SlidePark$Booking", name := "overlaps", desc := "(II)Z" } : Jvm.MethodName)) ∈ lw_all := lw_g (lw_at lw_m4 145 rfl) rfl
theorem q931 : (Jvm.Cond.selects "SlidePark$Booking" ({ cls := "SlidePark$Booking", name := "overlaps", desc := "(II)Z" } : Jvm.MethodName) ({ cls := "SlidePark$Booking", name := "overlaps", desc := "(II)Z" } : Jvm.MethodName)) ∈ lw_all := lw_g (lw_at lw_m4 146 rfl) rfl
theorem q932 : (Jvm.Cond.code ({ cls := "SlidePark$Booking", name := "overlaps", desc := "(II)Z" } : Jvm.MethodName) prog_2_method_3_code (3 : Nat) (Option.some Jvm.ClassFile.FieldType.boolean)) ∈ lw_all := lw_g (lw_at lw_m4 147 rfl) rfl
theorem q963 : (Jvm.Cond.instantiable "SlidePark$Booking" (4 : Nat)) ∈ lw_all := lw_g (lw_at lw_m4 178 rfl) rfl
theorem q965 : (Jvm.Cond.instanceMethod ({ cls := "SlidePark$Booking", name := "<init>", desc := "(IIII)V" } : Jvm.MethodName)) ∈ lw_all := lw_g (lw_at lw_m4 180 rfl) rfl
theorem q966 : (Jvm.Cond.code ({ cls := "SlidePark$Booking", name := "<init>", desc := "(IIII)V" } : Jvm.MethodName) prog_2_method_1_code (5 : Nat) (Option.none : Option Jvm.ClassFile.FieldType)) ∈ lw_all := lw_g (lw_at lw_m4 181 rfl) rfl
theorem q967 : (Jvm.Cond.methodLink "SlidePark$Booking" (1 : Nat) ({ cls := "java/lang/Object", name := "<init>", desc := "()V" } : Jvm.MethodName)) ∈ lw_all := lw_g (lw_at lw_m4 182 rfl) rfl
theorem q968 : (Jvm.Cond.fieldLink "SlidePark$Booking" (7 : Nat) "SlidePark$Booking" "guest" "I") ∈ lw_all := lw_g (lw_at lw_m4 183 rfl) rfl
theorem q971 : (Jvm.Cond.fieldLink "SlidePark$Booking" (13 : Nat) "SlidePark$Booking" "slide" "I") ∈ lw_all := lw_g (lw_at lw_m4 186 rfl) rfl
theorem q974 : (Jvm.Cond.fieldLink "SlidePark$Booking" (16 : Nat) "SlidePark$Booking" "start" "I") ∈ lw_all := lw_g (lw_at lw_m4 189 rfl) rfl
theorem q977 : (Jvm.Cond.fieldLink "SlidePark$Booking" (19 : Nat) "SlidePark$Booking" "end" "I") ∈ lw_all := lw_g (lw_at lw_m4 192 rfl) rfl
theorem q979 : (Jvm.Cond.laysFinal "SlidePark$Booking" "SlidePark$Booking" "guest" "I") ∈ lw_all := lw_g (lw_at lw_m4 194 rfl) rfl
theorem q980 : (Jvm.Cond.soleField "SlidePark$Booking" "guest") ∈ lw_all := lw_g (lw_at lw_m4 195 rfl) rfl
theorem q981 : (Jvm.Cond.laysFinal "SlidePark$Booking" "SlidePark$Booking" "slide" "I") ∈ lw_all := lw_g (lw_at lw_m4 196 rfl) rfl
theorem q982 : (Jvm.Cond.soleField "SlidePark$Booking" "slide") ∈ lw_all := lw_g (lw_at lw_m4 197 rfl) rfl
theorem q983 : (Jvm.Cond.laysFinal "SlidePark$Booking" "SlidePark$Booking" "start" "I") ∈ lw_all := lw_g (lw_at lw_m4 198 rfl) rfl
theorem q984 : (Jvm.Cond.soleField "SlidePark$Booking" "start") ∈ lw_all := lw_g (lw_at lw_m4 199 rfl) rfl
theorem q985 : (Jvm.Cond.laysFinal "SlidePark$Booking" "SlidePark$Booking" "end" "I") ∈ lw_all := lw_g (lw_at lw_m4 200 rfl) rfl
theorem q986 : (Jvm.Cond.soleField "SlidePark$Booking" "end") ∈ lw_all := lw_g (lw_at lw_m4 201 rfl) rfl
theorem q987 : (Jvm.Cond.superclass "SlidePark$Booking" "java/lang/Object") ∈ lw_all := lw_g (lw_at lw_m4 202 rfl) rfl
theorem q1064 : (Jvm.Cond.selects "SlidePark$Booking" ({ cls := "java/lang/Object", name := "equals", desc := "(Ljava/lang/Object;)Z" } : Jvm.MethodName) ({ cls := "java/lang/Object", name := "equals", desc := "(Ljava/lang/Object;)Z" } : Jvm.MethodName)) ∈ lw_all := lw_g (lw_at lw_m5 39 rfl) rfl
theorem q2409 : (Jvm.Cond.castable "SlidePark$Booking" "java/lang/Object") ∈ lw_tbl := lw_at lw_m10 184 rfl
theorem in_X8 : ∀ w ∈ wsX80, w ∈ lw_all := lw_in wsX80 [979, 981, 983, 985] (by decide +kernel) (by decide +kernel)

/-! SlidePark$Finish -/
set_option maxRecDepth 100000
def RX9 : String := "SlidePark$Finish"
def TX9 : u_T := fun k => match k with
  | 0 => ("SlidePark$Finish", "guest", "I", true)
  | 1 => ("SlidePark$Finish", "slide", "I", true)
  | _ => ("SlidePark$Finish", "minute", "I", true)
def tyX9 : Nat → FieldType := fun k => match k with
  | 0 => .int
  | 1 => .int
  | _ => .int
abbrev wsX90 : List Cond := u_ws RX9 TX9 3
theorem nmX9 : ∀ a, a < 3 → ∀ b, b < 3 → a ≠ b → (TX9 a).2.1 ≠ (TX9 b).2.1 := by decide +kernel
theorem tyX9_ok : ∀ k, k < 3 → parseFieldDescriptor (TX9 k).2.2.1 = some (tyX9 k) := by decide +kernel
abbrev cX9_init : ByteArray := prog_4_method_1_code
def yX9_init : MethodName := ⟨RX9, "<init>", "(III)V"⟩
def dkwX9_init_0 : List UInt8 := [42, 183, 0, 1, 42, 27, 181, 0, 7, 42, 28, 181, 0, 13, 42, 29, 181, 0, 16, 177]
abbrev dktX9_init_0 : List UInt8 := dkwX9_init_0 ++ []
theorem dksX9_init_0 : cX9_init.data.toList.drop 0 = dktX9_init_0 := by decide +kernel
theorem dX9_init_0 : decode cX9_init 0 = .ok (.aload_n 0, 1) := dk_42 (dk_at dksX9_init_0 0 rfl rfl)
theorem dX9_init_1 : decode cX9_init 1 = .ok (.invokespecial 1, 3) := dk_183 0 1 (dk_at dksX9_init_0 1 rfl rfl)
theorem dX9_init_4 : decode cX9_init 4 = .ok (.aload_n 0, 1) := dk_42 (dk_at dksX9_init_0 4 rfl rfl)
theorem dX9_init_5 : decode cX9_init 5 = .ok (.iload_n 1, 1) := dk_27 (dk_at dksX9_init_0 5 rfl rfl)
theorem dX9_init_6 : decode cX9_init 6 = .ok (.putfield 7, 3) := dk_181 0 7 (dk_at dksX9_init_0 6 rfl rfl)
theorem dX9_init_9 : decode cX9_init 9 = .ok (.aload_n 0, 1) := dk_42 (dk_at dksX9_init_0 9 rfl rfl)
theorem dX9_init_10 : decode cX9_init 10 = .ok (.iload_n 2, 1) := dk_28 (dk_at dksX9_init_0 10 rfl rfl)
theorem dX9_init_11 : decode cX9_init 11 = .ok (.putfield 13, 3) := dk_181 0 13 (dk_at dksX9_init_0 11 rfl rfl)
theorem dX9_init_14 : decode cX9_init 14 = .ok (.aload_n 0, 1) := dk_42 (dk_at dksX9_init_0 14 rfl rfl)
theorem dX9_init_15 : decode cX9_init 15 = .ok (.iload_n 3, 1) := dk_29 (dk_at dksX9_init_0 15 rfl rfl)
theorem dX9_init_16 : decode cX9_init 16 = .ok (.putfield 16, 3) := dk_181 0 16 (dk_at dksX9_init_0 16 rfl rfl)
theorem dX9_init_19 : decode cX9_init 19 = .ok (.return_, 1) := dk_177 (dk_at dksX9_init_0 19 rfl rfl)
theorem q100 : (Jvm.Cond.initialized "SlidePark$Finish") ∈ lw_all := lw_g (lw_at lw_m1 35 rfl) rfl
theorem q651 : (Jvm.Cond.selects "SlidePark$Finish" ({ cls := "java/lang/Object", name := "getClass", desc := "()Ljava/lang/Class;" } : Jvm.MethodName) ({ cls := "java/lang/Object", name := "getClass", desc := "()Ljava/lang/Class;" } : Jvm.MethodName)) ∈ lw_all := lw_g (lw_at lw_m3 106 rfl) rfl
theorem q1065 : (Jvm.Cond.selects "SlidePark$Finish" ({ cls := "java/lang/Object", name := "equals", desc := "(Ljava/lang/Object;)Z" } : Jvm.MethodName) ({ cls := "java/lang/Object", name := "equals", desc := "(Ljava/lang/Object;)Z" } : Jvm.MethodName)) ∈ lw_all := lw_g (lw_at lw_m5 40 rfl) rfl
theorem q1193 : (Jvm.Cond.instantiable "SlidePark$Finish" (3 : Nat)) ∈ lw_all := lw_g (lw_at lw_m5 168 rfl) rfl
theorem q1195 : (Jvm.Cond.instanceMethod ({ cls := "SlidePark$Finish", name := "<init>", desc := "(III)V" } : Jvm.MethodName)) ∈ lw_all := lw_g (lw_at lw_m5 170 rfl) rfl
theorem q1196 : (Jvm.Cond.code ({ cls := "SlidePark$Finish", name := "<init>", desc := "(III)V" } : Jvm.MethodName) prog_4_method_1_code (4 : Nat) (Option.none : Option Jvm.ClassFile.FieldType)) ∈ lw_all := lw_g (lw_at lw_m5 171 rfl) rfl
theorem q1197 : (Jvm.Cond.methodLink "SlidePark$Finish" (1 : Nat) ({ cls := "java/lang/Object", name := "<init>", desc := "()V" } : Jvm.MethodName)) ∈ lw_all := lw_g (lw_at lw_m5 172 rfl) rfl
theorem q1198 : (Jvm.Cond.fieldLink "SlidePark$Finish" (7 : Nat) "SlidePark$Finish" "guest" "I") ∈ lw_all := lw_g (lw_at lw_m5 173 rfl) rfl
theorem q1200 : (Jvm.Cond.fieldLink "SlidePark$Finish" (13 : Nat) "SlidePark$Finish" "slide" "I") ∈ lw_all := lw_g (lw_at lw_m5 175 rfl) rfl
theorem q1202 : (Jvm.Cond.fieldLink "SlidePark$Finish" (16 : Nat) "SlidePark$Finish" "minute" "I") ∈ lw_all := lw_g (lw_at lw_m5 177 rfl) rfl
theorem q1205 : (Jvm.Cond.laysFinal "SlidePark$Finish" "SlidePark$Finish" "guest" "I") ∈ lw_all := lw_g (lw_at lw_m5 180 rfl) rfl
theorem q1206 : (Jvm.Cond.soleField "SlidePark$Finish" "guest") ∈ lw_all := lw_g (lw_at lw_m5 181 rfl) rfl
theorem q1207 : (Jvm.Cond.laysFinal "SlidePark$Finish" "SlidePark$Finish" "slide" "I") ∈ lw_all := lw_g (lw_at lw_m5 182 rfl) rfl
theorem q1208 : (Jvm.Cond.soleField "SlidePark$Finish" "slide") ∈ lw_all := lw_g (lw_at lw_m5 183 rfl) rfl
theorem q1209 : (Jvm.Cond.laysFinal "SlidePark$Finish" "SlidePark$Finish" "minute" "I") ∈ lw_all := lw_g (lw_at lw_m5 184 rfl) rfl
theorem q1210 : (Jvm.Cond.soleField "SlidePark$Finish" "minute") ∈ lw_all := lw_g (lw_at lw_m5 185 rfl) rfl
theorem q1211 : (Jvm.Cond.superclass "SlidePark$Finish" "java/lang/Object") ∈ lw_all := lw_g (lw_at lw_m5 186 rfl) rfl
theorem q2412 : (Jvm.Cond.castable "SlidePark$Finish" "java/lang/Object") ∈ lw_tbl := lw_at lw_m10 187 rfl
theorem in_X9 : ∀ w ∈ wsX90, w ∈ lw_all := lw_in wsX90 [1205, 1207, 1209] (by decide +kernel) (by decide +kernel)

/-! SlidePark$Parser -/
set_option maxRecDepth 100000
def RX10 : String := "SlidePark$Parser"
def TX10 : u_T := fun k => match k with
  | 0 => ("SlidePark$Parser", "at", "I", false)
  | 1 => ("SlidePark$Parser", "one", "I", false)
  | 2 => ("SlidePark$Parser", "two", "I", false)
  | 3 => ("SlidePark$Parser", "three", "I", false)
  | _ => ("SlidePark$Parser", "this$0", "LSlidePark;", true)
def tyX10 : Nat → FieldType := fun k => match k with
  | 0 => .int
  | 1 => .int
  | 2 => .int
  | 3 => .int
  | _ => .object "SlidePark"
abbrev wsX100 : List Cond := u_ws RX10 TX10 5
theorem nmX10 : ∀ a, a < 5 → ∀ b, b < 5 → a ≠ b → (TX10 a).2.1 ≠ (TX10 b).2.1 := by decide +kernel
theorem tyX10_ok : ∀ k, k < 5 → parseFieldDescriptor (TX10 k).2.2.1 = some (tyX10 k) := by decide +kernel
abbrev cX10_init : ByteArray := prog_9_method_1_code
def yX10_init : MethodName := ⟨RX10, "<init>", "(LSlidePark;)V"⟩
def dkwX10_init_0 : List UInt8 := [42, 43, 181, 0, 1, 42, 183, 0, 7, 177]
abbrev dktX10_init_0 : List UInt8 := dkwX10_init_0 ++ []
theorem dksX10_init_0 : cX10_init.data.toList.drop 0 = dktX10_init_0 := by decide +kernel
theorem dX10_init_0 : decode cX10_init 0 = .ok (.aload_n 0, 1) := dk_42 (dk_at dksX10_init_0 0 rfl rfl)
theorem dX10_init_1 : decode cX10_init 1 = .ok (.aload_n 1, 1) := dk_43 (dk_at dksX10_init_0 1 rfl rfl)
theorem dX10_init_2 : decode cX10_init 2 = .ok (.putfield 1, 3) := dk_181 0 1 (dk_at dksX10_init_0 2 rfl rfl)
theorem dX10_init_5 : decode cX10_init 5 = .ok (.aload_n 0, 1) := dk_42 (dk_at dksX10_init_0 5 rfl rfl)
theorem dX10_init_6 : decode cX10_init 6 = .ok (.invokespecial 7, 3) := dk_183 0 7 (dk_at dksX10_init_0 6 rfl rfl)
theorem dX10_init_9 : decode cX10_init 9 = .ok (.return_, 1) := dk_177 (dk_at dksX10_init_0 9 rfl rfl)
abbrev cX10_commands : ByteArray := prog_9_method_10_code
def yX10_commands : MethodName := ⟨RX10, "commands", "(LSlidePark$State;)I"⟩
def dkwX10_commands_1 : List UInt8 := [16, 59, 16, 59, 182, 0, 39, 87, 42, 43, 28, 182, 0, 132, 132, 2, 1, 167, 255, 224, 28, 172]
abbrev dktX10_commands_1 : List UInt8 := dkwX10_commands_1 ++ []
def dkwX10_commands_0 : List UInt8 := [42, 43, 3, 182, 0, 132, 4, 61, 42, 180, 0, 13, 42, 180, 0, 1, 180, 0, 17, 162, 0, 24, 42]
abbrev dktX10_commands_0 : List UInt8 := dkwX10_commands_0 ++ dktX10_commands_1
theorem dksX10_commands_0 : cX10_commands.data.toList.drop 0 = dktX10_commands_0 := by decide +kernel
theorem dksX10_commands_1 : cX10_commands.data.toList.drop 23 = dktX10_commands_1 := dk_seg dksX10_commands_0 23 rfl rfl
theorem dX10_commands_0 : decode cX10_commands 0 = .ok (.aload_n 0, 1) := dk_42 (dk_at dksX10_commands_0 0 rfl rfl)
theorem dX10_commands_1 : decode cX10_commands 1 = .ok (.aload_n 1, 1) := dk_43 (dk_at dksX10_commands_0 1 rfl rfl)
theorem dX10_commands_2 : decode cX10_commands 2 = .ok (.iconst 0, 1) := dk_3 (dk_at dksX10_commands_0 2 rfl rfl)
theorem dX10_commands_3 : decode cX10_commands 3 = .ok (.invokevirtual 132, 3) := dk_182 0 132 (dk_at dksX10_commands_0 3 rfl rfl)
theorem dX10_commands_6 : decode cX10_commands 6 = .ok (.iconst 1, 1) := dk_4 (dk_at dksX10_commands_0 6 rfl rfl)
theorem dX10_commands_7 : decode cX10_commands 7 = .ok (.istore_n 2, 1) := dk_61 (dk_at dksX10_commands_0 7 rfl rfl)
theorem dX10_commands_8 : decode cX10_commands 8 = .ok (.aload_n 0, 1) := dk_42 (dk_at dksX10_commands_0 8 rfl rfl)
theorem dX10_commands_9 : decode cX10_commands 9 = .ok (.getfield 13, 3) := dk_180 0 13 (dk_at dksX10_commands_0 9 rfl rfl)
theorem dX10_commands_12 : decode cX10_commands 12 = .ok (.aload_n 0, 1) := dk_42 (dk_at dksX10_commands_0 12 rfl rfl)
theorem dX10_commands_13 : decode cX10_commands 13 = .ok (.getfield 1, 3) := dk_180 0 1 (dk_at dksX10_commands_0 13 rfl rfl)
theorem dX10_commands_16 : decode cX10_commands 16 = .ok (.getfield 17, 3) := dk_180 0 17 (dk_at dksX10_commands_0 16 rfl rfl)
theorem dX10_commands_19 : decode cX10_commands 19 = .ok (.if_icmp .ge 24, 3) := dk_162 0 24 (dk_at dksX10_commands_0 19 rfl rfl)
theorem dX10_commands_22 : decode cX10_commands 22 = .ok (.aload_n 0, 1) := dk_42 (dk_at dksX10_commands_0 22 rfl rfl)
theorem dX10_commands_23 : decode cX10_commands 23 = .ok (.bipush 59, 2) := dk_16 59 (dk_at dksX10_commands_1 0 rfl rfl)
theorem dX10_commands_25 : decode cX10_commands 25 = .ok (.bipush 59, 2) := dk_16 59 (dk_at dksX10_commands_1 2 rfl rfl)
theorem dX10_commands_27 : decode cX10_commands 27 = .ok (.invokevirtual 39, 3) := dk_182 0 39 (dk_at dksX10_commands_1 4 rfl rfl)
theorem dX10_commands_30 : decode cX10_commands 30 = .ok (.pop, 1) := dk_87 (dk_at dksX10_commands_1 7 rfl rfl)
theorem dX10_commands_31 : decode cX10_commands 31 = .ok (.aload_n 0, 1) := dk_42 (dk_at dksX10_commands_1 8 rfl rfl)
theorem dX10_commands_32 : decode cX10_commands 32 = .ok (.aload_n 1, 1) := dk_43 (dk_at dksX10_commands_1 9 rfl rfl)
theorem dX10_commands_33 : decode cX10_commands 33 = .ok (.iload_n 2, 1) := dk_28 (dk_at dksX10_commands_1 10 rfl rfl)
theorem dX10_commands_34 : decode cX10_commands 34 = .ok (.invokevirtual 132, 3) := dk_182 0 132 (dk_at dksX10_commands_1 11 rfl rfl)
theorem dX10_commands_37 : decode cX10_commands 37 = .ok (.iinc 2 1, 3) := dk_132 2 1 (dk_at dksX10_commands_1 14 rfl rfl)
theorem dX10_commands_40 : decode cX10_commands 40 = .ok (.goto (-32), 3) := dk_167 255 224 (dk_at dksX10_commands_1 17 rfl rfl)
theorem dX10_commands_43 : decode cX10_commands 43 = .ok (.iload_n 2, 1) := dk_28 (dk_at dksX10_commands_1 20 rfl rfl)
theorem dX10_commands_44 : decode cX10_commands 44 = .ok (.ireturn, 1) := dk_172 (dk_at dksX10_commands_1 21 rfl rfl)
abbrev cX10_run : ByteArray := prog_9_method_9_code
def yX10_run : MethodName := ⟨RX10, "run", "(LSlidePark$State;I)V"⟩
def dkwX10_run_1 : List UInt8 := [191, 177]
abbrev dktX10_run_1 : List UInt8 := dkwX10_run_1 ++ []
def dkwX10_run_0 : List UInt8 := [42, 43, 182, 0, 114, 167, 0, 20, 78, 42, 180, 0, 1, 28, 181, 0, 128, 187, 0, 126, 89, 183, 0, 131]
abbrev dktX10_run_0 : List UInt8 := dkwX10_run_0 ++ dktX10_run_1
theorem dksX10_run_0 : cX10_run.data.toList.drop 0 = dktX10_run_0 := by decide +kernel
theorem dksX10_run_1 : cX10_run.data.toList.drop 24 = dktX10_run_1 := dk_seg dksX10_run_0 24 rfl rfl
theorem dX10_run_0 : decode cX10_run 0 = .ok (.aload_n 0, 1) := dk_42 (dk_at dksX10_run_0 0 rfl rfl)
theorem dX10_run_1 : decode cX10_run 1 = .ok (.aload_n 1, 1) := dk_43 (dk_at dksX10_run_0 1 rfl rfl)
theorem dX10_run_2 : decode cX10_run 2 = .ok (.invokevirtual 114, 3) := dk_182 0 114 (dk_at dksX10_run_0 2 rfl rfl)
theorem dX10_run_5 : decode cX10_run 5 = .ok (.goto 20, 3) := dk_167 0 20 (dk_at dksX10_run_0 5 rfl rfl)
theorem dX10_run_8 : decode cX10_run 8 = .ok (.astore_n 3, 1) := dk_78 (dk_at dksX10_run_0 8 rfl rfl)
theorem dX10_run_9 : decode cX10_run 9 = .ok (.aload_n 0, 1) := dk_42 (dk_at dksX10_run_0 9 rfl rfl)
theorem dX10_run_10 : decode cX10_run 10 = .ok (.getfield 1, 3) := dk_180 0 1 (dk_at dksX10_run_0 10 rfl rfl)
theorem dX10_run_13 : decode cX10_run 13 = .ok (.iload_n 2, 1) := dk_28 (dk_at dksX10_run_0 13 rfl rfl)
theorem dX10_run_14 : decode cX10_run 14 = .ok (.putfield 128, 3) := dk_181 0 128 (dk_at dksX10_run_0 14 rfl rfl)
theorem dX10_run_17 : decode cX10_run 17 = .ok (.new 126, 3) := dk_187 0 126 (dk_at dksX10_run_0 17 rfl rfl)
theorem dX10_run_20 : decode cX10_run 20 = .ok (.dup, 1) := dk_89 (dk_at dksX10_run_0 20 rfl rfl)
theorem dX10_run_21 : decode cX10_run 21 = .ok (.invokespecial 131, 3) := dk_183 0 131 (dk_at dksX10_run_0 21 rfl rfl)
theorem dX10_run_24 : decode cX10_run 24 = .ok (.athrow, 1) := dk_191 (dk_at dksX10_run_1 0 rfl rfl)
theorem dX10_run_25 : decode cX10_run 25 = .ok (.return_, 1) := dk_177 (dk_at dksX10_run_1 1 rfl rfl)
abbrev cX10_command : ByteArray := prog_9_method_8_code
def yX10_command : MethodName := ⟨RX10, "command", "(LSlidePark$State;)V"⟩
def dkwX10_command_2 : List UInt8 := [198, 0, 13, 42, 43, 44, 3, 182, 0, 102, 182, 0, 110, 177]
abbrev dktX10_command_2 : List UInt8 := dkwX10_command_2 ++ []
def dkwX10_command_1 : List UInt8 := [182, 0, 102, 182, 0, 39, 87, 132, 3, 1, 167, 255, 230, 42, 44, 3, 182, 0, 102, 182, 0, 106, 43]
abbrev dktX10_command_1 : List UInt8 := dkwX10_command_1 ++ dktX10_command_2
def dkwX10_command_0 : List UInt8 := [42, 182, 0, 93, 77, 3, 62, 29, 44, 182, 0, 97, 162, 0, 24, 42, 44, 29, 182, 0, 102, 44, 29]
abbrev dktX10_command_0 : List UInt8 := dkwX10_command_0 ++ dktX10_command_1
theorem dksX10_command_0 : cX10_command.data.toList.drop 0 = dktX10_command_0 := by decide +kernel
theorem dksX10_command_1 : cX10_command.data.toList.drop 23 = dktX10_command_1 := dk_seg dksX10_command_0 23 rfl rfl
theorem dksX10_command_2 : cX10_command.data.toList.drop 46 = dktX10_command_2 := dk_seg dksX10_command_1 23 rfl rfl
theorem dX10_command_0 : decode cX10_command 0 = .ok (.aload_n 0, 1) := dk_42 (dk_at dksX10_command_0 0 rfl rfl)
theorem dX10_command_1 : decode cX10_command 1 = .ok (.invokevirtual 93, 3) := dk_182 0 93 (dk_at dksX10_command_0 1 rfl rfl)
theorem dX10_command_4 : decode cX10_command 4 = .ok (.astore_n 2, 1) := dk_77 (dk_at dksX10_command_0 4 rfl rfl)
theorem dX10_command_5 : decode cX10_command 5 = .ok (.iconst 0, 1) := dk_3 (dk_at dksX10_command_0 5 rfl rfl)
theorem dX10_command_6 : decode cX10_command 6 = .ok (.istore_n 3, 1) := dk_62 (dk_at dksX10_command_0 6 rfl rfl)
theorem dX10_command_7 : decode cX10_command 7 = .ok (.iload_n 3, 1) := dk_29 (dk_at dksX10_command_0 7 rfl rfl)
theorem dX10_command_8 : decode cX10_command 8 = .ok (.aload_n 2, 1) := dk_44 (dk_at dksX10_command_0 8 rfl rfl)
theorem dX10_command_9 : decode cX10_command 9 = .ok (.invokevirtual 97, 3) := dk_182 0 97 (dk_at dksX10_command_0 9 rfl rfl)
theorem dX10_command_12 : decode cX10_command 12 = .ok (.if_icmp .ge 24, 3) := dk_162 0 24 (dk_at dksX10_command_0 12 rfl rfl)
theorem dX10_command_15 : decode cX10_command 15 = .ok (.aload_n 0, 1) := dk_42 (dk_at dksX10_command_0 15 rfl rfl)
theorem dX10_command_16 : decode cX10_command 16 = .ok (.aload_n 2, 1) := dk_44 (dk_at dksX10_command_0 16 rfl rfl)
theorem dX10_command_17 : decode cX10_command 17 = .ok (.iload_n 3, 1) := dk_29 (dk_at dksX10_command_0 17 rfl rfl)
theorem dX10_command_18 : decode cX10_command 18 = .ok (.invokevirtual 102, 3) := dk_182 0 102 (dk_at dksX10_command_0 18 rfl rfl)
theorem dX10_command_21 : decode cX10_command 21 = .ok (.aload_n 2, 1) := dk_44 (dk_at dksX10_command_0 21 rfl rfl)
theorem dX10_command_22 : decode cX10_command 22 = .ok (.iload_n 3, 1) := dk_29 (dk_at dksX10_command_0 22 rfl rfl)
theorem dX10_command_23 : decode cX10_command 23 = .ok (.invokevirtual 102, 3) := dk_182 0 102 (dk_at dksX10_command_1 0 rfl rfl)
theorem dX10_command_26 : decode cX10_command 26 = .ok (.invokevirtual 39, 3) := dk_182 0 39 (dk_at dksX10_command_1 3 rfl rfl)
theorem dX10_command_29 : decode cX10_command 29 = .ok (.pop, 1) := dk_87 (dk_at dksX10_command_1 6 rfl rfl)
theorem dX10_command_30 : decode cX10_command 30 = .ok (.iinc 3 1, 3) := dk_132 3 1 (dk_at dksX10_command_1 7 rfl rfl)
theorem dX10_command_33 : decode cX10_command 33 = .ok (.goto (-26), 3) := dk_167 255 230 (dk_at dksX10_command_1 10 rfl rfl)
theorem dX10_command_36 : decode cX10_command 36 = .ok (.aload_n 0, 1) := dk_42 (dk_at dksX10_command_1 13 rfl rfl)
theorem dX10_command_37 : decode cX10_command 37 = .ok (.aload_n 2, 1) := dk_44 (dk_at dksX10_command_1 14 rfl rfl)
theorem dX10_command_38 : decode cX10_command 38 = .ok (.iconst 0, 1) := dk_3 (dk_at dksX10_command_1 15 rfl rfl)
theorem dX10_command_39 : decode cX10_command 39 = .ok (.invokevirtual 102, 3) := dk_182 0 102 (dk_at dksX10_command_1 16 rfl rfl)
theorem dX10_command_42 : decode cX10_command 42 = .ok (.invokevirtual 106, 3) := dk_182 0 106 (dk_at dksX10_command_1 19 rfl rfl)
theorem dX10_command_45 : decode cX10_command 45 = .ok (.aload_n 1, 1) := dk_43 (dk_at dksX10_command_1 22 rfl rfl)
theorem dX10_command_46 : decode cX10_command 46 = .ok (.ifnull 13, 3) := dk_198 0 13 (dk_at dksX10_command_2 0 rfl rfl)
theorem dX10_command_49 : decode cX10_command 49 = .ok (.aload_n 0, 1) := dk_42 (dk_at dksX10_command_2 3 rfl rfl)
theorem dX10_command_50 : decode cX10_command 50 = .ok (.aload_n 1, 1) := dk_43 (dk_at dksX10_command_2 4 rfl rfl)
theorem dX10_command_51 : decode cX10_command 51 = .ok (.aload_n 2, 1) := dk_44 (dk_at dksX10_command_2 5 rfl rfl)
theorem dX10_command_52 : decode cX10_command 52 = .ok (.iconst 0, 1) := dk_3 (dk_at dksX10_command_2 6 rfl rfl)
theorem dX10_command_53 : decode cX10_command 53 = .ok (.invokevirtual 102, 3) := dk_182 0 102 (dk_at dksX10_command_2 7 rfl rfl)
theorem dX10_command_56 : decode cX10_command 56 = .ok (.invokevirtual 110, 3) := dk_182 0 110 (dk_at dksX10_command_2 10 rfl rfl)
theorem dX10_command_59 : decode cX10_command 59 = .ok (.return_, 1) := dk_177 (dk_at dksX10_command_2 13 rfl rfl)
abbrev cX10_keyword : ByteArray := prog_9_method_5_code
def yX10_keyword : MethodName := ⟨RX10, "keyword", "()Ljava/lang/String;"⟩
def dkwX10_keyword_3 : List UInt8 := [18, 43, 176, 18, 45, 176, 18, 47, 176, 18, 49, 176, 18, 51, 176, 18, 53, 176, 18, 55, 176]
abbrev dktX10_keyword_3 : List UInt8 := dkwX10_keyword_3 ++ []
def dkwX10_keyword_2 : List UInt8 := [171, 0, 0, 0, 75, 0, 0, 0, 6, 0, 0, 0, 98, 0, 0, 0, 60, 0, 0, 0, 99, 0, 0, 0, 63, 0, 0, 0, 103, 0, 0, 0, 57, 0, 0, 0, 108, 0, 0, 0, 69, 0, 0, 0, 113, 0, 0, 0, 66, 0, 0, 0, 119, 0, 0, 0, 72]
abbrev dktX10_keyword_2 : List UInt8 := dkwX10_keyword_2 ++ dktX10_keyword_3
def dkwX10_keyword_1 : List UInt8 := [180, 0, 13, 52, 167, 0, 5, 16, 32]
abbrev dktX10_keyword_1 : List UInt8 := dkwX10_keyword_1 ++ dktX10_keyword_2
def dkwX10_keyword_0 : List UInt8 := [42, 180, 0, 13, 42, 180, 0, 1, 180, 0, 17, 162, 0, 18, 42, 180, 0, 1, 180, 0, 22, 42]
abbrev dktX10_keyword_0 : List UInt8 := dkwX10_keyword_0 ++ dktX10_keyword_1
theorem dksX10_keyword_0 : cX10_keyword.data.toList.drop 0 = dktX10_keyword_0 := by decide +kernel
theorem dksX10_keyword_1 : cX10_keyword.data.toList.drop 22 = dktX10_keyword_1 := dk_seg dksX10_keyword_0 22 rfl rfl
theorem dksX10_keyword_2 : cX10_keyword.data.toList.drop 31 = dktX10_keyword_2 := dk_seg dksX10_keyword_1 9 rfl rfl
theorem dksX10_keyword_3 : cX10_keyword.data.toList.drop 88 = dktX10_keyword_3 := dk_seg dksX10_keyword_2 57 rfl rfl
theorem dX10_keyword_0 : decode cX10_keyword 0 = .ok (.aload_n 0, 1) := dk_42 (dk_at dksX10_keyword_0 0 rfl rfl)
theorem dX10_keyword_1 : decode cX10_keyword 1 = .ok (.getfield 13, 3) := dk_180 0 13 (dk_at dksX10_keyword_0 1 rfl rfl)
theorem dX10_keyword_4 : decode cX10_keyword 4 = .ok (.aload_n 0, 1) := dk_42 (dk_at dksX10_keyword_0 4 rfl rfl)
theorem dX10_keyword_5 : decode cX10_keyword 5 = .ok (.getfield 1, 3) := dk_180 0 1 (dk_at dksX10_keyword_0 5 rfl rfl)
theorem dX10_keyword_8 : decode cX10_keyword 8 = .ok (.getfield 17, 3) := dk_180 0 17 (dk_at dksX10_keyword_0 8 rfl rfl)
theorem dX10_keyword_11 : decode cX10_keyword 11 = .ok (.if_icmp .ge 18, 3) := dk_162 0 18 (dk_at dksX10_keyword_0 11 rfl rfl)
theorem dX10_keyword_14 : decode cX10_keyword 14 = .ok (.aload_n 0, 1) := dk_42 (dk_at dksX10_keyword_0 14 rfl rfl)
theorem dX10_keyword_15 : decode cX10_keyword 15 = .ok (.getfield 1, 3) := dk_180 0 1 (dk_at dksX10_keyword_0 15 rfl rfl)
theorem dX10_keyword_18 : decode cX10_keyword 18 = .ok (.getfield 22, 3) := dk_180 0 22 (dk_at dksX10_keyword_0 18 rfl rfl)
theorem dX10_keyword_21 : decode cX10_keyword 21 = .ok (.aload_n 0, 1) := dk_42 (dk_at dksX10_keyword_0 21 rfl rfl)
theorem dX10_keyword_22 : decode cX10_keyword 22 = .ok (.getfield 13, 3) := dk_180 0 13 (dk_at dksX10_keyword_1 0 rfl rfl)
theorem dX10_keyword_25 : decode cX10_keyword 25 = .ok (.caload, 1) := dk_52 (dk_at dksX10_keyword_1 3 rfl rfl)
theorem dX10_keyword_26 : decode cX10_keyword 26 = .ok (.goto 5, 3) := dk_167 0 5 (dk_at dksX10_keyword_1 4 rfl rfl)
theorem dX10_keyword_29 : decode cX10_keyword 29 = .ok (.bipush 32, 2) := dk_16 32 (dk_at dksX10_keyword_1 7 rfl rfl)
theorem dX10_keyword_31 : decode cX10_keyword 31 = .ok (.lookupswitch 75 #[(98, 60), (99, 63), (103, 57), (108, 69), (113, 66), (119, 72)], 57) := by decide +kernel
theorem dX10_keyword_88 : decode cX10_keyword 88 = .ok (.ldc 43, 2) := dk_18 43 (dk_at dksX10_keyword_3 0 rfl rfl)
theorem dX10_keyword_90 : decode cX10_keyword 90 = .ok (.areturn, 1) := dk_176 (dk_at dksX10_keyword_3 2 rfl rfl)
theorem dX10_keyword_91 : decode cX10_keyword 91 = .ok (.ldc 45, 2) := dk_18 45 (dk_at dksX10_keyword_3 3 rfl rfl)
theorem dX10_keyword_93 : decode cX10_keyword 93 = .ok (.areturn, 1) := dk_176 (dk_at dksX10_keyword_3 5 rfl rfl)
theorem dX10_keyword_94 : decode cX10_keyword 94 = .ok (.ldc 47, 2) := dk_18 47 (dk_at dksX10_keyword_3 6 rfl rfl)
theorem dX10_keyword_96 : decode cX10_keyword 96 = .ok (.areturn, 1) := dk_176 (dk_at dksX10_keyword_3 8 rfl rfl)
theorem dX10_keyword_97 : decode cX10_keyword 97 = .ok (.ldc 49, 2) := dk_18 49 (dk_at dksX10_keyword_3 9 rfl rfl)
theorem dX10_keyword_99 : decode cX10_keyword 99 = .ok (.areturn, 1) := dk_176 (dk_at dksX10_keyword_3 11 rfl rfl)
theorem dX10_keyword_100 : decode cX10_keyword 100 = .ok (.ldc 51, 2) := dk_18 51 (dk_at dksX10_keyword_3 12 rfl rfl)
theorem dX10_keyword_102 : decode cX10_keyword 102 = .ok (.areturn, 1) := dk_176 (dk_at dksX10_keyword_3 14 rfl rfl)
theorem dX10_keyword_103 : decode cX10_keyword 103 = .ok (.ldc 53, 2) := dk_18 53 (dk_at dksX10_keyword_3 15 rfl rfl)
theorem dX10_keyword_105 : decode cX10_keyword 105 = .ok (.areturn, 1) := dk_176 (dk_at dksX10_keyword_3 17 rfl rfl)
theorem dX10_keyword_106 : decode cX10_keyword 106 = .ok (.ldc 55, 2) := dk_18 55 (dk_at dksX10_keyword_3 18 rfl rfl)
theorem dX10_keyword_108 : decode cX10_keyword 108 = .ok (.areturn, 1) := dk_176 (dk_at dksX10_keyword_3 20 rfl rfl)
abbrev cX10_next : ByteArray := prog_9_method_3_code
def yX10_next : MethodName := ⟨RX10, "next", "(CC)C"⟩
def dkwX10_next_1 : List UInt8 := [180, 0, 13, 4, 96, 181, 0, 13, 42, 180, 0, 1, 180, 0, 22, 42, 180, 0, 13, 4, 100, 52, 172]
abbrev dktX10_next_1 : List UInt8 := dkwX10_next_1 ++ []
def dkwX10_next_0 : List UInt8 := [42, 27, 28, 182, 0, 30, 154, 0, 15, 187, 0, 34, 89, 42, 180, 0, 13, 183, 0, 36, 191, 42, 89]
abbrev dktX10_next_0 : List UInt8 := dkwX10_next_0 ++ dktX10_next_1
theorem dksX10_next_0 : cX10_next.data.toList.drop 0 = dktX10_next_0 := by decide +kernel
theorem dksX10_next_1 : cX10_next.data.toList.drop 23 = dktX10_next_1 := dk_seg dksX10_next_0 23 rfl rfl
theorem dX10_next_0 : decode cX10_next 0 = .ok (.aload_n 0, 1) := dk_42 (dk_at dksX10_next_0 0 rfl rfl)
theorem dX10_next_1 : decode cX10_next 1 = .ok (.iload_n 1, 1) := dk_27 (dk_at dksX10_next_0 1 rfl rfl)
theorem dX10_next_2 : decode cX10_next 2 = .ok (.iload_n 2, 1) := dk_28 (dk_at dksX10_next_0 2 rfl rfl)
theorem dX10_next_3 : decode cX10_next 3 = .ok (.invokevirtual 30, 3) := dk_182 0 30 (dk_at dksX10_next_0 3 rfl rfl)
theorem dX10_next_6 : decode cX10_next 6 = .ok (.ifCond .ne 15, 3) := dk_154 0 15 (dk_at dksX10_next_0 6 rfl rfl)
theorem dX10_next_9 : decode cX10_next 9 = .ok (.new 34, 3) := dk_187 0 34 (dk_at dksX10_next_0 9 rfl rfl)
theorem dX10_next_12 : decode cX10_next 12 = .ok (.dup, 1) := dk_89 (dk_at dksX10_next_0 12 rfl rfl)
theorem dX10_next_13 : decode cX10_next 13 = .ok (.aload_n 0, 1) := dk_42 (dk_at dksX10_next_0 13 rfl rfl)
theorem dX10_next_14 : decode cX10_next 14 = .ok (.getfield 13, 3) := dk_180 0 13 (dk_at dksX10_next_0 14 rfl rfl)
theorem dX10_next_17 : decode cX10_next 17 = .ok (.invokespecial 36, 3) := dk_183 0 36 (dk_at dksX10_next_0 17 rfl rfl)
theorem dX10_next_20 : decode cX10_next 20 = .ok (.athrow, 1) := dk_191 (dk_at dksX10_next_0 20 rfl rfl)
theorem dX10_next_21 : decode cX10_next 21 = .ok (.aload_n 0, 1) := dk_42 (dk_at dksX10_next_0 21 rfl rfl)
theorem dX10_next_22 : decode cX10_next 22 = .ok (.dup, 1) := dk_89 (dk_at dksX10_next_0 22 rfl rfl)
theorem dX10_next_23 : decode cX10_next 23 = .ok (.getfield 13, 3) := dk_180 0 13 (dk_at dksX10_next_1 0 rfl rfl)
theorem dX10_next_26 : decode cX10_next 26 = .ok (.iconst 1, 1) := dk_4 (dk_at dksX10_next_1 3 rfl rfl)
theorem dX10_next_27 : decode cX10_next 27 = .ok (.iadd, 1) := dk_96 (dk_at dksX10_next_1 4 rfl rfl)
theorem dX10_next_28 : decode cX10_next 28 = .ok (.putfield 13, 3) := dk_181 0 13 (dk_at dksX10_next_1 5 rfl rfl)
theorem dX10_next_31 : decode cX10_next 31 = .ok (.aload_n 0, 1) := dk_42 (dk_at dksX10_next_1 8 rfl rfl)
theorem dX10_next_32 : decode cX10_next 32 = .ok (.getfield 1, 3) := dk_180 0 1 (dk_at dksX10_next_1 9 rfl rfl)
theorem dX10_next_35 : decode cX10_next 35 = .ok (.getfield 22, 3) := dk_180 0 22 (dk_at dksX10_next_1 12 rfl rfl)
theorem dX10_next_38 : decode cX10_next 38 = .ok (.aload_n 0, 1) := dk_42 (dk_at dksX10_next_1 15 rfl rfl)
theorem dX10_next_39 : decode cX10_next 39 = .ok (.getfield 13, 3) := dk_180 0 13 (dk_at dksX10_next_1 16 rfl rfl)
theorem dX10_next_42 : decode cX10_next 42 = .ok (.iconst 1, 1) := dk_4 (dk_at dksX10_next_1 19 rfl rfl)
theorem dX10_next_43 : decode cX10_next 43 = .ok (.isub, 1) := dk_100 (dk_at dksX10_next_1 20 rfl rfl)
theorem dX10_next_44 : decode cX10_next 44 = .ok (.caload, 1) := dk_52 (dk_at dksX10_next_1 21 rfl rfl)
theorem dX10_next_45 : decode cX10_next 45 = .ok (.ireturn, 1) := dk_172 (dk_at dksX10_next_1 22 rfl rfl)
abbrev cX10_sees : ByteArray := prog_9_method_2_code
def yX10_sees : MethodName := ⟨RX10, "sees", "(CC)Z"⟩
def dkwX10_sees_1 : List UInt8 := [180, 0, 13, 52, 27, 28, 184, 0, 26, 153, 0, 7, 4, 167, 0, 4, 3, 172]
abbrev dktX10_sees_1 : List UInt8 := dkwX10_sees_1 ++ []
def dkwX10_sees_0 : List UInt8 := [42, 180, 0, 13, 42, 180, 0, 1, 180, 0, 17, 162, 0, 27, 42, 180, 0, 1, 180, 0, 22, 42]
abbrev dktX10_sees_0 : List UInt8 := dkwX10_sees_0 ++ dktX10_sees_1
theorem dksX10_sees_0 : cX10_sees.data.toList.drop 0 = dktX10_sees_0 := by decide +kernel
theorem dksX10_sees_1 : cX10_sees.data.toList.drop 22 = dktX10_sees_1 := dk_seg dksX10_sees_0 22 rfl rfl
theorem dX10_sees_0 : decode cX10_sees 0 = .ok (.aload_n 0, 1) := dk_42 (dk_at dksX10_sees_0 0 rfl rfl)
theorem dX10_sees_1 : decode cX10_sees 1 = .ok (.getfield 13, 3) := dk_180 0 13 (dk_at dksX10_sees_0 1 rfl rfl)
theorem dX10_sees_4 : decode cX10_sees 4 = .ok (.aload_n 0, 1) := dk_42 (dk_at dksX10_sees_0 4 rfl rfl)
theorem dX10_sees_5 : decode cX10_sees 5 = .ok (.getfield 1, 3) := dk_180 0 1 (dk_at dksX10_sees_0 5 rfl rfl)
theorem dX10_sees_8 : decode cX10_sees 8 = .ok (.getfield 17, 3) := dk_180 0 17 (dk_at dksX10_sees_0 8 rfl rfl)
theorem dX10_sees_11 : decode cX10_sees 11 = .ok (.if_icmp .ge 27, 3) := dk_162 0 27 (dk_at dksX10_sees_0 11 rfl rfl)
theorem dX10_sees_14 : decode cX10_sees 14 = .ok (.aload_n 0, 1) := dk_42 (dk_at dksX10_sees_0 14 rfl rfl)
theorem dX10_sees_15 : decode cX10_sees 15 = .ok (.getfield 1, 3) := dk_180 0 1 (dk_at dksX10_sees_0 15 rfl rfl)
theorem dX10_sees_18 : decode cX10_sees 18 = .ok (.getfield 22, 3) := dk_180 0 22 (dk_at dksX10_sees_0 18 rfl rfl)
theorem dX10_sees_21 : decode cX10_sees 21 = .ok (.aload_n 0, 1) := dk_42 (dk_at dksX10_sees_0 21 rfl rfl)
theorem dX10_sees_22 : decode cX10_sees 22 = .ok (.getfield 13, 3) := dk_180 0 13 (dk_at dksX10_sees_1 0 rfl rfl)
theorem dX10_sees_25 : decode cX10_sees 25 = .ok (.caload, 1) := dk_52 (dk_at dksX10_sees_1 3 rfl rfl)
theorem dX10_sees_26 : decode cX10_sees 26 = .ok (.iload_n 1, 1) := dk_27 (dk_at dksX10_sees_1 4 rfl rfl)
theorem dX10_sees_27 : decode cX10_sees 27 = .ok (.iload_n 2, 1) := dk_28 (dk_at dksX10_sees_1 5 rfl rfl)
theorem dX10_sees_28 : decode cX10_sees 28 = .ok (.invokestatic 26, 3) := dk_184 0 26 (dk_at dksX10_sees_1 6 rfl rfl)
theorem dX10_sees_31 : decode cX10_sees 31 = .ok (.ifCond .eq 7, 3) := dk_153 0 7 (dk_at dksX10_sees_1 9 rfl rfl)
theorem dX10_sees_34 : decode cX10_sees 34 = .ok (.iconst 1, 1) := dk_4 (dk_at dksX10_sees_1 12 rfl rfl)
theorem dX10_sees_35 : decode cX10_sees 35 = .ok (.goto 4, 3) := dk_167 0 4 (dk_at dksX10_sees_1 13 rfl rfl)
theorem dX10_sees_38 : decode cX10_sees 38 = .ok (.iconst 0, 1) := dk_3 (dk_at dksX10_sees_1 16 rfl rfl)
theorem dX10_sees_39 : decode cX10_sees 39 = .ok (.ireturn, 1) := dk_172 (dk_at dksX10_sees_1 17 rfl rfl)
abbrev cX10_readNumbers : ByteArray := prog_9_method_6_code
def yX10_readNumbers : MethodName := ⟨RX10, "readNumbers", "(C)V"⟩
def dkwX10_readNumbers_6 : List UInt8 := [4, 182, 0, 57, 181, 0, 64, 177]
abbrev dktX10_readNumbers_6 : List UInt8 := dkwX10_readNumbers_6 ++ []
def dkwX10_readNumbers_5 : List UInt8 := [182, 0, 57, 167, 0, 4, 4, 181, 0, 61, 167, 0, 21, 42, 42, 4, 182, 0, 57, 181, 0, 61, 42, 42]
abbrev dktX10_readNumbers_5 : List UInt8 := dkwX10_readNumbers_5 ++ dktX10_readNumbers_6
def dkwX10_readNumbers_4 : List UInt8 := [182, 0, 57, 181, 0, 61, 167, 0, 48, 42, 42, 16, 32, 16, 32, 182, 0, 30, 153, 0, 11, 42, 5]
abbrev dktX10_readNumbers_4 : List UInt8 := dkwX10_readNumbers_4 ++ dktX10_readNumbers_5
def dkwX10_readNumbers_3 : List UInt8 := [182, 0, 57, 181, 0, 67, 167, 0, 72, 42, 42, 5, 182, 0, 57, 181, 0, 61, 167, 0, 60, 42, 42, 4]
abbrev dktX10_readNumbers_3 : List UInt8 := dkwX10_readNumbers_3 ++ dktX10_readNumbers_4
def dkwX10_readNumbers_2 : List UInt8 := [167, 0, 102, 42, 42, 4, 182, 0, 57, 181, 0, 61, 42, 42, 4, 182, 0, 57, 181, 0, 64, 42, 42, 7]
abbrev dktX10_readNumbers_2 : List UInt8 := dkwX10_readNumbers_2 ++ dktX10_readNumbers_3
def dkwX10_readNumbers_1 : List UInt8 := [171, 0, 0, 0, 0, 0, 135, 0, 0, 0, 5, 0, 0, 0, 98, 0, 0, 0, 54, 0, 0, 0, 99, 0, 0, 0, 84, 0, 0, 0, 103, 0, 0, 0, 51, 0, 0, 0, 108, 0, 0, 0, 96, 0, 0, 0, 119, 0, 0, 0, 108]
abbrev dktX10_readNumbers_1 : List UInt8 := dkwX10_readNumbers_1 ++ dktX10_readNumbers_2
def dkwX10_readNumbers_0 : List UInt8 := [27]
abbrev dktX10_readNumbers_0 : List UInt8 := dkwX10_readNumbers_0 ++ dktX10_readNumbers_1
theorem dksX10_readNumbers_0 : cX10_readNumbers.data.toList.drop 0 = dktX10_readNumbers_0 := by decide +kernel
theorem dksX10_readNumbers_1 : cX10_readNumbers.data.toList.drop 1 = dktX10_readNumbers_1 := dk_seg dksX10_readNumbers_0 1 rfl rfl
theorem dksX10_readNumbers_2 : cX10_readNumbers.data.toList.drop 52 = dktX10_readNumbers_2 := dk_seg dksX10_readNumbers_1 51 rfl rfl
theorem dksX10_readNumbers_3 : cX10_readNumbers.data.toList.drop 76 = dktX10_readNumbers_3 := dk_seg dksX10_readNumbers_2 24 rfl rfl
theorem dksX10_readNumbers_4 : cX10_readNumbers.data.toList.drop 100 = dktX10_readNumbers_4 := dk_seg dksX10_readNumbers_3 24 rfl rfl
theorem dksX10_readNumbers_5 : cX10_readNumbers.data.toList.drop 123 = dktX10_readNumbers_5 := dk_seg dksX10_readNumbers_4 23 rfl rfl
theorem dksX10_readNumbers_6 : cX10_readNumbers.data.toList.drop 147 = dktX10_readNumbers_6 := dk_seg dksX10_readNumbers_5 24 rfl rfl
theorem dX10_readNumbers_0 : decode cX10_readNumbers 0 = .ok (.iload_n 1, 1) := dk_27 (dk_at dksX10_readNumbers_0 0 rfl rfl)
theorem dX10_readNumbers_1 : decode cX10_readNumbers 1 = .ok (.lookupswitch 135 #[(98, 54), (99, 84), (103, 51), (108, 96), (119, 108)], 51) := by decide +kernel
theorem dX10_readNumbers_52 : decode cX10_readNumbers 52 = .ok (.goto 102, 3) := dk_167 0 102 (dk_at dksX10_readNumbers_2 0 rfl rfl)
theorem dX10_readNumbers_55 : decode cX10_readNumbers 55 = .ok (.aload_n 0, 1) := dk_42 (dk_at dksX10_readNumbers_2 3 rfl rfl)
theorem dX10_readNumbers_56 : decode cX10_readNumbers 56 = .ok (.aload_n 0, 1) := dk_42 (dk_at dksX10_readNumbers_2 4 rfl rfl)
theorem dX10_readNumbers_57 : decode cX10_readNumbers 57 = .ok (.iconst 1, 1) := dk_4 (dk_at dksX10_readNumbers_2 5 rfl rfl)
theorem dX10_readNumbers_58 : decode cX10_readNumbers 58 = .ok (.invokevirtual 57, 3) := dk_182 0 57 (dk_at dksX10_readNumbers_2 6 rfl rfl)
theorem dX10_readNumbers_61 : decode cX10_readNumbers 61 = .ok (.putfield 61, 3) := dk_181 0 61 (dk_at dksX10_readNumbers_2 9 rfl rfl)
theorem dX10_readNumbers_64 : decode cX10_readNumbers 64 = .ok (.aload_n 0, 1) := dk_42 (dk_at dksX10_readNumbers_2 12 rfl rfl)
theorem dX10_readNumbers_65 : decode cX10_readNumbers 65 = .ok (.aload_n 0, 1) := dk_42 (dk_at dksX10_readNumbers_2 13 rfl rfl)
theorem dX10_readNumbers_66 : decode cX10_readNumbers 66 = .ok (.iconst 1, 1) := dk_4 (dk_at dksX10_readNumbers_2 14 rfl rfl)
theorem dX10_readNumbers_67 : decode cX10_readNumbers 67 = .ok (.invokevirtual 57, 3) := dk_182 0 57 (dk_at dksX10_readNumbers_2 15 rfl rfl)
theorem dX10_readNumbers_70 : decode cX10_readNumbers 70 = .ok (.putfield 64, 3) := dk_181 0 64 (dk_at dksX10_readNumbers_2 18 rfl rfl)
theorem dX10_readNumbers_73 : decode cX10_readNumbers 73 = .ok (.aload_n 0, 1) := dk_42 (dk_at dksX10_readNumbers_2 21 rfl rfl)
theorem dX10_readNumbers_74 : decode cX10_readNumbers 74 = .ok (.aload_n 0, 1) := dk_42 (dk_at dksX10_readNumbers_2 22 rfl rfl)
theorem dX10_readNumbers_75 : decode cX10_readNumbers 75 = .ok (.iconst 4, 1) := dk_7 (dk_at dksX10_readNumbers_2 23 rfl rfl)
theorem dX10_readNumbers_76 : decode cX10_readNumbers 76 = .ok (.invokevirtual 57, 3) := dk_182 0 57 (dk_at dksX10_readNumbers_3 0 rfl rfl)
theorem dX10_readNumbers_79 : decode cX10_readNumbers 79 = .ok (.putfield 67, 3) := dk_181 0 67 (dk_at dksX10_readNumbers_3 3 rfl rfl)
theorem dX10_readNumbers_82 : decode cX10_readNumbers 82 = .ok (.goto 72, 3) := dk_167 0 72 (dk_at dksX10_readNumbers_3 6 rfl rfl)
theorem dX10_readNumbers_85 : decode cX10_readNumbers 85 = .ok (.aload_n 0, 1) := dk_42 (dk_at dksX10_readNumbers_3 9 rfl rfl)
theorem dX10_readNumbers_86 : decode cX10_readNumbers 86 = .ok (.aload_n 0, 1) := dk_42 (dk_at dksX10_readNumbers_3 10 rfl rfl)
theorem dX10_readNumbers_87 : decode cX10_readNumbers 87 = .ok (.iconst 2, 1) := dk_5 (dk_at dksX10_readNumbers_3 11 rfl rfl)
theorem dX10_readNumbers_88 : decode cX10_readNumbers 88 = .ok (.invokevirtual 57, 3) := dk_182 0 57 (dk_at dksX10_readNumbers_3 12 rfl rfl)
theorem dX10_readNumbers_91 : decode cX10_readNumbers 91 = .ok (.putfield 61, 3) := dk_181 0 61 (dk_at dksX10_readNumbers_3 15 rfl rfl)
theorem dX10_readNumbers_94 : decode cX10_readNumbers 94 = .ok (.goto 60, 3) := dk_167 0 60 (dk_at dksX10_readNumbers_3 18 rfl rfl)
theorem dX10_readNumbers_97 : decode cX10_readNumbers 97 = .ok (.aload_n 0, 1) := dk_42 (dk_at dksX10_readNumbers_3 21 rfl rfl)
theorem dX10_readNumbers_98 : decode cX10_readNumbers 98 = .ok (.aload_n 0, 1) := dk_42 (dk_at dksX10_readNumbers_3 22 rfl rfl)
theorem dX10_readNumbers_99 : decode cX10_readNumbers 99 = .ok (.iconst 1, 1) := dk_4 (dk_at dksX10_readNumbers_3 23 rfl rfl)
theorem dX10_readNumbers_100 : decode cX10_readNumbers 100 = .ok (.invokevirtual 57, 3) := dk_182 0 57 (dk_at dksX10_readNumbers_4 0 rfl rfl)
theorem dX10_readNumbers_103 : decode cX10_readNumbers 103 = .ok (.putfield 61, 3) := dk_181 0 61 (dk_at dksX10_readNumbers_4 3 rfl rfl)
theorem dX10_readNumbers_106 : decode cX10_readNumbers 106 = .ok (.goto 48, 3) := dk_167 0 48 (dk_at dksX10_readNumbers_4 6 rfl rfl)
theorem dX10_readNumbers_109 : decode cX10_readNumbers 109 = .ok (.aload_n 0, 1) := dk_42 (dk_at dksX10_readNumbers_4 9 rfl rfl)
theorem dX10_readNumbers_110 : decode cX10_readNumbers 110 = .ok (.aload_n 0, 1) := dk_42 (dk_at dksX10_readNumbers_4 10 rfl rfl)
theorem dX10_readNumbers_111 : decode cX10_readNumbers 111 = .ok (.bipush 32, 2) := dk_16 32 (dk_at dksX10_readNumbers_4 11 rfl rfl)
theorem dX10_readNumbers_113 : decode cX10_readNumbers 113 = .ok (.bipush 32, 2) := dk_16 32 (dk_at dksX10_readNumbers_4 13 rfl rfl)
theorem dX10_readNumbers_115 : decode cX10_readNumbers 115 = .ok (.invokevirtual 30, 3) := dk_182 0 30 (dk_at dksX10_readNumbers_4 15 rfl rfl)
theorem dX10_readNumbers_118 : decode cX10_readNumbers 118 = .ok (.ifCond .eq 11, 3) := dk_153 0 11 (dk_at dksX10_readNumbers_4 18 rfl rfl)
theorem dX10_readNumbers_121 : decode cX10_readNumbers 121 = .ok (.aload_n 0, 1) := dk_42 (dk_at dksX10_readNumbers_4 21 rfl rfl)
theorem dX10_readNumbers_122 : decode cX10_readNumbers 122 = .ok (.iconst 2, 1) := dk_5 (dk_at dksX10_readNumbers_4 22 rfl rfl)
theorem dX10_readNumbers_123 : decode cX10_readNumbers 123 = .ok (.invokevirtual 57, 3) := dk_182 0 57 (dk_at dksX10_readNumbers_5 0 rfl rfl)
theorem dX10_readNumbers_126 : decode cX10_readNumbers 126 = .ok (.goto 4, 3) := dk_167 0 4 (dk_at dksX10_readNumbers_5 3 rfl rfl)
theorem dX10_readNumbers_129 : decode cX10_readNumbers 129 = .ok (.iconst 1, 1) := dk_4 (dk_at dksX10_readNumbers_5 6 rfl rfl)
theorem dX10_readNumbers_130 : decode cX10_readNumbers 130 = .ok (.putfield 61, 3) := dk_181 0 61 (dk_at dksX10_readNumbers_5 7 rfl rfl)
theorem dX10_readNumbers_133 : decode cX10_readNumbers 133 = .ok (.goto 21, 3) := dk_167 0 21 (dk_at dksX10_readNumbers_5 10 rfl rfl)
theorem dX10_readNumbers_136 : decode cX10_readNumbers 136 = .ok (.aload_n 0, 1) := dk_42 (dk_at dksX10_readNumbers_5 13 rfl rfl)
theorem dX10_readNumbers_137 : decode cX10_readNumbers 137 = .ok (.aload_n 0, 1) := dk_42 (dk_at dksX10_readNumbers_5 14 rfl rfl)
theorem dX10_readNumbers_138 : decode cX10_readNumbers 138 = .ok (.iconst 1, 1) := dk_4 (dk_at dksX10_readNumbers_5 15 rfl rfl)
theorem dX10_readNumbers_139 : decode cX10_readNumbers 139 = .ok (.invokevirtual 57, 3) := dk_182 0 57 (dk_at dksX10_readNumbers_5 16 rfl rfl)
theorem dX10_readNumbers_142 : decode cX10_readNumbers 142 = .ok (.putfield 61, 3) := dk_181 0 61 (dk_at dksX10_readNumbers_5 19 rfl rfl)
theorem dX10_readNumbers_145 : decode cX10_readNumbers 145 = .ok (.aload_n 0, 1) := dk_42 (dk_at dksX10_readNumbers_5 22 rfl rfl)
theorem dX10_readNumbers_146 : decode cX10_readNumbers 146 = .ok (.aload_n 0, 1) := dk_42 (dk_at dksX10_readNumbers_5 23 rfl rfl)
theorem dX10_readNumbers_147 : decode cX10_readNumbers 147 = .ok (.iconst 1, 1) := dk_4 (dk_at dksX10_readNumbers_6 0 rfl rfl)
theorem dX10_readNumbers_148 : decode cX10_readNumbers 148 = .ok (.invokevirtual 57, 3) := dk_182 0 57 (dk_at dksX10_readNumbers_6 1 rfl rfl)
theorem dX10_readNumbers_151 : decode cX10_readNumbers 151 = .ok (.putfield 64, 3) := dk_181 0 64 (dk_at dksX10_readNumbers_6 4 rfl rfl)
theorem dX10_readNumbers_154 : decode cX10_readNumbers 154 = .ok (.return_, 1) := dk_177 (dk_at dksX10_readNumbers_6 7 rfl rfl)
abbrev cX10_number : ByteArray := prog_9_method_4_code
def yX10_number : MethodName := ⟨RX10, "number", "(I)I"⟩
def dkwX10_number_3 : List UInt8 := [132, 3, 1, 167, 255, 206, 28, 172]
abbrev dktX10_number_3 : List UInt8 := dkwX10_number_3 ++ []
def dkwX10_number_2 : List UInt8 := [180, 0, 22, 42, 180, 0, 13, 52, 96, 16, 48, 100, 61, 42, 89, 180, 0, 13, 4, 96, 181, 0, 13]
abbrev dktX10_number_2 : List UInt8 := dkwX10_number_2 ++ dktX10_number_3
def dkwX10_number_1 : List UInt8 := [27, 162, 0, 51, 42, 16, 48, 16, 57, 182, 0, 30, 153, 0, 40, 16, 10, 28, 104, 42, 180, 0, 1]
abbrev dktX10_number_1 : List UInt8 := dkwX10_number_1 ++ dktX10_number_2
def dkwX10_number_0 : List UInt8 := [42, 16, 32, 16, 32, 182, 0, 39, 87, 42, 16, 48, 16, 57, 182, 0, 39, 16, 48, 100, 61, 4, 62, 29]
abbrev dktX10_number_0 : List UInt8 := dkwX10_number_0 ++ dktX10_number_1
theorem dksX10_number_0 : cX10_number.data.toList.drop 0 = dktX10_number_0 := by decide +kernel
theorem dksX10_number_1 : cX10_number.data.toList.drop 24 = dktX10_number_1 := dk_seg dksX10_number_0 24 rfl rfl
theorem dksX10_number_2 : cX10_number.data.toList.drop 47 = dktX10_number_2 := dk_seg dksX10_number_1 23 rfl rfl
theorem dksX10_number_3 : cX10_number.data.toList.drop 70 = dktX10_number_3 := dk_seg dksX10_number_2 23 rfl rfl
theorem dX10_number_0 : decode cX10_number 0 = .ok (.aload_n 0, 1) := dk_42 (dk_at dksX10_number_0 0 rfl rfl)
theorem dX10_number_1 : decode cX10_number 1 = .ok (.bipush 32, 2) := dk_16 32 (dk_at dksX10_number_0 1 rfl rfl)
theorem dX10_number_3 : decode cX10_number 3 = .ok (.bipush 32, 2) := dk_16 32 (dk_at dksX10_number_0 3 rfl rfl)
theorem dX10_number_5 : decode cX10_number 5 = .ok (.invokevirtual 39, 3) := dk_182 0 39 (dk_at dksX10_number_0 5 rfl rfl)
theorem dX10_number_8 : decode cX10_number 8 = .ok (.pop, 1) := dk_87 (dk_at dksX10_number_0 8 rfl rfl)
theorem dX10_number_9 : decode cX10_number 9 = .ok (.aload_n 0, 1) := dk_42 (dk_at dksX10_number_0 9 rfl rfl)
theorem dX10_number_10 : decode cX10_number 10 = .ok (.bipush 48, 2) := dk_16 48 (dk_at dksX10_number_0 10 rfl rfl)
theorem dX10_number_12 : decode cX10_number 12 = .ok (.bipush 57, 2) := dk_16 57 (dk_at dksX10_number_0 12 rfl rfl)
theorem dX10_number_14 : decode cX10_number 14 = .ok (.invokevirtual 39, 3) := dk_182 0 39 (dk_at dksX10_number_0 14 rfl rfl)
theorem dX10_number_17 : decode cX10_number 17 = .ok (.bipush 48, 2) := dk_16 48 (dk_at dksX10_number_0 17 rfl rfl)
theorem dX10_number_19 : decode cX10_number 19 = .ok (.isub, 1) := dk_100 (dk_at dksX10_number_0 19 rfl rfl)
theorem dX10_number_20 : decode cX10_number 20 = .ok (.istore_n 2, 1) := dk_61 (dk_at dksX10_number_0 20 rfl rfl)
theorem dX10_number_21 : decode cX10_number 21 = .ok (.iconst 1, 1) := dk_4 (dk_at dksX10_number_0 21 rfl rfl)
theorem dX10_number_22 : decode cX10_number 22 = .ok (.istore_n 3, 1) := dk_62 (dk_at dksX10_number_0 22 rfl rfl)
theorem dX10_number_23 : decode cX10_number 23 = .ok (.iload_n 3, 1) := dk_29 (dk_at dksX10_number_0 23 rfl rfl)
theorem dX10_number_24 : decode cX10_number 24 = .ok (.iload_n 1, 1) := dk_27 (dk_at dksX10_number_1 0 rfl rfl)
theorem dX10_number_25 : decode cX10_number 25 = .ok (.if_icmp .ge 51, 3) := dk_162 0 51 (dk_at dksX10_number_1 1 rfl rfl)
theorem dX10_number_28 : decode cX10_number 28 = .ok (.aload_n 0, 1) := dk_42 (dk_at dksX10_number_1 4 rfl rfl)
theorem dX10_number_29 : decode cX10_number 29 = .ok (.bipush 48, 2) := dk_16 48 (dk_at dksX10_number_1 5 rfl rfl)
theorem dX10_number_31 : decode cX10_number 31 = .ok (.bipush 57, 2) := dk_16 57 (dk_at dksX10_number_1 7 rfl rfl)
theorem dX10_number_33 : decode cX10_number 33 = .ok (.invokevirtual 30, 3) := dk_182 0 30 (dk_at dksX10_number_1 9 rfl rfl)
theorem dX10_number_36 : decode cX10_number 36 = .ok (.ifCond .eq 40, 3) := dk_153 0 40 (dk_at dksX10_number_1 12 rfl rfl)
theorem dX10_number_39 : decode cX10_number 39 = .ok (.bipush 10, 2) := dk_16 10 (dk_at dksX10_number_1 15 rfl rfl)
theorem dX10_number_41 : decode cX10_number 41 = .ok (.iload_n 2, 1) := dk_28 (dk_at dksX10_number_1 17 rfl rfl)
theorem dX10_number_42 : decode cX10_number 42 = .ok (.imul, 1) := dk_104 (dk_at dksX10_number_1 18 rfl rfl)
theorem dX10_number_43 : decode cX10_number 43 = .ok (.aload_n 0, 1) := dk_42 (dk_at dksX10_number_1 19 rfl rfl)
theorem dX10_number_44 : decode cX10_number 44 = .ok (.getfield 1, 3) := dk_180 0 1 (dk_at dksX10_number_1 20 rfl rfl)
theorem dX10_number_47 : decode cX10_number 47 = .ok (.getfield 22, 3) := dk_180 0 22 (dk_at dksX10_number_2 0 rfl rfl)
theorem dX10_number_50 : decode cX10_number 50 = .ok (.aload_n 0, 1) := dk_42 (dk_at dksX10_number_2 3 rfl rfl)
theorem dX10_number_51 : decode cX10_number 51 = .ok (.getfield 13, 3) := dk_180 0 13 (dk_at dksX10_number_2 4 rfl rfl)
theorem dX10_number_54 : decode cX10_number 54 = .ok (.caload, 1) := dk_52 (dk_at dksX10_number_2 7 rfl rfl)
theorem dX10_number_55 : decode cX10_number 55 = .ok (.iadd, 1) := dk_96 (dk_at dksX10_number_2 8 rfl rfl)
theorem dX10_number_56 : decode cX10_number 56 = .ok (.bipush 48, 2) := dk_16 48 (dk_at dksX10_number_2 9 rfl rfl)
theorem dX10_number_58 : decode cX10_number 58 = .ok (.isub, 1) := dk_100 (dk_at dksX10_number_2 11 rfl rfl)
theorem dX10_number_59 : decode cX10_number 59 = .ok (.istore_n 2, 1) := dk_61 (dk_at dksX10_number_2 12 rfl rfl)
theorem dX10_number_60 : decode cX10_number 60 = .ok (.aload_n 0, 1) := dk_42 (dk_at dksX10_number_2 13 rfl rfl)
theorem dX10_number_61 : decode cX10_number 61 = .ok (.dup, 1) := dk_89 (dk_at dksX10_number_2 14 rfl rfl)
theorem dX10_number_62 : decode cX10_number 62 = .ok (.getfield 13, 3) := dk_180 0 13 (dk_at dksX10_number_2 15 rfl rfl)
theorem dX10_number_65 : decode cX10_number 65 = .ok (.iconst 1, 1) := dk_4 (dk_at dksX10_number_2 18 rfl rfl)
theorem dX10_number_66 : decode cX10_number 66 = .ok (.iadd, 1) := dk_96 (dk_at dksX10_number_2 19 rfl rfl)
theorem dX10_number_67 : decode cX10_number 67 = .ok (.putfield 13, 3) := dk_181 0 13 (dk_at dksX10_number_2 20 rfl rfl)
theorem dX10_number_70 : decode cX10_number 70 = .ok (.iinc 3 1, 3) := dk_132 3 1 (dk_at dksX10_number_3 0 rfl rfl)
theorem dX10_number_73 : decode cX10_number 73 = .ok (.goto (-50), 3) := dk_167 255 206 (dk_at dksX10_number_3 3 rfl rfl)
theorem dX10_number_76 : decode cX10_number 76 = .ok (.iload_n 2, 1) := dk_28 (dk_at dksX10_number_3 6 rfl rfl)
theorem dX10_number_77 : decode cX10_number 77 = .ok (.ireturn, 1) := dk_172 (dk_at dksX10_number_3 7 rfl rfl)
abbrev cX10_carryOut : ByteArray := prog_9_method_7_code
def yX10_carryOut : MethodName := ⟨RX10, "carryOut", "(LSlidePark$State;C)V"⟩
def dkwX10_carryOut_5 : List UInt8 := [180, 0, 61, 182, 0, 87, 87, 167, 0, 16, 43, 42, 180, 0, 61, 42, 180, 0, 64, 182, 0, 90, 87, 177]
abbrev dktX10_carryOut_5 : List UInt8 := dkwX10_carryOut_5 ++ []
def dkwX10_carryOut_4 : List UInt8 := [180, 0, 64, 182, 0, 81, 87, 167, 0, 40, 43, 42, 180, 0, 61, 182, 0, 85, 87, 167, 0, 28, 43, 42]
abbrev dktX10_carryOut_4 : List UInt8 := dkwX10_carryOut_4 ++ dktX10_carryOut_5
def dkwX10_carryOut_3 : List UInt8 := [87, 167, 0, 68, 43, 42, 180, 0, 61, 182, 0, 79, 87, 167, 0, 56, 43, 42, 180, 0, 61, 42]
abbrev dktX10_carryOut_3 : List UInt8 := dkwX10_carryOut_3 ++ dktX10_carryOut_4
def dkwX10_carryOut_2 : List UInt8 := [43, 182, 0, 70, 87, 167, 0, 88, 43, 42, 180, 0, 61, 42, 180, 0, 64, 42, 180, 0, 67, 182, 0, 76]
abbrev dktX10_carryOut_2 : List UInt8 := dkwX10_carryOut_2 ++ dktX10_carryOut_3
def dkwX10_carryOut_1 : List UInt8 := [171, 0, 0, 0, 0, 0, 139, 0, 0, 0, 6, 0, 0, 0, 98, 0, 0, 0, 67, 0, 0, 0, 99, 0, 0, 0, 87, 0, 0, 0, 103, 0, 0, 0, 59, 0, 0, 0, 108, 0, 0, 0, 115, 0, 0, 0, 113, 0, 0, 0, 99, 0, 0, 0, 119, 0, 0, 0, 127]
abbrev dktX10_carryOut_1 : List UInt8 := dkwX10_carryOut_1 ++ dktX10_carryOut_2
def dkwX10_carryOut_0 : List UInt8 := [28]
abbrev dktX10_carryOut_0 : List UInt8 := dkwX10_carryOut_0 ++ dktX10_carryOut_1
theorem dksX10_carryOut_0 : cX10_carryOut.data.toList.drop 0 = dktX10_carryOut_0 := by decide +kernel
theorem dksX10_carryOut_1 : cX10_carryOut.data.toList.drop 1 = dktX10_carryOut_1 := dk_seg dksX10_carryOut_0 1 rfl rfl
theorem dksX10_carryOut_2 : cX10_carryOut.data.toList.drop 60 = dktX10_carryOut_2 := dk_seg dksX10_carryOut_1 59 rfl rfl
theorem dksX10_carryOut_3 : cX10_carryOut.data.toList.drop 84 = dktX10_carryOut_3 := dk_seg dksX10_carryOut_2 24 rfl rfl
theorem dksX10_carryOut_4 : cX10_carryOut.data.toList.drop 106 = dktX10_carryOut_4 := dk_seg dksX10_carryOut_3 22 rfl rfl
theorem dksX10_carryOut_5 : cX10_carryOut.data.toList.drop 130 = dktX10_carryOut_5 := dk_seg dksX10_carryOut_4 24 rfl rfl
theorem dX10_carryOut_0 : decode cX10_carryOut 0 = .ok (.iload_n 2, 1) := dk_28 (dk_at dksX10_carryOut_0 0 rfl rfl)
theorem dX10_carryOut_1 : decode cX10_carryOut 1 = .ok (.lookupswitch 139 #[(98, 67), (99, 87), (103, 59), (108, 115), (113, 99), (119, 127)], 59) := by decide +kernel
theorem dX10_carryOut_60 : decode cX10_carryOut 60 = .ok (.aload_n 1, 1) := dk_43 (dk_at dksX10_carryOut_2 0 rfl rfl)
theorem dX10_carryOut_61 : decode cX10_carryOut 61 = .ok (.invokevirtual 70, 3) := dk_182 0 70 (dk_at dksX10_carryOut_2 1 rfl rfl)
theorem dX10_carryOut_64 : decode cX10_carryOut 64 = .ok (.pop, 1) := dk_87 (dk_at dksX10_carryOut_2 4 rfl rfl)
theorem dX10_carryOut_65 : decode cX10_carryOut 65 = .ok (.goto 88, 3) := dk_167 0 88 (dk_at dksX10_carryOut_2 5 rfl rfl)
theorem dX10_carryOut_68 : decode cX10_carryOut 68 = .ok (.aload_n 1, 1) := dk_43 (dk_at dksX10_carryOut_2 8 rfl rfl)
theorem dX10_carryOut_69 : decode cX10_carryOut 69 = .ok (.aload_n 0, 1) := dk_42 (dk_at dksX10_carryOut_2 9 rfl rfl)
theorem dX10_carryOut_70 : decode cX10_carryOut 70 = .ok (.getfield 61, 3) := dk_180 0 61 (dk_at dksX10_carryOut_2 10 rfl rfl)
theorem dX10_carryOut_73 : decode cX10_carryOut 73 = .ok (.aload_n 0, 1) := dk_42 (dk_at dksX10_carryOut_2 13 rfl rfl)
theorem dX10_carryOut_74 : decode cX10_carryOut 74 = .ok (.getfield 64, 3) := dk_180 0 64 (dk_at dksX10_carryOut_2 14 rfl rfl)
theorem dX10_carryOut_77 : decode cX10_carryOut 77 = .ok (.aload_n 0, 1) := dk_42 (dk_at dksX10_carryOut_2 17 rfl rfl)
theorem dX10_carryOut_78 : decode cX10_carryOut 78 = .ok (.getfield 67, 3) := dk_180 0 67 (dk_at dksX10_carryOut_2 18 rfl rfl)
theorem dX10_carryOut_81 : decode cX10_carryOut 81 = .ok (.invokevirtual 76, 3) := dk_182 0 76 (dk_at dksX10_carryOut_2 21 rfl rfl)
theorem dX10_carryOut_84 : decode cX10_carryOut 84 = .ok (.pop, 1) := dk_87 (dk_at dksX10_carryOut_3 0 rfl rfl)
theorem dX10_carryOut_85 : decode cX10_carryOut 85 = .ok (.goto 68, 3) := dk_167 0 68 (dk_at dksX10_carryOut_3 1 rfl rfl)
theorem dX10_carryOut_88 : decode cX10_carryOut 88 = .ok (.aload_n 1, 1) := dk_43 (dk_at dksX10_carryOut_3 4 rfl rfl)
theorem dX10_carryOut_89 : decode cX10_carryOut 89 = .ok (.aload_n 0, 1) := dk_42 (dk_at dksX10_carryOut_3 5 rfl rfl)
theorem dX10_carryOut_90 : decode cX10_carryOut 90 = .ok (.getfield 61, 3) := dk_180 0 61 (dk_at dksX10_carryOut_3 6 rfl rfl)
theorem dX10_carryOut_93 : decode cX10_carryOut 93 = .ok (.invokevirtual 79, 3) := dk_182 0 79 (dk_at dksX10_carryOut_3 9 rfl rfl)
theorem dX10_carryOut_96 : decode cX10_carryOut 96 = .ok (.pop, 1) := dk_87 (dk_at dksX10_carryOut_3 12 rfl rfl)
theorem dX10_carryOut_97 : decode cX10_carryOut 97 = .ok (.goto 56, 3) := dk_167 0 56 (dk_at dksX10_carryOut_3 13 rfl rfl)
theorem dX10_carryOut_100 : decode cX10_carryOut 100 = .ok (.aload_n 1, 1) := dk_43 (dk_at dksX10_carryOut_3 16 rfl rfl)
theorem dX10_carryOut_101 : decode cX10_carryOut 101 = .ok (.aload_n 0, 1) := dk_42 (dk_at dksX10_carryOut_3 17 rfl rfl)
theorem dX10_carryOut_102 : decode cX10_carryOut 102 = .ok (.getfield 61, 3) := dk_180 0 61 (dk_at dksX10_carryOut_3 18 rfl rfl)
theorem dX10_carryOut_105 : decode cX10_carryOut 105 = .ok (.aload_n 0, 1) := dk_42 (dk_at dksX10_carryOut_3 21 rfl rfl)
theorem dX10_carryOut_106 : decode cX10_carryOut 106 = .ok (.getfield 64, 3) := dk_180 0 64 (dk_at dksX10_carryOut_4 0 rfl rfl)
theorem dX10_carryOut_109 : decode cX10_carryOut 109 = .ok (.invokevirtual 81, 3) := dk_182 0 81 (dk_at dksX10_carryOut_4 3 rfl rfl)
theorem dX10_carryOut_112 : decode cX10_carryOut 112 = .ok (.pop, 1) := dk_87 (dk_at dksX10_carryOut_4 6 rfl rfl)
theorem dX10_carryOut_113 : decode cX10_carryOut 113 = .ok (.goto 40, 3) := dk_167 0 40 (dk_at dksX10_carryOut_4 7 rfl rfl)
theorem dX10_carryOut_116 : decode cX10_carryOut 116 = .ok (.aload_n 1, 1) := dk_43 (dk_at dksX10_carryOut_4 10 rfl rfl)
theorem dX10_carryOut_117 : decode cX10_carryOut 117 = .ok (.aload_n 0, 1) := dk_42 (dk_at dksX10_carryOut_4 11 rfl rfl)
theorem dX10_carryOut_118 : decode cX10_carryOut 118 = .ok (.getfield 61, 3) := dk_180 0 61 (dk_at dksX10_carryOut_4 12 rfl rfl)
theorem dX10_carryOut_121 : decode cX10_carryOut 121 = .ok (.invokevirtual 85, 3) := dk_182 0 85 (dk_at dksX10_carryOut_4 15 rfl rfl)
theorem dX10_carryOut_124 : decode cX10_carryOut 124 = .ok (.pop, 1) := dk_87 (dk_at dksX10_carryOut_4 18 rfl rfl)
theorem dX10_carryOut_125 : decode cX10_carryOut 125 = .ok (.goto 28, 3) := dk_167 0 28 (dk_at dksX10_carryOut_4 19 rfl rfl)
theorem dX10_carryOut_128 : decode cX10_carryOut 128 = .ok (.aload_n 1, 1) := dk_43 (dk_at dksX10_carryOut_4 22 rfl rfl)
theorem dX10_carryOut_129 : decode cX10_carryOut 129 = .ok (.aload_n 0, 1) := dk_42 (dk_at dksX10_carryOut_4 23 rfl rfl)
theorem dX10_carryOut_130 : decode cX10_carryOut 130 = .ok (.getfield 61, 3) := dk_180 0 61 (dk_at dksX10_carryOut_5 0 rfl rfl)
theorem dX10_carryOut_133 : decode cX10_carryOut 133 = .ok (.invokevirtual 87, 3) := dk_182 0 87 (dk_at dksX10_carryOut_5 3 rfl rfl)
theorem dX10_carryOut_136 : decode cX10_carryOut 136 = .ok (.pop, 1) := dk_87 (dk_at dksX10_carryOut_5 6 rfl rfl)
theorem dX10_carryOut_137 : decode cX10_carryOut 137 = .ok (.goto 16, 3) := dk_167 0 16 (dk_at dksX10_carryOut_5 7 rfl rfl)
theorem dX10_carryOut_140 : decode cX10_carryOut 140 = .ok (.aload_n 1, 1) := dk_43 (dk_at dksX10_carryOut_5 10 rfl rfl)
theorem dX10_carryOut_141 : decode cX10_carryOut 141 = .ok (.aload_n 0, 1) := dk_42 (dk_at dksX10_carryOut_5 11 rfl rfl)
theorem dX10_carryOut_142 : decode cX10_carryOut 142 = .ok (.getfield 61, 3) := dk_180 0 61 (dk_at dksX10_carryOut_5 12 rfl rfl)
theorem dX10_carryOut_145 : decode cX10_carryOut 145 = .ok (.aload_n 0, 1) := dk_42 (dk_at dksX10_carryOut_5 15 rfl rfl)
theorem dX10_carryOut_146 : decode cX10_carryOut 146 = .ok (.getfield 64, 3) := dk_180 0 64 (dk_at dksX10_carryOut_5 16 rfl rfl)
theorem dX10_carryOut_149 : decode cX10_carryOut 149 = .ok (.invokevirtual 90, 3) := dk_182 0 90 (dk_at dksX10_carryOut_5 19 rfl rfl)
theorem dX10_carryOut_152 : decode cX10_carryOut 152 = .ok (.pop, 1) := dk_87 (dk_at dksX10_carryOut_5 22 rfl rfl)
theorem dX10_carryOut_153 : decode cX10_carryOut 153 = .ok (.return_, 1) := dk_177 (dk_at dksX10_carryOut_5 23 rfl rfl)
theorem q103 : (Jvm.Cond.initialized "SlidePark$Parser") ∈ lw_all := lw_g (lw_at lw_m1 38 rfl) rfl
theorem q237 : (Jvm.Cond.fieldLinkNest "SlidePark$Parser" (22 : Nat) "SlidePark" "input" "[C" "SlidePark") ∈ lw_tbl := lw_at lw_m1 172 rfl
theorem q238 : (Jvm.Cond.fieldLinkNest "SlidePark$Parser" (17 : Nat) "SlidePark" "inputLength" "I" "SlidePark") ∈ lw_tbl := lw_at lw_m1 173 rfl
theorem q242 : (Jvm.Cond.fieldLinkNest "SlidePark$Parser" (128 : Nat) "SlidePark" "failedCommand" "I" "SlidePark") ∈ lw_tbl := lw_at lw_m1 177 rfl
theorem q656 : (Jvm.Cond.selects "SlidePark$Parser" ({ cls := "java/lang/Object", name := "getClass", desc := "()Ljava/lang/Class;" } : Jvm.MethodName) ({ cls := "java/lang/Object", name := "getClass", desc := "()Ljava/lang/Class;" } : Jvm.MethodName)) ∈ lw_all := lw_g (lw_at lw_m3 111 rfl) rfl
theorem q1070 : (Jvm.Cond.selects "SlidePark$Parser" ({ cls := "java/lang/Object", name := "equals", desc := "(Ljava/lang/Object;)Z" } : Jvm.MethodName) ({ cls := "java/lang/Object", name := "equals", desc := "(Ljava/lang/Object;)Z" } : Jvm.MethodName)) ∈ lw_all := lw_g (lw_at lw_m5 45 rfl) rfl
theorem q1460 : (Jvm.Cond.instantiable "SlidePark$Parser" (5 : Nat)) ∈ lw_all := lw_g (lw_at lw_m6 195 rfl) rfl
theorem q1462 : (Jvm.Cond.instanceMethod ({ cls := "SlidePark$Parser", name := "<init>", desc := "(LSlidePark;)V" } : Jvm.MethodName)) ∈ lw_all := lw_g (lw_at lw_m6 197 rfl) rfl
theorem q1463 : (Jvm.Cond.code ({ cls := "SlidePark$Parser", name := "<init>", desc := "(LSlidePark;)V" } : Jvm.MethodName) prog_9_method_1_code (2 : Nat) (Option.none : Option Jvm.ClassFile.FieldType)) ∈ lw_all := lw_g (lw_at lw_m6 198 rfl) rfl
theorem q1464 : (Jvm.Cond.methodLink "SlidePark$Parser" (7 : Nat) ({ cls := "java/lang/Object", name := "<init>", desc := "()V" } : Jvm.MethodName)) ∈ lw_all := lw_g (lw_at lw_m6 199 rfl) rfl
theorem q1465 : (Jvm.Cond.fieldLink "SlidePark$Parser" (13 : Nat) "SlidePark$Parser" "at" "I") ∈ lw_all := lw_g (lw_at lw_m6 200 rfl) rfl
theorem q1466 : (Jvm.Cond.fieldLink "SlidePark$Parser" (61 : Nat) "SlidePark$Parser" "one" "I") ∈ lw_all := lw_g (lw_at lw_m6 201 rfl) rfl
theorem q1467 : (Jvm.Cond.fieldLink "SlidePark$Parser" (64 : Nat) "SlidePark$Parser" "two" "I") ∈ lw_all := lw_g (lw_at lw_m6 202 rfl) rfl
theorem q1468 : (Jvm.Cond.fieldLink "SlidePark$Parser" (67 : Nat) "SlidePark$Parser" "three" "I") ∈ lw_all := lw_g (lw_at lw_m6 203 rfl) rfl
theorem q1469 : (Jvm.Cond.fieldLink "SlidePark$Parser" (1 : Nat) "SlidePark$Parser" "this$0" "LSlidePark;") ∈ lw_all := lw_g (lw_at lw_m6 204 rfl) rfl
theorem q1470 : (Jvm.Cond.lays "SlidePark$Parser" "SlidePark$Parser" "at" "I") ∈ lw_all := lw_g (lw_at lw_m6 205 rfl) rfl
theorem q1471 : (Jvm.Cond.soleField "SlidePark$Parser" "at") ∈ lw_all := lw_g (lw_at lw_m6 206 rfl) rfl
theorem q1472 : (Jvm.Cond.lays "SlidePark$Parser" "SlidePark$Parser" "one" "I") ∈ lw_all := lw_g (lw_at lw_m6 207 rfl) rfl
theorem q1473 : (Jvm.Cond.soleField "SlidePark$Parser" "one") ∈ lw_all := lw_g (lw_at lw_m6 208 rfl) rfl
theorem q1474 : (Jvm.Cond.lays "SlidePark$Parser" "SlidePark$Parser" "two" "I") ∈ lw_all := lw_g (lw_at lw_m6 209 rfl) rfl
theorem q1475 : (Jvm.Cond.soleField "SlidePark$Parser" "two") ∈ lw_all := lw_g (lw_at lw_m6 210 rfl) rfl
theorem q1476 : (Jvm.Cond.lays "SlidePark$Parser" "SlidePark$Parser" "three" "I") ∈ lw_all := lw_g (lw_at lw_m6 211 rfl) rfl
theorem q1477 : (Jvm.Cond.soleField "SlidePark$Parser" "three") ∈ lw_all := lw_g (lw_at lw_m6 212 rfl) rfl
theorem q1478 : (Jvm.Cond.laysFinal "SlidePark$Parser" "SlidePark$Parser" "this$0" "LSlidePark;") ∈ lw_all := lw_g (lw_at lw_m6 213 rfl) rfl
theorem q1479 : (Jvm.Cond.soleField "SlidePark$Parser" "this$0") ∈ lw_all := lw_g (lw_at lw_m6 214 rfl) rfl
theorem q1480 : (Jvm.Cond.superclass "SlidePark$Parser" "java/lang/Object") ∈ lw_all := lw_g (lw_at lw_m6 215 rfl) rfl
theorem q1482 : (Jvm.Cond.instanceMethod ({ cls := "SlidePark$Parser", name := "commands", desc := "(LSlidePark$State;)I" } : Jvm.MethodName)) ∈ lw_all := lw_g (lw_at lw_m6 217 rfl) rfl
theorem q1483 : (Jvm.Cond.selects "SlidePark$Parser" ({ cls := "SlidePark$Parser", name := "commands", desc := "(LSlidePark$State;)I" } : Jvm.MethodName) ({ cls := "SlidePark$Parser", name := "commands", desc := "(LSlidePark$State;)I" } : Jvm.MethodName)) ∈ lw_all := lw_g (lw_at lw_m6 218 rfl) rfl
theorem q1484 : (Jvm.Cond.code ({ cls := "SlidePark$Parser", name := "commands", desc := "(LSlidePark$State;)I" } : Jvm.MethodName) prog_9_method_10_code (3 : Nat) (Option.some Jvm.ClassFile.FieldType.int)) ∈ lw_all := lw_g (lw_at lw_m6 219 rfl) rfl
theorem q1485 : (Jvm.Cond.methodLink "SlidePark$Parser" (132 : Nat) ({ cls := "SlidePark$Parser", name := "run", desc := "(LSlidePark$State;I)V" } : Jvm.MethodName)) ∈ lw_all := lw_g (lw_at lw_m6 220 rfl) rfl
theorem q1486 : (Jvm.Cond.privateMethod ({ cls := "SlidePark$Parser", name := "run", desc := "(LSlidePark$State;I)V" } : Jvm.MethodName)) ∈ lw_tbl := lw_at lw_m6 221 rfl
theorem q1487 : (Jvm.Cond.instanceMethod ({ cls := "SlidePark$Parser", name := "run", desc := "(LSlidePark$State;I)V" } : Jvm.MethodName)) ∈ lw_all := lw_g (lw_at lw_m6 222 rfl) rfl
theorem q1488 : (Jvm.Cond.codeWith ({ cls := "SlidePark$Parser", name := "run", desc := "(LSlidePark$State;I)V" } : Jvm.MethodName) prog_9_method_9_code (4 : Nat) (Option.none : Option Jvm.ClassFile.FieldType) [((0 : Nat), (5 : Nat), (8 : Nat), (118 : Nat)), ((0 : Nat), (5 : Nat), (8 : Nat), (120 : Nat)), ((0 : Nat), (5 : Nat), (8 : Nat), (122 : Nat)), ((0 : Nat), (5 : Nat), (8 : Nat), (124 : Nat)), ((0 : Nat), (5 : Nat), (8 : Nat), (126 : Nat))]) ∈ lw_all := lw_g (lw_at lw_m6 223 rfl) rfl
theorem q1489 : (Jvm.Cond.classLink "SlidePark$Parser" (118 : Nat) "java/lang/IndexOutOfBoundsException") ∈ lw_all := lw_g (lw_at lw_m6 224 rfl) rfl
theorem q1490 : (Jvm.Cond.classLink "SlidePark$Parser" (120 : Nat) "java/lang/IllegalArgumentException") ∈ lw_all := lw_g (lw_at lw_m6 225 rfl) rfl
theorem q1491 : (Jvm.Cond.classLink "SlidePark$Parser" (122 : Nat) "java/lang/IllegalStateException") ∈ lw_all := lw_g (lw_at lw_m6 226 rfl) rfl
theorem q1492 : (Jvm.Cond.classLink "SlidePark$Parser" (124 : Nat) "java/util/NoSuchElementException") ∈ lw_all := lw_g (lw_at lw_m6 227 rfl) rfl
theorem q1493 : (Jvm.Cond.classLink "SlidePark$Parser" (126 : Nat) "java/lang/UnsupportedOperationException") ∈ lw_all := lw_g (lw_at lw_m6 228 rfl) rfl
theorem q1494 : (Jvm.Cond.methodLink "SlidePark$Parser" (114 : Nat) ({ cls := "SlidePark$Parser", name := "command", desc := "(LSlidePark$State;)V" } : Jvm.MethodName)) ∈ lw_all := lw_g (lw_at lw_m6 229 rfl) rfl
theorem q1495 : (Jvm.Cond.privateMethod ({ cls := "SlidePark$Parser", name := "command", desc := "(LSlidePark$State;)V" } : Jvm.MethodName)) ∈ lw_tbl := lw_at lw_m6 230 rfl
theorem q1496 : (Jvm.Cond.instanceMethod ({ cls := "SlidePark$Parser", name := "command", desc := "(LSlidePark$State;)V" } : Jvm.MethodName)) ∈ lw_all := lw_g (lw_at lw_m6 231 rfl) rfl
theorem q1497 : (Jvm.Cond.code ({ cls := "SlidePark$Parser", name := "command", desc := "(LSlidePark$State;)V" } : Jvm.MethodName) prog_9_method_8_code (4 : Nat) (Option.none : Option Jvm.ClassFile.FieldType)) ∈ lw_all := lw_g (lw_at lw_m6 232 rfl) rfl
theorem q1498 : (Jvm.Cond.methodLink "SlidePark$Parser" (93 : Nat) ({ cls := "SlidePark$Parser", name := "keyword", desc := "()Ljava/lang/String;" } : Jvm.MethodName)) ∈ lw_all := lw_g (lw_at lw_m6 233 rfl) rfl
theorem q1499 : (Jvm.Cond.privateMethod ({ cls := "SlidePark$Parser", name := "keyword", desc := "()Ljava/lang/String;" } : Jvm.MethodName)) ∈ lw_tbl := lw_at lw_m6 234 rfl
theorem q1500 : (Jvm.Cond.instanceMethod ({ cls := "SlidePark$Parser", name := "keyword", desc := "()Ljava/lang/String;" } : Jvm.MethodName)) ∈ lw_all := lw_g (lw_at lw_m6 235 rfl) rfl
theorem q1501 : (Jvm.Cond.code ({ cls := "SlidePark$Parser", name := "keyword", desc := "()Ljava/lang/String;" } : Jvm.MethodName) prog_9_method_5_code (1 : Nat) (Option.some (Jvm.ClassFile.FieldType.object "java/lang/String"))) ∈ lw_all := lw_g (lw_at lw_m6 236 rfl) rfl
theorem q1502 : (Jvm.Cond.stringRef "SlidePark$Parser" (43 : Nat) "guest") ∈ lw_tbl := lw_at lw_m6 237 rfl
theorem q1503 : (Jvm.Cond.stringRef "SlidePark$Parser" (45 : Nat) "book") ∈ lw_tbl := lw_at lw_m6 238 rfl
theorem q1504 : (Jvm.Cond.stringRef "SlidePark$Parser" (47 : Nat) "cancel") ∈ lw_tbl := lw_at lw_m6 239 rfl
theorem q1505 : (Jvm.Cond.stringRef "SlidePark$Parser" (49 : Nat) "queue") ∈ lw_tbl := lw_at lw_m7 0 rfl
theorem q1506 : (Jvm.Cond.stringRef "SlidePark$Parser" (51 : Nat) "leave") ∈ lw_tbl := lw_at lw_m7 1 rfl
theorem q1507 : (Jvm.Cond.stringRef "SlidePark$Parser" (53 : Nat) "wait") ∈ lw_tbl := lw_at lw_m7 2 rfl
theorem q1508 : (Jvm.Cond.stringRef "SlidePark$Parser" (55 : Nat) "slide") ∈ lw_tbl := lw_at lw_m7 3 rfl
theorem q1509 : (Jvm.Cond.methodLink "SlidePark$Parser" (97 : Nat) ({ cls := "java/lang/String", name := "length", desc := "()I" } : Jvm.MethodName)) ∈ lw_all := lw_g (lw_at lw_m7 4 rfl) rfl
theorem q1517 : (Jvm.Cond.methodLink "SlidePark$Parser" (102 : Nat) ({ cls := "java/lang/String", name := "charAt", desc := "(I)C" } : Jvm.MethodName)) ∈ lw_all := lw_g (lw_at lw_m7 12 rfl) rfl
theorem q1553 : (Jvm.Cond.methodLink "SlidePark$Parser" (39 : Nat) ({ cls := "SlidePark$Parser", name := "next", desc := "(CC)C" } : Jvm.MethodName)) ∈ lw_all := lw_g (lw_at lw_m7 48 rfl) rfl
theorem q1554 : (Jvm.Cond.privateMethod ({ cls := "SlidePark$Parser", name := "next", desc := "(CC)C" } : Jvm.MethodName)) ∈ lw_tbl := lw_at lw_m7 49 rfl
theorem q1555 : (Jvm.Cond.instanceMethod ({ cls := "SlidePark$Parser", name := "next", desc := "(CC)C" } : Jvm.MethodName)) ∈ lw_all := lw_g (lw_at lw_m7 50 rfl) rfl
theorem q1556 : (Jvm.Cond.code ({ cls := "SlidePark$Parser", name := "next", desc := "(CC)C" } : Jvm.MethodName) prog_9_method_3_code (3 : Nat) (Option.some Jvm.ClassFile.FieldType.char)) ∈ lw_all := lw_g (lw_at lw_m7 51 rfl) rfl
theorem q1557 : (Jvm.Cond.methodLink "SlidePark$Parser" (30 : Nat) ({ cls := "SlidePark$Parser", name := "sees", desc := "(CC)Z" } : Jvm.MethodName)) ∈ lw_all := lw_g (lw_at lw_m7 52 rfl) rfl
theorem q1558 : (Jvm.Cond.privateMethod ({ cls := "SlidePark$Parser", name := "sees", desc := "(CC)Z" } : Jvm.MethodName)) ∈ lw_tbl := lw_at lw_m7 53 rfl
theorem q1559 : (Jvm.Cond.instanceMethod ({ cls := "SlidePark$Parser", name := "sees", desc := "(CC)Z" } : Jvm.MethodName)) ∈ lw_all := lw_g (lw_at lw_m7 54 rfl) rfl
theorem q1560 : (Jvm.Cond.code ({ cls := "SlidePark$Parser", name := "sees", desc := "(CC)Z" } : Jvm.MethodName) prog_9_method_2_code (3 : Nat) (Option.some Jvm.ClassFile.FieldType.boolean)) ∈ lw_all := lw_g (lw_at lw_m7 55 rfl) rfl
theorem q1561 : (Jvm.Cond.methodLinkNest "SlidePark$Parser" (26 : Nat) ({ cls := "SlidePark", name := "isBetween", desc := "(III)Z" } : Jvm.MethodName) "SlidePark") ∈ lw_tbl := lw_at lw_m7 56 rfl
theorem q1562 : (Jvm.Cond.classLink "SlidePark$Parser" (34 : Nat) "SlidePark$MalformedException") ∈ lw_all := lw_g (lw_at lw_m7 57 rfl) rfl
theorem q1571 : (Jvm.Cond.methodLink "SlidePark$Parser" (36 : Nat) ({ cls := "SlidePark$MalformedException", name := "<init>", desc := "(I)V" } : Jvm.MethodName)) ∈ lw_all := lw_g (lw_at lw_m7 66 rfl) rfl
theorem q1586 : (Jvm.Cond.methodLink "SlidePark$Parser" (106 : Nat) ({ cls := "SlidePark$Parser", name := "readNumbers", desc := "(C)V" } : Jvm.MethodName)) ∈ lw_all := lw_g (lw_at lw_m7 81 rfl) rfl
theorem q1587 : (Jvm.Cond.privateMethod ({ cls := "SlidePark$Parser", name := "readNumbers", desc := "(C)V" } : Jvm.MethodName)) ∈ lw_tbl := lw_at lw_m7 82 rfl
theorem q1588 : (Jvm.Cond.instanceMethod ({ cls := "SlidePark$Parser", name := "readNumbers", desc := "(C)V" } : Jvm.MethodName)) ∈ lw_all := lw_g (lw_at lw_m7 83 rfl) rfl
theorem q1589 : (Jvm.Cond.code ({ cls := "SlidePark$Parser", name := "readNumbers", desc := "(C)V" } : Jvm.MethodName) prog_9_method_6_code (2 : Nat) (Option.none : Option Jvm.ClassFile.FieldType)) ∈ lw_all := lw_g (lw_at lw_m7 84 rfl) rfl
theorem q1590 : (Jvm.Cond.methodLink "SlidePark$Parser" (57 : Nat) ({ cls := "SlidePark$Parser", name := "number", desc := "(I)I" } : Jvm.MethodName)) ∈ lw_all := lw_g (lw_at lw_m7 85 rfl) rfl
theorem q1591 : (Jvm.Cond.privateMethod ({ cls := "SlidePark$Parser", name := "number", desc := "(I)I" } : Jvm.MethodName)) ∈ lw_tbl := lw_at lw_m7 86 rfl
theorem q1592 : (Jvm.Cond.instanceMethod ({ cls := "SlidePark$Parser", name := "number", desc := "(I)I" } : Jvm.MethodName)) ∈ lw_all := lw_g (lw_at lw_m7 87 rfl) rfl
theorem q1593 : (Jvm.Cond.code ({ cls := "SlidePark$Parser", name := "number", desc := "(I)I" } : Jvm.MethodName) prog_9_method_4_code (4 : Nat) (Option.some Jvm.ClassFile.FieldType.int)) ∈ lw_all := lw_g (lw_at lw_m7 88 rfl) rfl
theorem q1594 : (Jvm.Cond.methodLink "SlidePark$Parser" (110 : Nat) ({ cls := "SlidePark$Parser", name := "carryOut", desc := "(LSlidePark$State;C)V" } : Jvm.MethodName)) ∈ lw_all := lw_g (lw_at lw_m7 89 rfl) rfl
theorem q1595 : (Jvm.Cond.privateMethod ({ cls := "SlidePark$Parser", name := "carryOut", desc := "(LSlidePark$State;C)V" } : Jvm.MethodName)) ∈ lw_tbl := lw_at lw_m7 90 rfl
theorem q1596 : (Jvm.Cond.instanceMethod ({ cls := "SlidePark$Parser", name := "carryOut", desc := "(LSlidePark$State;C)V" } : Jvm.MethodName)) ∈ lw_all := lw_g (lw_at lw_m7 91 rfl) rfl
theorem q1597 : (Jvm.Cond.code ({ cls := "SlidePark$Parser", name := "carryOut", desc := "(LSlidePark$State;C)V" } : Jvm.MethodName) prog_9_method_7_code (3 : Nat) (Option.none : Option Jvm.ClassFile.FieldType)) ∈ lw_all := lw_g (lw_at lw_m7 92 rfl) rfl
theorem q1598 : (Jvm.Cond.methodLink "SlidePark$Parser" (70 : Nat) ({ cls := "SlidePark$State", name := "addGuest", desc := "()I" } : Jvm.MethodName)) ∈ lw_all := lw_g (lw_at lw_m7 93 rfl) rfl
theorem q1599 : (Jvm.Cond.methodLink "SlidePark$Parser" (76 : Nat) ({ cls := "SlidePark$State", name := "book", desc := "(III)I" } : Jvm.MethodName)) ∈ lw_all := lw_g (lw_at lw_m7 94 rfl) rfl
theorem q1600 : (Jvm.Cond.methodLink "SlidePark$Parser" (79 : Nat) ({ cls := "SlidePark$State", name := "cancel", desc := "(I)I" } : Jvm.MethodName)) ∈ lw_all := lw_g (lw_at lw_m7 95 rfl) rfl
theorem q1601 : (Jvm.Cond.methodLink "SlidePark$Parser" (81 : Nat) ({ cls := "SlidePark$State", name := "join", desc := "(II)I" } : Jvm.MethodName)) ∈ lw_all := lw_g (lw_at lw_m7 96 rfl) rfl
theorem q1602 : (Jvm.Cond.methodLink "SlidePark$Parser" (85 : Nat) ({ cls := "SlidePark$State", name := "leave", desc := "(I)I" } : Jvm.MethodName)) ∈ lw_all := lw_g (lw_at lw_m7 97 rfl) rfl
theorem q1603 : (Jvm.Cond.methodLink "SlidePark$Parser" (87 : Nat) ({ cls := "SlidePark$State", name := "passMinutes", desc := "(I)I" } : Jvm.MethodName)) ∈ lw_all := lw_g (lw_at lw_m7 98 rfl) rfl
theorem q1604 : (Jvm.Cond.methodLink "SlidePark$Parser" (90 : Nat) ({ cls := "SlidePark$State", name := "build", desc := "(II)I" } : Jvm.MethodName)) ∈ lw_all := lw_g (lw_at lw_m7 99 rfl) rfl
theorem q1605 : (Jvm.Cond.methodLink "SlidePark$Parser" (131 : Nat) ({ cls := "java/lang/UnsupportedOperationException", name := "<init>", desc := "()V" } : Jvm.MethodName)) ∈ lw_all := lw_g (lw_at lw_m7 100 rfl) rfl
theorem q2415 : (Jvm.Cond.castable "SlidePark$Parser" "java/lang/Object") ∈ lw_tbl := lw_at lw_m10 190 rfl
theorem in_X10 : ∀ w ∈ wsX100, w ∈ lw_all := lw_in wsX100 [1470, 1472, 1474, 1476, 1478] (by decide +kernel) (by decide +kernel)

/-! SlidePark$MalformedException -/
set_option maxRecDepth 100000
def RX11 : String := "SlidePark$MalformedException"
def TX11 : u_T := fun k => match k with
  | 0 => ("java/lang/Throwable", "cause", "Ljava/lang/Throwable;", false)
  | 1 => ("java/lang/Throwable", "stackTrace", "[Ljava/lang/StackTraceElement;", false)
  | 2 => ("java/lang/Throwable", "suppressedExceptions", "Ljava/util/List;", false)
  | 3 => ("java/lang/Throwable", "detailMessage", "Ljava/lang/String;", false)
  | 4 => ("java/lang/Throwable", "backtrace", "Ljava/lang/Object;", false)
  | 5 => ("java/lang/Throwable", "depth", "I", false)
  | _ => ("SlidePark$MalformedException", "position", "I", true)
def tyX11 : Nat → FieldType := fun k => match k with
  | 0 => .object "java/lang/Throwable"
  | 1 => .array (.object "java/lang/StackTraceElement")
  | 2 => .object "java/util/List"
  | 3 => .object "java/lang/String"
  | 4 => .object "java/lang/Object"
  | 5 => .int
  | _ => .int
abbrev wsX110 : List Cond := u_ws RX11 TX11 7
theorem nmX11 : ∀ a, a < 7 → ∀ b, b < 7 → a ≠ b → (TX11 a).2.1 ≠ (TX11 b).2.1 := by decide +kernel
theorem tyX11_ok : ∀ k, k < 7 → parseFieldDescriptor (TX11 k).2.2.1 = some (tyX11 k) := by decide +kernel
abbrev cX11_init : ByteArray := prog_8_method_1_code
def yX11_init : MethodName := ⟨RX11, "<init>", "(I)V"⟩
def dkwX11_init_0 : List UInt8 := [42, 1, 1, 3, 3, 183, 0, 1, 42, 27, 181, 0, 7, 177]
abbrev dktX11_init_0 : List UInt8 := dkwX11_init_0 ++ []
theorem dksX11_init_0 : cX11_init.data.toList.drop 0 = dktX11_init_0 := by decide +kernel
theorem dX11_init_0 : decode cX11_init 0 = .ok (.aload_n 0, 1) := dk_42 (dk_at dksX11_init_0 0 rfl rfl)
theorem dX11_init_1 : decode cX11_init 1 = .ok (.aconst_null, 1) := dk_1 (dk_at dksX11_init_0 1 rfl rfl)
theorem dX11_init_2 : decode cX11_init 2 = .ok (.aconst_null, 1) := dk_1 (dk_at dksX11_init_0 2 rfl rfl)
theorem dX11_init_3 : decode cX11_init 3 = .ok (.iconst 0, 1) := dk_3 (dk_at dksX11_init_0 3 rfl rfl)
theorem dX11_init_4 : decode cX11_init 4 = .ok (.iconst 0, 1) := dk_3 (dk_at dksX11_init_0 4 rfl rfl)
theorem dX11_init_5 : decode cX11_init 5 = .ok (.invokespecial 1, 3) := dk_183 0 1 (dk_at dksX11_init_0 5 rfl rfl)
theorem dX11_init_8 : decode cX11_init 8 = .ok (.aload_n 0, 1) := dk_42 (dk_at dksX11_init_0 8 rfl rfl)
theorem dX11_init_9 : decode cX11_init 9 = .ok (.iload_n 1, 1) := dk_27 (dk_at dksX11_init_0 9 rfl rfl)
theorem dX11_init_10 : decode cX11_init 10 = .ok (.putfield 7, 3) := dk_181 0 7 (dk_at dksX11_init_0 10 rfl rfl)
theorem dX11_init_13 : decode cX11_init 13 = .ok (.return_, 1) := dk_177 (dk_at dksX11_init_0 13 rfl rfl)
theorem q104 : (Jvm.Cond.initialized "SlidePark$MalformedException") ∈ lw_all := lw_g (lw_at lw_m1 39 rfl) rfl
theorem q392 : (Jvm.Cond.selects "SlidePark$MalformedException" ({ cls := "java/lang/Throwable", name := "fillInStackTrace", desc := "()Ljava/lang/Throwable;" } : Jvm.MethodName) ({ cls := "java/lang/Throwable", name := "fillInStackTrace", desc := "()Ljava/lang/Throwable;" } : Jvm.MethodName)) ∈ lw_all := lw_g (lw_at lw_m2 87 rfl) rfl
theorem q655 : (Jvm.Cond.selects "SlidePark$MalformedException" ({ cls := "java/lang/Object", name := "getClass", desc := "()Ljava/lang/Class;" } : Jvm.MethodName) ({ cls := "java/lang/Object", name := "getClass", desc := "()Ljava/lang/Class;" } : Jvm.MethodName)) ∈ lw_all := lw_g (lw_at lw_m3 110 rfl) rfl
theorem q1069 : (Jvm.Cond.selects "SlidePark$MalformedException" ({ cls := "java/lang/Object", name := "equals", desc := "(Ljava/lang/Object;)Z" } : Jvm.MethodName) ({ cls := "java/lang/Object", name := "equals", desc := "(Ljava/lang/Object;)Z" } : Jvm.MethodName)) ∈ lw_all := lw_g (lw_at lw_m5 44 rfl) rfl
theorem q1563 : (Jvm.Cond.instantiable "SlidePark$MalformedException" (7 : Nat)) ∈ lw_all := lw_g (lw_at lw_m7 58 rfl) rfl
theorem q1564 : (Jvm.Cond.castable "SlidePark$MalformedException" "SlidePark$MalformedException") ∈ lw_tbl := lw_at lw_m7 59 rfl
theorem q1565 : (Jvm.Cond.selects "SlidePark$MalformedException" ({ cls := "java/lang/Throwable", name := "fillInStackTrace", desc := "(I)Ljava/lang/Throwable;" } : Jvm.MethodName) ({ cls := "java/lang/Throwable", name := "fillInStackTrace", desc := "(I)Ljava/lang/Throwable;" } : Jvm.MethodName)) ∈ lw_all := lw_g (lw_at lw_m7 60 rfl) rfl
theorem q1566 : (Jvm.Cond.lays "SlidePark$MalformedException" "java/lang/Throwable" "cause" "Ljava/lang/Throwable;") ∈ lw_all := lw_g (lw_at lw_m7 61 rfl) rfl
theorem q1567 : (Jvm.Cond.lays "SlidePark$MalformedException" "java/lang/Throwable" "stackTrace" "[Ljava/lang/StackTraceElement;") ∈ lw_all := lw_g (lw_at lw_m7 62 rfl) rfl
theorem q1568 : (Jvm.Cond.lays "SlidePark$MalformedException" "java/lang/Throwable" "suppressedExceptions" "Ljava/util/List;") ∈ lw_all := lw_g (lw_at lw_m7 63 rfl) rfl
theorem q1569 : (Jvm.Cond.lays "SlidePark$MalformedException" "java/lang/Throwable" "detailMessage" "Ljava/lang/String;") ∈ lw_all := lw_g (lw_at lw_m7 64 rfl) rfl
theorem q1570 : (Jvm.Cond.lays "SlidePark$MalformedException" "java/lang/Throwable" "backtrace" "Ljava/lang/Object;") ∈ lw_all := lw_g (lw_at lw_m7 65 rfl) rfl
theorem q1572 : (Jvm.Cond.instanceMethod ({ cls := "SlidePark$MalformedException", name := "<init>", desc := "(I)V" } : Jvm.MethodName)) ∈ lw_all := lw_g (lw_at lw_m7 67 rfl) rfl
theorem q1573 : (Jvm.Cond.code ({ cls := "SlidePark$MalformedException", name := "<init>", desc := "(I)V" } : Jvm.MethodName) prog_8_method_1_code (2 : Nat) (Option.none : Option Jvm.ClassFile.FieldType)) ∈ lw_all := lw_g (lw_at lw_m7 68 rfl) rfl
theorem q1574 : (Jvm.Cond.methodLink "SlidePark$MalformedException" (1 : Nat) ({ cls := "java/lang/Exception", name := "<init>", desc := "(Ljava/lang/String;Ljava/lang/Throwable;ZZ)V" } : Jvm.MethodName)) ∈ lw_all := lw_g (lw_at lw_m7 69 rfl) rfl
theorem q1580 : (Jvm.Cond.fieldLink "SlidePark$MalformedException" (7 : Nat) "SlidePark$MalformedException" "position" "I") ∈ lw_all := lw_g (lw_at lw_m7 75 rfl) rfl
theorem q1582 : (Jvm.Cond.laysFinal "SlidePark$MalformedException" "SlidePark$MalformedException" "position" "I") ∈ lw_all := lw_g (lw_at lw_m7 77 rfl) rfl
theorem q1583 : (Jvm.Cond.soleField "SlidePark$MalformedException" "position") ∈ lw_all := lw_g (lw_at lw_m7 78 rfl) rfl
theorem q1584 : (Jvm.Cond.lays "SlidePark$MalformedException" "java/lang/Throwable" "depth" "I") ∈ lw_all := lw_g (lw_at lw_m7 79 rfl) rfl
theorem q1585 : (Jvm.Cond.superclass "SlidePark$MalformedException" "java/lang/Exception") ∈ lw_all := lw_g (lw_at lw_m7 80 rfl) rfl
theorem q2416 : (Jvm.Cond.castable "SlidePark$MalformedException" "java/lang/Object") ∈ lw_tbl := lw_at lw_m10 191 rfl
theorem in_X11 : ∀ w ∈ wsX110, w ∈ lw_all := lw_in wsX110 [1566, 1567, 1568, 1569, 1570, 1584, 1582] (by decide +kernel) (by decide +kernel)
