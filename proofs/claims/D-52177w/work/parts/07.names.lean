/-! ShadowSpellLaw -/
set_option maxRecDepth 100000
def RX0 : String := "ShadowSpellLaw"
abbrev cX0_feed : ByteArray := method_3_code
def yX0_feed : MethodName := ⟨RX0, "feed", "(LShadowSpell;IIIII[J)I"⟩
def dkwX0_feed_1 : List UInt8 := [172]
abbrev dktX0_feed_1 : List UInt8 := dkwX0_feed_1 ++ []
def dkwX0_feed_0 : List UInt8 := [25, 6, 3, 42, 27, 28, 29, 21, 4, 21, 5, 182, 0, 7, 133, 80, 167, 0, 7, 58, 7, 4, 172, 3]
abbrev dktX0_feed_0 : List UInt8 := dkwX0_feed_0 ++ dktX0_feed_1
theorem dksX0_feed_0 : cX0_feed.data.toList.drop 0 = dktX0_feed_0 := by decide +kernel
theorem dksX0_feed_1 : cX0_feed.data.toList.drop 24 = dktX0_feed_1 := dk_seg dksX0_feed_0 24 rfl rfl
theorem dX0_feed_0 : decode cX0_feed 0 = .ok (.aload 6, 2) := dk_25 6 (dk_at dksX0_feed_0 0 rfl rfl)
theorem dX0_feed_2 : decode cX0_feed 2 = .ok (.iconst 0, 1) := dk_3 (dk_at dksX0_feed_0 2 rfl rfl)
theorem dX0_feed_3 : decode cX0_feed 3 = .ok (.aload_n 0, 1) := dk_42 (dk_at dksX0_feed_0 3 rfl rfl)
theorem dX0_feed_4 : decode cX0_feed 4 = .ok (.iload_n 1, 1) := dk_27 (dk_at dksX0_feed_0 4 rfl rfl)
theorem dX0_feed_5 : decode cX0_feed 5 = .ok (.iload_n 2, 1) := dk_28 (dk_at dksX0_feed_0 5 rfl rfl)
theorem dX0_feed_6 : decode cX0_feed 6 = .ok (.iload_n 3, 1) := dk_29 (dk_at dksX0_feed_0 6 rfl rfl)
theorem dX0_feed_7 : decode cX0_feed 7 = .ok (.iload 4, 2) := dk_21 4 (dk_at dksX0_feed_0 7 rfl rfl)
theorem dX0_feed_9 : decode cX0_feed 9 = .ok (.iload 5, 2) := dk_21 5 (dk_at dksX0_feed_0 9 rfl rfl)
theorem dX0_feed_11 : decode cX0_feed 11 = .ok (.invokevirtual 7, 3) := dk_182 0 7 (dk_at dksX0_feed_0 11 rfl rfl)
theorem dX0_feed_14 : decode cX0_feed 14 = .ok (.i2l, 1) := dk_133 (dk_at dksX0_feed_0 14 rfl rfl)
theorem dX0_feed_15 : decode cX0_feed 15 = .ok (.lastore, 1) := dk_80 (dk_at dksX0_feed_0 15 rfl rfl)
theorem dX0_feed_16 : decode cX0_feed 16 = .ok (.goto 7, 3) := dk_167 0 7 (dk_at dksX0_feed_0 16 rfl rfl)
theorem dX0_feed_19 : decode cX0_feed 19 = .ok (.astore 7, 2) := dk_58 7 (dk_at dksX0_feed_0 19 rfl rfl)
theorem dX0_feed_21 : decode cX0_feed 21 = .ok (.iconst 1, 1) := dk_4 (dk_at dksX0_feed_0 21 rfl rfl)
theorem dX0_feed_22 : decode cX0_feed 22 = .ok (.ireturn, 1) := dk_172 (dk_at dksX0_feed_0 22 rfl rfl)
theorem dX0_feed_23 : decode cX0_feed 23 = .ok (.iconst 0, 1) := dk_3 (dk_at dksX0_feed_0 23 rfl rfl)
theorem dX0_feed_24 : decode cX0_feed 24 = .ok (.ireturn, 1) := dk_172 (dk_at dksX0_feed_1 0 rfl rfl)
abbrev cX0_trim : ByteArray := method_4_code
def yX0_trim : MethodName := ⟨RX0, "trim", "(LShadowSpell;I[J)I"⟩
def dkwX0_trim_0 : List UInt8 := [44, 3, 42, 27, 182, 0, 15, 133, 80, 167, 0, 6, 78, 4, 172, 3, 172]
abbrev dktX0_trim_0 : List UInt8 := dkwX0_trim_0 ++ []
theorem dksX0_trim_0 : cX0_trim.data.toList.drop 0 = dktX0_trim_0 := by decide +kernel
theorem dX0_trim_0 : decode cX0_trim 0 = .ok (.aload_n 2, 1) := dk_44 (dk_at dksX0_trim_0 0 rfl rfl)
theorem dX0_trim_1 : decode cX0_trim 1 = .ok (.iconst 0, 1) := dk_3 (dk_at dksX0_trim_0 1 rfl rfl)
theorem dX0_trim_2 : decode cX0_trim 2 = .ok (.aload_n 0, 1) := dk_42 (dk_at dksX0_trim_0 2 rfl rfl)
theorem dX0_trim_3 : decode cX0_trim 3 = .ok (.iload_n 1, 1) := dk_27 (dk_at dksX0_trim_0 3 rfl rfl)
theorem dX0_trim_4 : decode cX0_trim 4 = .ok (.invokevirtual 15, 3) := dk_182 0 15 (dk_at dksX0_trim_0 4 rfl rfl)
theorem dX0_trim_7 : decode cX0_trim 7 = .ok (.i2l, 1) := dk_133 (dk_at dksX0_trim_0 7 rfl rfl)
theorem dX0_trim_8 : decode cX0_trim 8 = .ok (.lastore, 1) := dk_80 (dk_at dksX0_trim_0 8 rfl rfl)
theorem dX0_trim_9 : decode cX0_trim 9 = .ok (.goto 6, 3) := dk_167 0 6 (dk_at dksX0_trim_0 9 rfl rfl)
theorem dX0_trim_12 : decode cX0_trim 12 = .ok (.astore_n 3, 1) := dk_78 (dk_at dksX0_trim_0 12 rfl rfl)
theorem dX0_trim_13 : decode cX0_trim 13 = .ok (.iconst 1, 1) := dk_4 (dk_at dksX0_trim_0 13 rfl rfl)
theorem dX0_trim_14 : decode cX0_trim 14 = .ok (.ireturn, 1) := dk_172 (dk_at dksX0_trim_0 14 rfl rfl)
theorem dX0_trim_15 : decode cX0_trim 15 = .ok (.iconst 0, 1) := dk_3 (dk_at dksX0_trim_0 15 rfl rfl)
theorem dX0_trim_16 : decode cX0_trim 16 = .ok (.ireturn, 1) := dk_172 (dk_at dksX0_trim_0 16 rfl rfl)
abbrev cX0_count : ByteArray := method_5_code
def yX0_count : MethodName := ⟨RX0, "count", "(LShadowSpell;I[J)I"⟩
def dkwX0_count_0 : List UInt8 := [44, 3, 42, 27, 182, 0, 21, 133, 80, 167, 0, 6, 78, 4, 172, 3, 172]
abbrev dktX0_count_0 : List UInt8 := dkwX0_count_0 ++ []
theorem dksX0_count_0 : cX0_count.data.toList.drop 0 = dktX0_count_0 := by decide +kernel
theorem dX0_count_0 : decode cX0_count 0 = .ok (.aload_n 2, 1) := dk_44 (dk_at dksX0_count_0 0 rfl rfl)
theorem dX0_count_1 : decode cX0_count 1 = .ok (.iconst 0, 1) := dk_3 (dk_at dksX0_count_0 1 rfl rfl)
theorem dX0_count_2 : decode cX0_count 2 = .ok (.aload_n 0, 1) := dk_42 (dk_at dksX0_count_0 2 rfl rfl)
theorem dX0_count_3 : decode cX0_count 3 = .ok (.iload_n 1, 1) := dk_27 (dk_at dksX0_count_0 3 rfl rfl)
theorem dX0_count_4 : decode cX0_count 4 = .ok (.invokevirtual 21, 3) := dk_182 0 21 (dk_at dksX0_count_0 4 rfl rfl)
theorem dX0_count_7 : decode cX0_count 7 = .ok (.i2l, 1) := dk_133 (dk_at dksX0_count_0 7 rfl rfl)
theorem dX0_count_8 : decode cX0_count 8 = .ok (.lastore, 1) := dk_80 (dk_at dksX0_count_0 8 rfl rfl)
theorem dX0_count_9 : decode cX0_count 9 = .ok (.goto 6, 3) := dk_167 0 6 (dk_at dksX0_count_0 9 rfl rfl)
theorem dX0_count_12 : decode cX0_count 12 = .ok (.astore_n 3, 1) := dk_78 (dk_at dksX0_count_0 12 rfl rfl)
theorem dX0_count_13 : decode cX0_count 13 = .ok (.iconst 1, 1) := dk_4 (dk_at dksX0_count_0 13 rfl rfl)
theorem dX0_count_14 : decode cX0_count 14 = .ok (.ireturn, 1) := dk_172 (dk_at dksX0_count_0 14 rfl rfl)
theorem dX0_count_15 : decode cX0_count 15 = .ok (.iconst 0, 1) := dk_3 (dk_at dksX0_count_0 15 rfl rfl)
theorem dX0_count_16 : decode cX0_count 16 = .ok (.ireturn, 1) := dk_172 (dk_at dksX0_count_0 16 rfl rfl)
abbrev cX0_planet : ByteArray := method_6_code
def yX0_planet : MethodName := ⟨RX0, "planet", "(LShadowSpell;II[J)I"⟩
def dkwX0_planet_0 : List UInt8 := [45, 3, 42, 27, 28, 182, 0, 26, 133, 80, 167, 0, 7, 58, 4, 4, 172, 3, 172]
abbrev dktX0_planet_0 : List UInt8 := dkwX0_planet_0 ++ []
theorem dksX0_planet_0 : cX0_planet.data.toList.drop 0 = dktX0_planet_0 := by decide +kernel
theorem dX0_planet_0 : decode cX0_planet 0 = .ok (.aload_n 3, 1) := dk_45 (dk_at dksX0_planet_0 0 rfl rfl)
theorem dX0_planet_1 : decode cX0_planet 1 = .ok (.iconst 0, 1) := dk_3 (dk_at dksX0_planet_0 1 rfl rfl)
theorem dX0_planet_2 : decode cX0_planet 2 = .ok (.aload_n 0, 1) := dk_42 (dk_at dksX0_planet_0 2 rfl rfl)
theorem dX0_planet_3 : decode cX0_planet 3 = .ok (.iload_n 1, 1) := dk_27 (dk_at dksX0_planet_0 3 rfl rfl)
theorem dX0_planet_4 : decode cX0_planet 4 = .ok (.iload_n 2, 1) := dk_28 (dk_at dksX0_planet_0 4 rfl rfl)
theorem dX0_planet_5 : decode cX0_planet 5 = .ok (.invokevirtual 26, 3) := dk_182 0 26 (dk_at dksX0_planet_0 5 rfl rfl)
theorem dX0_planet_8 : decode cX0_planet 8 = .ok (.i2l, 1) := dk_133 (dk_at dksX0_planet_0 8 rfl rfl)
theorem dX0_planet_9 : decode cX0_planet 9 = .ok (.lastore, 1) := dk_80 (dk_at dksX0_planet_0 9 rfl rfl)
theorem dX0_planet_10 : decode cX0_planet 10 = .ok (.goto 7, 3) := dk_167 0 7 (dk_at dksX0_planet_0 10 rfl rfl)
theorem dX0_planet_13 : decode cX0_planet 13 = .ok (.astore 4, 2) := dk_58 4 (dk_at dksX0_planet_0 13 rfl rfl)
theorem dX0_planet_15 : decode cX0_planet 15 = .ok (.iconst 1, 1) := dk_4 (dk_at dksX0_planet_0 15 rfl rfl)
theorem dX0_planet_16 : decode cX0_planet 16 = .ok (.ireturn, 1) := dk_172 (dk_at dksX0_planet_0 16 rfl rfl)
theorem dX0_planet_17 : decode cX0_planet 17 = .ok (.iconst 0, 1) := dk_3 (dk_at dksX0_planet_0 17 rfl rfl)
theorem dX0_planet_18 : decode cX0_planet 18 = .ok (.ireturn, 1) := dk_172 (dk_at dksX0_planet_0 18 rfl rfl)
abbrev cX0_set : ByteArray := method_7_code
def yX0_set : MethodName := ⟨RX0, "set", "(LShadowSpell;II[J)I"⟩
def dkwX0_set_0 : List UInt8 := [45, 3, 42, 27, 28, 182, 0, 30, 133, 80, 167, 0, 11, 58, 4, 4, 172, 58, 4, 5, 172, 3, 172]
abbrev dktX0_set_0 : List UInt8 := dkwX0_set_0 ++ []
theorem dksX0_set_0 : cX0_set.data.toList.drop 0 = dktX0_set_0 := by decide +kernel
theorem dX0_set_0 : decode cX0_set 0 = .ok (.aload_n 3, 1) := dk_45 (dk_at dksX0_set_0 0 rfl rfl)
theorem dX0_set_1 : decode cX0_set 1 = .ok (.iconst 0, 1) := dk_3 (dk_at dksX0_set_0 1 rfl rfl)
theorem dX0_set_2 : decode cX0_set 2 = .ok (.aload_n 0, 1) := dk_42 (dk_at dksX0_set_0 2 rfl rfl)
theorem dX0_set_3 : decode cX0_set 3 = .ok (.iload_n 1, 1) := dk_27 (dk_at dksX0_set_0 3 rfl rfl)
theorem dX0_set_4 : decode cX0_set 4 = .ok (.iload_n 2, 1) := dk_28 (dk_at dksX0_set_0 4 rfl rfl)
theorem dX0_set_5 : decode cX0_set 5 = .ok (.invokevirtual 30, 3) := dk_182 0 30 (dk_at dksX0_set_0 5 rfl rfl)
theorem dX0_set_8 : decode cX0_set 8 = .ok (.i2l, 1) := dk_133 (dk_at dksX0_set_0 8 rfl rfl)
theorem dX0_set_9 : decode cX0_set 9 = .ok (.lastore, 1) := dk_80 (dk_at dksX0_set_0 9 rfl rfl)
theorem dX0_set_10 : decode cX0_set 10 = .ok (.goto 11, 3) := dk_167 0 11 (dk_at dksX0_set_0 10 rfl rfl)
theorem dX0_set_13 : decode cX0_set 13 = .ok (.astore 4, 2) := dk_58 4 (dk_at dksX0_set_0 13 rfl rfl)
theorem dX0_set_15 : decode cX0_set 15 = .ok (.iconst 1, 1) := dk_4 (dk_at dksX0_set_0 15 rfl rfl)
theorem dX0_set_16 : decode cX0_set 16 = .ok (.ireturn, 1) := dk_172 (dk_at dksX0_set_0 16 rfl rfl)
theorem dX0_set_17 : decode cX0_set 17 = .ok (.astore 4, 2) := dk_58 4 (dk_at dksX0_set_0 17 rfl rfl)
theorem dX0_set_19 : decode cX0_set 19 = .ok (.iconst 2, 1) := dk_5 (dk_at dksX0_set_0 19 rfl rfl)
theorem dX0_set_20 : decode cX0_set 20 = .ok (.ireturn, 1) := dk_172 (dk_at dksX0_set_0 20 rfl rfl)
theorem dX0_set_21 : decode cX0_set 21 = .ok (.iconst 0, 1) := dk_3 (dk_at dksX0_set_0 21 rfl rfl)
theorem dX0_set_22 : decode cX0_set 22 = .ok (.ireturn, 1) := dk_172 (dk_at dksX0_set_0 22 rfl rfl)
abbrev cX0_gap : ByteArray := method_8_code
def yX0_gap : MethodName := ⟨RX0, "gap", "(LShadowSpell;II[J)I"⟩
def dkwX0_gap_0 : List UInt8 := [45, 3, 42, 27, 28, 182, 0, 33, 133, 80, 167, 0, 7, 58, 4, 4, 172, 3, 172]
abbrev dktX0_gap_0 : List UInt8 := dkwX0_gap_0 ++ []
theorem dksX0_gap_0 : cX0_gap.data.toList.drop 0 = dktX0_gap_0 := by decide +kernel
theorem dX0_gap_0 : decode cX0_gap 0 = .ok (.aload_n 3, 1) := dk_45 (dk_at dksX0_gap_0 0 rfl rfl)
theorem dX0_gap_1 : decode cX0_gap 1 = .ok (.iconst 0, 1) := dk_3 (dk_at dksX0_gap_0 1 rfl rfl)
theorem dX0_gap_2 : decode cX0_gap 2 = .ok (.aload_n 0, 1) := dk_42 (dk_at dksX0_gap_0 2 rfl rfl)
theorem dX0_gap_3 : decode cX0_gap 3 = .ok (.iload_n 1, 1) := dk_27 (dk_at dksX0_gap_0 3 rfl rfl)
theorem dX0_gap_4 : decode cX0_gap 4 = .ok (.iload_n 2, 1) := dk_28 (dk_at dksX0_gap_0 4 rfl rfl)
theorem dX0_gap_5 : decode cX0_gap 5 = .ok (.invokevirtual 33, 3) := dk_182 0 33 (dk_at dksX0_gap_0 5 rfl rfl)
theorem dX0_gap_8 : decode cX0_gap 8 = .ok (.i2l, 1) := dk_133 (dk_at dksX0_gap_0 8 rfl rfl)
theorem dX0_gap_9 : decode cX0_gap 9 = .ok (.lastore, 1) := dk_80 (dk_at dksX0_gap_0 9 rfl rfl)
theorem dX0_gap_10 : decode cX0_gap 10 = .ok (.goto 7, 3) := dk_167 0 7 (dk_at dksX0_gap_0 10 rfl rfl)
theorem dX0_gap_13 : decode cX0_gap 13 = .ok (.astore 4, 2) := dk_58 4 (dk_at dksX0_gap_0 13 rfl rfl)
theorem dX0_gap_15 : decode cX0_gap 15 = .ok (.iconst 1, 1) := dk_4 (dk_at dksX0_gap_0 15 rfl rfl)
theorem dX0_gap_16 : decode cX0_gap 16 = .ok (.ireturn, 1) := dk_172 (dk_at dksX0_gap_0 16 rfl rfl)
theorem dX0_gap_17 : decode cX0_gap 17 = .ok (.iconst 0, 1) := dk_3 (dk_at dksX0_gap_0 17 rfl rfl)
theorem dX0_gap_18 : decode cX0_gap 18 = .ok (.ireturn, 1) := dk_172 (dk_at dksX0_gap_0 18 rfl rfl)
abbrev cX0_meets : ByteArray := method_9_code
def yX0_meets : MethodName := ⟨RX0, "meets", "(LShadowSpell;IIZ[J)I"⟩
def dkwX0_meets_1 : List UInt8 := [4, 172, 3, 172]
abbrev dktX0_meets_1 : List UInt8 := dkwX0_meets_1 ++ []
def dkwX0_meets_0 : List UInt8 := [25, 4, 3, 42, 27, 28, 29, 182, 0, 36, 153, 0, 7, 10, 167, 0, 4, 9, 80, 167, 0, 7, 58, 5]
abbrev dktX0_meets_0 : List UInt8 := dkwX0_meets_0 ++ dktX0_meets_1
theorem dksX0_meets_0 : cX0_meets.data.toList.drop 0 = dktX0_meets_0 := by decide +kernel
theorem dksX0_meets_1 : cX0_meets.data.toList.drop 24 = dktX0_meets_1 := dk_seg dksX0_meets_0 24 rfl rfl
theorem dX0_meets_0 : decode cX0_meets 0 = .ok (.aload 4, 2) := dk_25 4 (dk_at dksX0_meets_0 0 rfl rfl)
theorem dX0_meets_2 : decode cX0_meets 2 = .ok (.iconst 0, 1) := dk_3 (dk_at dksX0_meets_0 2 rfl rfl)
theorem dX0_meets_3 : decode cX0_meets 3 = .ok (.aload_n 0, 1) := dk_42 (dk_at dksX0_meets_0 3 rfl rfl)
theorem dX0_meets_4 : decode cX0_meets 4 = .ok (.iload_n 1, 1) := dk_27 (dk_at dksX0_meets_0 4 rfl rfl)
theorem dX0_meets_5 : decode cX0_meets 5 = .ok (.iload_n 2, 1) := dk_28 (dk_at dksX0_meets_0 5 rfl rfl)
theorem dX0_meets_6 : decode cX0_meets 6 = .ok (.iload_n 3, 1) := dk_29 (dk_at dksX0_meets_0 6 rfl rfl)
theorem dX0_meets_7 : decode cX0_meets 7 = .ok (.invokevirtual 36, 3) := dk_182 0 36 (dk_at dksX0_meets_0 7 rfl rfl)
theorem dX0_meets_10 : decode cX0_meets 10 = .ok (.ifCond .eq 7, 3) := dk_153 0 7 (dk_at dksX0_meets_0 10 rfl rfl)
theorem dX0_meets_13 : decode cX0_meets 13 = .ok (.lconst 1, 1) := dk_10 (dk_at dksX0_meets_0 13 rfl rfl)
theorem dX0_meets_14 : decode cX0_meets 14 = .ok (.goto 4, 3) := dk_167 0 4 (dk_at dksX0_meets_0 14 rfl rfl)
theorem dX0_meets_17 : decode cX0_meets 17 = .ok (.lconst 0, 1) := dk_9 (dk_at dksX0_meets_0 17 rfl rfl)
theorem dX0_meets_18 : decode cX0_meets 18 = .ok (.lastore, 1) := dk_80 (dk_at dksX0_meets_0 18 rfl rfl)
theorem dX0_meets_19 : decode cX0_meets 19 = .ok (.goto 7, 3) := dk_167 0 7 (dk_at dksX0_meets_0 19 rfl rfl)
theorem dX0_meets_22 : decode cX0_meets 22 = .ok (.astore 5, 2) := dk_58 5 (dk_at dksX0_meets_0 22 rfl rfl)
theorem dX0_meets_24 : decode cX0_meets 24 = .ok (.iconst 1, 1) := dk_4 (dk_at dksX0_meets_1 0 rfl rfl)
theorem dX0_meets_25 : decode cX0_meets 25 = .ok (.ireturn, 1) := dk_172 (dk_at dksX0_meets_1 1 rfl rfl)
theorem dX0_meets_26 : decode cX0_meets 26 = .ok (.iconst 0, 1) := dk_3 (dk_at dksX0_meets_1 2 rfl rfl)
theorem dX0_meets_27 : decode cX0_meets 27 = .ok (.ireturn, 1) := dk_172 (dk_at dksX0_meets_1 3 rfl rfl)
abbrev cX0_letter : ByteArray := method_10_code
def yX0_letter : MethodName := ⟨RX0, "letter", "(LShadowSpell;II[J)I"⟩
def dkwX0_letter_0 : List UInt8 := [45, 3, 42, 27, 28, 182, 0, 40, 133, 80, 167, 0, 7, 58, 4, 4, 172, 3, 172]
abbrev dktX0_letter_0 : List UInt8 := dkwX0_letter_0 ++ []
theorem dksX0_letter_0 : cX0_letter.data.toList.drop 0 = dktX0_letter_0 := by decide +kernel
theorem dX0_letter_0 : decode cX0_letter 0 = .ok (.aload_n 3, 1) := dk_45 (dk_at dksX0_letter_0 0 rfl rfl)
theorem dX0_letter_1 : decode cX0_letter 1 = .ok (.iconst 0, 1) := dk_3 (dk_at dksX0_letter_0 1 rfl rfl)
theorem dX0_letter_2 : decode cX0_letter 2 = .ok (.aload_n 0, 1) := dk_42 (dk_at dksX0_letter_0 2 rfl rfl)
theorem dX0_letter_3 : decode cX0_letter 3 = .ok (.iload_n 1, 1) := dk_27 (dk_at dksX0_letter_0 3 rfl rfl)
theorem dX0_letter_4 : decode cX0_letter 4 = .ok (.iload_n 2, 1) := dk_28 (dk_at dksX0_letter_0 4 rfl rfl)
theorem dX0_letter_5 : decode cX0_letter 5 = .ok (.invokevirtual 40, 3) := dk_182 0 40 (dk_at dksX0_letter_0 5 rfl rfl)
theorem dX0_letter_8 : decode cX0_letter 8 = .ok (.i2l, 1) := dk_133 (dk_at dksX0_letter_0 8 rfl rfl)
theorem dX0_letter_9 : decode cX0_letter 9 = .ok (.lastore, 1) := dk_80 (dk_at dksX0_letter_0 9 rfl rfl)
theorem dX0_letter_10 : decode cX0_letter 10 = .ok (.goto 7, 3) := dk_167 0 7 (dk_at dksX0_letter_0 10 rfl rfl)
theorem dX0_letter_13 : decode cX0_letter 13 = .ok (.astore 4, 2) := dk_58 4 (dk_at dksX0_letter_0 13 rfl rfl)
theorem dX0_letter_15 : decode cX0_letter 15 = .ok (.iconst 1, 1) := dk_4 (dk_at dksX0_letter_0 15 rfl rfl)
theorem dX0_letter_16 : decode cX0_letter 16 = .ok (.ireturn, 1) := dk_172 (dk_at dksX0_letter_0 16 rfl rfl)
theorem dX0_letter_17 : decode cX0_letter 17 = .ok (.iconst 0, 1) := dk_3 (dk_at dksX0_letter_0 17 rfl rfl)
theorem dX0_letter_18 : decode cX0_letter 18 = .ok (.ireturn, 1) := dk_172 (dk_at dksX0_letter_0 18 rfl rfl)
abbrev cX0_wrote : ByteArray := method_11_code
def yX0_wrote : MethodName := ⟨RX0, "wrote", "(LShadowSpell;I[J)I"⟩
def dkwX0_wrote_0 : List UInt8 := [44, 3, 42, 27, 182, 0, 43, 133, 80, 167, 0, 6, 78, 4, 172, 3, 172]
abbrev dktX0_wrote_0 : List UInt8 := dkwX0_wrote_0 ++ []
theorem dksX0_wrote_0 : cX0_wrote.data.toList.drop 0 = dktX0_wrote_0 := by decide +kernel
theorem dX0_wrote_0 : decode cX0_wrote 0 = .ok (.aload_n 2, 1) := dk_44 (dk_at dksX0_wrote_0 0 rfl rfl)
theorem dX0_wrote_1 : decode cX0_wrote 1 = .ok (.iconst 0, 1) := dk_3 (dk_at dksX0_wrote_0 1 rfl rfl)
theorem dX0_wrote_2 : decode cX0_wrote 2 = .ok (.aload_n 0, 1) := dk_42 (dk_at dksX0_wrote_0 2 rfl rfl)
theorem dX0_wrote_3 : decode cX0_wrote 3 = .ok (.iload_n 1, 1) := dk_27 (dk_at dksX0_wrote_0 3 rfl rfl)
theorem dX0_wrote_4 : decode cX0_wrote 4 = .ok (.invokevirtual 43, 3) := dk_182 0 43 (dk_at dksX0_wrote_0 4 rfl rfl)
theorem dX0_wrote_7 : decode cX0_wrote 7 = .ok (.i2l, 1) := dk_133 (dk_at dksX0_wrote_0 7 rfl rfl)
theorem dX0_wrote_8 : decode cX0_wrote 8 = .ok (.lastore, 1) := dk_80 (dk_at dksX0_wrote_0 8 rfl rfl)
theorem dX0_wrote_9 : decode cX0_wrote 9 = .ok (.goto 6, 3) := dk_167 0 6 (dk_at dksX0_wrote_0 9 rfl rfl)
theorem dX0_wrote_12 : decode cX0_wrote 12 = .ok (.astore_n 3, 1) := dk_78 (dk_at dksX0_wrote_0 12 rfl rfl)
theorem dX0_wrote_13 : decode cX0_wrote 13 = .ok (.iconst 1, 1) := dk_4 (dk_at dksX0_wrote_0 13 rfl rfl)
theorem dX0_wrote_14 : decode cX0_wrote 14 = .ok (.ireturn, 1) := dk_172 (dk_at dksX0_wrote_0 14 rfl rfl)
theorem dX0_wrote_15 : decode cX0_wrote 15 = .ok (.iconst 0, 1) := dk_3 (dk_at dksX0_wrote_0 15 rfl rfl)
theorem dX0_wrote_16 : decode cX0_wrote 16 = .ok (.ireturn, 1) := dk_172 (dk_at dksX0_wrote_0 16 rfl rfl)
abbrev cX0_pass : ByteArray := method_12_code
def yX0_pass : MethodName := ⟨RX0, "pass", "(LShadowSpell;I[J)I"⟩
def dkwX0_pass_0 : List UInt8 := [44, 3, 42, 27, 182, 0, 46, 133, 80, 167, 0, 6, 78, 4, 172, 3, 172]
abbrev dktX0_pass_0 : List UInt8 := dkwX0_pass_0 ++ []
theorem dksX0_pass_0 : cX0_pass.data.toList.drop 0 = dktX0_pass_0 := by decide +kernel
theorem dX0_pass_0 : decode cX0_pass 0 = .ok (.aload_n 2, 1) := dk_44 (dk_at dksX0_pass_0 0 rfl rfl)
theorem dX0_pass_1 : decode cX0_pass 1 = .ok (.iconst 0, 1) := dk_3 (dk_at dksX0_pass_0 1 rfl rfl)
theorem dX0_pass_2 : decode cX0_pass 2 = .ok (.aload_n 0, 1) := dk_42 (dk_at dksX0_pass_0 2 rfl rfl)
theorem dX0_pass_3 : decode cX0_pass 3 = .ok (.iload_n 1, 1) := dk_27 (dk_at dksX0_pass_0 3 rfl rfl)
theorem dX0_pass_4 : decode cX0_pass 4 = .ok (.invokevirtual 46, 3) := dk_182 0 46 (dk_at dksX0_pass_0 4 rfl rfl)
theorem dX0_pass_7 : decode cX0_pass 7 = .ok (.i2l, 1) := dk_133 (dk_at dksX0_pass_0 7 rfl rfl)
theorem dX0_pass_8 : decode cX0_pass 8 = .ok (.lastore, 1) := dk_80 (dk_at dksX0_pass_0 8 rfl rfl)
theorem dX0_pass_9 : decode cX0_pass 9 = .ok (.goto 6, 3) := dk_167 0 6 (dk_at dksX0_pass_0 9 rfl rfl)
theorem dX0_pass_12 : decode cX0_pass 12 = .ok (.astore_n 3, 1) := dk_78 (dk_at dksX0_pass_0 12 rfl rfl)
theorem dX0_pass_13 : decode cX0_pass 13 = .ok (.iconst 1, 1) := dk_4 (dk_at dksX0_pass_0 13 rfl rfl)
theorem dX0_pass_14 : decode cX0_pass 14 = .ok (.ireturn, 1) := dk_172 (dk_at dksX0_pass_0 14 rfl rfl)
theorem dX0_pass_15 : decode cX0_pass 15 = .ok (.iconst 0, 1) := dk_3 (dk_at dksX0_pass_0 15 rfl rfl)
theorem dX0_pass_16 : decode cX0_pass 16 = .ok (.ireturn, 1) := dk_172 (dk_at dksX0_pass_0 16 rfl rfl)
abbrev cX0_byteAt : ByteArray := method_13_code
def yX0_byteAt : MethodName := ⟨RX0, "byteAt", "(LShadowSpell;I[J)I"⟩
def dkwX0_byteAt_0 : List UInt8 := [44, 3, 42, 27, 182, 0, 49, 133, 80, 167, 0, 6, 78, 4, 172, 3, 172]
abbrev dktX0_byteAt_0 : List UInt8 := dkwX0_byteAt_0 ++ []
theorem dksX0_byteAt_0 : cX0_byteAt.data.toList.drop 0 = dktX0_byteAt_0 := by decide +kernel
theorem dX0_byteAt_0 : decode cX0_byteAt 0 = .ok (.aload_n 2, 1) := dk_44 (dk_at dksX0_byteAt_0 0 rfl rfl)
theorem dX0_byteAt_1 : decode cX0_byteAt 1 = .ok (.iconst 0, 1) := dk_3 (dk_at dksX0_byteAt_0 1 rfl rfl)
theorem dX0_byteAt_2 : decode cX0_byteAt 2 = .ok (.aload_n 0, 1) := dk_42 (dk_at dksX0_byteAt_0 2 rfl rfl)
theorem dX0_byteAt_3 : decode cX0_byteAt 3 = .ok (.iload_n 1, 1) := dk_27 (dk_at dksX0_byteAt_0 3 rfl rfl)
theorem dX0_byteAt_4 : decode cX0_byteAt 4 = .ok (.invokevirtual 49, 3) := dk_182 0 49 (dk_at dksX0_byteAt_0 4 rfl rfl)
theorem dX0_byteAt_7 : decode cX0_byteAt 7 = .ok (.i2l, 1) := dk_133 (dk_at dksX0_byteAt_0 7 rfl rfl)
theorem dX0_byteAt_8 : decode cX0_byteAt 8 = .ok (.lastore, 1) := dk_80 (dk_at dksX0_byteAt_0 8 rfl rfl)
theorem dX0_byteAt_9 : decode cX0_byteAt 9 = .ok (.goto 6, 3) := dk_167 0 6 (dk_at dksX0_byteAt_0 9 rfl rfl)
theorem dX0_byteAt_12 : decode cX0_byteAt 12 = .ok (.astore_n 3, 1) := dk_78 (dk_at dksX0_byteAt_0 12 rfl rfl)
theorem dX0_byteAt_13 : decode cX0_byteAt 13 = .ok (.iconst 1, 1) := dk_4 (dk_at dksX0_byteAt_0 13 rfl rfl)
theorem dX0_byteAt_14 : decode cX0_byteAt 14 = .ok (.ireturn, 1) := dk_172 (dk_at dksX0_byteAt_0 14 rfl rfl)
theorem dX0_byteAt_15 : decode cX0_byteAt 15 = .ok (.iconst 0, 1) := dk_3 (dk_at dksX0_byteAt_0 15 rfl rfl)
theorem dX0_byteAt_16 : decode cX0_byteAt 16 = .ok (.ireturn, 1) := dk_172 (dk_at dksX0_byteAt_0 16 rfl rfl)
abbrev cX0_translate : ByteArray := method_14_code
def yX0_translate : MethodName := ⟨RX0, "translate", "(LShadowSpell;II[J)I"⟩
def dkwX0_translate_0 : List UInt8 := [45, 3, 42, 27, 28, 182, 0, 52, 133, 80, 167, 0, 7, 58, 4, 4, 172, 3, 172]
abbrev dktX0_translate_0 : List UInt8 := dkwX0_translate_0 ++ []
theorem dksX0_translate_0 : cX0_translate.data.toList.drop 0 = dktX0_translate_0 := by decide +kernel
theorem dX0_translate_0 : decode cX0_translate 0 = .ok (.aload_n 3, 1) := dk_45 (dk_at dksX0_translate_0 0 rfl rfl)
theorem dX0_translate_1 : decode cX0_translate 1 = .ok (.iconst 0, 1) := dk_3 (dk_at dksX0_translate_0 1 rfl rfl)
theorem dX0_translate_2 : decode cX0_translate 2 = .ok (.aload_n 0, 1) := dk_42 (dk_at dksX0_translate_0 2 rfl rfl)
theorem dX0_translate_3 : decode cX0_translate 3 = .ok (.iload_n 1, 1) := dk_27 (dk_at dksX0_translate_0 3 rfl rfl)
theorem dX0_translate_4 : decode cX0_translate 4 = .ok (.iload_n 2, 1) := dk_28 (dk_at dksX0_translate_0 4 rfl rfl)
theorem dX0_translate_5 : decode cX0_translate 5 = .ok (.invokevirtual 52, 3) := dk_182 0 52 (dk_at dksX0_translate_0 5 rfl rfl)
theorem dX0_translate_8 : decode cX0_translate 8 = .ok (.i2l, 1) := dk_133 (dk_at dksX0_translate_0 8 rfl rfl)
theorem dX0_translate_9 : decode cX0_translate 9 = .ok (.lastore, 1) := dk_80 (dk_at dksX0_translate_0 9 rfl rfl)
theorem dX0_translate_10 : decode cX0_translate 10 = .ok (.goto 7, 3) := dk_167 0 7 (dk_at dksX0_translate_0 10 rfl rfl)
theorem dX0_translate_13 : decode cX0_translate 13 = .ok (.astore 4, 2) := dk_58 4 (dk_at dksX0_translate_0 13 rfl rfl)
theorem dX0_translate_15 : decode cX0_translate 15 = .ok (.iconst 1, 1) := dk_4 (dk_at dksX0_translate_0 15 rfl rfl)
theorem dX0_translate_16 : decode cX0_translate 16 = .ok (.ireturn, 1) := dk_172 (dk_at dksX0_translate_0 16 rfl rfl)
theorem dX0_translate_17 : decode cX0_translate 17 = .ok (.iconst 0, 1) := dk_3 (dk_at dksX0_translate_0 17 rfl rfl)
theorem dX0_translate_18 : decode cX0_translate 18 = .ok (.ireturn, 1) := dk_172 (dk_at dksX0_translate_0 18 rfl rfl)
abbrev cX0_foresee : ByteArray := method_15_code
def yX0_foresee : MethodName := ⟨RX0, "foresee", "(LShadowSpell;II[J)I"⟩
def dkwX0_foresee_0 : List UInt8 := [45, 3, 42, 27, 28, 182, 0, 55, 133, 80, 167, 0, 11, 58, 4, 4, 172, 58, 4, 5, 172, 3, 172]
abbrev dktX0_foresee_0 : List UInt8 := dkwX0_foresee_0 ++ []
theorem dksX0_foresee_0 : cX0_foresee.data.toList.drop 0 = dktX0_foresee_0 := by decide +kernel
theorem dX0_foresee_0 : decode cX0_foresee 0 = .ok (.aload_n 3, 1) := dk_45 (dk_at dksX0_foresee_0 0 rfl rfl)
theorem dX0_foresee_1 : decode cX0_foresee 1 = .ok (.iconst 0, 1) := dk_3 (dk_at dksX0_foresee_0 1 rfl rfl)
theorem dX0_foresee_2 : decode cX0_foresee 2 = .ok (.aload_n 0, 1) := dk_42 (dk_at dksX0_foresee_0 2 rfl rfl)
theorem dX0_foresee_3 : decode cX0_foresee 3 = .ok (.iload_n 1, 1) := dk_27 (dk_at dksX0_foresee_0 3 rfl rfl)
theorem dX0_foresee_4 : decode cX0_foresee 4 = .ok (.iload_n 2, 1) := dk_28 (dk_at dksX0_foresee_0 4 rfl rfl)
theorem dX0_foresee_5 : decode cX0_foresee 5 = .ok (.invokevirtual 55, 3) := dk_182 0 55 (dk_at dksX0_foresee_0 5 rfl rfl)
theorem dX0_foresee_8 : decode cX0_foresee 8 = .ok (.i2l, 1) := dk_133 (dk_at dksX0_foresee_0 8 rfl rfl)
theorem dX0_foresee_9 : decode cX0_foresee 9 = .ok (.lastore, 1) := dk_80 (dk_at dksX0_foresee_0 9 rfl rfl)
theorem dX0_foresee_10 : decode cX0_foresee 10 = .ok (.goto 11, 3) := dk_167 0 11 (dk_at dksX0_foresee_0 10 rfl rfl)
theorem dX0_foresee_13 : decode cX0_foresee 13 = .ok (.astore 4, 2) := dk_58 4 (dk_at dksX0_foresee_0 13 rfl rfl)
theorem dX0_foresee_15 : decode cX0_foresee 15 = .ok (.iconst 1, 1) := dk_4 (dk_at dksX0_foresee_0 15 rfl rfl)
theorem dX0_foresee_16 : decode cX0_foresee 16 = .ok (.ireturn, 1) := dk_172 (dk_at dksX0_foresee_0 16 rfl rfl)
theorem dX0_foresee_17 : decode cX0_foresee 17 = .ok (.astore 4, 2) := dk_58 4 (dk_at dksX0_foresee_0 17 rfl rfl)
theorem dX0_foresee_19 : decode cX0_foresee 19 = .ok (.iconst 2, 1) := dk_5 (dk_at dksX0_foresee_0 19 rfl rfl)
theorem dX0_foresee_20 : decode cX0_foresee 20 = .ok (.ireturn, 1) := dk_172 (dk_at dksX0_foresee_0 20 rfl rfl)
theorem dX0_foresee_21 : decode cX0_foresee 21 = .ok (.iconst 0, 1) := dk_3 (dk_at dksX0_foresee_0 21 rfl rfl)
theorem dX0_foresee_22 : decode cX0_foresee 22 = .ok (.ireturn, 1) := dk_172 (dk_at dksX0_foresee_0 22 rfl rfl)
abbrev cX0_next : ByteArray := method_16_code
def yX0_next : MethodName := ⟨RX0, "next", "(LShadowSpell;IIZ[J)I"⟩
def dkwX0_next_0 : List UInt8 := [25, 4, 3, 42, 27, 28, 29, 182, 0, 58, 133, 80, 167, 0, 7, 58, 5, 4, 172, 3, 172]
abbrev dktX0_next_0 : List UInt8 := dkwX0_next_0 ++ []
theorem dksX0_next_0 : cX0_next.data.toList.drop 0 = dktX0_next_0 := by decide +kernel
theorem dX0_next_0 : decode cX0_next 0 = .ok (.aload 4, 2) := dk_25 4 (dk_at dksX0_next_0 0 rfl rfl)
theorem dX0_next_2 : decode cX0_next 2 = .ok (.iconst 0, 1) := dk_3 (dk_at dksX0_next_0 2 rfl rfl)
theorem dX0_next_3 : decode cX0_next 3 = .ok (.aload_n 0, 1) := dk_42 (dk_at dksX0_next_0 3 rfl rfl)
theorem dX0_next_4 : decode cX0_next 4 = .ok (.iload_n 1, 1) := dk_27 (dk_at dksX0_next_0 4 rfl rfl)
theorem dX0_next_5 : decode cX0_next 5 = .ok (.iload_n 2, 1) := dk_28 (dk_at dksX0_next_0 5 rfl rfl)
theorem dX0_next_6 : decode cX0_next 6 = .ok (.iload_n 3, 1) := dk_29 (dk_at dksX0_next_0 6 rfl rfl)
theorem dX0_next_7 : decode cX0_next 7 = .ok (.invokevirtual 58, 3) := dk_182 0 58 (dk_at dksX0_next_0 7 rfl rfl)
theorem dX0_next_10 : decode cX0_next 10 = .ok (.i2l, 1) := dk_133 (dk_at dksX0_next_0 10 rfl rfl)
theorem dX0_next_11 : decode cX0_next 11 = .ok (.lastore, 1) := dk_80 (dk_at dksX0_next_0 11 rfl rfl)
theorem dX0_next_12 : decode cX0_next 12 = .ok (.goto 7, 3) := dk_167 0 7 (dk_at dksX0_next_0 12 rfl rfl)
theorem dX0_next_15 : decode cX0_next 15 = .ok (.astore 5, 2) := dk_58 5 (dk_at dksX0_next_0 15 rfl rfl)
theorem dX0_next_17 : decode cX0_next 17 = .ok (.iconst 1, 1) := dk_4 (dk_at dksX0_next_0 17 rfl rfl)
theorem dX0_next_18 : decode cX0_next 18 = .ok (.ireturn, 1) := dk_172 (dk_at dksX0_next_0 18 rfl rfl)
theorem dX0_next_19 : decode cX0_next 19 = .ok (.iconst 0, 1) := dk_3 (dk_at dksX0_next_0 19 rfl rfl)
theorem dX0_next_20 : decode cX0_next 20 = .ok (.ireturn, 1) := dk_172 (dk_at dksX0_next_0 20 rfl rfl)
abbrev cX0_again : ByteArray := method_17_code
def yX0_again : MethodName := ⟨RX0, "again", "(LShadowSpell;I[J)I"⟩
def dkwX0_again_0 : List UInt8 := [44, 3, 42, 27, 182, 0, 62, 133, 80, 167, 0, 6, 78, 4, 172, 3, 172]
abbrev dktX0_again_0 : List UInt8 := dkwX0_again_0 ++ []
theorem dksX0_again_0 : cX0_again.data.toList.drop 0 = dktX0_again_0 := by decide +kernel
theorem dX0_again_0 : decode cX0_again 0 = .ok (.aload_n 2, 1) := dk_44 (dk_at dksX0_again_0 0 rfl rfl)
theorem dX0_again_1 : decode cX0_again 1 = .ok (.iconst 0, 1) := dk_3 (dk_at dksX0_again_0 1 rfl rfl)
theorem dX0_again_2 : decode cX0_again 2 = .ok (.aload_n 0, 1) := dk_42 (dk_at dksX0_again_0 2 rfl rfl)
theorem dX0_again_3 : decode cX0_again 3 = .ok (.iload_n 1, 1) := dk_27 (dk_at dksX0_again_0 3 rfl rfl)
theorem dX0_again_4 : decode cX0_again 4 = .ok (.invokevirtual 62, 3) := dk_182 0 62 (dk_at dksX0_again_0 4 rfl rfl)
theorem dX0_again_7 : decode cX0_again 7 = .ok (.i2l, 1) := dk_133 (dk_at dksX0_again_0 7 rfl rfl)
theorem dX0_again_8 : decode cX0_again 8 = .ok (.lastore, 1) := dk_80 (dk_at dksX0_again_0 8 rfl rfl)
theorem dX0_again_9 : decode cX0_again 9 = .ok (.goto 6, 3) := dk_167 0 6 (dk_at dksX0_again_0 9 rfl rfl)
theorem dX0_again_12 : decode cX0_again 12 = .ok (.astore_n 3, 1) := dk_78 (dk_at dksX0_again_0 12 rfl rfl)
theorem dX0_again_13 : decode cX0_again 13 = .ok (.iconst 1, 1) := dk_4 (dk_at dksX0_again_0 13 rfl rfl)
theorem dX0_again_14 : decode cX0_again 14 = .ok (.ireturn, 1) := dk_172 (dk_at dksX0_again_0 14 rfl rfl)
theorem dX0_again_15 : decode cX0_again 15 = .ok (.iconst 0, 1) := dk_3 (dk_at dksX0_again_0 15 rfl rfl)
theorem dX0_again_16 : decode cX0_again 16 = .ok (.ireturn, 1) := dk_172 (dk_at dksX0_again_0 16 rfl rfl)
abbrev cX0_advise : ByteArray := method_18_code
def yX0_advise : MethodName := ⟨RX0, "advise", "(LShadowSpell;II[J)I"⟩
def dkwX0_advise_0 : List UInt8 := [45, 3, 42, 27, 28, 182, 0, 65, 133, 80, 167, 0, 11, 58, 4, 4, 172, 58, 4, 5, 172, 3, 172]
abbrev dktX0_advise_0 : List UInt8 := dkwX0_advise_0 ++ []
theorem dksX0_advise_0 : cX0_advise.data.toList.drop 0 = dktX0_advise_0 := by decide +kernel
theorem dX0_advise_0 : decode cX0_advise 0 = .ok (.aload_n 3, 1) := dk_45 (dk_at dksX0_advise_0 0 rfl rfl)
theorem dX0_advise_1 : decode cX0_advise 1 = .ok (.iconst 0, 1) := dk_3 (dk_at dksX0_advise_0 1 rfl rfl)
theorem dX0_advise_2 : decode cX0_advise 2 = .ok (.aload_n 0, 1) := dk_42 (dk_at dksX0_advise_0 2 rfl rfl)
theorem dX0_advise_3 : decode cX0_advise 3 = .ok (.iload_n 1, 1) := dk_27 (dk_at dksX0_advise_0 3 rfl rfl)
theorem dX0_advise_4 : decode cX0_advise 4 = .ok (.iload_n 2, 1) := dk_28 (dk_at dksX0_advise_0 4 rfl rfl)
theorem dX0_advise_5 : decode cX0_advise 5 = .ok (.invokevirtual 65, 3) := dk_182 0 65 (dk_at dksX0_advise_0 5 rfl rfl)
theorem dX0_advise_8 : decode cX0_advise 8 = .ok (.i2l, 1) := dk_133 (dk_at dksX0_advise_0 8 rfl rfl)
theorem dX0_advise_9 : decode cX0_advise 9 = .ok (.lastore, 1) := dk_80 (dk_at dksX0_advise_0 9 rfl rfl)
theorem dX0_advise_10 : decode cX0_advise 10 = .ok (.goto 11, 3) := dk_167 0 11 (dk_at dksX0_advise_0 10 rfl rfl)
theorem dX0_advise_13 : decode cX0_advise 13 = .ok (.astore 4, 2) := dk_58 4 (dk_at dksX0_advise_0 13 rfl rfl)
theorem dX0_advise_15 : decode cX0_advise 15 = .ok (.iconst 1, 1) := dk_4 (dk_at dksX0_advise_0 15 rfl rfl)
theorem dX0_advise_16 : decode cX0_advise 16 = .ok (.ireturn, 1) := dk_172 (dk_at dksX0_advise_0 16 rfl rfl)
theorem dX0_advise_17 : decode cX0_advise 17 = .ok (.astore 4, 2) := dk_58 4 (dk_at dksX0_advise_0 17 rfl rfl)
theorem dX0_advise_19 : decode cX0_advise 19 = .ok (.iconst 2, 1) := dk_5 (dk_at dksX0_advise_0 19 rfl rfl)
theorem dX0_advise_20 : decode cX0_advise 20 = .ok (.ireturn, 1) := dk_172 (dk_at dksX0_advise_0 20 rfl rfl)
theorem dX0_advise_21 : decode cX0_advise 21 = .ok (.iconst 0, 1) := dk_3 (dk_at dksX0_advise_0 21 rfl rfl)
theorem dX0_advise_22 : decode cX0_advise 22 = .ok (.ireturn, 1) := dk_172 (dk_at dksX0_advise_0 22 rfl rfl)
theorem q71 : (Jvm.Cond.initialized "ShadowSpellLaw") ∈ lw_all := lw_g (lw_at lw_m1 0 rfl) rfl
theorem q136 : (Jvm.Cond.classLink "ShadowSpellLaw" (8 : Nat) "ShadowSpell") ∈ lw_all := lw_g (lw_at lw_m1 65 rfl) rfl
theorem q138 : (Jvm.Cond.methodLink "ShadowSpellLaw" (68 : Nat) ({ cls := "ShadowSpell", name := "<init>", desc := "()V" } : Jvm.MethodName)) ∈ lw_all := lw_g (lw_at lw_m1 67 rfl) rfl
theorem q272 : (Jvm.Cond.methodLink "ShadowSpellLaw" (86 : Nat) ({ cls := "ShadowSpell", name := "teach", desc := "()I" } : Jvm.MethodName)) ∈ lw_all := lw_g (lw_at lw_m1 201 rfl) rfl
theorem q2004 : (Jvm.Cond.methodLink "ShadowSpellLaw" (90 : Nat) ({ cls := "ShadowSpell", name := "errorAt", desc := "()I" } : Jvm.MethodName)) ∈ lw_all := lw_g (lw_at lw_m9 13 rfl) rfl
theorem q2008 : (Jvm.Cond.methodLink "ShadowSpellLaw" (123 : Nat) ({ cls := "ShadowSpell", name := "clear", desc := "()I" } : Jvm.MethodName)) ∈ lw_all := lw_g (lw_at lw_m9 17 rfl) rfl
theorem q2081 : (Jvm.Cond.methodLink "ShadowSpellLaw" (127 : Nat) ({ cls := "ShadowSpell", name := "find", desc := "()I" } : Jvm.MethodName)) ∈ lw_all := lw_g (lw_at lw_m9 90 rfl) rfl
theorem q2105 : (Jvm.Cond.methodLink "ShadowSpellLaw" (140 : Nat) ({ cls := "ShadowSpell", name := "spells", desc := "()I" } : Jvm.MethodName)) ∈ lw_all := lw_g (lw_at lw_m9 114 rfl) rfl
theorem q2437 : (Jvm.Cond.methodLink "ShadowSpellLaw" (150 : Nat) ({ cls := "ShadowSpell", name := "mean", desc := "()D" } : Jvm.MethodName)) ∈ lw_all := lw_g (lw_at lw_m10 206 rfl) rfl
theorem q2447 : (Jvm.Cond.methodLink "ShadowSpellLaw" (155 : Nat) ({ cls := "ShadowSpell", name := "digest", desc := "()J" } : Jvm.MethodName)) ∈ lw_all := lw_g (lw_at lw_m10 216 rfl) rfl
theorem q2495 : (Jvm.Cond.methodLink "ShadowSpellLaw" (72 : Nat) ({ cls := "ShadowSpellLaw", name := "feed", desc := "(LShadowSpell;IIIII[J)I" } : Jvm.MethodName)) ∈ lw_all := lw_g (lw_at lw_m11 24 rfl) rfl
theorem q2496 : (Jvm.Cond.static ({ cls := "ShadowSpellLaw", name := "feed", desc := "(LShadowSpell;IIIII[J)I" } : Jvm.MethodName)) ∈ lw_all := lw_g (lw_at lw_m11 25 rfl) rfl
theorem q2497 : (Jvm.Cond.codeWith ({ cls := "ShadowSpellLaw", name := "feed", desc := "(LShadowSpell;IIIII[J)I" } : Jvm.MethodName) method_3_code (8 : Nat) (Option.some Jvm.ClassFile.FieldType.int) [((0 : Nat), (16 : Nat), (19 : Nat), (13 : Nat))]) ∈ lw_all := lw_g (lw_at lw_m11 26 rfl) rfl
theorem q2498 : (Jvm.Cond.classLink "ShadowSpellLaw" (13 : Nat) "java/lang/IllegalStateException") ∈ lw_all := lw_g (lw_at lw_m11 27 rfl) rfl
theorem q2499 : (Jvm.Cond.methodLink "ShadowSpellLaw" (7 : Nat) ({ cls := "ShadowSpell", name := "feed", desc := "(IIIII)I" } : Jvm.MethodName)) ∈ lw_all := lw_g (lw_at lw_m11 28 rfl) rfl
theorem q2525 : (Jvm.Cond.methodLink "ShadowSpellLaw" (82 : Nat) ({ cls := "ShadowSpellLaw", name := "trim", desc := "(LShadowSpell;I[J)I" } : Jvm.MethodName)) ∈ lw_all := lw_g (lw_at lw_m11 54 rfl) rfl
theorem q2526 : (Jvm.Cond.static ({ cls := "ShadowSpellLaw", name := "trim", desc := "(LShadowSpell;I[J)I" } : Jvm.MethodName)) ∈ lw_all := lw_g (lw_at lw_m11 55 rfl) rfl
theorem q2527 : (Jvm.Cond.codeWith ({ cls := "ShadowSpellLaw", name := "trim", desc := "(LShadowSpell;I[J)I" } : Jvm.MethodName) method_4_code (4 : Nat) (Option.some Jvm.ClassFile.FieldType.int) [((0 : Nat), (9 : Nat), (12 : Nat), (19 : Nat))]) ∈ lw_all := lw_g (lw_at lw_m11 56 rfl) rfl
theorem q2528 : (Jvm.Cond.classLink "ShadowSpellLaw" (19 : Nat) "java/lang/IllegalArgumentException") ∈ lw_all := lw_g (lw_at lw_m11 57 rfl) rfl
theorem q2529 : (Jvm.Cond.methodLink "ShadowSpellLaw" (15 : Nat) ({ cls := "ShadowSpell", name := "trim", desc := "(I)I" } : Jvm.MethodName)) ∈ lw_all := lw_g (lw_at lw_m11 58 rfl) rfl
theorem q2544 : (Jvm.Cond.methodLink "ShadowSpellLaw" (94 : Nat) ({ cls := "ShadowSpellLaw", name := "count", desc := "(LShadowSpell;I[J)I" } : Jvm.MethodName)) ∈ lw_all := lw_g (lw_at lw_m11 73 rfl) rfl
theorem q2545 : (Jvm.Cond.static ({ cls := "ShadowSpellLaw", name := "count", desc := "(LShadowSpell;I[J)I" } : Jvm.MethodName)) ∈ lw_all := lw_g (lw_at lw_m11 74 rfl) rfl
theorem q2546 : (Jvm.Cond.codeWith ({ cls := "ShadowSpellLaw", name := "count", desc := "(LShadowSpell;I[J)I" } : Jvm.MethodName) method_5_code (4 : Nat) (Option.some Jvm.ClassFile.FieldType.int) [((0 : Nat), (9 : Nat), (12 : Nat), (24 : Nat))]) ∈ lw_all := lw_g (lw_at lw_m11 75 rfl) rfl
theorem q2547 : (Jvm.Cond.classLink "ShadowSpellLaw" (24 : Nat) "java/lang/IndexOutOfBoundsException") ∈ lw_all := lw_g (lw_at lw_m11 76 rfl) rfl
theorem q2550 : (Jvm.Cond.methodLink "ShadowSpellLaw" (21 : Nat) ({ cls := "ShadowSpell", name := "count", desc := "(I)I" } : Jvm.MethodName)) ∈ lw_all := lw_g (lw_at lw_m11 79 rfl) rfl
theorem q2551 : (Jvm.Cond.methodLink "ShadowSpellLaw" (97 : Nat) ({ cls := "ShadowSpellLaw", name := "planet", desc := "(LShadowSpell;II[J)I" } : Jvm.MethodName)) ∈ lw_all := lw_g (lw_at lw_m11 80 rfl) rfl
theorem q2552 : (Jvm.Cond.static ({ cls := "ShadowSpellLaw", name := "planet", desc := "(LShadowSpell;II[J)I" } : Jvm.MethodName)) ∈ lw_all := lw_g (lw_at lw_m11 81 rfl) rfl
theorem q2553 : (Jvm.Cond.codeWith ({ cls := "ShadowSpellLaw", name := "planet", desc := "(LShadowSpell;II[J)I" } : Jvm.MethodName) method_6_code (5 : Nat) (Option.some Jvm.ClassFile.FieldType.int) [((0 : Nat), (10 : Nat), (13 : Nat), (24 : Nat))]) ∈ lw_all := lw_g (lw_at lw_m11 82 rfl) rfl
theorem q2554 : (Jvm.Cond.methodLink "ShadowSpellLaw" (26 : Nat) ({ cls := "ShadowSpell", name := "planet", desc := "(II)I" } : Jvm.MethodName)) ∈ lw_all := lw_g (lw_at lw_m11 83 rfl) rfl
theorem q2570 : (Jvm.Cond.methodLink "ShadowSpellLaw" (101 : Nat) ({ cls := "ShadowSpellLaw", name := "set", desc := "(LShadowSpell;II[J)I" } : Jvm.MethodName)) ∈ lw_all := lw_g (lw_at lw_m11 99 rfl) rfl
theorem q2571 : (Jvm.Cond.static ({ cls := "ShadowSpellLaw", name := "set", desc := "(LShadowSpell;II[J)I" } : Jvm.MethodName)) ∈ lw_all := lw_g (lw_at lw_m11 100 rfl) rfl
theorem q2572 : (Jvm.Cond.codeWith ({ cls := "ShadowSpellLaw", name := "set", desc := "(LShadowSpell;II[J)I" } : Jvm.MethodName) method_7_code (5 : Nat) (Option.some Jvm.ClassFile.FieldType.int) [((0 : Nat), (10 : Nat), (13 : Nat), (24 : Nat)), ((0 : Nat), (10 : Nat), (17 : Nat), (19 : Nat))]) ∈ lw_all := lw_g (lw_at lw_m11 101 rfl) rfl
theorem q2573 : (Jvm.Cond.methodLink "ShadowSpellLaw" (30 : Nat) ({ cls := "ShadowSpell", name := "set", desc := "(II)I" } : Jvm.MethodName)) ∈ lw_all := lw_g (lw_at lw_m11 102 rfl) rfl
theorem q2578 : (Jvm.Cond.methodLink "ShadowSpellLaw" (104 : Nat) ({ cls := "ShadowSpellLaw", name := "gap", desc := "(LShadowSpell;II[J)I" } : Jvm.MethodName)) ∈ lw_all := lw_g (lw_at lw_m11 107 rfl) rfl
theorem q2579 : (Jvm.Cond.static ({ cls := "ShadowSpellLaw", name := "gap", desc := "(LShadowSpell;II[J)I" } : Jvm.MethodName)) ∈ lw_all := lw_g (lw_at lw_m11 108 rfl) rfl
theorem q2580 : (Jvm.Cond.codeWith ({ cls := "ShadowSpellLaw", name := "gap", desc := "(LShadowSpell;II[J)I" } : Jvm.MethodName) method_8_code (5 : Nat) (Option.some Jvm.ClassFile.FieldType.int) [((0 : Nat), (10 : Nat), (13 : Nat), (24 : Nat))]) ∈ lw_all := lw_g (lw_at lw_m11 109 rfl) rfl
theorem q2581 : (Jvm.Cond.methodLink "ShadowSpellLaw" (33 : Nat) ({ cls := "ShadowSpell", name := "gap", desc := "(II)I" } : Jvm.MethodName)) ∈ lw_all := lw_g (lw_at lw_m11 110 rfl) rfl
theorem q2586 : (Jvm.Cond.methodLink "ShadowSpellLaw" (107 : Nat) ({ cls := "ShadowSpellLaw", name := "meets", desc := "(LShadowSpell;IIZ[J)I" } : Jvm.MethodName)) ∈ lw_all := lw_g (lw_at lw_m11 115 rfl) rfl
theorem q2587 : (Jvm.Cond.static ({ cls := "ShadowSpellLaw", name := "meets", desc := "(LShadowSpell;IIZ[J)I" } : Jvm.MethodName)) ∈ lw_all := lw_g (lw_at lw_m11 116 rfl) rfl
theorem q2588 : (Jvm.Cond.codeWith ({ cls := "ShadowSpellLaw", name := "meets", desc := "(LShadowSpell;IIZ[J)I" } : Jvm.MethodName) method_9_code (6 : Nat) (Option.some Jvm.ClassFile.FieldType.int) [((0 : Nat), (19 : Nat), (22 : Nat), (24 : Nat))]) ∈ lw_all := lw_g (lw_at lw_m11 117 rfl) rfl
theorem q2589 : (Jvm.Cond.methodLink "ShadowSpellLaw" (36 : Nat) ({ cls := "ShadowSpell", name := "meets", desc := "(IIZ)Z" } : Jvm.MethodName)) ∈ lw_all := lw_g (lw_at lw_m11 118 rfl) rfl
theorem q2595 : (Jvm.Cond.methodLink "ShadowSpellLaw" (111 : Nat) ({ cls := "ShadowSpellLaw", name := "letter", desc := "(LShadowSpell;II[J)I" } : Jvm.MethodName)) ∈ lw_all := lw_g (lw_at lw_m11 124 rfl) rfl
theorem q2596 : (Jvm.Cond.static ({ cls := "ShadowSpellLaw", name := "letter", desc := "(LShadowSpell;II[J)I" } : Jvm.MethodName)) ∈ lw_all := lw_g (lw_at lw_m11 125 rfl) rfl
theorem q2597 : (Jvm.Cond.codeWith ({ cls := "ShadowSpellLaw", name := "letter", desc := "(LShadowSpell;II[J)I" } : Jvm.MethodName) method_10_code (5 : Nat) (Option.some Jvm.ClassFile.FieldType.int) [((0 : Nat), (10 : Nat), (13 : Nat), (24 : Nat))]) ∈ lw_all := lw_g (lw_at lw_m11 126 rfl) rfl
theorem q2598 : (Jvm.Cond.methodLink "ShadowSpellLaw" (40 : Nat) ({ cls := "ShadowSpell", name := "letter", desc := "(II)I" } : Jvm.MethodName)) ∈ lw_all := lw_g (lw_at lw_m11 127 rfl) rfl
theorem q2602 : (Jvm.Cond.methodLink "ShadowSpellLaw" (114 : Nat) ({ cls := "ShadowSpellLaw", name := "wrote", desc := "(LShadowSpell;I[J)I" } : Jvm.MethodName)) ∈ lw_all := lw_g (lw_at lw_m11 131 rfl) rfl
theorem q2603 : (Jvm.Cond.static ({ cls := "ShadowSpellLaw", name := "wrote", desc := "(LShadowSpell;I[J)I" } : Jvm.MethodName)) ∈ lw_all := lw_g (lw_at lw_m11 132 rfl) rfl
theorem q2604 : (Jvm.Cond.codeWith ({ cls := "ShadowSpellLaw", name := "wrote", desc := "(LShadowSpell;I[J)I" } : Jvm.MethodName) method_11_code (4 : Nat) (Option.some Jvm.ClassFile.FieldType.int) [((0 : Nat), (9 : Nat), (12 : Nat), (24 : Nat))]) ∈ lw_all := lw_g (lw_at lw_m11 133 rfl) rfl
theorem q2605 : (Jvm.Cond.methodLink "ShadowSpellLaw" (43 : Nat) ({ cls := "ShadowSpell", name := "wrote", desc := "(I)I" } : Jvm.MethodName)) ∈ lw_all := lw_g (lw_at lw_m11 134 rfl) rfl
theorem q2609 : (Jvm.Cond.methodLink "ShadowSpellLaw" (117 : Nat) ({ cls := "ShadowSpellLaw", name := "pass", desc := "(LShadowSpell;I[J)I" } : Jvm.MethodName)) ∈ lw_all := lw_g (lw_at lw_m11 138 rfl) rfl
theorem q2610 : (Jvm.Cond.static ({ cls := "ShadowSpellLaw", name := "pass", desc := "(LShadowSpell;I[J)I" } : Jvm.MethodName)) ∈ lw_all := lw_g (lw_at lw_m11 139 rfl) rfl
theorem q2611 : (Jvm.Cond.codeWith ({ cls := "ShadowSpellLaw", name := "pass", desc := "(LShadowSpell;I[J)I" } : Jvm.MethodName) method_12_code (4 : Nat) (Option.some Jvm.ClassFile.FieldType.int) [((0 : Nat), (9 : Nat), (12 : Nat), (19 : Nat))]) ∈ lw_all := lw_g (lw_at lw_m11 140 rfl) rfl
theorem q2612 : (Jvm.Cond.methodLink "ShadowSpellLaw" (46 : Nat) ({ cls := "ShadowSpell", name := "pass", desc := "(I)I" } : Jvm.MethodName)) ∈ lw_all := lw_g (lw_at lw_m11 141 rfl) rfl
theorem q2621 : (Jvm.Cond.methodLink "ShadowSpellLaw" (120 : Nat) ({ cls := "ShadowSpellLaw", name := "byteAt", desc := "(LShadowSpell;I[J)I" } : Jvm.MethodName)) ∈ lw_all := lw_g (lw_at lw_m11 150 rfl) rfl
theorem q2622 : (Jvm.Cond.static ({ cls := "ShadowSpellLaw", name := "byteAt", desc := "(LShadowSpell;I[J)I" } : Jvm.MethodName)) ∈ lw_all := lw_g (lw_at lw_m11 151 rfl) rfl
theorem q2623 : (Jvm.Cond.codeWith ({ cls := "ShadowSpellLaw", name := "byteAt", desc := "(LShadowSpell;I[J)I" } : Jvm.MethodName) method_13_code (4 : Nat) (Option.some Jvm.ClassFile.FieldType.int) [((0 : Nat), (9 : Nat), (12 : Nat), (24 : Nat))]) ∈ lw_all := lw_g (lw_at lw_m11 152 rfl) rfl
theorem q2624 : (Jvm.Cond.methodLink "ShadowSpellLaw" (49 : Nat) ({ cls := "ShadowSpell", name := "byteAt", desc := "(I)I" } : Jvm.MethodName)) ∈ lw_all := lw_g (lw_at lw_m11 153 rfl) rfl
theorem q2628 : (Jvm.Cond.methodLink "ShadowSpellLaw" (131 : Nat) ({ cls := "ShadowSpellLaw", name := "translate", desc := "(LShadowSpell;II[J)I" } : Jvm.MethodName)) ∈ lw_all := lw_g (lw_at lw_m11 157 rfl) rfl
theorem q2629 : (Jvm.Cond.static ({ cls := "ShadowSpellLaw", name := "translate", desc := "(LShadowSpell;II[J)I" } : Jvm.MethodName)) ∈ lw_all := lw_g (lw_at lw_m11 158 rfl) rfl
theorem q2630 : (Jvm.Cond.codeWith ({ cls := "ShadowSpellLaw", name := "translate", desc := "(LShadowSpell;II[J)I" } : Jvm.MethodName) method_14_code (5 : Nat) (Option.some Jvm.ClassFile.FieldType.int) [((0 : Nat), (10 : Nat), (13 : Nat), (24 : Nat))]) ∈ lw_all := lw_g (lw_at lw_m11 159 rfl) rfl
theorem q2631 : (Jvm.Cond.methodLink "ShadowSpellLaw" (52 : Nat) ({ cls := "ShadowSpell", name := "translate", desc := "(II)I" } : Jvm.MethodName)) ∈ lw_all := lw_g (lw_at lw_m11 160 rfl) rfl
theorem q2643 : (Jvm.Cond.methodLink "ShadowSpellLaw" (134 : Nat) ({ cls := "ShadowSpellLaw", name := "foresee", desc := "(LShadowSpell;II[J)I" } : Jvm.MethodName)) ∈ lw_all := lw_g (lw_at lw_m11 172 rfl) rfl
theorem q2644 : (Jvm.Cond.static ({ cls := "ShadowSpellLaw", name := "foresee", desc := "(LShadowSpell;II[J)I" } : Jvm.MethodName)) ∈ lw_all := lw_g (lw_at lw_m11 173 rfl) rfl
theorem q2645 : (Jvm.Cond.codeWith ({ cls := "ShadowSpellLaw", name := "foresee", desc := "(LShadowSpell;II[J)I" } : Jvm.MethodName) method_15_code (5 : Nat) (Option.some Jvm.ClassFile.FieldType.int) [((0 : Nat), (10 : Nat), (13 : Nat), (19 : Nat)), ((0 : Nat), (10 : Nat), (17 : Nat), (24 : Nat))]) ∈ lw_all := lw_g (lw_at lw_m11 174 rfl) rfl
theorem q2646 : (Jvm.Cond.methodLink "ShadowSpellLaw" (55 : Nat) ({ cls := "ShadowSpell", name := "foresee", desc := "(II)I" } : Jvm.MethodName)) ∈ lw_all := lw_g (lw_at lw_m11 175 rfl) rfl
theorem q2654 : (Jvm.Cond.methodLink "ShadowSpellLaw" (137 : Nat) ({ cls := "ShadowSpellLaw", name := "next", desc := "(LShadowSpell;IIZ[J)I" } : Jvm.MethodName)) ∈ lw_all := lw_g (lw_at lw_m11 183 rfl) rfl
theorem q2655 : (Jvm.Cond.static ({ cls := "ShadowSpellLaw", name := "next", desc := "(LShadowSpell;IIZ[J)I" } : Jvm.MethodName)) ∈ lw_all := lw_g (lw_at lw_m11 184 rfl) rfl
theorem q2656 : (Jvm.Cond.codeWith ({ cls := "ShadowSpellLaw", name := "next", desc := "(LShadowSpell;IIZ[J)I" } : Jvm.MethodName) method_16_code (6 : Nat) (Option.some Jvm.ClassFile.FieldType.int) [((0 : Nat), (12 : Nat), (15 : Nat), (24 : Nat))]) ∈ lw_all := lw_g (lw_at lw_m11 185 rfl) rfl
theorem q2657 : (Jvm.Cond.methodLink "ShadowSpellLaw" (58 : Nat) ({ cls := "ShadowSpell", name := "next", desc := "(IIZ)I" } : Jvm.MethodName)) ∈ lw_all := lw_g (lw_at lw_m11 186 rfl) rfl
theorem q2662 : (Jvm.Cond.methodLink "ShadowSpellLaw" (144 : Nat) ({ cls := "ShadowSpellLaw", name := "again", desc := "(LShadowSpell;I[J)I" } : Jvm.MethodName)) ∈ lw_all := lw_g (lw_at lw_m11 191 rfl) rfl
theorem q2663 : (Jvm.Cond.static ({ cls := "ShadowSpellLaw", name := "again", desc := "(LShadowSpell;I[J)I" } : Jvm.MethodName)) ∈ lw_all := lw_g (lw_at lw_m11 192 rfl) rfl
theorem q2664 : (Jvm.Cond.codeWith ({ cls := "ShadowSpellLaw", name := "again", desc := "(LShadowSpell;I[J)I" } : Jvm.MethodName) method_17_code (4 : Nat) (Option.some Jvm.ClassFile.FieldType.int) [((0 : Nat), (9 : Nat), (12 : Nat), (19 : Nat))]) ∈ lw_all := lw_g (lw_at lw_m11 193 rfl) rfl
theorem q2665 : (Jvm.Cond.methodLink "ShadowSpellLaw" (62 : Nat) ({ cls := "ShadowSpell", name := "again", desc := "(I)I" } : Jvm.MethodName)) ∈ lw_all := lw_g (lw_at lw_m11 194 rfl) rfl
theorem q2677 : (Jvm.Cond.methodLink "ShadowSpellLaw" (147 : Nat) ({ cls := "ShadowSpellLaw", name := "advise", desc := "(LShadowSpell;II[J)I" } : Jvm.MethodName)) ∈ lw_all := lw_g (lw_at lw_m11 206 rfl) rfl
theorem q2678 : (Jvm.Cond.static ({ cls := "ShadowSpellLaw", name := "advise", desc := "(LShadowSpell;II[J)I" } : Jvm.MethodName)) ∈ lw_all := lw_g (lw_at lw_m11 207 rfl) rfl
theorem q2679 : (Jvm.Cond.codeWith ({ cls := "ShadowSpellLaw", name := "advise", desc := "(LShadowSpell;II[J)I" } : Jvm.MethodName) method_18_code (5 : Nat) (Option.some Jvm.ClassFile.FieldType.int) [((0 : Nat), (10 : Nat), (13 : Nat), (24 : Nat)), ((0 : Nat), (10 : Nat), (17 : Nat), (19 : Nat))]) ∈ lw_all := lw_g (lw_at lw_m11 208 rfl) rfl
theorem q2680 : (Jvm.Cond.methodLink "ShadowSpellLaw" (65 : Nat) ({ cls := "ShadowSpell", name := "advise", desc := "(II)I" } : Jvm.MethodName)) ∈ lw_all := lw_g (lw_at lw_m11 209 rfl) rfl
theorem q2684 : (Jvm.Cond.classLink "ShadowSpellLaw" (69 : Nat) "ShadowSpellModel") ∈ lw_all := lw_g (lw_at lw_m11 213 rfl) rfl
theorem q2686 : (Jvm.Cond.methodLink "ShadowSpellLaw" (71 : Nat) ({ cls := "ShadowSpellModel", name := "<init>", desc := "()V" } : Jvm.MethodName)) ∈ lw_all := lw_g (lw_at lw_m11 215 rfl) rfl
theorem q2843 : (Jvm.Cond.methodLink "ShadowSpellLaw" (78 : Nat) ({ cls := "ShadowSpellModel", name := "thrown", desc := "()I" } : Jvm.MethodName)) ∈ lw_all := lw_g (lw_at lw_m12 132 rfl) rfl
theorem q2847 : (Jvm.Cond.methodLink "ShadowSpellLaw" (77 : Nat) ({ cls := "ShadowSpellModel", name := "feed", desc := "(IIIII)I" } : Jvm.MethodName)) ∈ lw_all := lw_g (lw_at lw_m12 136 rfl) rfl
theorem q2855 : (Jvm.Cond.methodLink "ShadowSpellLaw" (85 : Nat) ({ cls := "ShadowSpellModel", name := "trim", desc := "(I)I" } : Jvm.MethodName)) ∈ lw_all := lw_g (lw_at lw_m12 144 rfl) rfl
theorem q2862 : (Jvm.Cond.methodLink "ShadowSpellLaw" (89 : Nat) ({ cls := "ShadowSpellModel", name := "teach", desc := "()I" } : Jvm.MethodName)) ∈ lw_all := lw_g (lw_at lw_m12 151 rfl) rfl
theorem q3005 : (Jvm.Cond.methodLink "ShadowSpellLaw" (93 : Nat) ({ cls := "ShadowSpellModel", name := "errorAt", desc := "()I" } : Jvm.MethodName)) ∈ lw_all := lw_g (lw_at lw_m13 54 rfl) rfl
theorem q3009 : (Jvm.Cond.methodLink "ShadowSpellLaw" (96 : Nat) ({ cls := "ShadowSpellModel", name := "count", desc := "(I)I" } : Jvm.MethodName)) ∈ lw_all := lw_g (lw_at lw_m13 58 rfl) rfl
theorem q3034 : (Jvm.Cond.methodLink "ShadowSpellLaw" (100 : Nat) ({ cls := "ShadowSpellModel", name := "planet", desc := "(II)I" } : Jvm.MethodName)) ∈ lw_all := lw_g (lw_at lw_m13 83 rfl) rfl
theorem q3046 : (Jvm.Cond.methodLink "ShadowSpellLaw" (103 : Nat) ({ cls := "ShadowSpellModel", name := "set", desc := "(II)I" } : Jvm.MethodName)) ∈ lw_all := lw_g (lw_at lw_m13 95 rfl) rfl
theorem q3050 : (Jvm.Cond.methodLink "ShadowSpellLaw" (106 : Nat) ({ cls := "ShadowSpellModel", name := "gap", desc := "(II)I" } : Jvm.MethodName)) ∈ lw_all := lw_g (lw_at lw_m13 99 rfl) rfl
theorem q3055 : (Jvm.Cond.methodLink "ShadowSpellLaw" (110 : Nat) ({ cls := "ShadowSpellModel", name := "meets", desc := "(IIZ)Z" } : Jvm.MethodName)) ∈ lw_all := lw_g (lw_at lw_m13 104 rfl) rfl
theorem q3060 : (Jvm.Cond.methodLink "ShadowSpellLaw" (113 : Nat) ({ cls := "ShadowSpellModel", name := "letter", desc := "(II)I" } : Jvm.MethodName)) ∈ lw_all := lw_g (lw_at lw_m13 109 rfl) rfl
theorem q3068 : (Jvm.Cond.methodLink "ShadowSpellLaw" (116 : Nat) ({ cls := "ShadowSpellModel", name := "wrote", desc := "(I)I" } : Jvm.MethodName)) ∈ lw_all := lw_g (lw_at lw_m13 117 rfl) rfl
theorem q3072 : (Jvm.Cond.methodLink "ShadowSpellLaw" (119 : Nat) ({ cls := "ShadowSpellModel", name := "pass", desc := "(I)I" } : Jvm.MethodName)) ∈ lw_all := lw_g (lw_at lw_m13 121 rfl) rfl
theorem q3101 : (Jvm.Cond.methodLink "ShadowSpellLaw" (122 : Nat) ({ cls := "ShadowSpellModel", name := "byteAt", desc := "(I)I" } : Jvm.MethodName)) ∈ lw_all := lw_g (lw_at lw_m13 150 rfl) rfl
theorem q3105 : (Jvm.Cond.methodLink "ShadowSpellLaw" (126 : Nat) ({ cls := "ShadowSpellModel", name := "clear", desc := "()I" } : Jvm.MethodName)) ∈ lw_all := lw_g (lw_at lw_m13 154 rfl) rfl
theorem q3109 : (Jvm.Cond.methodLink "ShadowSpellLaw" (130 : Nat) ({ cls := "ShadowSpellModel", name := "find", desc := "()I" } : Jvm.MethodName)) ∈ lw_all := lw_g (lw_at lw_m13 158 rfl) rfl
theorem q3117 : (Jvm.Cond.methodLink "ShadowSpellLaw" (133 : Nat) ({ cls := "ShadowSpellModel", name := "translate", desc := "(II)I" } : Jvm.MethodName)) ∈ lw_all := lw_g (lw_at lw_m13 166 rfl) rfl
theorem q3125 : (Jvm.Cond.methodLink "ShadowSpellLaw" (136 : Nat) ({ cls := "ShadowSpellModel", name := "foresee", desc := "(II)I" } : Jvm.MethodName)) ∈ lw_all := lw_g (lw_at lw_m13 174 rfl) rfl
theorem q3142 : (Jvm.Cond.methodLink "ShadowSpellLaw" (139 : Nat) ({ cls := "ShadowSpellModel", name := "next", desc := "(IIZ)I" } : Jvm.MethodName)) ∈ lw_all := lw_g (lw_at lw_m13 191 rfl) rfl
theorem q3147 : (Jvm.Cond.methodLink "ShadowSpellLaw" (143 : Nat) ({ cls := "ShadowSpellModel", name := "spells", desc := "()I" } : Jvm.MethodName)) ∈ lw_all := lw_g (lw_at lw_m13 196 rfl) rfl
theorem q3151 : (Jvm.Cond.methodLink "ShadowSpellLaw" (146 : Nat) ({ cls := "ShadowSpellModel", name := "again", desc := "(I)I" } : Jvm.MethodName)) ∈ lw_all := lw_g (lw_at lw_m13 200 rfl) rfl
theorem q3155 : (Jvm.Cond.methodLink "ShadowSpellLaw" (149 : Nat) ({ cls := "ShadowSpellModel", name := "advise", desc := "(II)I" } : Jvm.MethodName)) ∈ lw_all := lw_g (lw_at lw_m13 204 rfl) rfl
theorem q3159 : (Jvm.Cond.methodLink "ShadowSpellLaw" (154 : Nat) ({ cls := "ShadowSpellModel", name := "mean", desc := "()D" } : Jvm.MethodName)) ∈ lw_all := lw_g (lw_at lw_m13 208 rfl) rfl
theorem q3167 : (Jvm.Cond.methodLink "ShadowSpellLaw" (159 : Nat) ({ cls := "ShadowSpellModel", name := "digest", desc := "()J" } : Jvm.MethodName)) ∈ lw_all := lw_g (lw_at lw_m13 216 rfl) rfl

/-! the law's own entry -/
set_option maxRecDepth 100000
abbrev cL_law : ByteArray := code
def dkwL_law_56 : List UInt8 := [132, 4, 6, 167, 250, 173, 4, 172]
abbrev dktL_law_56 : List UInt8 := dkwL_law_56 ++ []
def dkwL_law_55 : List UInt8 := [154, 0, 5, 3, 172, 167, 0, 17, 43, 182, 0, 155, 44, 182, 0, 159, 148, 153, 0, 5, 3, 172]
abbrev dktL_law_55 : List UInt8 := dkwL_law_55 ++ dktL_law_56
def dkwL_law_54 : List UInt8 := [57, 7, 24, 5, 24, 7, 151, 153, 0, 21, 24, 5, 24, 5, 151, 153, 0, 11, 24, 7, 24, 7, 151]
abbrev dktL_law_54 : List UInt8 := dkwL_law_54 ++ dktL_law_55
def dkwL_law_53 : List UInt8 := [3, 47, 21, 6, 133, 148, 153, 0, 5, 3, 172, 167, 0, 58, 43, 182, 0, 150, 57, 5, 44, 182, 0, 154]
abbrev dktL_law_53 : List UInt8 := dkwL_law_53 ++ dktL_law_54
def dkwL_law_52 : List UInt8 := [96, 46, 182, 0, 149, 54, 6, 44, 182, 0, 78, 21, 5, 159, 0, 5, 3, 172, 21, 5, 154, 0, 15, 45]
abbrev dktL_law_52 : List UInt8 := dkwL_law_52 ++ dktL_law_53
def dkwL_law_51 : List UInt8 := [46, 42, 21, 4, 5, 96, 46, 45, 184, 0, 147, 54, 5, 44, 42, 21, 4, 4, 96, 46, 42, 21, 4, 5]
abbrev dktL_law_51 : List UInt8 := dkwL_law_51 ++ dktL_law_52
def dkwL_law_50 : List UInt8 := [154, 0, 15, 45, 3, 47, 21, 6, 133, 148, 153, 0, 5, 3, 172, 167, 0, 126, 43, 42, 21, 4, 4, 96]
abbrev dktL_law_50 : List UInt8 := dkwL_law_50 ++ dktL_law_51
def dkwL_law_49 : List UInt8 := [21, 4, 4, 96, 46, 182, 0, 146, 54, 6, 44, 182, 0, 78, 21, 5, 159, 0, 5, 3, 172, 21, 5]
abbrev dktL_law_49 : List UInt8 := dkwL_law_49 ++ dktL_law_50
def dkwL_law_48 : List UInt8 := [182, 0, 143, 159, 0, 184, 3, 172, 43, 42, 21, 4, 4, 96, 46, 45, 184, 0, 144, 54, 5, 44, 42]
abbrev dktL_law_48 : List UInt8 := dkwL_law_48 ++ dktL_law_49
def dkwL_law_47 : List UInt8 := [154, 0, 15, 45, 3, 47, 21, 6, 133, 148, 153, 0, 5, 3, 172, 167, 0, 195, 43, 182, 0, 140, 44]
abbrev dktL_law_47 : List UInt8 := dkwL_law_47 ++ dktL_law_48
def dkwL_law_46 : List UInt8 := [167, 0, 4, 3, 182, 0, 139, 54, 6, 44, 182, 0, 78, 21, 5, 159, 0, 5, 3, 172, 21, 5]
abbrev dktL_law_46 : List UInt8 := dkwL_law_46 ++ dktL_law_47
def dkwL_law_45 : List UInt8 := [42, 21, 4, 4, 96, 46, 42, 21, 4, 5, 96, 46, 42, 21, 4, 6, 96, 46, 153, 0, 7, 4]
abbrev dktL_law_45 : List UInt8 := dkwL_law_45 ++ dktL_law_46
def dkwL_law_44 : List UInt8 := [5, 96, 46, 42, 21, 4, 6, 96, 46, 153, 0, 7, 4, 167, 0, 4, 3, 45, 184, 0, 137, 54, 5, 44]
abbrev dktL_law_44 : List UInt8 := dkwL_law_44 ++ dktL_law_45
def dkwL_law_43 : List UInt8 := [3, 47, 21, 6, 133, 148, 153, 0, 5, 3, 172, 167, 1, 35, 43, 42, 21, 4, 4, 96, 46, 42, 21, 4]
abbrev dktL_law_43 : List UInt8 := dkwL_law_43 ++ dktL_law_44
def dkwL_law_42 : List UInt8 := [96, 46, 182, 0, 136, 54, 6, 44, 182, 0, 78, 21, 5, 159, 0, 5, 3, 172, 21, 5, 154, 0, 15, 45]
abbrev dktL_law_42 : List UInt8 := dkwL_law_42 ++ dktL_law_43
def dkwL_law_41 : List UInt8 := [46, 42, 21, 4, 5, 96, 46, 45, 184, 0, 134, 54, 5, 44, 42, 21, 4, 4, 96, 46, 42, 21, 4, 5]
abbrev dktL_law_41 : List UInt8 := dkwL_law_41 ++ dktL_law_42
def dkwL_law_40 : List UInt8 := [154, 0, 15, 45, 3, 47, 21, 6, 133, 148, 153, 0, 5, 3, 172, 167, 1, 103, 43, 42, 21, 4, 4, 96]
abbrev dktL_law_40 : List UInt8 := dkwL_law_40 ++ dktL_law_41
def dkwL_law_39 : List UInt8 := [42, 21, 4, 5, 96, 46, 182, 0, 133, 54, 6, 44, 182, 0, 78, 21, 5, 159, 0, 5, 3, 172, 21, 5]
abbrev dktL_law_39 : List UInt8 := dkwL_law_39 ++ dktL_law_40
def dkwL_law_38 : List UInt8 := [21, 4, 4, 96, 46, 42, 21, 4, 5, 96, 46, 45, 184, 0, 131, 54, 5, 44, 42, 21, 4, 4, 96, 46]
abbrev dktL_law_38 : List UInt8 := dkwL_law_38 ++ dktL_law_39
def dkwL_law_37 : List UInt8 := [182, 0, 126, 159, 1, 186, 3, 172, 43, 182, 0, 127, 44, 182, 0, 130, 159, 1, 173, 3, 172, 43, 42]
abbrev dktL_law_37 : List UInt8 := dkwL_law_37 ++ dktL_law_38
def dkwL_law_36 : List UInt8 := [154, 0, 15, 45, 3, 47, 21, 6, 133, 148, 153, 0, 5, 3, 172, 167, 1, 197, 43, 182, 0, 123, 44]
abbrev dktL_law_36 : List UInt8 := dkwL_law_36 ++ dktL_law_37
def dkwL_law_35 : List UInt8 := [21, 4, 4, 96, 46, 182, 0, 122, 54, 6, 44, 182, 0, 78, 21, 5, 159, 0, 5, 3, 172, 21, 5]
abbrev dktL_law_35 : List UInt8 := dkwL_law_35 ++ dktL_law_36
def dkwL_law_34 : List UInt8 := [153, 0, 5, 3, 172, 167, 1, 253, 43, 42, 21, 4, 4, 96, 46, 45, 184, 0, 120, 54, 5, 44, 42]
abbrev dktL_law_34 : List UInt8 := dkwL_law_34 ++ dktL_law_35
def dkwL_law_33 : List UInt8 := [182, 0, 78, 21, 5, 159, 0, 5, 3, 172, 21, 5, 154, 0, 15, 45, 3, 47, 21, 6, 133, 148]
abbrev dktL_law_33 : List UInt8 := dkwL_law_33 ++ dktL_law_34
def dkwL_law_32 : List UInt8 := [21, 4, 4, 96, 46, 45, 184, 0, 117, 54, 5, 44, 42, 21, 4, 4, 96, 46, 182, 0, 119, 54, 6, 44]
abbrev dktL_law_32 : List UInt8 := dkwL_law_32 ++ dktL_law_33
def dkwL_law_31 : List UInt8 := [172, 21, 5, 154, 0, 15, 45, 3, 47, 21, 6, 133, 148, 153, 0, 5, 3, 172, 167, 2, 53, 43, 42]
abbrev dktL_law_31 : List UInt8 := dkwL_law_31 ++ dktL_law_32
def dkwL_law_30 : List UInt8 := [54, 5, 44, 42, 21, 4, 4, 96, 46, 182, 0, 116, 54, 6, 44, 182, 0, 78, 21, 5, 159, 0, 5, 3]
abbrev dktL_law_30 : List UInt8 := dkwL_law_30 ++ dktL_law_31
def dkwL_law_29 : List UInt8 := [47, 21, 6, 133, 148, 153, 0, 5, 3, 172, 167, 2, 109, 43, 42, 21, 4, 4, 96, 46, 45, 184, 0, 114]
abbrev dktL_law_29 : List UInt8 := dkwL_law_29 ++ dktL_law_30
def dkwL_law_28 : List UInt8 := [46, 182, 0, 113, 54, 6, 44, 182, 0, 78, 21, 5, 159, 0, 5, 3, 172, 21, 5, 154, 0, 15, 45, 3]
abbrev dktL_law_28 : List UInt8 := dkwL_law_28 ++ dktL_law_29
def dkwL_law_27 : List UInt8 := [42, 21, 4, 5, 96, 46, 45, 184, 0, 111, 54, 5, 44, 42, 21, 4, 4, 96, 46, 42, 21, 4, 5, 96]
abbrev dktL_law_27 : List UInt8 := dkwL_law_27 ++ dktL_law_28
def dkwL_law_26 : List UInt8 := [153, 0, 7, 10, 167, 0, 4, 9, 148, 153, 0, 5, 3, 172, 167, 2, 177, 43, 42, 21, 4, 4, 96, 46]
abbrev dktL_law_26 : List UInt8 := dkwL_law_26 ++ dktL_law_27
def dkwL_law_25 : List UInt8 := [54, 6, 44, 182, 0, 78, 21, 5, 159, 0, 5, 3, 172, 21, 5, 154, 0, 22, 45, 3, 47, 21, 6]
abbrev dktL_law_25 : List UInt8 := dkwL_law_25 ++ dktL_law_26
def dkwL_law_24 : List UInt8 := [42, 21, 4, 5, 96, 46, 42, 21, 4, 6, 96, 46, 153, 0, 7, 4, 167, 0, 4, 3, 182, 0, 110]
abbrev dktL_law_24 : List UInt8 := dkwL_law_24 ++ dktL_law_25
def dkwL_law_23 : List UInt8 := [6, 96, 46, 153, 0, 7, 4, 167, 0, 4, 3, 45, 184, 0, 107, 54, 5, 44, 42, 21, 4, 4, 96, 46]
abbrev dktL_law_23 : List UInt8 := dkwL_law_23 ++ dktL_law_24
def dkwL_law_22 : List UInt8 := [153, 0, 5, 3, 172, 167, 3, 24, 43, 42, 21, 4, 4, 96, 46, 42, 21, 4, 5, 96, 46, 42, 21, 4]
abbrev dktL_law_22 : List UInt8 := dkwL_law_22 ++ dktL_law_23
def dkwL_law_21 : List UInt8 := [182, 0, 78, 21, 5, 159, 0, 5, 3, 172, 21, 5, 154, 0, 15, 45, 3, 47, 21, 6, 133, 148]
abbrev dktL_law_21 : List UInt8 := dkwL_law_21 ++ dktL_law_22
def dkwL_law_20 : List UInt8 := [184, 0, 104, 54, 5, 44, 42, 21, 4, 4, 96, 46, 42, 21, 4, 5, 96, 46, 182, 0, 106, 54, 6, 44]
abbrev dktL_law_20 : List UInt8 := dkwL_law_20 ++ dktL_law_21
def dkwL_law_19 : List UInt8 := [153, 0, 5, 3, 172, 167, 3, 92, 43, 42, 21, 4, 4, 96, 46, 42, 21, 4, 5, 96, 46, 45]
abbrev dktL_law_19 : List UInt8 := dkwL_law_19 ++ dktL_law_20
def dkwL_law_18 : List UInt8 := [182, 0, 78, 21, 5, 159, 0, 5, 3, 172, 21, 5, 154, 0, 15, 45, 3, 47, 21, 6, 133, 148]
abbrev dktL_law_18 : List UInt8 := dkwL_law_18 ++ dktL_law_19
def dkwL_law_17 : List UInt8 := [184, 0, 101, 54, 5, 44, 42, 21, 4, 4, 96, 46, 42, 21, 4, 5, 96, 46, 182, 0, 103, 54, 6, 44]
abbrev dktL_law_17 : List UInt8 := dkwL_law_17 ++ dktL_law_18
def dkwL_law_16 : List UInt8 := [153, 0, 5, 3, 172, 167, 3, 160, 43, 42, 21, 4, 4, 96, 46, 42, 21, 4, 5, 96, 46, 45]
abbrev dktL_law_16 : List UInt8 := dkwL_law_16 ++ dktL_law_17
def dkwL_law_15 : List UInt8 := [182, 0, 78, 21, 5, 159, 0, 5, 3, 172, 21, 5, 154, 0, 15, 45, 3, 47, 21, 6, 133, 148]
abbrev dktL_law_15 : List UInt8 := dkwL_law_15 ++ dktL_law_16
def dkwL_law_14 : List UInt8 := [184, 0, 97, 54, 5, 44, 42, 21, 4, 4, 96, 46, 42, 21, 4, 5, 96, 46, 182, 0, 100, 54, 6, 44]
abbrev dktL_law_14 : List UInt8 := dkwL_law_14 ++ dktL_law_15
def dkwL_law_13 : List UInt8 := [153, 0, 5, 3, 172, 167, 3, 228, 43, 42, 21, 4, 4, 96, 46, 42, 21, 4, 5, 96, 46, 45]
abbrev dktL_law_13 : List UInt8 := dkwL_law_13 ++ dktL_law_14
def dkwL_law_12 : List UInt8 := [182, 0, 78, 21, 5, 159, 0, 5, 3, 172, 21, 5, 154, 0, 15, 45, 3, 47, 21, 6, 133, 148]
abbrev dktL_law_12 : List UInt8 := dkwL_law_12 ++ dktL_law_13
def dkwL_law_11 : List UInt8 := [21, 4, 4, 96, 46, 45, 184, 0, 94, 54, 5, 44, 42, 21, 4, 4, 96, 46, 182, 0, 96, 54, 6, 44]
abbrev dktL_law_11 : List UInt8 := dkwL_law_11 ++ dktL_law_12
def dkwL_law_10 : List UInt8 := [182, 0, 89, 159, 4, 43, 3, 172, 43, 182, 0, 90, 44, 182, 0, 93, 159, 4, 30, 3, 172, 43, 42]
abbrev dktL_law_10 : List UInt8 := dkwL_law_10 ++ dktL_law_11
def dkwL_law_9 : List UInt8 := [154, 0, 15, 45, 3, 47, 21, 6, 133, 148, 153, 0, 5, 3, 172, 167, 4, 54, 43, 182, 0, 86, 44]
abbrev dktL_law_9 : List UInt8 := dkwL_law_9 ++ dktL_law_10
def dkwL_law_8 : List UInt8 := [21, 4, 4, 96, 46, 182, 0, 85, 54, 6, 44, 182, 0, 78, 21, 5, 159, 0, 5, 3, 172, 21, 5]
abbrev dktL_law_8 : List UInt8 := dkwL_law_8 ++ dktL_law_9
def dkwL_law_7 : List UInt8 := [148, 153, 0, 5, 3, 172, 167, 4, 110, 43, 42, 21, 4, 4, 96, 46, 45, 184, 0, 82, 54, 5, 44, 42]
abbrev dktL_law_7 : List UInt8 := dkwL_law_7 ++ dktL_law_8
def dkwL_law_6 : List UInt8 := [54, 6, 44, 182, 0, 78, 21, 5, 159, 0, 5, 3, 172, 21, 5, 154, 0, 15, 45, 3, 47, 21, 6, 133]
abbrev dktL_law_6 : List UInt8 := dkwL_law_6 ++ dktL_law_7
def dkwL_law_5 : List UInt8 := [96, 46, 42, 21, 4, 6, 96, 46, 42, 21, 4, 7, 96, 46, 42, 21, 4, 8, 96, 46, 182, 0, 77]
abbrev dktL_law_5 : List UInt8 := dkwL_law_5 ++ dktL_law_6
def dkwL_law_4 : List UInt8 := [46, 42, 21, 4, 8, 96, 46, 45, 184, 0, 72, 54, 5, 44, 42, 21, 4, 4, 96, 46, 42, 21, 4, 5]
abbrev dktL_law_4 : List UInt8 := dkwL_law_4 ++ dktL_law_5
def dkwL_law_3 : List UInt8 := [43, 42, 21, 4, 4, 96, 46, 42, 21, 4, 5, 96, 46, 42, 21, 4, 6, 96, 46, 42, 21, 4, 7, 96]
abbrev dktL_law_3 : List UInt8 := dkwL_law_3 ++ dktL_law_4
def dkwL_law_2 : List UInt8 := [170, 0, 0, 0, 0, 0, 5, 63, 0, 0, 0, 0, 0, 0, 0, 22, 0, 0, 0, 108, 0, 0, 0, 212, 0, 0, 1, 12, 0, 0, 1, 25, 0, 0, 1, 38, 0, 0, 1, 94, 0, 0, 1, 162, 0, 0, 1, 230, 0, 0, 2, 42, 0, 0, 2, 145, 0, 0, 2, 213, 0, 0, 3, 13, 0, 0, 3, 69, 0, 0, 3, 125, 0, 0, 3, 138, 0, 0, 3, 151, 0, 0, 3, 219, 0, 0, 4, 31, 0, 0, 4, 127, 0, 0, 4, 140, 0, 0, 4, 196, 0, 0, 5, 8, 0, 0, 5, 49]
abbrev dktL_law_2 : List UInt8 := dkwL_law_2 ++ dktL_law_3
def dkwL_law_1 : List UInt8 := [21, 4, 42, 190, 16, 6, 100, 163, 5, 79, 42, 21, 4, 46, 16, 31, 126]
abbrev dktL_law_1 : List UInt8 := dkwL_law_1 ++ dktL_law_2
def dkwL_law_0 : List UInt8 := [187, 0, 8, 89, 183, 0, 68, 76, 187, 0, 69, 89, 183, 0, 71, 77, 4, 188, 11, 78, 3, 54, 4]
abbrev dktL_law_0 : List UInt8 := dkwL_law_0 ++ dktL_law_1
theorem dksL_law_0 : cL_law.data.toList.drop 0 = dktL_law_0 := by decide +kernel
theorem dksL_law_1 : cL_law.data.toList.drop 23 = dktL_law_1 := dk_seg dksL_law_0 23 rfl rfl
theorem dksL_law_2 : cL_law.data.toList.drop 40 = dktL_law_2 := dk_seg dksL_law_1 17 rfl rfl
theorem dksL_law_3 : cL_law.data.toList.drop 148 = dktL_law_3 := dk_seg dksL_law_2 108 rfl rfl
theorem dksL_law_4 : cL_law.data.toList.drop 172 = dktL_law_4 := dk_seg dksL_law_3 24 rfl rfl
theorem dksL_law_5 : cL_law.data.toList.drop 196 = dktL_law_5 := dk_seg dksL_law_4 24 rfl rfl
theorem dksL_law_6 : cL_law.data.toList.drop 219 = dktL_law_6 := dk_seg dksL_law_5 23 rfl rfl
theorem dksL_law_7 : cL_law.data.toList.drop 243 = dktL_law_7 := dk_seg dksL_law_6 24 rfl rfl
theorem dksL_law_8 : cL_law.data.toList.drop 267 = dktL_law_8 := dk_seg dksL_law_7 24 rfl rfl
theorem dksL_law_9 : cL_law.data.toList.drop 290 = dktL_law_9 := dk_seg dksL_law_8 23 rfl rfl
theorem dksL_law_10 : cL_law.data.toList.drop 313 = dktL_law_10 := dk_seg dksL_law_9 23 rfl rfl
theorem dksL_law_11 : cL_law.data.toList.drop 336 = dktL_law_11 := dk_seg dksL_law_10 23 rfl rfl
theorem dksL_law_12 : cL_law.data.toList.drop 360 = dktL_law_12 := dk_seg dksL_law_11 24 rfl rfl
theorem dksL_law_13 : cL_law.data.toList.drop 382 = dktL_law_13 := dk_seg dksL_law_12 22 rfl rfl
theorem dksL_law_14 : cL_law.data.toList.drop 404 = dktL_law_14 := dk_seg dksL_law_13 22 rfl rfl
theorem dksL_law_15 : cL_law.data.toList.drop 428 = dktL_law_15 := dk_seg dksL_law_14 24 rfl rfl
theorem dksL_law_16 : cL_law.data.toList.drop 450 = dktL_law_16 := dk_seg dksL_law_15 22 rfl rfl
theorem dksL_law_17 : cL_law.data.toList.drop 472 = dktL_law_17 := dk_seg dksL_law_16 22 rfl rfl
theorem dksL_law_18 : cL_law.data.toList.drop 496 = dktL_law_18 := dk_seg dksL_law_17 24 rfl rfl
theorem dksL_law_19 : cL_law.data.toList.drop 518 = dktL_law_19 := dk_seg dksL_law_18 22 rfl rfl
theorem dksL_law_20 : cL_law.data.toList.drop 540 = dktL_law_20 := dk_seg dksL_law_19 22 rfl rfl
theorem dksL_law_21 : cL_law.data.toList.drop 564 = dktL_law_21 := dk_seg dksL_law_20 24 rfl rfl
theorem dksL_law_22 : cL_law.data.toList.drop 586 = dktL_law_22 := dk_seg dksL_law_21 22 rfl rfl
theorem dksL_law_23 : cL_law.data.toList.drop 610 = dktL_law_23 := dk_seg dksL_law_22 24 rfl rfl
theorem dksL_law_24 : cL_law.data.toList.drop 634 = dktL_law_24 := dk_seg dksL_law_23 24 rfl rfl
theorem dksL_law_25 : cL_law.data.toList.drop 657 = dktL_law_25 := dk_seg dksL_law_24 23 rfl rfl
theorem dksL_law_26 : cL_law.data.toList.drop 680 = dktL_law_26 := dk_seg dksL_law_25 23 rfl rfl
theorem dksL_law_27 : cL_law.data.toList.drop 704 = dktL_law_27 := dk_seg dksL_law_26 24 rfl rfl
theorem dksL_law_28 : cL_law.data.toList.drop 728 = dktL_law_28 := dk_seg dksL_law_27 24 rfl rfl
theorem dksL_law_29 : cL_law.data.toList.drop 752 = dktL_law_29 := dk_seg dksL_law_28 24 rfl rfl
theorem dksL_law_30 : cL_law.data.toList.drop 776 = dktL_law_30 := dk_seg dksL_law_29 24 rfl rfl
theorem dksL_law_31 : cL_law.data.toList.drop 800 = dktL_law_31 := dk_seg dksL_law_30 24 rfl rfl
theorem dksL_law_32 : cL_law.data.toList.drop 823 = dktL_law_32 := dk_seg dksL_law_31 23 rfl rfl
theorem dksL_law_33 : cL_law.data.toList.drop 847 = dktL_law_33 := dk_seg dksL_law_32 24 rfl rfl
theorem dksL_law_34 : cL_law.data.toList.drop 869 = dktL_law_34 := dk_seg dksL_law_33 22 rfl rfl
theorem dksL_law_35 : cL_law.data.toList.drop 892 = dktL_law_35 := dk_seg dksL_law_34 23 rfl rfl
theorem dksL_law_36 : cL_law.data.toList.drop 915 = dktL_law_36 := dk_seg dksL_law_35 23 rfl rfl
theorem dksL_law_37 : cL_law.data.toList.drop 938 = dktL_law_37 := dk_seg dksL_law_36 23 rfl rfl
theorem dksL_law_38 : cL_law.data.toList.drop 961 = dktL_law_38 := dk_seg dksL_law_37 23 rfl rfl
theorem dksL_law_39 : cL_law.data.toList.drop 985 = dktL_law_39 := dk_seg dksL_law_38 24 rfl rfl
theorem dksL_law_40 : cL_law.data.toList.drop 1009 = dktL_law_40 := dk_seg dksL_law_39 24 rfl rfl
theorem dksL_law_41 : cL_law.data.toList.drop 1033 = dktL_law_41 := dk_seg dksL_law_40 24 rfl rfl
theorem dksL_law_42 : cL_law.data.toList.drop 1057 = dktL_law_42 := dk_seg dksL_law_41 24 rfl rfl
theorem dksL_law_43 : cL_law.data.toList.drop 1081 = dktL_law_43 := dk_seg dksL_law_42 24 rfl rfl
theorem dksL_law_44 : cL_law.data.toList.drop 1105 = dktL_law_44 := dk_seg dksL_law_43 24 rfl rfl
theorem dksL_law_45 : cL_law.data.toList.drop 1129 = dktL_law_45 := dk_seg dksL_law_44 24 rfl rfl
theorem dksL_law_46 : cL_law.data.toList.drop 1151 = dktL_law_46 := dk_seg dksL_law_45 22 rfl rfl
theorem dksL_law_47 : cL_law.data.toList.drop 1173 = dktL_law_47 := dk_seg dksL_law_46 22 rfl rfl
theorem dksL_law_48 : cL_law.data.toList.drop 1196 = dktL_law_48 := dk_seg dksL_law_47 23 rfl rfl
theorem dksL_law_49 : cL_law.data.toList.drop 1219 = dktL_law_49 := dk_seg dksL_law_48 23 rfl rfl
theorem dksL_law_50 : cL_law.data.toList.drop 1242 = dktL_law_50 := dk_seg dksL_law_49 23 rfl rfl
theorem dksL_law_51 : cL_law.data.toList.drop 1266 = dktL_law_51 := dk_seg dksL_law_50 24 rfl rfl
theorem dksL_law_52 : cL_law.data.toList.drop 1290 = dktL_law_52 := dk_seg dksL_law_51 24 rfl rfl
theorem dksL_law_53 : cL_law.data.toList.drop 1314 = dktL_law_53 := dk_seg dksL_law_52 24 rfl rfl
theorem dksL_law_54 : cL_law.data.toList.drop 1338 = dktL_law_54 := dk_seg dksL_law_53 24 rfl rfl
theorem dksL_law_55 : cL_law.data.toList.drop 1361 = dktL_law_55 := dk_seg dksL_law_54 23 rfl rfl
theorem dksL_law_56 : cL_law.data.toList.drop 1383 = dktL_law_56 := dk_seg dksL_law_55 22 rfl rfl
theorem dL_law_0 : decode cL_law 0 = .ok (.new 8, 3) := dk_187 0 8 (dk_at dksL_law_0 0 rfl rfl)
theorem dL_law_3 : decode cL_law 3 = .ok (.dup, 1) := dk_89 (dk_at dksL_law_0 3 rfl rfl)
theorem dL_law_4 : decode cL_law 4 = .ok (.invokespecial 68, 3) := dk_183 0 68 (dk_at dksL_law_0 4 rfl rfl)
theorem dL_law_7 : decode cL_law 7 = .ok (.astore_n 1, 1) := dk_76 (dk_at dksL_law_0 7 rfl rfl)
theorem dL_law_8 : decode cL_law 8 = .ok (.new 69, 3) := dk_187 0 69 (dk_at dksL_law_0 8 rfl rfl)
theorem dL_law_11 : decode cL_law 11 = .ok (.dup, 1) := dk_89 (dk_at dksL_law_0 11 rfl rfl)
theorem dL_law_12 : decode cL_law 12 = .ok (.invokespecial 71, 3) := dk_183 0 71 (dk_at dksL_law_0 12 rfl rfl)
theorem dL_law_15 : decode cL_law 15 = .ok (.astore_n 2, 1) := dk_77 (dk_at dksL_law_0 15 rfl rfl)
theorem dL_law_16 : decode cL_law 16 = .ok (.iconst 1, 1) := dk_4 (dk_at dksL_law_0 16 rfl rfl)
theorem dL_law_17 : decode cL_law 17 = .ok (.newarray .long, 2) := dk_188_11 (dk_at dksL_law_0 17 rfl rfl)
theorem dL_law_19 : decode cL_law 19 = .ok (.astore_n 3, 1) := dk_78 (dk_at dksL_law_0 19 rfl rfl)
theorem dL_law_20 : decode cL_law 20 = .ok (.iconst 0, 1) := dk_3 (dk_at dksL_law_0 20 rfl rfl)
theorem dL_law_21 : decode cL_law 21 = .ok (.istore 4, 2) := dk_54 4 (dk_at dksL_law_0 21 rfl rfl)
theorem dL_law_23 : decode cL_law 23 = .ok (.iload 4, 2) := dk_21 4 (dk_at dksL_law_1 0 rfl rfl)
theorem dL_law_25 : decode cL_law 25 = .ok (.aload_n 0, 1) := dk_42 (dk_at dksL_law_1 2 rfl rfl)
theorem dL_law_26 : decode cL_law 26 = .ok (.arraylength, 1) := dk_190 (dk_at dksL_law_1 3 rfl rfl)
theorem dL_law_27 : decode cL_law 27 = .ok (.bipush 6, 2) := dk_16 6 (dk_at dksL_law_1 4 rfl rfl)
theorem dL_law_29 : decode cL_law 29 = .ok (.isub, 1) := dk_100 (dk_at dksL_law_1 6 rfl rfl)
theorem dL_law_30 : decode cL_law 30 = .ok (.if_icmp .gt 1359, 3) := dk_163 5 79 (dk_at dksL_law_1 7 rfl rfl)
theorem dL_law_33 : decode cL_law 33 = .ok (.aload_n 0, 1) := dk_42 (dk_at dksL_law_1 10 rfl rfl)
theorem dL_law_34 : decode cL_law 34 = .ok (.iload 4, 2) := dk_21 4 (dk_at dksL_law_1 11 rfl rfl)
theorem dL_law_36 : decode cL_law 36 = .ok (.iaload, 1) := dk_46 (dk_at dksL_law_1 13 rfl rfl)
theorem dL_law_37 : decode cL_law 37 = .ok (.bipush 31, 2) := dk_16 31 (dk_at dksL_law_1 14 rfl rfl)
theorem dL_law_39 : decode cL_law 39 = .ok (.iand, 1) := dk_126 (dk_at dksL_law_1 16 rfl rfl)
theorem dL_law_40 : decode cL_law 40 = .ok (.tableswitch 1343 0 22 #[108, 212, 268, 281, 294, 350, 418, 486, 554, 657, 725, 781, 837, 893, 906, 919, 987, 1055, 1151, 1164, 1220, 1288, 1329], 108) := by decide +kernel
theorem dL_law_148 : decode cL_law 148 = .ok (.aload_n 1, 1) := dk_43 (dk_at dksL_law_3 0 rfl rfl)
theorem dL_law_149 : decode cL_law 149 = .ok (.aload_n 0, 1) := dk_42 (dk_at dksL_law_3 1 rfl rfl)
theorem dL_law_150 : decode cL_law 150 = .ok (.iload 4, 2) := dk_21 4 (dk_at dksL_law_3 2 rfl rfl)
theorem dL_law_152 : decode cL_law 152 = .ok (.iconst 1, 1) := dk_4 (dk_at dksL_law_3 4 rfl rfl)
theorem dL_law_153 : decode cL_law 153 = .ok (.iadd, 1) := dk_96 (dk_at dksL_law_3 5 rfl rfl)
theorem dL_law_154 : decode cL_law 154 = .ok (.iaload, 1) := dk_46 (dk_at dksL_law_3 6 rfl rfl)
theorem dL_law_155 : decode cL_law 155 = .ok (.aload_n 0, 1) := dk_42 (dk_at dksL_law_3 7 rfl rfl)
theorem dL_law_156 : decode cL_law 156 = .ok (.iload 4, 2) := dk_21 4 (dk_at dksL_law_3 8 rfl rfl)
theorem dL_law_158 : decode cL_law 158 = .ok (.iconst 2, 1) := dk_5 (dk_at dksL_law_3 10 rfl rfl)
theorem dL_law_159 : decode cL_law 159 = .ok (.iadd, 1) := dk_96 (dk_at dksL_law_3 11 rfl rfl)
theorem dL_law_160 : decode cL_law 160 = .ok (.iaload, 1) := dk_46 (dk_at dksL_law_3 12 rfl rfl)
theorem dL_law_161 : decode cL_law 161 = .ok (.aload_n 0, 1) := dk_42 (dk_at dksL_law_3 13 rfl rfl)
theorem dL_law_162 : decode cL_law 162 = .ok (.iload 4, 2) := dk_21 4 (dk_at dksL_law_3 14 rfl rfl)
theorem dL_law_164 : decode cL_law 164 = .ok (.iconst 3, 1) := dk_6 (dk_at dksL_law_3 16 rfl rfl)
theorem dL_law_165 : decode cL_law 165 = .ok (.iadd, 1) := dk_96 (dk_at dksL_law_3 17 rfl rfl)
theorem dL_law_166 : decode cL_law 166 = .ok (.iaload, 1) := dk_46 (dk_at dksL_law_3 18 rfl rfl)
theorem dL_law_167 : decode cL_law 167 = .ok (.aload_n 0, 1) := dk_42 (dk_at dksL_law_3 19 rfl rfl)
theorem dL_law_168 : decode cL_law 168 = .ok (.iload 4, 2) := dk_21 4 (dk_at dksL_law_3 20 rfl rfl)
theorem dL_law_170 : decode cL_law 170 = .ok (.iconst 4, 1) := dk_7 (dk_at dksL_law_3 22 rfl rfl)
theorem dL_law_171 : decode cL_law 171 = .ok (.iadd, 1) := dk_96 (dk_at dksL_law_3 23 rfl rfl)
theorem dL_law_172 : decode cL_law 172 = .ok (.iaload, 1) := dk_46 (dk_at dksL_law_4 0 rfl rfl)
theorem dL_law_173 : decode cL_law 173 = .ok (.aload_n 0, 1) := dk_42 (dk_at dksL_law_4 1 rfl rfl)
theorem dL_law_174 : decode cL_law 174 = .ok (.iload 4, 2) := dk_21 4 (dk_at dksL_law_4 2 rfl rfl)
theorem dL_law_176 : decode cL_law 176 = .ok (.iconst 5, 1) := dk_8 (dk_at dksL_law_4 4 rfl rfl)
theorem dL_law_177 : decode cL_law 177 = .ok (.iadd, 1) := dk_96 (dk_at dksL_law_4 5 rfl rfl)
theorem dL_law_178 : decode cL_law 178 = .ok (.iaload, 1) := dk_46 (dk_at dksL_law_4 6 rfl rfl)
theorem dL_law_179 : decode cL_law 179 = .ok (.aload_n 3, 1) := dk_45 (dk_at dksL_law_4 7 rfl rfl)
theorem dL_law_180 : decode cL_law 180 = .ok (.invokestatic 72, 3) := dk_184 0 72 (dk_at dksL_law_4 8 rfl rfl)
theorem dL_law_183 : decode cL_law 183 = .ok (.istore 5, 2) := dk_54 5 (dk_at dksL_law_4 11 rfl rfl)
theorem dL_law_185 : decode cL_law 185 = .ok (.aload_n 2, 1) := dk_44 (dk_at dksL_law_4 13 rfl rfl)
theorem dL_law_186 : decode cL_law 186 = .ok (.aload_n 0, 1) := dk_42 (dk_at dksL_law_4 14 rfl rfl)
theorem dL_law_187 : decode cL_law 187 = .ok (.iload 4, 2) := dk_21 4 (dk_at dksL_law_4 15 rfl rfl)
theorem dL_law_189 : decode cL_law 189 = .ok (.iconst 1, 1) := dk_4 (dk_at dksL_law_4 17 rfl rfl)
theorem dL_law_190 : decode cL_law 190 = .ok (.iadd, 1) := dk_96 (dk_at dksL_law_4 18 rfl rfl)
theorem dL_law_191 : decode cL_law 191 = .ok (.iaload, 1) := dk_46 (dk_at dksL_law_4 19 rfl rfl)
theorem dL_law_192 : decode cL_law 192 = .ok (.aload_n 0, 1) := dk_42 (dk_at dksL_law_4 20 rfl rfl)
theorem dL_law_193 : decode cL_law 193 = .ok (.iload 4, 2) := dk_21 4 (dk_at dksL_law_4 21 rfl rfl)
theorem dL_law_195 : decode cL_law 195 = .ok (.iconst 2, 1) := dk_5 (dk_at dksL_law_4 23 rfl rfl)
theorem dL_law_196 : decode cL_law 196 = .ok (.iadd, 1) := dk_96 (dk_at dksL_law_5 0 rfl rfl)
theorem dL_law_197 : decode cL_law 197 = .ok (.iaload, 1) := dk_46 (dk_at dksL_law_5 1 rfl rfl)
theorem dL_law_198 : decode cL_law 198 = .ok (.aload_n 0, 1) := dk_42 (dk_at dksL_law_5 2 rfl rfl)
theorem dL_law_199 : decode cL_law 199 = .ok (.iload 4, 2) := dk_21 4 (dk_at dksL_law_5 3 rfl rfl)
theorem dL_law_201 : decode cL_law 201 = .ok (.iconst 3, 1) := dk_6 (dk_at dksL_law_5 5 rfl rfl)
theorem dL_law_202 : decode cL_law 202 = .ok (.iadd, 1) := dk_96 (dk_at dksL_law_5 6 rfl rfl)
theorem dL_law_203 : decode cL_law 203 = .ok (.iaload, 1) := dk_46 (dk_at dksL_law_5 7 rfl rfl)
theorem dL_law_204 : decode cL_law 204 = .ok (.aload_n 0, 1) := dk_42 (dk_at dksL_law_5 8 rfl rfl)
theorem dL_law_205 : decode cL_law 205 = .ok (.iload 4, 2) := dk_21 4 (dk_at dksL_law_5 9 rfl rfl)
theorem dL_law_207 : decode cL_law 207 = .ok (.iconst 4, 1) := dk_7 (dk_at dksL_law_5 11 rfl rfl)
theorem dL_law_208 : decode cL_law 208 = .ok (.iadd, 1) := dk_96 (dk_at dksL_law_5 12 rfl rfl)
theorem dL_law_209 : decode cL_law 209 = .ok (.iaload, 1) := dk_46 (dk_at dksL_law_5 13 rfl rfl)
theorem dL_law_210 : decode cL_law 210 = .ok (.aload_n 0, 1) := dk_42 (dk_at dksL_law_5 14 rfl rfl)
theorem dL_law_211 : decode cL_law 211 = .ok (.iload 4, 2) := dk_21 4 (dk_at dksL_law_5 15 rfl rfl)
theorem dL_law_213 : decode cL_law 213 = .ok (.iconst 5, 1) := dk_8 (dk_at dksL_law_5 17 rfl rfl)
theorem dL_law_214 : decode cL_law 214 = .ok (.iadd, 1) := dk_96 (dk_at dksL_law_5 18 rfl rfl)
theorem dL_law_215 : decode cL_law 215 = .ok (.iaload, 1) := dk_46 (dk_at dksL_law_5 19 rfl rfl)
theorem dL_law_216 : decode cL_law 216 = .ok (.invokevirtual 77, 3) := dk_182 0 77 (dk_at dksL_law_5 20 rfl rfl)
theorem dL_law_219 : decode cL_law 219 = .ok (.istore 6, 2) := dk_54 6 (dk_at dksL_law_6 0 rfl rfl)
theorem dL_law_221 : decode cL_law 221 = .ok (.aload_n 2, 1) := dk_44 (dk_at dksL_law_6 2 rfl rfl)
theorem dL_law_222 : decode cL_law 222 = .ok (.invokevirtual 78, 3) := dk_182 0 78 (dk_at dksL_law_6 3 rfl rfl)
theorem dL_law_225 : decode cL_law 225 = .ok (.iload 5, 2) := dk_21 5 (dk_at dksL_law_6 6 rfl rfl)
theorem dL_law_227 : decode cL_law 227 = .ok (.if_icmp .eq 5, 3) := dk_159 0 5 (dk_at dksL_law_6 8 rfl rfl)
theorem dL_law_230 : decode cL_law 230 = .ok (.iconst 0, 1) := dk_3 (dk_at dksL_law_6 11 rfl rfl)
theorem dL_law_231 : decode cL_law 231 = .ok (.ireturn, 1) := dk_172 (dk_at dksL_law_6 12 rfl rfl)
theorem dL_law_232 : decode cL_law 232 = .ok (.iload 5, 2) := dk_21 5 (dk_at dksL_law_6 13 rfl rfl)
theorem dL_law_234 : decode cL_law 234 = .ok (.ifCond .ne 15, 3) := dk_154 0 15 (dk_at dksL_law_6 15 rfl rfl)
theorem dL_law_237 : decode cL_law 237 = .ok (.aload_n 3, 1) := dk_45 (dk_at dksL_law_6 18 rfl rfl)
theorem dL_law_238 : decode cL_law 238 = .ok (.iconst 0, 1) := dk_3 (dk_at dksL_law_6 19 rfl rfl)
theorem dL_law_239 : decode cL_law 239 = .ok (.laload, 1) := dk_47 (dk_at dksL_law_6 20 rfl rfl)
theorem dL_law_240 : decode cL_law 240 = .ok (.iload 6, 2) := dk_21 6 (dk_at dksL_law_6 21 rfl rfl)
theorem dL_law_242 : decode cL_law 242 = .ok (.i2l, 1) := dk_133 (dk_at dksL_law_6 23 rfl rfl)
theorem dL_law_243 : decode cL_law 243 = .ok (.lcmp, 1) := dk_148 (dk_at dksL_law_7 0 rfl rfl)
theorem dL_law_244 : decode cL_law 244 = .ok (.ifCond .eq 5, 3) := dk_153 0 5 (dk_at dksL_law_7 1 rfl rfl)
theorem dL_law_247 : decode cL_law 247 = .ok (.iconst 0, 1) := dk_3 (dk_at dksL_law_7 4 rfl rfl)
theorem dL_law_248 : decode cL_law 248 = .ok (.ireturn, 1) := dk_172 (dk_at dksL_law_7 5 rfl rfl)
theorem dL_law_249 : decode cL_law 249 = .ok (.goto 1134, 3) := dk_167 4 110 (dk_at dksL_law_7 6 rfl rfl)
theorem dL_law_252 : decode cL_law 252 = .ok (.aload_n 1, 1) := dk_43 (dk_at dksL_law_7 9 rfl rfl)
theorem dL_law_253 : decode cL_law 253 = .ok (.aload_n 0, 1) := dk_42 (dk_at dksL_law_7 10 rfl rfl)
theorem dL_law_254 : decode cL_law 254 = .ok (.iload 4, 2) := dk_21 4 (dk_at dksL_law_7 11 rfl rfl)
theorem dL_law_256 : decode cL_law 256 = .ok (.iconst 1, 1) := dk_4 (dk_at dksL_law_7 13 rfl rfl)
theorem dL_law_257 : decode cL_law 257 = .ok (.iadd, 1) := dk_96 (dk_at dksL_law_7 14 rfl rfl)
theorem dL_law_258 : decode cL_law 258 = .ok (.iaload, 1) := dk_46 (dk_at dksL_law_7 15 rfl rfl)
theorem dL_law_259 : decode cL_law 259 = .ok (.aload_n 3, 1) := dk_45 (dk_at dksL_law_7 16 rfl rfl)
theorem dL_law_260 : decode cL_law 260 = .ok (.invokestatic 82, 3) := dk_184 0 82 (dk_at dksL_law_7 17 rfl rfl)
theorem dL_law_263 : decode cL_law 263 = .ok (.istore 5, 2) := dk_54 5 (dk_at dksL_law_7 20 rfl rfl)
theorem dL_law_265 : decode cL_law 265 = .ok (.aload_n 2, 1) := dk_44 (dk_at dksL_law_7 22 rfl rfl)
theorem dL_law_266 : decode cL_law 266 = .ok (.aload_n 0, 1) := dk_42 (dk_at dksL_law_7 23 rfl rfl)
theorem dL_law_267 : decode cL_law 267 = .ok (.iload 4, 2) := dk_21 4 (dk_at dksL_law_8 0 rfl rfl)
theorem dL_law_269 : decode cL_law 269 = .ok (.iconst 1, 1) := dk_4 (dk_at dksL_law_8 2 rfl rfl)
theorem dL_law_270 : decode cL_law 270 = .ok (.iadd, 1) := dk_96 (dk_at dksL_law_8 3 rfl rfl)
theorem dL_law_271 : decode cL_law 271 = .ok (.iaload, 1) := dk_46 (dk_at dksL_law_8 4 rfl rfl)
theorem dL_law_272 : decode cL_law 272 = .ok (.invokevirtual 85, 3) := dk_182 0 85 (dk_at dksL_law_8 5 rfl rfl)
theorem dL_law_275 : decode cL_law 275 = .ok (.istore 6, 2) := dk_54 6 (dk_at dksL_law_8 8 rfl rfl)
theorem dL_law_277 : decode cL_law 277 = .ok (.aload_n 2, 1) := dk_44 (dk_at dksL_law_8 10 rfl rfl)
theorem dL_law_278 : decode cL_law 278 = .ok (.invokevirtual 78, 3) := dk_182 0 78 (dk_at dksL_law_8 11 rfl rfl)
theorem dL_law_281 : decode cL_law 281 = .ok (.iload 5, 2) := dk_21 5 (dk_at dksL_law_8 14 rfl rfl)
theorem dL_law_283 : decode cL_law 283 = .ok (.if_icmp .eq 5, 3) := dk_159 0 5 (dk_at dksL_law_8 16 rfl rfl)
theorem dL_law_286 : decode cL_law 286 = .ok (.iconst 0, 1) := dk_3 (dk_at dksL_law_8 19 rfl rfl)
theorem dL_law_287 : decode cL_law 287 = .ok (.ireturn, 1) := dk_172 (dk_at dksL_law_8 20 rfl rfl)
theorem dL_law_288 : decode cL_law 288 = .ok (.iload 5, 2) := dk_21 5 (dk_at dksL_law_8 21 rfl rfl)
theorem dL_law_290 : decode cL_law 290 = .ok (.ifCond .ne 15, 3) := dk_154 0 15 (dk_at dksL_law_9 0 rfl rfl)
theorem dL_law_293 : decode cL_law 293 = .ok (.aload_n 3, 1) := dk_45 (dk_at dksL_law_9 3 rfl rfl)
theorem dL_law_294 : decode cL_law 294 = .ok (.iconst 0, 1) := dk_3 (dk_at dksL_law_9 4 rfl rfl)
theorem dL_law_295 : decode cL_law 295 = .ok (.laload, 1) := dk_47 (dk_at dksL_law_9 5 rfl rfl)
theorem dL_law_296 : decode cL_law 296 = .ok (.iload 6, 2) := dk_21 6 (dk_at dksL_law_9 6 rfl rfl)
theorem dL_law_298 : decode cL_law 298 = .ok (.i2l, 1) := dk_133 (dk_at dksL_law_9 8 rfl rfl)
theorem dL_law_299 : decode cL_law 299 = .ok (.lcmp, 1) := dk_148 (dk_at dksL_law_9 9 rfl rfl)
theorem dL_law_300 : decode cL_law 300 = .ok (.ifCond .eq 5, 3) := dk_153 0 5 (dk_at dksL_law_9 10 rfl rfl)
theorem dL_law_303 : decode cL_law 303 = .ok (.iconst 0, 1) := dk_3 (dk_at dksL_law_9 13 rfl rfl)
theorem dL_law_304 : decode cL_law 304 = .ok (.ireturn, 1) := dk_172 (dk_at dksL_law_9 14 rfl rfl)
theorem dL_law_305 : decode cL_law 305 = .ok (.goto 1078, 3) := dk_167 4 54 (dk_at dksL_law_9 15 rfl rfl)
theorem dL_law_308 : decode cL_law 308 = .ok (.aload_n 1, 1) := dk_43 (dk_at dksL_law_9 18 rfl rfl)
theorem dL_law_309 : decode cL_law 309 = .ok (.invokevirtual 86, 3) := dk_182 0 86 (dk_at dksL_law_9 19 rfl rfl)
theorem dL_law_312 : decode cL_law 312 = .ok (.aload_n 2, 1) := dk_44 (dk_at dksL_law_9 22 rfl rfl)
theorem dL_law_313 : decode cL_law 313 = .ok (.invokevirtual 89, 3) := dk_182 0 89 (dk_at dksL_law_10 0 rfl rfl)
theorem dL_law_316 : decode cL_law 316 = .ok (.if_icmp .eq 1067, 3) := dk_159 4 43 (dk_at dksL_law_10 3 rfl rfl)
theorem dL_law_319 : decode cL_law 319 = .ok (.iconst 0, 1) := dk_3 (dk_at dksL_law_10 6 rfl rfl)
theorem dL_law_320 : decode cL_law 320 = .ok (.ireturn, 1) := dk_172 (dk_at dksL_law_10 7 rfl rfl)
theorem dL_law_321 : decode cL_law 321 = .ok (.aload_n 1, 1) := dk_43 (dk_at dksL_law_10 8 rfl rfl)
theorem dL_law_322 : decode cL_law 322 = .ok (.invokevirtual 90, 3) := dk_182 0 90 (dk_at dksL_law_10 9 rfl rfl)
theorem dL_law_325 : decode cL_law 325 = .ok (.aload_n 2, 1) := dk_44 (dk_at dksL_law_10 12 rfl rfl)
theorem dL_law_326 : decode cL_law 326 = .ok (.invokevirtual 93, 3) := dk_182 0 93 (dk_at dksL_law_10 13 rfl rfl)
theorem dL_law_329 : decode cL_law 329 = .ok (.if_icmp .eq 1054, 3) := dk_159 4 30 (dk_at dksL_law_10 16 rfl rfl)
theorem dL_law_332 : decode cL_law 332 = .ok (.iconst 0, 1) := dk_3 (dk_at dksL_law_10 19 rfl rfl)
theorem dL_law_333 : decode cL_law 333 = .ok (.ireturn, 1) := dk_172 (dk_at dksL_law_10 20 rfl rfl)
theorem dL_law_334 : decode cL_law 334 = .ok (.aload_n 1, 1) := dk_43 (dk_at dksL_law_10 21 rfl rfl)
theorem dL_law_335 : decode cL_law 335 = .ok (.aload_n 0, 1) := dk_42 (dk_at dksL_law_10 22 rfl rfl)
theorem dL_law_336 : decode cL_law 336 = .ok (.iload 4, 2) := dk_21 4 (dk_at dksL_law_11 0 rfl rfl)
theorem dL_law_338 : decode cL_law 338 = .ok (.iconst 1, 1) := dk_4 (dk_at dksL_law_11 2 rfl rfl)
theorem dL_law_339 : decode cL_law 339 = .ok (.iadd, 1) := dk_96 (dk_at dksL_law_11 3 rfl rfl)
theorem dL_law_340 : decode cL_law 340 = .ok (.iaload, 1) := dk_46 (dk_at dksL_law_11 4 rfl rfl)
theorem dL_law_341 : decode cL_law 341 = .ok (.aload_n 3, 1) := dk_45 (dk_at dksL_law_11 5 rfl rfl)
theorem dL_law_342 : decode cL_law 342 = .ok (.invokestatic 94, 3) := dk_184 0 94 (dk_at dksL_law_11 6 rfl rfl)
theorem dL_law_345 : decode cL_law 345 = .ok (.istore 5, 2) := dk_54 5 (dk_at dksL_law_11 9 rfl rfl)
theorem dL_law_347 : decode cL_law 347 = .ok (.aload_n 2, 1) := dk_44 (dk_at dksL_law_11 11 rfl rfl)
theorem dL_law_348 : decode cL_law 348 = .ok (.aload_n 0, 1) := dk_42 (dk_at dksL_law_11 12 rfl rfl)
theorem dL_law_349 : decode cL_law 349 = .ok (.iload 4, 2) := dk_21 4 (dk_at dksL_law_11 13 rfl rfl)
theorem dL_law_351 : decode cL_law 351 = .ok (.iconst 1, 1) := dk_4 (dk_at dksL_law_11 15 rfl rfl)
theorem dL_law_352 : decode cL_law 352 = .ok (.iadd, 1) := dk_96 (dk_at dksL_law_11 16 rfl rfl)
theorem dL_law_353 : decode cL_law 353 = .ok (.iaload, 1) := dk_46 (dk_at dksL_law_11 17 rfl rfl)
theorem dL_law_354 : decode cL_law 354 = .ok (.invokevirtual 96, 3) := dk_182 0 96 (dk_at dksL_law_11 18 rfl rfl)
theorem dL_law_357 : decode cL_law 357 = .ok (.istore 6, 2) := dk_54 6 (dk_at dksL_law_11 21 rfl rfl)
theorem dL_law_359 : decode cL_law 359 = .ok (.aload_n 2, 1) := dk_44 (dk_at dksL_law_11 23 rfl rfl)
theorem dL_law_360 : decode cL_law 360 = .ok (.invokevirtual 78, 3) := dk_182 0 78 (dk_at dksL_law_12 0 rfl rfl)
theorem dL_law_363 : decode cL_law 363 = .ok (.iload 5, 2) := dk_21 5 (dk_at dksL_law_12 3 rfl rfl)
theorem dL_law_365 : decode cL_law 365 = .ok (.if_icmp .eq 5, 3) := dk_159 0 5 (dk_at dksL_law_12 5 rfl rfl)
theorem dL_law_368 : decode cL_law 368 = .ok (.iconst 0, 1) := dk_3 (dk_at dksL_law_12 8 rfl rfl)
theorem dL_law_369 : decode cL_law 369 = .ok (.ireturn, 1) := dk_172 (dk_at dksL_law_12 9 rfl rfl)
theorem dL_law_370 : decode cL_law 370 = .ok (.iload 5, 2) := dk_21 5 (dk_at dksL_law_12 10 rfl rfl)
theorem dL_law_372 : decode cL_law 372 = .ok (.ifCond .ne 15, 3) := dk_154 0 15 (dk_at dksL_law_12 12 rfl rfl)
theorem dL_law_375 : decode cL_law 375 = .ok (.aload_n 3, 1) := dk_45 (dk_at dksL_law_12 15 rfl rfl)
theorem dL_law_376 : decode cL_law 376 = .ok (.iconst 0, 1) := dk_3 (dk_at dksL_law_12 16 rfl rfl)
theorem dL_law_377 : decode cL_law 377 = .ok (.laload, 1) := dk_47 (dk_at dksL_law_12 17 rfl rfl)
theorem dL_law_378 : decode cL_law 378 = .ok (.iload 6, 2) := dk_21 6 (dk_at dksL_law_12 18 rfl rfl)
theorem dL_law_380 : decode cL_law 380 = .ok (.i2l, 1) := dk_133 (dk_at dksL_law_12 20 rfl rfl)
theorem dL_law_381 : decode cL_law 381 = .ok (.lcmp, 1) := dk_148 (dk_at dksL_law_12 21 rfl rfl)
theorem dL_law_382 : decode cL_law 382 = .ok (.ifCond .eq 5, 3) := dk_153 0 5 (dk_at dksL_law_13 0 rfl rfl)
theorem dL_law_385 : decode cL_law 385 = .ok (.iconst 0, 1) := dk_3 (dk_at dksL_law_13 3 rfl rfl)
theorem dL_law_386 : decode cL_law 386 = .ok (.ireturn, 1) := dk_172 (dk_at dksL_law_13 4 rfl rfl)
theorem dL_law_387 : decode cL_law 387 = .ok (.goto 996, 3) := dk_167 3 228 (dk_at dksL_law_13 5 rfl rfl)
theorem dL_law_390 : decode cL_law 390 = .ok (.aload_n 1, 1) := dk_43 (dk_at dksL_law_13 8 rfl rfl)
theorem dL_law_391 : decode cL_law 391 = .ok (.aload_n 0, 1) := dk_42 (dk_at dksL_law_13 9 rfl rfl)
theorem dL_law_392 : decode cL_law 392 = .ok (.iload 4, 2) := dk_21 4 (dk_at dksL_law_13 10 rfl rfl)
theorem dL_law_394 : decode cL_law 394 = .ok (.iconst 1, 1) := dk_4 (dk_at dksL_law_13 12 rfl rfl)
theorem dL_law_395 : decode cL_law 395 = .ok (.iadd, 1) := dk_96 (dk_at dksL_law_13 13 rfl rfl)
theorem dL_law_396 : decode cL_law 396 = .ok (.iaload, 1) := dk_46 (dk_at dksL_law_13 14 rfl rfl)
theorem dL_law_397 : decode cL_law 397 = .ok (.aload_n 0, 1) := dk_42 (dk_at dksL_law_13 15 rfl rfl)
theorem dL_law_398 : decode cL_law 398 = .ok (.iload 4, 2) := dk_21 4 (dk_at dksL_law_13 16 rfl rfl)
theorem dL_law_400 : decode cL_law 400 = .ok (.iconst 2, 1) := dk_5 (dk_at dksL_law_13 18 rfl rfl)
theorem dL_law_401 : decode cL_law 401 = .ok (.iadd, 1) := dk_96 (dk_at dksL_law_13 19 rfl rfl)
theorem dL_law_402 : decode cL_law 402 = .ok (.iaload, 1) := dk_46 (dk_at dksL_law_13 20 rfl rfl)
theorem dL_law_403 : decode cL_law 403 = .ok (.aload_n 3, 1) := dk_45 (dk_at dksL_law_13 21 rfl rfl)
theorem dL_law_404 : decode cL_law 404 = .ok (.invokestatic 97, 3) := dk_184 0 97 (dk_at dksL_law_14 0 rfl rfl)
theorem dL_law_407 : decode cL_law 407 = .ok (.istore 5, 2) := dk_54 5 (dk_at dksL_law_14 3 rfl rfl)
theorem dL_law_409 : decode cL_law 409 = .ok (.aload_n 2, 1) := dk_44 (dk_at dksL_law_14 5 rfl rfl)
theorem dL_law_410 : decode cL_law 410 = .ok (.aload_n 0, 1) := dk_42 (dk_at dksL_law_14 6 rfl rfl)
theorem dL_law_411 : decode cL_law 411 = .ok (.iload 4, 2) := dk_21 4 (dk_at dksL_law_14 7 rfl rfl)
theorem dL_law_413 : decode cL_law 413 = .ok (.iconst 1, 1) := dk_4 (dk_at dksL_law_14 9 rfl rfl)
theorem dL_law_414 : decode cL_law 414 = .ok (.iadd, 1) := dk_96 (dk_at dksL_law_14 10 rfl rfl)
theorem dL_law_415 : decode cL_law 415 = .ok (.iaload, 1) := dk_46 (dk_at dksL_law_14 11 rfl rfl)
theorem dL_law_416 : decode cL_law 416 = .ok (.aload_n 0, 1) := dk_42 (dk_at dksL_law_14 12 rfl rfl)
theorem dL_law_417 : decode cL_law 417 = .ok (.iload 4, 2) := dk_21 4 (dk_at dksL_law_14 13 rfl rfl)
theorem dL_law_419 : decode cL_law 419 = .ok (.iconst 2, 1) := dk_5 (dk_at dksL_law_14 15 rfl rfl)
theorem dL_law_420 : decode cL_law 420 = .ok (.iadd, 1) := dk_96 (dk_at dksL_law_14 16 rfl rfl)
theorem dL_law_421 : decode cL_law 421 = .ok (.iaload, 1) := dk_46 (dk_at dksL_law_14 17 rfl rfl)
theorem dL_law_422 : decode cL_law 422 = .ok (.invokevirtual 100, 3) := dk_182 0 100 (dk_at dksL_law_14 18 rfl rfl)
theorem dL_law_425 : decode cL_law 425 = .ok (.istore 6, 2) := dk_54 6 (dk_at dksL_law_14 21 rfl rfl)
theorem dL_law_427 : decode cL_law 427 = .ok (.aload_n 2, 1) := dk_44 (dk_at dksL_law_14 23 rfl rfl)
theorem dL_law_428 : decode cL_law 428 = .ok (.invokevirtual 78, 3) := dk_182 0 78 (dk_at dksL_law_15 0 rfl rfl)
theorem dL_law_431 : decode cL_law 431 = .ok (.iload 5, 2) := dk_21 5 (dk_at dksL_law_15 3 rfl rfl)
theorem dL_law_433 : decode cL_law 433 = .ok (.if_icmp .eq 5, 3) := dk_159 0 5 (dk_at dksL_law_15 5 rfl rfl)
theorem dL_law_436 : decode cL_law 436 = .ok (.iconst 0, 1) := dk_3 (dk_at dksL_law_15 8 rfl rfl)
theorem dL_law_437 : decode cL_law 437 = .ok (.ireturn, 1) := dk_172 (dk_at dksL_law_15 9 rfl rfl)
theorem dL_law_438 : decode cL_law 438 = .ok (.iload 5, 2) := dk_21 5 (dk_at dksL_law_15 10 rfl rfl)
theorem dL_law_440 : decode cL_law 440 = .ok (.ifCond .ne 15, 3) := dk_154 0 15 (dk_at dksL_law_15 12 rfl rfl)
theorem dL_law_443 : decode cL_law 443 = .ok (.aload_n 3, 1) := dk_45 (dk_at dksL_law_15 15 rfl rfl)
theorem dL_law_444 : decode cL_law 444 = .ok (.iconst 0, 1) := dk_3 (dk_at dksL_law_15 16 rfl rfl)
theorem dL_law_445 : decode cL_law 445 = .ok (.laload, 1) := dk_47 (dk_at dksL_law_15 17 rfl rfl)
theorem dL_law_446 : decode cL_law 446 = .ok (.iload 6, 2) := dk_21 6 (dk_at dksL_law_15 18 rfl rfl)
theorem dL_law_448 : decode cL_law 448 = .ok (.i2l, 1) := dk_133 (dk_at dksL_law_15 20 rfl rfl)
theorem dL_law_449 : decode cL_law 449 = .ok (.lcmp, 1) := dk_148 (dk_at dksL_law_15 21 rfl rfl)
theorem dL_law_450 : decode cL_law 450 = .ok (.ifCond .eq 5, 3) := dk_153 0 5 (dk_at dksL_law_16 0 rfl rfl)
theorem dL_law_453 : decode cL_law 453 = .ok (.iconst 0, 1) := dk_3 (dk_at dksL_law_16 3 rfl rfl)
theorem dL_law_454 : decode cL_law 454 = .ok (.ireturn, 1) := dk_172 (dk_at dksL_law_16 4 rfl rfl)
theorem dL_law_455 : decode cL_law 455 = .ok (.goto 928, 3) := dk_167 3 160 (dk_at dksL_law_16 5 rfl rfl)
theorem dL_law_458 : decode cL_law 458 = .ok (.aload_n 1, 1) := dk_43 (dk_at dksL_law_16 8 rfl rfl)
theorem dL_law_459 : decode cL_law 459 = .ok (.aload_n 0, 1) := dk_42 (dk_at dksL_law_16 9 rfl rfl)
theorem dL_law_460 : decode cL_law 460 = .ok (.iload 4, 2) := dk_21 4 (dk_at dksL_law_16 10 rfl rfl)
theorem dL_law_462 : decode cL_law 462 = .ok (.iconst 1, 1) := dk_4 (dk_at dksL_law_16 12 rfl rfl)
theorem dL_law_463 : decode cL_law 463 = .ok (.iadd, 1) := dk_96 (dk_at dksL_law_16 13 rfl rfl)
theorem dL_law_464 : decode cL_law 464 = .ok (.iaload, 1) := dk_46 (dk_at dksL_law_16 14 rfl rfl)
theorem dL_law_465 : decode cL_law 465 = .ok (.aload_n 0, 1) := dk_42 (dk_at dksL_law_16 15 rfl rfl)
theorem dL_law_466 : decode cL_law 466 = .ok (.iload 4, 2) := dk_21 4 (dk_at dksL_law_16 16 rfl rfl)
theorem dL_law_468 : decode cL_law 468 = .ok (.iconst 2, 1) := dk_5 (dk_at dksL_law_16 18 rfl rfl)
theorem dL_law_469 : decode cL_law 469 = .ok (.iadd, 1) := dk_96 (dk_at dksL_law_16 19 rfl rfl)
theorem dL_law_470 : decode cL_law 470 = .ok (.iaload, 1) := dk_46 (dk_at dksL_law_16 20 rfl rfl)
theorem dL_law_471 : decode cL_law 471 = .ok (.aload_n 3, 1) := dk_45 (dk_at dksL_law_16 21 rfl rfl)
theorem dL_law_472 : decode cL_law 472 = .ok (.invokestatic 101, 3) := dk_184 0 101 (dk_at dksL_law_17 0 rfl rfl)
theorem dL_law_475 : decode cL_law 475 = .ok (.istore 5, 2) := dk_54 5 (dk_at dksL_law_17 3 rfl rfl)
theorem dL_law_477 : decode cL_law 477 = .ok (.aload_n 2, 1) := dk_44 (dk_at dksL_law_17 5 rfl rfl)
theorem dL_law_478 : decode cL_law 478 = .ok (.aload_n 0, 1) := dk_42 (dk_at dksL_law_17 6 rfl rfl)
theorem dL_law_479 : decode cL_law 479 = .ok (.iload 4, 2) := dk_21 4 (dk_at dksL_law_17 7 rfl rfl)
theorem dL_law_481 : decode cL_law 481 = .ok (.iconst 1, 1) := dk_4 (dk_at dksL_law_17 9 rfl rfl)
theorem dL_law_482 : decode cL_law 482 = .ok (.iadd, 1) := dk_96 (dk_at dksL_law_17 10 rfl rfl)
theorem dL_law_483 : decode cL_law 483 = .ok (.iaload, 1) := dk_46 (dk_at dksL_law_17 11 rfl rfl)
theorem dL_law_484 : decode cL_law 484 = .ok (.aload_n 0, 1) := dk_42 (dk_at dksL_law_17 12 rfl rfl)
theorem dL_law_485 : decode cL_law 485 = .ok (.iload 4, 2) := dk_21 4 (dk_at dksL_law_17 13 rfl rfl)
theorem dL_law_487 : decode cL_law 487 = .ok (.iconst 2, 1) := dk_5 (dk_at dksL_law_17 15 rfl rfl)
theorem dL_law_488 : decode cL_law 488 = .ok (.iadd, 1) := dk_96 (dk_at dksL_law_17 16 rfl rfl)
theorem dL_law_489 : decode cL_law 489 = .ok (.iaload, 1) := dk_46 (dk_at dksL_law_17 17 rfl rfl)
theorem dL_law_490 : decode cL_law 490 = .ok (.invokevirtual 103, 3) := dk_182 0 103 (dk_at dksL_law_17 18 rfl rfl)
theorem dL_law_493 : decode cL_law 493 = .ok (.istore 6, 2) := dk_54 6 (dk_at dksL_law_17 21 rfl rfl)
theorem dL_law_495 : decode cL_law 495 = .ok (.aload_n 2, 1) := dk_44 (dk_at dksL_law_17 23 rfl rfl)
theorem dL_law_496 : decode cL_law 496 = .ok (.invokevirtual 78, 3) := dk_182 0 78 (dk_at dksL_law_18 0 rfl rfl)
theorem dL_law_499 : decode cL_law 499 = .ok (.iload 5, 2) := dk_21 5 (dk_at dksL_law_18 3 rfl rfl)
theorem dL_law_501 : decode cL_law 501 = .ok (.if_icmp .eq 5, 3) := dk_159 0 5 (dk_at dksL_law_18 5 rfl rfl)
theorem dL_law_504 : decode cL_law 504 = .ok (.iconst 0, 1) := dk_3 (dk_at dksL_law_18 8 rfl rfl)
theorem dL_law_505 : decode cL_law 505 = .ok (.ireturn, 1) := dk_172 (dk_at dksL_law_18 9 rfl rfl)
theorem dL_law_506 : decode cL_law 506 = .ok (.iload 5, 2) := dk_21 5 (dk_at dksL_law_18 10 rfl rfl)
theorem dL_law_508 : decode cL_law 508 = .ok (.ifCond .ne 15, 3) := dk_154 0 15 (dk_at dksL_law_18 12 rfl rfl)
theorem dL_law_511 : decode cL_law 511 = .ok (.aload_n 3, 1) := dk_45 (dk_at dksL_law_18 15 rfl rfl)
theorem dL_law_512 : decode cL_law 512 = .ok (.iconst 0, 1) := dk_3 (dk_at dksL_law_18 16 rfl rfl)
theorem dL_law_513 : decode cL_law 513 = .ok (.laload, 1) := dk_47 (dk_at dksL_law_18 17 rfl rfl)
theorem dL_law_514 : decode cL_law 514 = .ok (.iload 6, 2) := dk_21 6 (dk_at dksL_law_18 18 rfl rfl)
theorem dL_law_516 : decode cL_law 516 = .ok (.i2l, 1) := dk_133 (dk_at dksL_law_18 20 rfl rfl)
theorem dL_law_517 : decode cL_law 517 = .ok (.lcmp, 1) := dk_148 (dk_at dksL_law_18 21 rfl rfl)
theorem dL_law_518 : decode cL_law 518 = .ok (.ifCond .eq 5, 3) := dk_153 0 5 (dk_at dksL_law_19 0 rfl rfl)
theorem dL_law_521 : decode cL_law 521 = .ok (.iconst 0, 1) := dk_3 (dk_at dksL_law_19 3 rfl rfl)
theorem dL_law_522 : decode cL_law 522 = .ok (.ireturn, 1) := dk_172 (dk_at dksL_law_19 4 rfl rfl)
theorem dL_law_523 : decode cL_law 523 = .ok (.goto 860, 3) := dk_167 3 92 (dk_at dksL_law_19 5 rfl rfl)
theorem dL_law_526 : decode cL_law 526 = .ok (.aload_n 1, 1) := dk_43 (dk_at dksL_law_19 8 rfl rfl)
theorem dL_law_527 : decode cL_law 527 = .ok (.aload_n 0, 1) := dk_42 (dk_at dksL_law_19 9 rfl rfl)
theorem dL_law_528 : decode cL_law 528 = .ok (.iload 4, 2) := dk_21 4 (dk_at dksL_law_19 10 rfl rfl)
theorem dL_law_530 : decode cL_law 530 = .ok (.iconst 1, 1) := dk_4 (dk_at dksL_law_19 12 rfl rfl)
theorem dL_law_531 : decode cL_law 531 = .ok (.iadd, 1) := dk_96 (dk_at dksL_law_19 13 rfl rfl)
theorem dL_law_532 : decode cL_law 532 = .ok (.iaload, 1) := dk_46 (dk_at dksL_law_19 14 rfl rfl)
theorem dL_law_533 : decode cL_law 533 = .ok (.aload_n 0, 1) := dk_42 (dk_at dksL_law_19 15 rfl rfl)
theorem dL_law_534 : decode cL_law 534 = .ok (.iload 4, 2) := dk_21 4 (dk_at dksL_law_19 16 rfl rfl)
theorem dL_law_536 : decode cL_law 536 = .ok (.iconst 2, 1) := dk_5 (dk_at dksL_law_19 18 rfl rfl)
theorem dL_law_537 : decode cL_law 537 = .ok (.iadd, 1) := dk_96 (dk_at dksL_law_19 19 rfl rfl)
theorem dL_law_538 : decode cL_law 538 = .ok (.iaload, 1) := dk_46 (dk_at dksL_law_19 20 rfl rfl)
theorem dL_law_539 : decode cL_law 539 = .ok (.aload_n 3, 1) := dk_45 (dk_at dksL_law_19 21 rfl rfl)
theorem dL_law_540 : decode cL_law 540 = .ok (.invokestatic 104, 3) := dk_184 0 104 (dk_at dksL_law_20 0 rfl rfl)
theorem dL_law_543 : decode cL_law 543 = .ok (.istore 5, 2) := dk_54 5 (dk_at dksL_law_20 3 rfl rfl)
theorem dL_law_545 : decode cL_law 545 = .ok (.aload_n 2, 1) := dk_44 (dk_at dksL_law_20 5 rfl rfl)
theorem dL_law_546 : decode cL_law 546 = .ok (.aload_n 0, 1) := dk_42 (dk_at dksL_law_20 6 rfl rfl)
theorem dL_law_547 : decode cL_law 547 = .ok (.iload 4, 2) := dk_21 4 (dk_at dksL_law_20 7 rfl rfl)
theorem dL_law_549 : decode cL_law 549 = .ok (.iconst 1, 1) := dk_4 (dk_at dksL_law_20 9 rfl rfl)
theorem dL_law_550 : decode cL_law 550 = .ok (.iadd, 1) := dk_96 (dk_at dksL_law_20 10 rfl rfl)
theorem dL_law_551 : decode cL_law 551 = .ok (.iaload, 1) := dk_46 (dk_at dksL_law_20 11 rfl rfl)
theorem dL_law_552 : decode cL_law 552 = .ok (.aload_n 0, 1) := dk_42 (dk_at dksL_law_20 12 rfl rfl)
theorem dL_law_553 : decode cL_law 553 = .ok (.iload 4, 2) := dk_21 4 (dk_at dksL_law_20 13 rfl rfl)
theorem dL_law_555 : decode cL_law 555 = .ok (.iconst 2, 1) := dk_5 (dk_at dksL_law_20 15 rfl rfl)
theorem dL_law_556 : decode cL_law 556 = .ok (.iadd, 1) := dk_96 (dk_at dksL_law_20 16 rfl rfl)
theorem dL_law_557 : decode cL_law 557 = .ok (.iaload, 1) := dk_46 (dk_at dksL_law_20 17 rfl rfl)
theorem dL_law_558 : decode cL_law 558 = .ok (.invokevirtual 106, 3) := dk_182 0 106 (dk_at dksL_law_20 18 rfl rfl)
theorem dL_law_561 : decode cL_law 561 = .ok (.istore 6, 2) := dk_54 6 (dk_at dksL_law_20 21 rfl rfl)
theorem dL_law_563 : decode cL_law 563 = .ok (.aload_n 2, 1) := dk_44 (dk_at dksL_law_20 23 rfl rfl)
theorem dL_law_564 : decode cL_law 564 = .ok (.invokevirtual 78, 3) := dk_182 0 78 (dk_at dksL_law_21 0 rfl rfl)
theorem dL_law_567 : decode cL_law 567 = .ok (.iload 5, 2) := dk_21 5 (dk_at dksL_law_21 3 rfl rfl)
theorem dL_law_569 : decode cL_law 569 = .ok (.if_icmp .eq 5, 3) := dk_159 0 5 (dk_at dksL_law_21 5 rfl rfl)
theorem dL_law_572 : decode cL_law 572 = .ok (.iconst 0, 1) := dk_3 (dk_at dksL_law_21 8 rfl rfl)
theorem dL_law_573 : decode cL_law 573 = .ok (.ireturn, 1) := dk_172 (dk_at dksL_law_21 9 rfl rfl)
theorem dL_law_574 : decode cL_law 574 = .ok (.iload 5, 2) := dk_21 5 (dk_at dksL_law_21 10 rfl rfl)
theorem dL_law_576 : decode cL_law 576 = .ok (.ifCond .ne 15, 3) := dk_154 0 15 (dk_at dksL_law_21 12 rfl rfl)
theorem dL_law_579 : decode cL_law 579 = .ok (.aload_n 3, 1) := dk_45 (dk_at dksL_law_21 15 rfl rfl)
theorem dL_law_580 : decode cL_law 580 = .ok (.iconst 0, 1) := dk_3 (dk_at dksL_law_21 16 rfl rfl)
theorem dL_law_581 : decode cL_law 581 = .ok (.laload, 1) := dk_47 (dk_at dksL_law_21 17 rfl rfl)
theorem dL_law_582 : decode cL_law 582 = .ok (.iload 6, 2) := dk_21 6 (dk_at dksL_law_21 18 rfl rfl)
theorem dL_law_584 : decode cL_law 584 = .ok (.i2l, 1) := dk_133 (dk_at dksL_law_21 20 rfl rfl)
theorem dL_law_585 : decode cL_law 585 = .ok (.lcmp, 1) := dk_148 (dk_at dksL_law_21 21 rfl rfl)
theorem dL_law_586 : decode cL_law 586 = .ok (.ifCond .eq 5, 3) := dk_153 0 5 (dk_at dksL_law_22 0 rfl rfl)
theorem dL_law_589 : decode cL_law 589 = .ok (.iconst 0, 1) := dk_3 (dk_at dksL_law_22 3 rfl rfl)
theorem dL_law_590 : decode cL_law 590 = .ok (.ireturn, 1) := dk_172 (dk_at dksL_law_22 4 rfl rfl)
theorem dL_law_591 : decode cL_law 591 = .ok (.goto 792, 3) := dk_167 3 24 (dk_at dksL_law_22 5 rfl rfl)
theorem dL_law_594 : decode cL_law 594 = .ok (.aload_n 1, 1) := dk_43 (dk_at dksL_law_22 8 rfl rfl)
theorem dL_law_595 : decode cL_law 595 = .ok (.aload_n 0, 1) := dk_42 (dk_at dksL_law_22 9 rfl rfl)
theorem dL_law_596 : decode cL_law 596 = .ok (.iload 4, 2) := dk_21 4 (dk_at dksL_law_22 10 rfl rfl)
theorem dL_law_598 : decode cL_law 598 = .ok (.iconst 1, 1) := dk_4 (dk_at dksL_law_22 12 rfl rfl)
theorem dL_law_599 : decode cL_law 599 = .ok (.iadd, 1) := dk_96 (dk_at dksL_law_22 13 rfl rfl)
theorem dL_law_600 : decode cL_law 600 = .ok (.iaload, 1) := dk_46 (dk_at dksL_law_22 14 rfl rfl)
theorem dL_law_601 : decode cL_law 601 = .ok (.aload_n 0, 1) := dk_42 (dk_at dksL_law_22 15 rfl rfl)
theorem dL_law_602 : decode cL_law 602 = .ok (.iload 4, 2) := dk_21 4 (dk_at dksL_law_22 16 rfl rfl)
theorem dL_law_604 : decode cL_law 604 = .ok (.iconst 2, 1) := dk_5 (dk_at dksL_law_22 18 rfl rfl)
theorem dL_law_605 : decode cL_law 605 = .ok (.iadd, 1) := dk_96 (dk_at dksL_law_22 19 rfl rfl)
theorem dL_law_606 : decode cL_law 606 = .ok (.iaload, 1) := dk_46 (dk_at dksL_law_22 20 rfl rfl)
theorem dL_law_607 : decode cL_law 607 = .ok (.aload_n 0, 1) := dk_42 (dk_at dksL_law_22 21 rfl rfl)
theorem dL_law_608 : decode cL_law 608 = .ok (.iload 4, 2) := dk_21 4 (dk_at dksL_law_22 22 rfl rfl)
theorem dL_law_610 : decode cL_law 610 = .ok (.iconst 3, 1) := dk_6 (dk_at dksL_law_23 0 rfl rfl)
theorem dL_law_611 : decode cL_law 611 = .ok (.iadd, 1) := dk_96 (dk_at dksL_law_23 1 rfl rfl)
theorem dL_law_612 : decode cL_law 612 = .ok (.iaload, 1) := dk_46 (dk_at dksL_law_23 2 rfl rfl)
theorem dL_law_613 : decode cL_law 613 = .ok (.ifCond .eq 7, 3) := dk_153 0 7 (dk_at dksL_law_23 3 rfl rfl)
theorem dL_law_616 : decode cL_law 616 = .ok (.iconst 1, 1) := dk_4 (dk_at dksL_law_23 6 rfl rfl)
theorem dL_law_617 : decode cL_law 617 = .ok (.goto 4, 3) := dk_167 0 4 (dk_at dksL_law_23 7 rfl rfl)
theorem dL_law_620 : decode cL_law 620 = .ok (.iconst 0, 1) := dk_3 (dk_at dksL_law_23 10 rfl rfl)
theorem dL_law_621 : decode cL_law 621 = .ok (.aload_n 3, 1) := dk_45 (dk_at dksL_law_23 11 rfl rfl)
theorem dL_law_622 : decode cL_law 622 = .ok (.invokestatic 107, 3) := dk_184 0 107 (dk_at dksL_law_23 12 rfl rfl)
theorem dL_law_625 : decode cL_law 625 = .ok (.istore 5, 2) := dk_54 5 (dk_at dksL_law_23 15 rfl rfl)
theorem dL_law_627 : decode cL_law 627 = .ok (.aload_n 2, 1) := dk_44 (dk_at dksL_law_23 17 rfl rfl)
theorem dL_law_628 : decode cL_law 628 = .ok (.aload_n 0, 1) := dk_42 (dk_at dksL_law_23 18 rfl rfl)
theorem dL_law_629 : decode cL_law 629 = .ok (.iload 4, 2) := dk_21 4 (dk_at dksL_law_23 19 rfl rfl)
theorem dL_law_631 : decode cL_law 631 = .ok (.iconst 1, 1) := dk_4 (dk_at dksL_law_23 21 rfl rfl)
theorem dL_law_632 : decode cL_law 632 = .ok (.iadd, 1) := dk_96 (dk_at dksL_law_23 22 rfl rfl)
theorem dL_law_633 : decode cL_law 633 = .ok (.iaload, 1) := dk_46 (dk_at dksL_law_23 23 rfl rfl)
theorem dL_law_634 : decode cL_law 634 = .ok (.aload_n 0, 1) := dk_42 (dk_at dksL_law_24 0 rfl rfl)
theorem dL_law_635 : decode cL_law 635 = .ok (.iload 4, 2) := dk_21 4 (dk_at dksL_law_24 1 rfl rfl)
theorem dL_law_637 : decode cL_law 637 = .ok (.iconst 2, 1) := dk_5 (dk_at dksL_law_24 3 rfl rfl)
theorem dL_law_638 : decode cL_law 638 = .ok (.iadd, 1) := dk_96 (dk_at dksL_law_24 4 rfl rfl)
theorem dL_law_639 : decode cL_law 639 = .ok (.iaload, 1) := dk_46 (dk_at dksL_law_24 5 rfl rfl)
theorem dL_law_640 : decode cL_law 640 = .ok (.aload_n 0, 1) := dk_42 (dk_at dksL_law_24 6 rfl rfl)
theorem dL_law_641 : decode cL_law 641 = .ok (.iload 4, 2) := dk_21 4 (dk_at dksL_law_24 7 rfl rfl)
theorem dL_law_643 : decode cL_law 643 = .ok (.iconst 3, 1) := dk_6 (dk_at dksL_law_24 9 rfl rfl)
theorem dL_law_644 : decode cL_law 644 = .ok (.iadd, 1) := dk_96 (dk_at dksL_law_24 10 rfl rfl)
theorem dL_law_645 : decode cL_law 645 = .ok (.iaload, 1) := dk_46 (dk_at dksL_law_24 11 rfl rfl)
theorem dL_law_646 : decode cL_law 646 = .ok (.ifCond .eq 7, 3) := dk_153 0 7 (dk_at dksL_law_24 12 rfl rfl)
theorem dL_law_649 : decode cL_law 649 = .ok (.iconst 1, 1) := dk_4 (dk_at dksL_law_24 15 rfl rfl)
theorem dL_law_650 : decode cL_law 650 = .ok (.goto 4, 3) := dk_167 0 4 (dk_at dksL_law_24 16 rfl rfl)
theorem dL_law_653 : decode cL_law 653 = .ok (.iconst 0, 1) := dk_3 (dk_at dksL_law_24 19 rfl rfl)
theorem dL_law_654 : decode cL_law 654 = .ok (.invokevirtual 110, 3) := dk_182 0 110 (dk_at dksL_law_24 20 rfl rfl)
theorem dL_law_657 : decode cL_law 657 = .ok (.istore 6, 2) := dk_54 6 (dk_at dksL_law_25 0 rfl rfl)
theorem dL_law_659 : decode cL_law 659 = .ok (.aload_n 2, 1) := dk_44 (dk_at dksL_law_25 2 rfl rfl)
theorem dL_law_660 : decode cL_law 660 = .ok (.invokevirtual 78, 3) := dk_182 0 78 (dk_at dksL_law_25 3 rfl rfl)
theorem dL_law_663 : decode cL_law 663 = .ok (.iload 5, 2) := dk_21 5 (dk_at dksL_law_25 6 rfl rfl)
theorem dL_law_665 : decode cL_law 665 = .ok (.if_icmp .eq 5, 3) := dk_159 0 5 (dk_at dksL_law_25 8 rfl rfl)
theorem dL_law_668 : decode cL_law 668 = .ok (.iconst 0, 1) := dk_3 (dk_at dksL_law_25 11 rfl rfl)
theorem dL_law_669 : decode cL_law 669 = .ok (.ireturn, 1) := dk_172 (dk_at dksL_law_25 12 rfl rfl)
theorem dL_law_670 : decode cL_law 670 = .ok (.iload 5, 2) := dk_21 5 (dk_at dksL_law_25 13 rfl rfl)
theorem dL_law_672 : decode cL_law 672 = .ok (.ifCond .ne 22, 3) := dk_154 0 22 (dk_at dksL_law_25 15 rfl rfl)
theorem dL_law_675 : decode cL_law 675 = .ok (.aload_n 3, 1) := dk_45 (dk_at dksL_law_25 18 rfl rfl)
theorem dL_law_676 : decode cL_law 676 = .ok (.iconst 0, 1) := dk_3 (dk_at dksL_law_25 19 rfl rfl)
theorem dL_law_677 : decode cL_law 677 = .ok (.laload, 1) := dk_47 (dk_at dksL_law_25 20 rfl rfl)
theorem dL_law_678 : decode cL_law 678 = .ok (.iload 6, 2) := dk_21 6 (dk_at dksL_law_25 21 rfl rfl)
theorem dL_law_680 : decode cL_law 680 = .ok (.ifCond .eq 7, 3) := dk_153 0 7 (dk_at dksL_law_26 0 rfl rfl)
theorem dL_law_683 : decode cL_law 683 = .ok (.lconst 1, 1) := dk_10 (dk_at dksL_law_26 3 rfl rfl)
theorem dL_law_684 : decode cL_law 684 = .ok (.goto 4, 3) := dk_167 0 4 (dk_at dksL_law_26 4 rfl rfl)
theorem dL_law_687 : decode cL_law 687 = .ok (.lconst 0, 1) := dk_9 (dk_at dksL_law_26 7 rfl rfl)
theorem dL_law_688 : decode cL_law 688 = .ok (.lcmp, 1) := dk_148 (dk_at dksL_law_26 8 rfl rfl)
theorem dL_law_689 : decode cL_law 689 = .ok (.ifCond .eq 5, 3) := dk_153 0 5 (dk_at dksL_law_26 9 rfl rfl)
theorem dL_law_692 : decode cL_law 692 = .ok (.iconst 0, 1) := dk_3 (dk_at dksL_law_26 12 rfl rfl)
theorem dL_law_693 : decode cL_law 693 = .ok (.ireturn, 1) := dk_172 (dk_at dksL_law_26 13 rfl rfl)
theorem dL_law_694 : decode cL_law 694 = .ok (.goto 689, 3) := dk_167 2 177 (dk_at dksL_law_26 14 rfl rfl)
theorem dL_law_697 : decode cL_law 697 = .ok (.aload_n 1, 1) := dk_43 (dk_at dksL_law_26 17 rfl rfl)
theorem dL_law_698 : decode cL_law 698 = .ok (.aload_n 0, 1) := dk_42 (dk_at dksL_law_26 18 rfl rfl)
theorem dL_law_699 : decode cL_law 699 = .ok (.iload 4, 2) := dk_21 4 (dk_at dksL_law_26 19 rfl rfl)
theorem dL_law_701 : decode cL_law 701 = .ok (.iconst 1, 1) := dk_4 (dk_at dksL_law_26 21 rfl rfl)
theorem dL_law_702 : decode cL_law 702 = .ok (.iadd, 1) := dk_96 (dk_at dksL_law_26 22 rfl rfl)
theorem dL_law_703 : decode cL_law 703 = .ok (.iaload, 1) := dk_46 (dk_at dksL_law_26 23 rfl rfl)
theorem dL_law_704 : decode cL_law 704 = .ok (.aload_n 0, 1) := dk_42 (dk_at dksL_law_27 0 rfl rfl)
theorem dL_law_705 : decode cL_law 705 = .ok (.iload 4, 2) := dk_21 4 (dk_at dksL_law_27 1 rfl rfl)
theorem dL_law_707 : decode cL_law 707 = .ok (.iconst 2, 1) := dk_5 (dk_at dksL_law_27 3 rfl rfl)
theorem dL_law_708 : decode cL_law 708 = .ok (.iadd, 1) := dk_96 (dk_at dksL_law_27 4 rfl rfl)
theorem dL_law_709 : decode cL_law 709 = .ok (.iaload, 1) := dk_46 (dk_at dksL_law_27 5 rfl rfl)
theorem dL_law_710 : decode cL_law 710 = .ok (.aload_n 3, 1) := dk_45 (dk_at dksL_law_27 6 rfl rfl)
theorem dL_law_711 : decode cL_law 711 = .ok (.invokestatic 111, 3) := dk_184 0 111 (dk_at dksL_law_27 7 rfl rfl)
theorem dL_law_714 : decode cL_law 714 = .ok (.istore 5, 2) := dk_54 5 (dk_at dksL_law_27 10 rfl rfl)
theorem dL_law_716 : decode cL_law 716 = .ok (.aload_n 2, 1) := dk_44 (dk_at dksL_law_27 12 rfl rfl)
theorem dL_law_717 : decode cL_law 717 = .ok (.aload_n 0, 1) := dk_42 (dk_at dksL_law_27 13 rfl rfl)
theorem dL_law_718 : decode cL_law 718 = .ok (.iload 4, 2) := dk_21 4 (dk_at dksL_law_27 14 rfl rfl)
theorem dL_law_720 : decode cL_law 720 = .ok (.iconst 1, 1) := dk_4 (dk_at dksL_law_27 16 rfl rfl)
theorem dL_law_721 : decode cL_law 721 = .ok (.iadd, 1) := dk_96 (dk_at dksL_law_27 17 rfl rfl)
theorem dL_law_722 : decode cL_law 722 = .ok (.iaload, 1) := dk_46 (dk_at dksL_law_27 18 rfl rfl)
theorem dL_law_723 : decode cL_law 723 = .ok (.aload_n 0, 1) := dk_42 (dk_at dksL_law_27 19 rfl rfl)
theorem dL_law_724 : decode cL_law 724 = .ok (.iload 4, 2) := dk_21 4 (dk_at dksL_law_27 20 rfl rfl)
theorem dL_law_726 : decode cL_law 726 = .ok (.iconst 2, 1) := dk_5 (dk_at dksL_law_27 22 rfl rfl)
theorem dL_law_727 : decode cL_law 727 = .ok (.iadd, 1) := dk_96 (dk_at dksL_law_27 23 rfl rfl)
theorem dL_law_728 : decode cL_law 728 = .ok (.iaload, 1) := dk_46 (dk_at dksL_law_28 0 rfl rfl)
theorem dL_law_729 : decode cL_law 729 = .ok (.invokevirtual 113, 3) := dk_182 0 113 (dk_at dksL_law_28 1 rfl rfl)
theorem dL_law_732 : decode cL_law 732 = .ok (.istore 6, 2) := dk_54 6 (dk_at dksL_law_28 4 rfl rfl)
theorem dL_law_734 : decode cL_law 734 = .ok (.aload_n 2, 1) := dk_44 (dk_at dksL_law_28 6 rfl rfl)
theorem dL_law_735 : decode cL_law 735 = .ok (.invokevirtual 78, 3) := dk_182 0 78 (dk_at dksL_law_28 7 rfl rfl)
theorem dL_law_738 : decode cL_law 738 = .ok (.iload 5, 2) := dk_21 5 (dk_at dksL_law_28 10 rfl rfl)
theorem dL_law_740 : decode cL_law 740 = .ok (.if_icmp .eq 5, 3) := dk_159 0 5 (dk_at dksL_law_28 12 rfl rfl)
theorem dL_law_743 : decode cL_law 743 = .ok (.iconst 0, 1) := dk_3 (dk_at dksL_law_28 15 rfl rfl)
theorem dL_law_744 : decode cL_law 744 = .ok (.ireturn, 1) := dk_172 (dk_at dksL_law_28 16 rfl rfl)
theorem dL_law_745 : decode cL_law 745 = .ok (.iload 5, 2) := dk_21 5 (dk_at dksL_law_28 17 rfl rfl)
theorem dL_law_747 : decode cL_law 747 = .ok (.ifCond .ne 15, 3) := dk_154 0 15 (dk_at dksL_law_28 19 rfl rfl)
theorem dL_law_750 : decode cL_law 750 = .ok (.aload_n 3, 1) := dk_45 (dk_at dksL_law_28 22 rfl rfl)
theorem dL_law_751 : decode cL_law 751 = .ok (.iconst 0, 1) := dk_3 (dk_at dksL_law_28 23 rfl rfl)
theorem dL_law_752 : decode cL_law 752 = .ok (.laload, 1) := dk_47 (dk_at dksL_law_29 0 rfl rfl)
theorem dL_law_753 : decode cL_law 753 = .ok (.iload 6, 2) := dk_21 6 (dk_at dksL_law_29 1 rfl rfl)
theorem dL_law_755 : decode cL_law 755 = .ok (.i2l, 1) := dk_133 (dk_at dksL_law_29 3 rfl rfl)
theorem dL_law_756 : decode cL_law 756 = .ok (.lcmp, 1) := dk_148 (dk_at dksL_law_29 4 rfl rfl)
theorem dL_law_757 : decode cL_law 757 = .ok (.ifCond .eq 5, 3) := dk_153 0 5 (dk_at dksL_law_29 5 rfl rfl)
theorem dL_law_760 : decode cL_law 760 = .ok (.iconst 0, 1) := dk_3 (dk_at dksL_law_29 8 rfl rfl)
theorem dL_law_761 : decode cL_law 761 = .ok (.ireturn, 1) := dk_172 (dk_at dksL_law_29 9 rfl rfl)
theorem dL_law_762 : decode cL_law 762 = .ok (.goto 621, 3) := dk_167 2 109 (dk_at dksL_law_29 10 rfl rfl)
theorem dL_law_765 : decode cL_law 765 = .ok (.aload_n 1, 1) := dk_43 (dk_at dksL_law_29 13 rfl rfl)
theorem dL_law_766 : decode cL_law 766 = .ok (.aload_n 0, 1) := dk_42 (dk_at dksL_law_29 14 rfl rfl)
theorem dL_law_767 : decode cL_law 767 = .ok (.iload 4, 2) := dk_21 4 (dk_at dksL_law_29 15 rfl rfl)
theorem dL_law_769 : decode cL_law 769 = .ok (.iconst 1, 1) := dk_4 (dk_at dksL_law_29 17 rfl rfl)
theorem dL_law_770 : decode cL_law 770 = .ok (.iadd, 1) := dk_96 (dk_at dksL_law_29 18 rfl rfl)
theorem dL_law_771 : decode cL_law 771 = .ok (.iaload, 1) := dk_46 (dk_at dksL_law_29 19 rfl rfl)
theorem dL_law_772 : decode cL_law 772 = .ok (.aload_n 3, 1) := dk_45 (dk_at dksL_law_29 20 rfl rfl)
theorem dL_law_773 : decode cL_law 773 = .ok (.invokestatic 114, 3) := dk_184 0 114 (dk_at dksL_law_29 21 rfl rfl)
theorem dL_law_776 : decode cL_law 776 = .ok (.istore 5, 2) := dk_54 5 (dk_at dksL_law_30 0 rfl rfl)
theorem dL_law_778 : decode cL_law 778 = .ok (.aload_n 2, 1) := dk_44 (dk_at dksL_law_30 2 rfl rfl)
theorem dL_law_779 : decode cL_law 779 = .ok (.aload_n 0, 1) := dk_42 (dk_at dksL_law_30 3 rfl rfl)
theorem dL_law_780 : decode cL_law 780 = .ok (.iload 4, 2) := dk_21 4 (dk_at dksL_law_30 4 rfl rfl)
theorem dL_law_782 : decode cL_law 782 = .ok (.iconst 1, 1) := dk_4 (dk_at dksL_law_30 6 rfl rfl)
theorem dL_law_783 : decode cL_law 783 = .ok (.iadd, 1) := dk_96 (dk_at dksL_law_30 7 rfl rfl)
theorem dL_law_784 : decode cL_law 784 = .ok (.iaload, 1) := dk_46 (dk_at dksL_law_30 8 rfl rfl)
theorem dL_law_785 : decode cL_law 785 = .ok (.invokevirtual 116, 3) := dk_182 0 116 (dk_at dksL_law_30 9 rfl rfl)
theorem dL_law_788 : decode cL_law 788 = .ok (.istore 6, 2) := dk_54 6 (dk_at dksL_law_30 12 rfl rfl)
theorem dL_law_790 : decode cL_law 790 = .ok (.aload_n 2, 1) := dk_44 (dk_at dksL_law_30 14 rfl rfl)
theorem dL_law_791 : decode cL_law 791 = .ok (.invokevirtual 78, 3) := dk_182 0 78 (dk_at dksL_law_30 15 rfl rfl)
theorem dL_law_794 : decode cL_law 794 = .ok (.iload 5, 2) := dk_21 5 (dk_at dksL_law_30 18 rfl rfl)
theorem dL_law_796 : decode cL_law 796 = .ok (.if_icmp .eq 5, 3) := dk_159 0 5 (dk_at dksL_law_30 20 rfl rfl)
theorem dL_law_799 : decode cL_law 799 = .ok (.iconst 0, 1) := dk_3 (dk_at dksL_law_30 23 rfl rfl)
theorem dL_law_800 : decode cL_law 800 = .ok (.ireturn, 1) := dk_172 (dk_at dksL_law_31 0 rfl rfl)
theorem dL_law_801 : decode cL_law 801 = .ok (.iload 5, 2) := dk_21 5 (dk_at dksL_law_31 1 rfl rfl)
theorem dL_law_803 : decode cL_law 803 = .ok (.ifCond .ne 15, 3) := dk_154 0 15 (dk_at dksL_law_31 3 rfl rfl)
theorem dL_law_806 : decode cL_law 806 = .ok (.aload_n 3, 1) := dk_45 (dk_at dksL_law_31 6 rfl rfl)
theorem dL_law_807 : decode cL_law 807 = .ok (.iconst 0, 1) := dk_3 (dk_at dksL_law_31 7 rfl rfl)
theorem dL_law_808 : decode cL_law 808 = .ok (.laload, 1) := dk_47 (dk_at dksL_law_31 8 rfl rfl)
theorem dL_law_809 : decode cL_law 809 = .ok (.iload 6, 2) := dk_21 6 (dk_at dksL_law_31 9 rfl rfl)
theorem dL_law_811 : decode cL_law 811 = .ok (.i2l, 1) := dk_133 (dk_at dksL_law_31 11 rfl rfl)
theorem dL_law_812 : decode cL_law 812 = .ok (.lcmp, 1) := dk_148 (dk_at dksL_law_31 12 rfl rfl)
theorem dL_law_813 : decode cL_law 813 = .ok (.ifCond .eq 5, 3) := dk_153 0 5 (dk_at dksL_law_31 13 rfl rfl)
theorem dL_law_816 : decode cL_law 816 = .ok (.iconst 0, 1) := dk_3 (dk_at dksL_law_31 16 rfl rfl)
theorem dL_law_817 : decode cL_law 817 = .ok (.ireturn, 1) := dk_172 (dk_at dksL_law_31 17 rfl rfl)
theorem dL_law_818 : decode cL_law 818 = .ok (.goto 565, 3) := dk_167 2 53 (dk_at dksL_law_31 18 rfl rfl)
theorem dL_law_821 : decode cL_law 821 = .ok (.aload_n 1, 1) := dk_43 (dk_at dksL_law_31 21 rfl rfl)
theorem dL_law_822 : decode cL_law 822 = .ok (.aload_n 0, 1) := dk_42 (dk_at dksL_law_31 22 rfl rfl)
theorem dL_law_823 : decode cL_law 823 = .ok (.iload 4, 2) := dk_21 4 (dk_at dksL_law_32 0 rfl rfl)
theorem dL_law_825 : decode cL_law 825 = .ok (.iconst 1, 1) := dk_4 (dk_at dksL_law_32 2 rfl rfl)
theorem dL_law_826 : decode cL_law 826 = .ok (.iadd, 1) := dk_96 (dk_at dksL_law_32 3 rfl rfl)
theorem dL_law_827 : decode cL_law 827 = .ok (.iaload, 1) := dk_46 (dk_at dksL_law_32 4 rfl rfl)
theorem dL_law_828 : decode cL_law 828 = .ok (.aload_n 3, 1) := dk_45 (dk_at dksL_law_32 5 rfl rfl)
theorem dL_law_829 : decode cL_law 829 = .ok (.invokestatic 117, 3) := dk_184 0 117 (dk_at dksL_law_32 6 rfl rfl)
theorem dL_law_832 : decode cL_law 832 = .ok (.istore 5, 2) := dk_54 5 (dk_at dksL_law_32 9 rfl rfl)
theorem dL_law_834 : decode cL_law 834 = .ok (.aload_n 2, 1) := dk_44 (dk_at dksL_law_32 11 rfl rfl)
theorem dL_law_835 : decode cL_law 835 = .ok (.aload_n 0, 1) := dk_42 (dk_at dksL_law_32 12 rfl rfl)
theorem dL_law_836 : decode cL_law 836 = .ok (.iload 4, 2) := dk_21 4 (dk_at dksL_law_32 13 rfl rfl)
theorem dL_law_838 : decode cL_law 838 = .ok (.iconst 1, 1) := dk_4 (dk_at dksL_law_32 15 rfl rfl)
theorem dL_law_839 : decode cL_law 839 = .ok (.iadd, 1) := dk_96 (dk_at dksL_law_32 16 rfl rfl)
theorem dL_law_840 : decode cL_law 840 = .ok (.iaload, 1) := dk_46 (dk_at dksL_law_32 17 rfl rfl)
theorem dL_law_841 : decode cL_law 841 = .ok (.invokevirtual 119, 3) := dk_182 0 119 (dk_at dksL_law_32 18 rfl rfl)
theorem dL_law_844 : decode cL_law 844 = .ok (.istore 6, 2) := dk_54 6 (dk_at dksL_law_32 21 rfl rfl)
theorem dL_law_846 : decode cL_law 846 = .ok (.aload_n 2, 1) := dk_44 (dk_at dksL_law_32 23 rfl rfl)
theorem dL_law_847 : decode cL_law 847 = .ok (.invokevirtual 78, 3) := dk_182 0 78 (dk_at dksL_law_33 0 rfl rfl)
theorem dL_law_850 : decode cL_law 850 = .ok (.iload 5, 2) := dk_21 5 (dk_at dksL_law_33 3 rfl rfl)
theorem dL_law_852 : decode cL_law 852 = .ok (.if_icmp .eq 5, 3) := dk_159 0 5 (dk_at dksL_law_33 5 rfl rfl)
theorem dL_law_855 : decode cL_law 855 = .ok (.iconst 0, 1) := dk_3 (dk_at dksL_law_33 8 rfl rfl)
theorem dL_law_856 : decode cL_law 856 = .ok (.ireturn, 1) := dk_172 (dk_at dksL_law_33 9 rfl rfl)
theorem dL_law_857 : decode cL_law 857 = .ok (.iload 5, 2) := dk_21 5 (dk_at dksL_law_33 10 rfl rfl)
theorem dL_law_859 : decode cL_law 859 = .ok (.ifCond .ne 15, 3) := dk_154 0 15 (dk_at dksL_law_33 12 rfl rfl)
theorem dL_law_862 : decode cL_law 862 = .ok (.aload_n 3, 1) := dk_45 (dk_at dksL_law_33 15 rfl rfl)
theorem dL_law_863 : decode cL_law 863 = .ok (.iconst 0, 1) := dk_3 (dk_at dksL_law_33 16 rfl rfl)
theorem dL_law_864 : decode cL_law 864 = .ok (.laload, 1) := dk_47 (dk_at dksL_law_33 17 rfl rfl)
theorem dL_law_865 : decode cL_law 865 = .ok (.iload 6, 2) := dk_21 6 (dk_at dksL_law_33 18 rfl rfl)
theorem dL_law_867 : decode cL_law 867 = .ok (.i2l, 1) := dk_133 (dk_at dksL_law_33 20 rfl rfl)
theorem dL_law_868 : decode cL_law 868 = .ok (.lcmp, 1) := dk_148 (dk_at dksL_law_33 21 rfl rfl)
theorem dL_law_869 : decode cL_law 869 = .ok (.ifCond .eq 5, 3) := dk_153 0 5 (dk_at dksL_law_34 0 rfl rfl)
theorem dL_law_872 : decode cL_law 872 = .ok (.iconst 0, 1) := dk_3 (dk_at dksL_law_34 3 rfl rfl)
theorem dL_law_873 : decode cL_law 873 = .ok (.ireturn, 1) := dk_172 (dk_at dksL_law_34 4 rfl rfl)
theorem dL_law_874 : decode cL_law 874 = .ok (.goto 509, 3) := dk_167 1 253 (dk_at dksL_law_34 5 rfl rfl)
theorem dL_law_877 : decode cL_law 877 = .ok (.aload_n 1, 1) := dk_43 (dk_at dksL_law_34 8 rfl rfl)
theorem dL_law_878 : decode cL_law 878 = .ok (.aload_n 0, 1) := dk_42 (dk_at dksL_law_34 9 rfl rfl)
theorem dL_law_879 : decode cL_law 879 = .ok (.iload 4, 2) := dk_21 4 (dk_at dksL_law_34 10 rfl rfl)
theorem dL_law_881 : decode cL_law 881 = .ok (.iconst 1, 1) := dk_4 (dk_at dksL_law_34 12 rfl rfl)
theorem dL_law_882 : decode cL_law 882 = .ok (.iadd, 1) := dk_96 (dk_at dksL_law_34 13 rfl rfl)
theorem dL_law_883 : decode cL_law 883 = .ok (.iaload, 1) := dk_46 (dk_at dksL_law_34 14 rfl rfl)
theorem dL_law_884 : decode cL_law 884 = .ok (.aload_n 3, 1) := dk_45 (dk_at dksL_law_34 15 rfl rfl)
theorem dL_law_885 : decode cL_law 885 = .ok (.invokestatic 120, 3) := dk_184 0 120 (dk_at dksL_law_34 16 rfl rfl)
theorem dL_law_888 : decode cL_law 888 = .ok (.istore 5, 2) := dk_54 5 (dk_at dksL_law_34 19 rfl rfl)
theorem dL_law_890 : decode cL_law 890 = .ok (.aload_n 2, 1) := dk_44 (dk_at dksL_law_34 21 rfl rfl)
theorem dL_law_891 : decode cL_law 891 = .ok (.aload_n 0, 1) := dk_42 (dk_at dksL_law_34 22 rfl rfl)
theorem dL_law_892 : decode cL_law 892 = .ok (.iload 4, 2) := dk_21 4 (dk_at dksL_law_35 0 rfl rfl)
theorem dL_law_894 : decode cL_law 894 = .ok (.iconst 1, 1) := dk_4 (dk_at dksL_law_35 2 rfl rfl)
theorem dL_law_895 : decode cL_law 895 = .ok (.iadd, 1) := dk_96 (dk_at dksL_law_35 3 rfl rfl)
theorem dL_law_896 : decode cL_law 896 = .ok (.iaload, 1) := dk_46 (dk_at dksL_law_35 4 rfl rfl)
theorem dL_law_897 : decode cL_law 897 = .ok (.invokevirtual 122, 3) := dk_182 0 122 (dk_at dksL_law_35 5 rfl rfl)
theorem dL_law_900 : decode cL_law 900 = .ok (.istore 6, 2) := dk_54 6 (dk_at dksL_law_35 8 rfl rfl)
theorem dL_law_902 : decode cL_law 902 = .ok (.aload_n 2, 1) := dk_44 (dk_at dksL_law_35 10 rfl rfl)
theorem dL_law_903 : decode cL_law 903 = .ok (.invokevirtual 78, 3) := dk_182 0 78 (dk_at dksL_law_35 11 rfl rfl)
theorem dL_law_906 : decode cL_law 906 = .ok (.iload 5, 2) := dk_21 5 (dk_at dksL_law_35 14 rfl rfl)
theorem dL_law_908 : decode cL_law 908 = .ok (.if_icmp .eq 5, 3) := dk_159 0 5 (dk_at dksL_law_35 16 rfl rfl)
theorem dL_law_911 : decode cL_law 911 = .ok (.iconst 0, 1) := dk_3 (dk_at dksL_law_35 19 rfl rfl)
theorem dL_law_912 : decode cL_law 912 = .ok (.ireturn, 1) := dk_172 (dk_at dksL_law_35 20 rfl rfl)
theorem dL_law_913 : decode cL_law 913 = .ok (.iload 5, 2) := dk_21 5 (dk_at dksL_law_35 21 rfl rfl)
theorem dL_law_915 : decode cL_law 915 = .ok (.ifCond .ne 15, 3) := dk_154 0 15 (dk_at dksL_law_36 0 rfl rfl)
theorem dL_law_918 : decode cL_law 918 = .ok (.aload_n 3, 1) := dk_45 (dk_at dksL_law_36 3 rfl rfl)
theorem dL_law_919 : decode cL_law 919 = .ok (.iconst 0, 1) := dk_3 (dk_at dksL_law_36 4 rfl rfl)
theorem dL_law_920 : decode cL_law 920 = .ok (.laload, 1) := dk_47 (dk_at dksL_law_36 5 rfl rfl)
theorem dL_law_921 : decode cL_law 921 = .ok (.iload 6, 2) := dk_21 6 (dk_at dksL_law_36 6 rfl rfl)
theorem dL_law_923 : decode cL_law 923 = .ok (.i2l, 1) := dk_133 (dk_at dksL_law_36 8 rfl rfl)
theorem dL_law_924 : decode cL_law 924 = .ok (.lcmp, 1) := dk_148 (dk_at dksL_law_36 9 rfl rfl)
theorem dL_law_925 : decode cL_law 925 = .ok (.ifCond .eq 5, 3) := dk_153 0 5 (dk_at dksL_law_36 10 rfl rfl)
theorem dL_law_928 : decode cL_law 928 = .ok (.iconst 0, 1) := dk_3 (dk_at dksL_law_36 13 rfl rfl)
theorem dL_law_929 : decode cL_law 929 = .ok (.ireturn, 1) := dk_172 (dk_at dksL_law_36 14 rfl rfl)
theorem dL_law_930 : decode cL_law 930 = .ok (.goto 453, 3) := dk_167 1 197 (dk_at dksL_law_36 15 rfl rfl)
theorem dL_law_933 : decode cL_law 933 = .ok (.aload_n 1, 1) := dk_43 (dk_at dksL_law_36 18 rfl rfl)
theorem dL_law_934 : decode cL_law 934 = .ok (.invokevirtual 123, 3) := dk_182 0 123 (dk_at dksL_law_36 19 rfl rfl)
theorem dL_law_937 : decode cL_law 937 = .ok (.aload_n 2, 1) := dk_44 (dk_at dksL_law_36 22 rfl rfl)
theorem dL_law_938 : decode cL_law 938 = .ok (.invokevirtual 126, 3) := dk_182 0 126 (dk_at dksL_law_37 0 rfl rfl)
theorem dL_law_941 : decode cL_law 941 = .ok (.if_icmp .eq 442, 3) := dk_159 1 186 (dk_at dksL_law_37 3 rfl rfl)
theorem dL_law_944 : decode cL_law 944 = .ok (.iconst 0, 1) := dk_3 (dk_at dksL_law_37 6 rfl rfl)
theorem dL_law_945 : decode cL_law 945 = .ok (.ireturn, 1) := dk_172 (dk_at dksL_law_37 7 rfl rfl)
theorem dL_law_946 : decode cL_law 946 = .ok (.aload_n 1, 1) := dk_43 (dk_at dksL_law_37 8 rfl rfl)
theorem dL_law_947 : decode cL_law 947 = .ok (.invokevirtual 127, 3) := dk_182 0 127 (dk_at dksL_law_37 9 rfl rfl)
theorem dL_law_950 : decode cL_law 950 = .ok (.aload_n 2, 1) := dk_44 (dk_at dksL_law_37 12 rfl rfl)
theorem dL_law_951 : decode cL_law 951 = .ok (.invokevirtual 130, 3) := dk_182 0 130 (dk_at dksL_law_37 13 rfl rfl)
theorem dL_law_954 : decode cL_law 954 = .ok (.if_icmp .eq 429, 3) := dk_159 1 173 (dk_at dksL_law_37 16 rfl rfl)
theorem dL_law_957 : decode cL_law 957 = .ok (.iconst 0, 1) := dk_3 (dk_at dksL_law_37 19 rfl rfl)
theorem dL_law_958 : decode cL_law 958 = .ok (.ireturn, 1) := dk_172 (dk_at dksL_law_37 20 rfl rfl)
theorem dL_law_959 : decode cL_law 959 = .ok (.aload_n 1, 1) := dk_43 (dk_at dksL_law_37 21 rfl rfl)
theorem dL_law_960 : decode cL_law 960 = .ok (.aload_n 0, 1) := dk_42 (dk_at dksL_law_37 22 rfl rfl)
theorem dL_law_961 : decode cL_law 961 = .ok (.iload 4, 2) := dk_21 4 (dk_at dksL_law_38 0 rfl rfl)
theorem dL_law_963 : decode cL_law 963 = .ok (.iconst 1, 1) := dk_4 (dk_at dksL_law_38 2 rfl rfl)
theorem dL_law_964 : decode cL_law 964 = .ok (.iadd, 1) := dk_96 (dk_at dksL_law_38 3 rfl rfl)
theorem dL_law_965 : decode cL_law 965 = .ok (.iaload, 1) := dk_46 (dk_at dksL_law_38 4 rfl rfl)
theorem dL_law_966 : decode cL_law 966 = .ok (.aload_n 0, 1) := dk_42 (dk_at dksL_law_38 5 rfl rfl)
theorem dL_law_967 : decode cL_law 967 = .ok (.iload 4, 2) := dk_21 4 (dk_at dksL_law_38 6 rfl rfl)
theorem dL_law_969 : decode cL_law 969 = .ok (.iconst 2, 1) := dk_5 (dk_at dksL_law_38 8 rfl rfl)
theorem dL_law_970 : decode cL_law 970 = .ok (.iadd, 1) := dk_96 (dk_at dksL_law_38 9 rfl rfl)
theorem dL_law_971 : decode cL_law 971 = .ok (.iaload, 1) := dk_46 (dk_at dksL_law_38 10 rfl rfl)
theorem dL_law_972 : decode cL_law 972 = .ok (.aload_n 3, 1) := dk_45 (dk_at dksL_law_38 11 rfl rfl)
theorem dL_law_973 : decode cL_law 973 = .ok (.invokestatic 131, 3) := dk_184 0 131 (dk_at dksL_law_38 12 rfl rfl)
theorem dL_law_976 : decode cL_law 976 = .ok (.istore 5, 2) := dk_54 5 (dk_at dksL_law_38 15 rfl rfl)
theorem dL_law_978 : decode cL_law 978 = .ok (.aload_n 2, 1) := dk_44 (dk_at dksL_law_38 17 rfl rfl)
theorem dL_law_979 : decode cL_law 979 = .ok (.aload_n 0, 1) := dk_42 (dk_at dksL_law_38 18 rfl rfl)
theorem dL_law_980 : decode cL_law 980 = .ok (.iload 4, 2) := dk_21 4 (dk_at dksL_law_38 19 rfl rfl)
theorem dL_law_982 : decode cL_law 982 = .ok (.iconst 1, 1) := dk_4 (dk_at dksL_law_38 21 rfl rfl)
theorem dL_law_983 : decode cL_law 983 = .ok (.iadd, 1) := dk_96 (dk_at dksL_law_38 22 rfl rfl)
theorem dL_law_984 : decode cL_law 984 = .ok (.iaload, 1) := dk_46 (dk_at dksL_law_38 23 rfl rfl)
theorem dL_law_985 : decode cL_law 985 = .ok (.aload_n 0, 1) := dk_42 (dk_at dksL_law_39 0 rfl rfl)
theorem dL_law_986 : decode cL_law 986 = .ok (.iload 4, 2) := dk_21 4 (dk_at dksL_law_39 1 rfl rfl)
theorem dL_law_988 : decode cL_law 988 = .ok (.iconst 2, 1) := dk_5 (dk_at dksL_law_39 3 rfl rfl)
theorem dL_law_989 : decode cL_law 989 = .ok (.iadd, 1) := dk_96 (dk_at dksL_law_39 4 rfl rfl)
theorem dL_law_990 : decode cL_law 990 = .ok (.iaload, 1) := dk_46 (dk_at dksL_law_39 5 rfl rfl)
theorem dL_law_991 : decode cL_law 991 = .ok (.invokevirtual 133, 3) := dk_182 0 133 (dk_at dksL_law_39 6 rfl rfl)
theorem dL_law_994 : decode cL_law 994 = .ok (.istore 6, 2) := dk_54 6 (dk_at dksL_law_39 9 rfl rfl)
theorem dL_law_996 : decode cL_law 996 = .ok (.aload_n 2, 1) := dk_44 (dk_at dksL_law_39 11 rfl rfl)
theorem dL_law_997 : decode cL_law 997 = .ok (.invokevirtual 78, 3) := dk_182 0 78 (dk_at dksL_law_39 12 rfl rfl)
theorem dL_law_1000 : decode cL_law 1000 = .ok (.iload 5, 2) := dk_21 5 (dk_at dksL_law_39 15 rfl rfl)
theorem dL_law_1002 : decode cL_law 1002 = .ok (.if_icmp .eq 5, 3) := dk_159 0 5 (dk_at dksL_law_39 17 rfl rfl)
theorem dL_law_1005 : decode cL_law 1005 = .ok (.iconst 0, 1) := dk_3 (dk_at dksL_law_39 20 rfl rfl)
theorem dL_law_1006 : decode cL_law 1006 = .ok (.ireturn, 1) := dk_172 (dk_at dksL_law_39 21 rfl rfl)
theorem dL_law_1007 : decode cL_law 1007 = .ok (.iload 5, 2) := dk_21 5 (dk_at dksL_law_39 22 rfl rfl)
theorem dL_law_1009 : decode cL_law 1009 = .ok (.ifCond .ne 15, 3) := dk_154 0 15 (dk_at dksL_law_40 0 rfl rfl)
theorem dL_law_1012 : decode cL_law 1012 = .ok (.aload_n 3, 1) := dk_45 (dk_at dksL_law_40 3 rfl rfl)
theorem dL_law_1013 : decode cL_law 1013 = .ok (.iconst 0, 1) := dk_3 (dk_at dksL_law_40 4 rfl rfl)
theorem dL_law_1014 : decode cL_law 1014 = .ok (.laload, 1) := dk_47 (dk_at dksL_law_40 5 rfl rfl)
theorem dL_law_1015 : decode cL_law 1015 = .ok (.iload 6, 2) := dk_21 6 (dk_at dksL_law_40 6 rfl rfl)
theorem dL_law_1017 : decode cL_law 1017 = .ok (.i2l, 1) := dk_133 (dk_at dksL_law_40 8 rfl rfl)
theorem dL_law_1018 : decode cL_law 1018 = .ok (.lcmp, 1) := dk_148 (dk_at dksL_law_40 9 rfl rfl)
theorem dL_law_1019 : decode cL_law 1019 = .ok (.ifCond .eq 5, 3) := dk_153 0 5 (dk_at dksL_law_40 10 rfl rfl)
theorem dL_law_1022 : decode cL_law 1022 = .ok (.iconst 0, 1) := dk_3 (dk_at dksL_law_40 13 rfl rfl)
theorem dL_law_1023 : decode cL_law 1023 = .ok (.ireturn, 1) := dk_172 (dk_at dksL_law_40 14 rfl rfl)
theorem dL_law_1024 : decode cL_law 1024 = .ok (.goto 359, 3) := dk_167 1 103 (dk_at dksL_law_40 15 rfl rfl)
theorem dL_law_1027 : decode cL_law 1027 = .ok (.aload_n 1, 1) := dk_43 (dk_at dksL_law_40 18 rfl rfl)
theorem dL_law_1028 : decode cL_law 1028 = .ok (.aload_n 0, 1) := dk_42 (dk_at dksL_law_40 19 rfl rfl)
theorem dL_law_1029 : decode cL_law 1029 = .ok (.iload 4, 2) := dk_21 4 (dk_at dksL_law_40 20 rfl rfl)
theorem dL_law_1031 : decode cL_law 1031 = .ok (.iconst 1, 1) := dk_4 (dk_at dksL_law_40 22 rfl rfl)
theorem dL_law_1032 : decode cL_law 1032 = .ok (.iadd, 1) := dk_96 (dk_at dksL_law_40 23 rfl rfl)
theorem dL_law_1033 : decode cL_law 1033 = .ok (.iaload, 1) := dk_46 (dk_at dksL_law_41 0 rfl rfl)
theorem dL_law_1034 : decode cL_law 1034 = .ok (.aload_n 0, 1) := dk_42 (dk_at dksL_law_41 1 rfl rfl)
theorem dL_law_1035 : decode cL_law 1035 = .ok (.iload 4, 2) := dk_21 4 (dk_at dksL_law_41 2 rfl rfl)
theorem dL_law_1037 : decode cL_law 1037 = .ok (.iconst 2, 1) := dk_5 (dk_at dksL_law_41 4 rfl rfl)
theorem dL_law_1038 : decode cL_law 1038 = .ok (.iadd, 1) := dk_96 (dk_at dksL_law_41 5 rfl rfl)
theorem dL_law_1039 : decode cL_law 1039 = .ok (.iaload, 1) := dk_46 (dk_at dksL_law_41 6 rfl rfl)
theorem dL_law_1040 : decode cL_law 1040 = .ok (.aload_n 3, 1) := dk_45 (dk_at dksL_law_41 7 rfl rfl)
theorem dL_law_1041 : decode cL_law 1041 = .ok (.invokestatic 134, 3) := dk_184 0 134 (dk_at dksL_law_41 8 rfl rfl)
theorem dL_law_1044 : decode cL_law 1044 = .ok (.istore 5, 2) := dk_54 5 (dk_at dksL_law_41 11 rfl rfl)
theorem dL_law_1046 : decode cL_law 1046 = .ok (.aload_n 2, 1) := dk_44 (dk_at dksL_law_41 13 rfl rfl)
theorem dL_law_1047 : decode cL_law 1047 = .ok (.aload_n 0, 1) := dk_42 (dk_at dksL_law_41 14 rfl rfl)
theorem dL_law_1048 : decode cL_law 1048 = .ok (.iload 4, 2) := dk_21 4 (dk_at dksL_law_41 15 rfl rfl)
theorem dL_law_1050 : decode cL_law 1050 = .ok (.iconst 1, 1) := dk_4 (dk_at dksL_law_41 17 rfl rfl)
theorem dL_law_1051 : decode cL_law 1051 = .ok (.iadd, 1) := dk_96 (dk_at dksL_law_41 18 rfl rfl)
theorem dL_law_1052 : decode cL_law 1052 = .ok (.iaload, 1) := dk_46 (dk_at dksL_law_41 19 rfl rfl)
theorem dL_law_1053 : decode cL_law 1053 = .ok (.aload_n 0, 1) := dk_42 (dk_at dksL_law_41 20 rfl rfl)
theorem dL_law_1054 : decode cL_law 1054 = .ok (.iload 4, 2) := dk_21 4 (dk_at dksL_law_41 21 rfl rfl)
theorem dL_law_1056 : decode cL_law 1056 = .ok (.iconst 2, 1) := dk_5 (dk_at dksL_law_41 23 rfl rfl)
theorem dL_law_1057 : decode cL_law 1057 = .ok (.iadd, 1) := dk_96 (dk_at dksL_law_42 0 rfl rfl)
theorem dL_law_1058 : decode cL_law 1058 = .ok (.iaload, 1) := dk_46 (dk_at dksL_law_42 1 rfl rfl)
theorem dL_law_1059 : decode cL_law 1059 = .ok (.invokevirtual 136, 3) := dk_182 0 136 (dk_at dksL_law_42 2 rfl rfl)
theorem dL_law_1062 : decode cL_law 1062 = .ok (.istore 6, 2) := dk_54 6 (dk_at dksL_law_42 5 rfl rfl)
theorem dL_law_1064 : decode cL_law 1064 = .ok (.aload_n 2, 1) := dk_44 (dk_at dksL_law_42 7 rfl rfl)
theorem dL_law_1065 : decode cL_law 1065 = .ok (.invokevirtual 78, 3) := dk_182 0 78 (dk_at dksL_law_42 8 rfl rfl)
theorem dL_law_1068 : decode cL_law 1068 = .ok (.iload 5, 2) := dk_21 5 (dk_at dksL_law_42 11 rfl rfl)
theorem dL_law_1070 : decode cL_law 1070 = .ok (.if_icmp .eq 5, 3) := dk_159 0 5 (dk_at dksL_law_42 13 rfl rfl)
theorem dL_law_1073 : decode cL_law 1073 = .ok (.iconst 0, 1) := dk_3 (dk_at dksL_law_42 16 rfl rfl)
theorem dL_law_1074 : decode cL_law 1074 = .ok (.ireturn, 1) := dk_172 (dk_at dksL_law_42 17 rfl rfl)
theorem dL_law_1075 : decode cL_law 1075 = .ok (.iload 5, 2) := dk_21 5 (dk_at dksL_law_42 18 rfl rfl)
theorem dL_law_1077 : decode cL_law 1077 = .ok (.ifCond .ne 15, 3) := dk_154 0 15 (dk_at dksL_law_42 20 rfl rfl)
theorem dL_law_1080 : decode cL_law 1080 = .ok (.aload_n 3, 1) := dk_45 (dk_at dksL_law_42 23 rfl rfl)
theorem dL_law_1081 : decode cL_law 1081 = .ok (.iconst 0, 1) := dk_3 (dk_at dksL_law_43 0 rfl rfl)
theorem dL_law_1082 : decode cL_law 1082 = .ok (.laload, 1) := dk_47 (dk_at dksL_law_43 1 rfl rfl)
theorem dL_law_1083 : decode cL_law 1083 = .ok (.iload 6, 2) := dk_21 6 (dk_at dksL_law_43 2 rfl rfl)
theorem dL_law_1085 : decode cL_law 1085 = .ok (.i2l, 1) := dk_133 (dk_at dksL_law_43 4 rfl rfl)
theorem dL_law_1086 : decode cL_law 1086 = .ok (.lcmp, 1) := dk_148 (dk_at dksL_law_43 5 rfl rfl)
theorem dL_law_1087 : decode cL_law 1087 = .ok (.ifCond .eq 5, 3) := dk_153 0 5 (dk_at dksL_law_43 6 rfl rfl)
theorem dL_law_1090 : decode cL_law 1090 = .ok (.iconst 0, 1) := dk_3 (dk_at dksL_law_43 9 rfl rfl)
theorem dL_law_1091 : decode cL_law 1091 = .ok (.ireturn, 1) := dk_172 (dk_at dksL_law_43 10 rfl rfl)
theorem dL_law_1092 : decode cL_law 1092 = .ok (.goto 291, 3) := dk_167 1 35 (dk_at dksL_law_43 11 rfl rfl)
theorem dL_law_1095 : decode cL_law 1095 = .ok (.aload_n 1, 1) := dk_43 (dk_at dksL_law_43 14 rfl rfl)
theorem dL_law_1096 : decode cL_law 1096 = .ok (.aload_n 0, 1) := dk_42 (dk_at dksL_law_43 15 rfl rfl)
theorem dL_law_1097 : decode cL_law 1097 = .ok (.iload 4, 2) := dk_21 4 (dk_at dksL_law_43 16 rfl rfl)
theorem dL_law_1099 : decode cL_law 1099 = .ok (.iconst 1, 1) := dk_4 (dk_at dksL_law_43 18 rfl rfl)
theorem dL_law_1100 : decode cL_law 1100 = .ok (.iadd, 1) := dk_96 (dk_at dksL_law_43 19 rfl rfl)
theorem dL_law_1101 : decode cL_law 1101 = .ok (.iaload, 1) := dk_46 (dk_at dksL_law_43 20 rfl rfl)
theorem dL_law_1102 : decode cL_law 1102 = .ok (.aload_n 0, 1) := dk_42 (dk_at dksL_law_43 21 rfl rfl)
theorem dL_law_1103 : decode cL_law 1103 = .ok (.iload 4, 2) := dk_21 4 (dk_at dksL_law_43 22 rfl rfl)
theorem dL_law_1105 : decode cL_law 1105 = .ok (.iconst 2, 1) := dk_5 (dk_at dksL_law_44 0 rfl rfl)
theorem dL_law_1106 : decode cL_law 1106 = .ok (.iadd, 1) := dk_96 (dk_at dksL_law_44 1 rfl rfl)
theorem dL_law_1107 : decode cL_law 1107 = .ok (.iaload, 1) := dk_46 (dk_at dksL_law_44 2 rfl rfl)
theorem dL_law_1108 : decode cL_law 1108 = .ok (.aload_n 0, 1) := dk_42 (dk_at dksL_law_44 3 rfl rfl)
theorem dL_law_1109 : decode cL_law 1109 = .ok (.iload 4, 2) := dk_21 4 (dk_at dksL_law_44 4 rfl rfl)
theorem dL_law_1111 : decode cL_law 1111 = .ok (.iconst 3, 1) := dk_6 (dk_at dksL_law_44 6 rfl rfl)
theorem dL_law_1112 : decode cL_law 1112 = .ok (.iadd, 1) := dk_96 (dk_at dksL_law_44 7 rfl rfl)
theorem dL_law_1113 : decode cL_law 1113 = .ok (.iaload, 1) := dk_46 (dk_at dksL_law_44 8 rfl rfl)
theorem dL_law_1114 : decode cL_law 1114 = .ok (.ifCond .eq 7, 3) := dk_153 0 7 (dk_at dksL_law_44 9 rfl rfl)
theorem dL_law_1117 : decode cL_law 1117 = .ok (.iconst 1, 1) := dk_4 (dk_at dksL_law_44 12 rfl rfl)
theorem dL_law_1118 : decode cL_law 1118 = .ok (.goto 4, 3) := dk_167 0 4 (dk_at dksL_law_44 13 rfl rfl)
theorem dL_law_1121 : decode cL_law 1121 = .ok (.iconst 0, 1) := dk_3 (dk_at dksL_law_44 16 rfl rfl)
theorem dL_law_1122 : decode cL_law 1122 = .ok (.aload_n 3, 1) := dk_45 (dk_at dksL_law_44 17 rfl rfl)
theorem dL_law_1123 : decode cL_law 1123 = .ok (.invokestatic 137, 3) := dk_184 0 137 (dk_at dksL_law_44 18 rfl rfl)
theorem dL_law_1126 : decode cL_law 1126 = .ok (.istore 5, 2) := dk_54 5 (dk_at dksL_law_44 21 rfl rfl)
theorem dL_law_1128 : decode cL_law 1128 = .ok (.aload_n 2, 1) := dk_44 (dk_at dksL_law_44 23 rfl rfl)
theorem dL_law_1129 : decode cL_law 1129 = .ok (.aload_n 0, 1) := dk_42 (dk_at dksL_law_45 0 rfl rfl)
theorem dL_law_1130 : decode cL_law 1130 = .ok (.iload 4, 2) := dk_21 4 (dk_at dksL_law_45 1 rfl rfl)
theorem dL_law_1132 : decode cL_law 1132 = .ok (.iconst 1, 1) := dk_4 (dk_at dksL_law_45 3 rfl rfl)
theorem dL_law_1133 : decode cL_law 1133 = .ok (.iadd, 1) := dk_96 (dk_at dksL_law_45 4 rfl rfl)
theorem dL_law_1134 : decode cL_law 1134 = .ok (.iaload, 1) := dk_46 (dk_at dksL_law_45 5 rfl rfl)
theorem dL_law_1135 : decode cL_law 1135 = .ok (.aload_n 0, 1) := dk_42 (dk_at dksL_law_45 6 rfl rfl)
theorem dL_law_1136 : decode cL_law 1136 = .ok (.iload 4, 2) := dk_21 4 (dk_at dksL_law_45 7 rfl rfl)
theorem dL_law_1138 : decode cL_law 1138 = .ok (.iconst 2, 1) := dk_5 (dk_at dksL_law_45 9 rfl rfl)
theorem dL_law_1139 : decode cL_law 1139 = .ok (.iadd, 1) := dk_96 (dk_at dksL_law_45 10 rfl rfl)
theorem dL_law_1140 : decode cL_law 1140 = .ok (.iaload, 1) := dk_46 (dk_at dksL_law_45 11 rfl rfl)
theorem dL_law_1141 : decode cL_law 1141 = .ok (.aload_n 0, 1) := dk_42 (dk_at dksL_law_45 12 rfl rfl)
theorem dL_law_1142 : decode cL_law 1142 = .ok (.iload 4, 2) := dk_21 4 (dk_at dksL_law_45 13 rfl rfl)
theorem dL_law_1144 : decode cL_law 1144 = .ok (.iconst 3, 1) := dk_6 (dk_at dksL_law_45 15 rfl rfl)
theorem dL_law_1145 : decode cL_law 1145 = .ok (.iadd, 1) := dk_96 (dk_at dksL_law_45 16 rfl rfl)
theorem dL_law_1146 : decode cL_law 1146 = .ok (.iaload, 1) := dk_46 (dk_at dksL_law_45 17 rfl rfl)
theorem dL_law_1147 : decode cL_law 1147 = .ok (.ifCond .eq 7, 3) := dk_153 0 7 (dk_at dksL_law_45 18 rfl rfl)
theorem dL_law_1150 : decode cL_law 1150 = .ok (.iconst 1, 1) := dk_4 (dk_at dksL_law_45 21 rfl rfl)
theorem dL_law_1151 : decode cL_law 1151 = .ok (.goto 4, 3) := dk_167 0 4 (dk_at dksL_law_46 0 rfl rfl)
theorem dL_law_1154 : decode cL_law 1154 = .ok (.iconst 0, 1) := dk_3 (dk_at dksL_law_46 3 rfl rfl)
theorem dL_law_1155 : decode cL_law 1155 = .ok (.invokevirtual 139, 3) := dk_182 0 139 (dk_at dksL_law_46 4 rfl rfl)
theorem dL_law_1158 : decode cL_law 1158 = .ok (.istore 6, 2) := dk_54 6 (dk_at dksL_law_46 7 rfl rfl)
theorem dL_law_1160 : decode cL_law 1160 = .ok (.aload_n 2, 1) := dk_44 (dk_at dksL_law_46 9 rfl rfl)
theorem dL_law_1161 : decode cL_law 1161 = .ok (.invokevirtual 78, 3) := dk_182 0 78 (dk_at dksL_law_46 10 rfl rfl)
theorem dL_law_1164 : decode cL_law 1164 = .ok (.iload 5, 2) := dk_21 5 (dk_at dksL_law_46 13 rfl rfl)
theorem dL_law_1166 : decode cL_law 1166 = .ok (.if_icmp .eq 5, 3) := dk_159 0 5 (dk_at dksL_law_46 15 rfl rfl)
theorem dL_law_1169 : decode cL_law 1169 = .ok (.iconst 0, 1) := dk_3 (dk_at dksL_law_46 18 rfl rfl)
theorem dL_law_1170 : decode cL_law 1170 = .ok (.ireturn, 1) := dk_172 (dk_at dksL_law_46 19 rfl rfl)
theorem dL_law_1171 : decode cL_law 1171 = .ok (.iload 5, 2) := dk_21 5 (dk_at dksL_law_46 20 rfl rfl)
theorem dL_law_1173 : decode cL_law 1173 = .ok (.ifCond .ne 15, 3) := dk_154 0 15 (dk_at dksL_law_47 0 rfl rfl)
theorem dL_law_1176 : decode cL_law 1176 = .ok (.aload_n 3, 1) := dk_45 (dk_at dksL_law_47 3 rfl rfl)
theorem dL_law_1177 : decode cL_law 1177 = .ok (.iconst 0, 1) := dk_3 (dk_at dksL_law_47 4 rfl rfl)
theorem dL_law_1178 : decode cL_law 1178 = .ok (.laload, 1) := dk_47 (dk_at dksL_law_47 5 rfl rfl)
theorem dL_law_1179 : decode cL_law 1179 = .ok (.iload 6, 2) := dk_21 6 (dk_at dksL_law_47 6 rfl rfl)
theorem dL_law_1181 : decode cL_law 1181 = .ok (.i2l, 1) := dk_133 (dk_at dksL_law_47 8 rfl rfl)
theorem dL_law_1182 : decode cL_law 1182 = .ok (.lcmp, 1) := dk_148 (dk_at dksL_law_47 9 rfl rfl)
theorem dL_law_1183 : decode cL_law 1183 = .ok (.ifCond .eq 5, 3) := dk_153 0 5 (dk_at dksL_law_47 10 rfl rfl)
theorem dL_law_1186 : decode cL_law 1186 = .ok (.iconst 0, 1) := dk_3 (dk_at dksL_law_47 13 rfl rfl)
theorem dL_law_1187 : decode cL_law 1187 = .ok (.ireturn, 1) := dk_172 (dk_at dksL_law_47 14 rfl rfl)
theorem dL_law_1188 : decode cL_law 1188 = .ok (.goto 195, 3) := dk_167 0 195 (dk_at dksL_law_47 15 rfl rfl)
theorem dL_law_1191 : decode cL_law 1191 = .ok (.aload_n 1, 1) := dk_43 (dk_at dksL_law_47 18 rfl rfl)
theorem dL_law_1192 : decode cL_law 1192 = .ok (.invokevirtual 140, 3) := dk_182 0 140 (dk_at dksL_law_47 19 rfl rfl)
theorem dL_law_1195 : decode cL_law 1195 = .ok (.aload_n 2, 1) := dk_44 (dk_at dksL_law_47 22 rfl rfl)
theorem dL_law_1196 : decode cL_law 1196 = .ok (.invokevirtual 143, 3) := dk_182 0 143 (dk_at dksL_law_48 0 rfl rfl)
theorem dL_law_1199 : decode cL_law 1199 = .ok (.if_icmp .eq 184, 3) := dk_159 0 184 (dk_at dksL_law_48 3 rfl rfl)
theorem dL_law_1202 : decode cL_law 1202 = .ok (.iconst 0, 1) := dk_3 (dk_at dksL_law_48 6 rfl rfl)
theorem dL_law_1203 : decode cL_law 1203 = .ok (.ireturn, 1) := dk_172 (dk_at dksL_law_48 7 rfl rfl)
theorem dL_law_1204 : decode cL_law 1204 = .ok (.aload_n 1, 1) := dk_43 (dk_at dksL_law_48 8 rfl rfl)
theorem dL_law_1205 : decode cL_law 1205 = .ok (.aload_n 0, 1) := dk_42 (dk_at dksL_law_48 9 rfl rfl)
theorem dL_law_1206 : decode cL_law 1206 = .ok (.iload 4, 2) := dk_21 4 (dk_at dksL_law_48 10 rfl rfl)
theorem dL_law_1208 : decode cL_law 1208 = .ok (.iconst 1, 1) := dk_4 (dk_at dksL_law_48 12 rfl rfl)
theorem dL_law_1209 : decode cL_law 1209 = .ok (.iadd, 1) := dk_96 (dk_at dksL_law_48 13 rfl rfl)
theorem dL_law_1210 : decode cL_law 1210 = .ok (.iaload, 1) := dk_46 (dk_at dksL_law_48 14 rfl rfl)
theorem dL_law_1211 : decode cL_law 1211 = .ok (.aload_n 3, 1) := dk_45 (dk_at dksL_law_48 15 rfl rfl)
theorem dL_law_1212 : decode cL_law 1212 = .ok (.invokestatic 144, 3) := dk_184 0 144 (dk_at dksL_law_48 16 rfl rfl)
theorem dL_law_1215 : decode cL_law 1215 = .ok (.istore 5, 2) := dk_54 5 (dk_at dksL_law_48 19 rfl rfl)
theorem dL_law_1217 : decode cL_law 1217 = .ok (.aload_n 2, 1) := dk_44 (dk_at dksL_law_48 21 rfl rfl)
theorem dL_law_1218 : decode cL_law 1218 = .ok (.aload_n 0, 1) := dk_42 (dk_at dksL_law_48 22 rfl rfl)
theorem dL_law_1219 : decode cL_law 1219 = .ok (.iload 4, 2) := dk_21 4 (dk_at dksL_law_49 0 rfl rfl)
theorem dL_law_1221 : decode cL_law 1221 = .ok (.iconst 1, 1) := dk_4 (dk_at dksL_law_49 2 rfl rfl)
theorem dL_law_1222 : decode cL_law 1222 = .ok (.iadd, 1) := dk_96 (dk_at dksL_law_49 3 rfl rfl)
theorem dL_law_1223 : decode cL_law 1223 = .ok (.iaload, 1) := dk_46 (dk_at dksL_law_49 4 rfl rfl)
theorem dL_law_1224 : decode cL_law 1224 = .ok (.invokevirtual 146, 3) := dk_182 0 146 (dk_at dksL_law_49 5 rfl rfl)
theorem dL_law_1227 : decode cL_law 1227 = .ok (.istore 6, 2) := dk_54 6 (dk_at dksL_law_49 8 rfl rfl)
theorem dL_law_1229 : decode cL_law 1229 = .ok (.aload_n 2, 1) := dk_44 (dk_at dksL_law_49 10 rfl rfl)
theorem dL_law_1230 : decode cL_law 1230 = .ok (.invokevirtual 78, 3) := dk_182 0 78 (dk_at dksL_law_49 11 rfl rfl)
theorem dL_law_1233 : decode cL_law 1233 = .ok (.iload 5, 2) := dk_21 5 (dk_at dksL_law_49 14 rfl rfl)
theorem dL_law_1235 : decode cL_law 1235 = .ok (.if_icmp .eq 5, 3) := dk_159 0 5 (dk_at dksL_law_49 16 rfl rfl)
theorem dL_law_1238 : decode cL_law 1238 = .ok (.iconst 0, 1) := dk_3 (dk_at dksL_law_49 19 rfl rfl)
theorem dL_law_1239 : decode cL_law 1239 = .ok (.ireturn, 1) := dk_172 (dk_at dksL_law_49 20 rfl rfl)
theorem dL_law_1240 : decode cL_law 1240 = .ok (.iload 5, 2) := dk_21 5 (dk_at dksL_law_49 21 rfl rfl)
theorem dL_law_1242 : decode cL_law 1242 = .ok (.ifCond .ne 15, 3) := dk_154 0 15 (dk_at dksL_law_50 0 rfl rfl)
theorem dL_law_1245 : decode cL_law 1245 = .ok (.aload_n 3, 1) := dk_45 (dk_at dksL_law_50 3 rfl rfl)
theorem dL_law_1246 : decode cL_law 1246 = .ok (.iconst 0, 1) := dk_3 (dk_at dksL_law_50 4 rfl rfl)
theorem dL_law_1247 : decode cL_law 1247 = .ok (.laload, 1) := dk_47 (dk_at dksL_law_50 5 rfl rfl)
theorem dL_law_1248 : decode cL_law 1248 = .ok (.iload 6, 2) := dk_21 6 (dk_at dksL_law_50 6 rfl rfl)
theorem dL_law_1250 : decode cL_law 1250 = .ok (.i2l, 1) := dk_133 (dk_at dksL_law_50 8 rfl rfl)
theorem dL_law_1251 : decode cL_law 1251 = .ok (.lcmp, 1) := dk_148 (dk_at dksL_law_50 9 rfl rfl)
theorem dL_law_1252 : decode cL_law 1252 = .ok (.ifCond .eq 5, 3) := dk_153 0 5 (dk_at dksL_law_50 10 rfl rfl)
theorem dL_law_1255 : decode cL_law 1255 = .ok (.iconst 0, 1) := dk_3 (dk_at dksL_law_50 13 rfl rfl)
theorem dL_law_1256 : decode cL_law 1256 = .ok (.ireturn, 1) := dk_172 (dk_at dksL_law_50 14 rfl rfl)
theorem dL_law_1257 : decode cL_law 1257 = .ok (.goto 126, 3) := dk_167 0 126 (dk_at dksL_law_50 15 rfl rfl)
theorem dL_law_1260 : decode cL_law 1260 = .ok (.aload_n 1, 1) := dk_43 (dk_at dksL_law_50 18 rfl rfl)
theorem dL_law_1261 : decode cL_law 1261 = .ok (.aload_n 0, 1) := dk_42 (dk_at dksL_law_50 19 rfl rfl)
theorem dL_law_1262 : decode cL_law 1262 = .ok (.iload 4, 2) := dk_21 4 (dk_at dksL_law_50 20 rfl rfl)
theorem dL_law_1264 : decode cL_law 1264 = .ok (.iconst 1, 1) := dk_4 (dk_at dksL_law_50 22 rfl rfl)
theorem dL_law_1265 : decode cL_law 1265 = .ok (.iadd, 1) := dk_96 (dk_at dksL_law_50 23 rfl rfl)
theorem dL_law_1266 : decode cL_law 1266 = .ok (.iaload, 1) := dk_46 (dk_at dksL_law_51 0 rfl rfl)
theorem dL_law_1267 : decode cL_law 1267 = .ok (.aload_n 0, 1) := dk_42 (dk_at dksL_law_51 1 rfl rfl)
theorem dL_law_1268 : decode cL_law 1268 = .ok (.iload 4, 2) := dk_21 4 (dk_at dksL_law_51 2 rfl rfl)
theorem dL_law_1270 : decode cL_law 1270 = .ok (.iconst 2, 1) := dk_5 (dk_at dksL_law_51 4 rfl rfl)
theorem dL_law_1271 : decode cL_law 1271 = .ok (.iadd, 1) := dk_96 (dk_at dksL_law_51 5 rfl rfl)
theorem dL_law_1272 : decode cL_law 1272 = .ok (.iaload, 1) := dk_46 (dk_at dksL_law_51 6 rfl rfl)
theorem dL_law_1273 : decode cL_law 1273 = .ok (.aload_n 3, 1) := dk_45 (dk_at dksL_law_51 7 rfl rfl)
theorem dL_law_1274 : decode cL_law 1274 = .ok (.invokestatic 147, 3) := dk_184 0 147 (dk_at dksL_law_51 8 rfl rfl)
theorem dL_law_1277 : decode cL_law 1277 = .ok (.istore 5, 2) := dk_54 5 (dk_at dksL_law_51 11 rfl rfl)
theorem dL_law_1279 : decode cL_law 1279 = .ok (.aload_n 2, 1) := dk_44 (dk_at dksL_law_51 13 rfl rfl)
theorem dL_law_1280 : decode cL_law 1280 = .ok (.aload_n 0, 1) := dk_42 (dk_at dksL_law_51 14 rfl rfl)
theorem dL_law_1281 : decode cL_law 1281 = .ok (.iload 4, 2) := dk_21 4 (dk_at dksL_law_51 15 rfl rfl)
theorem dL_law_1283 : decode cL_law 1283 = .ok (.iconst 1, 1) := dk_4 (dk_at dksL_law_51 17 rfl rfl)
theorem dL_law_1284 : decode cL_law 1284 = .ok (.iadd, 1) := dk_96 (dk_at dksL_law_51 18 rfl rfl)
theorem dL_law_1285 : decode cL_law 1285 = .ok (.iaload, 1) := dk_46 (dk_at dksL_law_51 19 rfl rfl)
theorem dL_law_1286 : decode cL_law 1286 = .ok (.aload_n 0, 1) := dk_42 (dk_at dksL_law_51 20 rfl rfl)
theorem dL_law_1287 : decode cL_law 1287 = .ok (.iload 4, 2) := dk_21 4 (dk_at dksL_law_51 21 rfl rfl)
theorem dL_law_1289 : decode cL_law 1289 = .ok (.iconst 2, 1) := dk_5 (dk_at dksL_law_51 23 rfl rfl)
theorem dL_law_1290 : decode cL_law 1290 = .ok (.iadd, 1) := dk_96 (dk_at dksL_law_52 0 rfl rfl)
theorem dL_law_1291 : decode cL_law 1291 = .ok (.iaload, 1) := dk_46 (dk_at dksL_law_52 1 rfl rfl)
theorem dL_law_1292 : decode cL_law 1292 = .ok (.invokevirtual 149, 3) := dk_182 0 149 (dk_at dksL_law_52 2 rfl rfl)
theorem dL_law_1295 : decode cL_law 1295 = .ok (.istore 6, 2) := dk_54 6 (dk_at dksL_law_52 5 rfl rfl)
theorem dL_law_1297 : decode cL_law 1297 = .ok (.aload_n 2, 1) := dk_44 (dk_at dksL_law_52 7 rfl rfl)
theorem dL_law_1298 : decode cL_law 1298 = .ok (.invokevirtual 78, 3) := dk_182 0 78 (dk_at dksL_law_52 8 rfl rfl)
theorem dL_law_1301 : decode cL_law 1301 = .ok (.iload 5, 2) := dk_21 5 (dk_at dksL_law_52 11 rfl rfl)
theorem dL_law_1303 : decode cL_law 1303 = .ok (.if_icmp .eq 5, 3) := dk_159 0 5 (dk_at dksL_law_52 13 rfl rfl)
theorem dL_law_1306 : decode cL_law 1306 = .ok (.iconst 0, 1) := dk_3 (dk_at dksL_law_52 16 rfl rfl)
theorem dL_law_1307 : decode cL_law 1307 = .ok (.ireturn, 1) := dk_172 (dk_at dksL_law_52 17 rfl rfl)
theorem dL_law_1308 : decode cL_law 1308 = .ok (.iload 5, 2) := dk_21 5 (dk_at dksL_law_52 18 rfl rfl)
theorem dL_law_1310 : decode cL_law 1310 = .ok (.ifCond .ne 15, 3) := dk_154 0 15 (dk_at dksL_law_52 20 rfl rfl)
theorem dL_law_1313 : decode cL_law 1313 = .ok (.aload_n 3, 1) := dk_45 (dk_at dksL_law_52 23 rfl rfl)
theorem dL_law_1314 : decode cL_law 1314 = .ok (.iconst 0, 1) := dk_3 (dk_at dksL_law_53 0 rfl rfl)
theorem dL_law_1315 : decode cL_law 1315 = .ok (.laload, 1) := dk_47 (dk_at dksL_law_53 1 rfl rfl)
theorem dL_law_1316 : decode cL_law 1316 = .ok (.iload 6, 2) := dk_21 6 (dk_at dksL_law_53 2 rfl rfl)
theorem dL_law_1318 : decode cL_law 1318 = .ok (.i2l, 1) := dk_133 (dk_at dksL_law_53 4 rfl rfl)
theorem dL_law_1319 : decode cL_law 1319 = .ok (.lcmp, 1) := dk_148 (dk_at dksL_law_53 5 rfl rfl)
theorem dL_law_1320 : decode cL_law 1320 = .ok (.ifCond .eq 5, 3) := dk_153 0 5 (dk_at dksL_law_53 6 rfl rfl)
theorem dL_law_1323 : decode cL_law 1323 = .ok (.iconst 0, 1) := dk_3 (dk_at dksL_law_53 9 rfl rfl)
theorem dL_law_1324 : decode cL_law 1324 = .ok (.ireturn, 1) := dk_172 (dk_at dksL_law_53 10 rfl rfl)
theorem dL_law_1325 : decode cL_law 1325 = .ok (.goto 58, 3) := dk_167 0 58 (dk_at dksL_law_53 11 rfl rfl)
theorem dL_law_1328 : decode cL_law 1328 = .ok (.aload_n 1, 1) := dk_43 (dk_at dksL_law_53 14 rfl rfl)
theorem dL_law_1329 : decode cL_law 1329 = .ok (.invokevirtual 150, 3) := dk_182 0 150 (dk_at dksL_law_53 15 rfl rfl)
theorem dL_law_1332 : decode cL_law 1332 = .ok (.dstore 5, 2) := dk_57 5 (dk_at dksL_law_53 18 rfl rfl)
theorem dL_law_1334 : decode cL_law 1334 = .ok (.aload_n 2, 1) := dk_44 (dk_at dksL_law_53 20 rfl rfl)
theorem dL_law_1335 : decode cL_law 1335 = .ok (.invokevirtual 154, 3) := dk_182 0 154 (dk_at dksL_law_53 21 rfl rfl)
theorem dL_law_1338 : decode cL_law 1338 = .ok (.dstore 7, 2) := dk_57 7 (dk_at dksL_law_54 0 rfl rfl)
theorem dL_law_1340 : decode cL_law 1340 = .ok (.dload 5, 2) := dk_24 5 (dk_at dksL_law_54 2 rfl rfl)
theorem dL_law_1342 : decode cL_law 1342 = .ok (.dload 7, 2) := dk_24 7 (dk_at dksL_law_54 4 rfl rfl)
theorem dL_law_1344 : decode cL_law 1344 = .ok (.dcmp .l, 1) := dk_151 (dk_at dksL_law_54 6 rfl rfl)
theorem dL_law_1345 : decode cL_law 1345 = .ok (.ifCond .eq 21, 3) := dk_153 0 21 (dk_at dksL_law_54 7 rfl rfl)
theorem dL_law_1348 : decode cL_law 1348 = .ok (.dload 5, 2) := dk_24 5 (dk_at dksL_law_54 10 rfl rfl)
theorem dL_law_1350 : decode cL_law 1350 = .ok (.dload 5, 2) := dk_24 5 (dk_at dksL_law_54 12 rfl rfl)
theorem dL_law_1352 : decode cL_law 1352 = .ok (.dcmp .l, 1) := dk_151 (dk_at dksL_law_54 14 rfl rfl)
theorem dL_law_1353 : decode cL_law 1353 = .ok (.ifCond .eq 11, 3) := dk_153 0 11 (dk_at dksL_law_54 15 rfl rfl)
theorem dL_law_1356 : decode cL_law 1356 = .ok (.dload 7, 2) := dk_24 7 (dk_at dksL_law_54 18 rfl rfl)
theorem dL_law_1358 : decode cL_law 1358 = .ok (.dload 7, 2) := dk_24 7 (dk_at dksL_law_54 20 rfl rfl)
theorem dL_law_1360 : decode cL_law 1360 = .ok (.dcmp .l, 1) := dk_151 (dk_at dksL_law_54 22 rfl rfl)
theorem dL_law_1361 : decode cL_law 1361 = .ok (.ifCond .ne 5, 3) := dk_154 0 5 (dk_at dksL_law_55 0 rfl rfl)
theorem dL_law_1364 : decode cL_law 1364 = .ok (.iconst 0, 1) := dk_3 (dk_at dksL_law_55 3 rfl rfl)
theorem dL_law_1365 : decode cL_law 1365 = .ok (.ireturn, 1) := dk_172 (dk_at dksL_law_55 4 rfl rfl)
theorem dL_law_1366 : decode cL_law 1366 = .ok (.goto 17, 3) := dk_167 0 17 (dk_at dksL_law_55 5 rfl rfl)
theorem dL_law_1369 : decode cL_law 1369 = .ok (.aload_n 1, 1) := dk_43 (dk_at dksL_law_55 8 rfl rfl)
theorem dL_law_1370 : decode cL_law 1370 = .ok (.invokevirtual 155, 3) := dk_182 0 155 (dk_at dksL_law_55 9 rfl rfl)
theorem dL_law_1373 : decode cL_law 1373 = .ok (.aload_n 2, 1) := dk_44 (dk_at dksL_law_55 12 rfl rfl)
theorem dL_law_1374 : decode cL_law 1374 = .ok (.invokevirtual 159, 3) := dk_182 0 159 (dk_at dksL_law_55 13 rfl rfl)
theorem dL_law_1377 : decode cL_law 1377 = .ok (.lcmp, 1) := dk_148 (dk_at dksL_law_55 16 rfl rfl)
theorem dL_law_1378 : decode cL_law 1378 = .ok (.ifCond .eq 5, 3) := dk_153 0 5 (dk_at dksL_law_55 17 rfl rfl)
theorem dL_law_1381 : decode cL_law 1381 = .ok (.iconst 0, 1) := dk_3 (dk_at dksL_law_55 20 rfl rfl)
theorem dL_law_1382 : decode cL_law 1382 = .ok (.ireturn, 1) := dk_172 (dk_at dksL_law_55 21 rfl rfl)
theorem dL_law_1383 : decode cL_law 1383 = .ok (.iinc 4 6, 3) := dk_132 4 6 (dk_at dksL_law_56 0 rfl rfl)
theorem dL_law_1386 : decode cL_law 1386 = .ok (.goto (-1363), 3) := dk_167 250 173 (dk_at dksL_law_56 3 rfl rfl)
theorem dL_law_1389 : decode cL_law 1389 = .ok (.iconst 1, 1) := dk_4 (dk_at dksL_law_56 6 rfl rfl)
theorem dL_law_1390 : decode cL_law 1390 = .ok (.ireturn, 1) := dk_172 (dk_at dksL_law_56 7 rfl rfl)

theorem q128 : (Jvm.Cond.initialized "ShadowSpell$Sign") ∈ lw_all := lw_g (lw_at lw_m1 57 rfl) rfl
set_option maxRecDepth 100000
theorem q1899 : (Jvm.Cond.laysStatic "ShadowSpell$Sign" "LEAST" "LShadowSpell$Sign;") ∈ lw_tbl := lw_at lw_m8 148 rfl
theorem q1901 : (Jvm.Cond.laysStatic "ShadowSpell$Sign" "MOST_OF" "LShadowSpell$Sign;") ∈ lw_tbl := lw_at lw_m8 150 rfl
theorem q1925 : (Jvm.Cond.laysStatic "ShadowSpell$Sign" "TIMES" "LShadowSpell$Sign;") ∈ lw_tbl := lw_at lw_m8 174 rfl
theorem q1927 : (Jvm.Cond.laysStatic "ShadowSpell$Sign" "PARTED" "LShadowSpell$Sign;") ∈ lw_tbl := lw_at lw_m8 176 rfl
theorem q1929 : (Jvm.Cond.laysStatic "ShadowSpell$Sign" "REST" "LShadowSpell$Sign;") ∈ lw_tbl := lw_at lw_m8 178 rfl
theorem q1932 : (Jvm.Cond.laysStatic "ShadowSpell$Sign" "PLUS" "LShadowSpell$Sign;") ∈ lw_tbl := lw_at lw_m8 181 rfl
theorem q1934 : (Jvm.Cond.laysStatic "ShadowSpell$Sign" "MINUS" "LShadowSpell$Sign;") ∈ lw_tbl := lw_at lw_m8 183 rfl
theorem q2351 : (Jvm.Cond.declares ({ cls := "ShadowSpell$Sign", name := "join", desc := "(II)I" } : Jvm.MethodName)) ∈ lw_tbl := lw_at lw_m10 120 rfl
theorem q2352 : (Jvm.Cond.sameMethod "ShadowSpell$Sign" "ShadowSpell$Sign" "join" "(II)I") ∈ lw_all := lw_g (lw_at lw_m10 121 rfl) rfl
theorem q3274 : (Jvm.Cond.castable "ShadowSpell$Sign" "java/lang/Object") ∈ lw_tbl := lw_at lw_m14 83 rfl
theorem q3317 : (Jvm.Cond.stringRef "ShadowSpell$Sign" (83 : Nat) "min") ∈ lw_tbl := lw_at lw_m14 126 rfl
theorem q3318 : (Jvm.Cond.stringRef "ShadowSpell$Sign" (89 : Nat) "max") ∈ lw_tbl := lw_at lw_m14 127 rfl
theorem q3319 : (Jvm.Cond.stringRef "ShadowSpell$Sign" (65 : Nat) "*") ∈ lw_tbl := lw_at lw_m14 128 rfl
theorem q3320 : (Jvm.Cond.stringRef "ShadowSpell$Sign" (71 : Nat) "/") ∈ lw_tbl := lw_at lw_m14 129 rfl
theorem q3321 : (Jvm.Cond.stringRef "ShadowSpell$Sign" (77 : Nat) "%") ∈ lw_tbl := lw_at lw_m14 130 rfl
theorem q3322 : (Jvm.Cond.stringRef "ShadowSpell$Sign" (51 : Nat) "+") ∈ lw_tbl := lw_at lw_m14 131 rfl
theorem q3323 : (Jvm.Cond.stringRef "ShadowSpell$Sign" (59 : Nat) "-") ∈ lw_tbl := lw_at lw_m14 132 rfl

theorem q94 : (Jvm.Cond.initialized "ShadowSpell$Sort") ∈ lw_all := lw_g (lw_at lw_m1 23 rfl) rfl
set_option maxRecDepth 100000
theorem q316 : (Jvm.Cond.laysStatic "ShadowSpell$Sort" "BAD" "LShadowSpell$Sort;") ∈ lw_tbl := lw_at lw_m2 5 rfl
theorem q667 : (Jvm.Cond.laysStatic "ShadowSpell$Sort" "KEY" "LShadowSpell$Sort;") ∈ lw_tbl := lw_at lw_m3 116 rfl
theorem q669 : (Jvm.Cond.laysStatic "ShadowSpell$Sort" "NAME" "LShadowSpell$Sort;") ∈ lw_tbl := lw_at lw_m3 118 rfl
theorem q671 : (Jvm.Cond.laysStatic "ShadowSpell$Sort" "NUMBER" "LShadowSpell$Sort;") ∈ lw_tbl := lw_at lw_m3 120 rfl
theorem q724 : (Jvm.Cond.laysStatic "ShadowSpell$Sort" "SYMBOL" "LShadowSpell$Sort;") ∈ lw_tbl := lw_at lw_m3 173 rfl
theorem q773 : (Jvm.Cond.selects "ShadowSpell$Sort" ({ cls := "java/lang/Object", name := "getClass", desc := "()Ljava/lang/Class;" } : Jvm.MethodName) ({ cls := "java/lang/Object", name := "getClass", desc := "()Ljava/lang/Class;" } : Jvm.MethodName)) ∈ lw_all := lw_g (lw_at lw_m3 222 rfl) rfl
theorem q811 : (Jvm.Cond.laysStatic "ShadowSpell$Sort" "END" "LShadowSpell$Sort;") ∈ lw_tbl := lw_at lw_m4 20 rfl
theorem q1004 : (Jvm.Cond.selects "ShadowSpell$Sort" ({ cls := "java/lang/Object", name := "hashCode", desc := "()I" } : Jvm.MethodName) ({ cls := "java/lang/Enum", name := "hashCode", desc := "()I" } : Jvm.MethodName)) ∈ lw_all := lw_g (lw_at lw_m4 213 rfl) rfl
theorem q1118 : (Jvm.Cond.selects "ShadowSpell$Sort" ({ cls := "java/lang/Object", name := "equals", desc := "(Ljava/lang/Object;)Z" } : Jvm.MethodName) ({ cls := "java/lang/Enum", name := "equals", desc := "(Ljava/lang/Object;)Z" } : Jvm.MethodName)) ∈ lw_all := lw_g (lw_at lw_m5 87 rfl) rfl
theorem q1194 : (Jvm.Cond.selects "ShadowSpell$Sort" ({ cls := "java/lang/Enum", name := "compareTo", desc := "(Ljava/lang/Enum;)I" } : Jvm.MethodName) ({ cls := "java/lang/Enum", name := "compareTo", desc := "(Ljava/lang/Enum;)I" } : Jvm.MethodName)) ∈ lw_all := lw_g (lw_at lw_m5 163 rfl) rfl
theorem q1214 : (Jvm.Cond.selects "ShadowSpell$Sort" ({ cls := "java/lang/Enum", name := "getDeclaringClass", desc := "()Ljava/lang/Class;" } : Jvm.MethodName) ({ cls := "java/lang/Enum", name := "getDeclaringClass", desc := "()Ljava/lang/Class;" } : Jvm.MethodName)) ∈ lw_all := lw_g (lw_at lw_m5 183 rfl) rfl
theorem q1245 : (Jvm.Cond.castable "ShadowSpell$Sort" "java/lang/Comparable") ∈ lw_tbl := lw_at lw_m5 214 rfl
theorem q1246 : (Jvm.Cond.selects "ShadowSpell$Sort" ({ cls := "java/lang/Comparable", name := "compareTo", desc := "(Ljava/lang/Object;)I" } : Jvm.MethodName) ({ cls := "java/lang/Enum", name := "compareTo", desc := "(Ljava/lang/Object;)I" } : Jvm.MethodName)) ∈ lw_all := lw_g (lw_at lw_m5 215 rfl) rfl
theorem q1247 : (Jvm.Cond.unhidden "ShadowSpell$Sort" "compareTo" "(Ljava/lang/Object;)I") ∈ lw_tbl := lw_at lw_m5 216 rfl
theorem q3207 : (Jvm.Cond.castable "ShadowSpell$Sort" "java/lang/Enum") ∈ lw_tbl := lw_at lw_m14 16 rfl
theorem q3230 : (Jvm.Cond.castable "ShadowSpell$Sort" "java/lang/Object") ∈ lw_tbl := lw_at lw_m14 39 rfl

theorem q2287 : (Jvm.Cond.interfaceMethod "ShadowSpell$Test" "ShadowSpell$Test" "holds" "(LShadowSpell$Sky;)Z") ∈ lw_tbl := lw_at lw_m10 56 rfl
set_option maxRecDepth 100000
theorem q2288 : (Jvm.Cond.declares ({ cls := "ShadowSpell$Test", name := "holds", desc := "(LShadowSpell$Sky;)Z" } : Jvm.MethodName)) ∈ lw_tbl := lw_at lw_m10 57 rfl

theorem q125 : (Jvm.Cond.initialized "ShadowSpell$What") ∈ lw_all := lw_g (lw_at lw_m1 54 rfl) rfl
set_option maxRecDepth 100000
theorem q1870 : (Jvm.Cond.laysStatic "ShadowSpell$What" "ALL" "[LShadowSpell$What;") ∈ lw_tbl := lw_at lw_m8 119 rfl
theorem q2311 : (Jvm.Cond.declares ({ cls := "ShadowSpell$What", name := "of", desc := "(LShadowSpell$Sky;II)I" } : Jvm.MethodName)) ∈ lw_tbl := lw_at lw_m10 80 rfl
theorem q2312 : (Jvm.Cond.sameMethod "ShadowSpell$What" "ShadowSpell$What" "of" "(LShadowSpell$Sky;II)I") ∈ lw_all := lw_g (lw_at lw_m10 81 rfl) rfl
theorem q3216 : (Jvm.Cond.castable "ShadowSpell$What" "java/lang/Object") ∈ lw_tbl := lw_at lw_m14 25 rfl
theorem q3312 : (Jvm.Cond.laysStatic "ShadowSpell$What" "DAY" "LShadowSpell$What;") ∈ lw_tbl := lw_at lw_m14 121 rfl
theorem q3313 : (Jvm.Cond.laysStatic "ShadowSpell$What" "LENGTH" "LShadowSpell$What;") ∈ lw_tbl := lw_at lw_m14 122 rfl
theorem q3314 : (Jvm.Cond.laysStatic "ShadowSpell$What" "AT" "LShadowSpell$What;") ∈ lw_tbl := lw_at lw_m14 123 rfl
theorem q3315 : (Jvm.Cond.laysStatic "ShadowSpell$What" "LAP" "LShadowSpell$What;") ∈ lw_tbl := lw_at lw_m14 124 rfl
theorem q3316 : (Jvm.Cond.laysStatic "ShadowSpell$What" "GAP" "LShadowSpell$What;") ∈ lw_tbl := lw_at lw_m14 125 rfl
theorem q3346 : (Jvm.Cond.stringRef "ShadowSpell$What" (49 : Nat) "day") ∈ lw_tbl := lw_at lw_m14 155 rfl
theorem q3347 : (Jvm.Cond.stringRef "ShadowSpell$What" (57 : Nat) "length") ∈ lw_tbl := lw_at lw_m14 156 rfl
theorem q3348 : (Jvm.Cond.stringRef "ShadowSpell$What" (63 : Nat) "at") ∈ lw_tbl := lw_at lw_m14 157 rfl
theorem q3349 : (Jvm.Cond.stringRef "ShadowSpell$What" (69 : Nat) "lap") ∈ lw_tbl := lw_at lw_m14 158 rfl
theorem q3350 : (Jvm.Cond.stringRef "ShadowSpell$What" (75 : Nat) "gap") ∈ lw_tbl := lw_at lw_m14 159 rfl

theorem q380 : (Jvm.Cond.sameMethod "[B" "java/lang/Object" "clone" "()Ljava/lang/Object;") ∈ lw_all := lw_g (lw_at lw_m2 69 rfl) rfl
set_option maxRecDepth 100000
theorem q383 : (Jvm.Cond.selects "[B" ({ cls := "[B", name := "clone", desc := "()Ljava/lang/Object;" } : Jvm.MethodName) ({ cls := "java/lang/Object", name := "clone", desc := "()Ljava/lang/Object;" } : Jvm.MethodName)) ∈ lw_all := lw_g (lw_at lw_m2 72 rfl) rfl
theorem q384 : (Jvm.Cond.castable "[B" "java/lang/Cloneable") ∈ lw_tbl := lw_at lw_m2 73 rfl
theorem q3275 : (Jvm.Cond.castable "[B" "java/lang/Object") ∈ lw_tbl := lw_at lw_m14 84 rfl

theorem q3278 : (Jvm.Cond.castable "[I" "java/lang/Object") ∈ lw_tbl := lw_at lw_m14 87 rfl
set_option maxRecDepth 100000

theorem q3279 : (Jvm.Cond.castable "[J" "java/lang/Object") ∈ lw_tbl := lw_at lw_m14 88 rfl
set_option maxRecDepth 100000

theorem q3281 : (Jvm.Cond.castable "[LShadowSpell$What;" "java/lang/Object") ∈ lw_tbl := lw_at lw_m14 90 rfl
set_option maxRecDepth 100000

theorem q3270 : (Jvm.Cond.sameMethod "[Ljava/lang/Object;" "java/lang/Object" "getClass" "()Ljava/lang/Class;") ∈ lw_all := lw_g (lw_at lw_m14 79 rfl) rfl
set_option maxRecDepth 100000
theorem q3271 : (Jvm.Cond.selects "[Ljava/lang/Object;" ({ cls := "java/lang/Object", name := "getClass", desc := "()Ljava/lang/Class;" } : Jvm.MethodName) ({ cls := "java/lang/Object", name := "getClass", desc := "()Ljava/lang/Class;" } : Jvm.MethodName)) ∈ lw_all := lw_g (lw_at lw_m14 80 rfl) rfl
theorem q3276 : (Jvm.Cond.castable "[Ljava/lang/Object;" "java/lang/Object") ∈ lw_tbl := lw_at lw_m14 85 rfl

theorem q3280 : (Jvm.Cond.castable "[Ljava/lang/String;" "java/lang/Object") ∈ lw_tbl := lw_at lw_m14 89 rfl
set_option maxRecDepth 100000

theorem q3277 : (Jvm.Cond.castable "[Ljava/util/HashMap$Node;" "java/lang/Object") ∈ lw_tbl := lw_at lw_m14 86 rfl
set_option maxRecDepth 100000

theorem q2206 : (Jvm.Cond.interfaceMethod "java/lang/CharSequence" "java/lang/CharSequence" "length" "()I") ∈ lw_tbl := lw_at lw_m9 215 rfl
set_option maxRecDepth 100000
theorem q2207 : (Jvm.Cond.declares ({ cls := "java/lang/CharSequence", name := "length", desc := "()I" } : Jvm.MethodName)) ∈ lw_tbl := lw_at lw_m9 216 rfl
theorem q2247 : (Jvm.Cond.interfaceMethod "java/lang/CharSequence" "java/lang/CharSequence" "charAt" "(I)C") ∈ lw_tbl := lw_at lw_m10 16 rfl
theorem q2248 : (Jvm.Cond.declares ({ cls := "java/lang/CharSequence", name := "charAt", desc := "(I)C" } : Jvm.MethodName)) ∈ lw_tbl := lw_at lw_m10 17 rfl

theorem q1173 : (Jvm.Cond.interfaceMethod "java/lang/Comparable" "java/lang/Comparable" "compareTo" "(Ljava/lang/Object;)I") ∈ lw_tbl := lw_at lw_m5 142 rfl
set_option maxRecDepth 100000
theorem q1174 : (Jvm.Cond.declares ({ cls := "java/lang/Comparable", name := "compareTo", desc := "(Ljava/lang/Object;)I" } : Jvm.MethodName)) ∈ lw_tbl := lw_at lw_m5 143 rfl

theorem q111 : (Jvm.Cond.initialized "java/lang/Integer$IntegerCache") ∈ lw_all := lw_g (lw_at lw_m1 40 rfl) rfl
set_option maxRecDepth 100000
theorem q1499 : (Jvm.Cond.laysStatic "java/lang/Integer$IntegerCache" "high" "I") ∈ lw_tbl := lw_at lw_m6 228 rfl
theorem q1501 : (Jvm.Cond.laysStatic "java/lang/Integer$IntegerCache" "cache" "[Ljava/lang/Integer;") ∈ lw_tbl := lw_at lw_m6 230 rfl

theorem q98 : (Jvm.Cond.initialized "java/lang/System") ∈ lw_all := lw_g (lw_at lw_m1 27 rfl) rfl
set_option maxRecDepth 100000
theorem q390 : (Jvm.Cond.static ({ cls := "java/lang/System", name := "arraycopy", desc := "(Ljava/lang/Object;ILjava/lang/Object;II)V" } : Jvm.MethodName)) ∈ lw_all := lw_g (lw_at lw_m2 79 rfl) rfl
theorem q391 : (Jvm.Cond.native ({ cls := "java/lang/System", name := "arraycopy", desc := "(Ljava/lang/Object;ILjava/lang/Object;II)V" } : Jvm.MethodName)) ∈ lw_all := lw_g (lw_at lw_m2 80 rfl) rfl
theorem q981 : (Jvm.Cond.static ({ cls := "java/lang/System", name := "identityHashCode", desc := "(Ljava/lang/Object;)I" } : Jvm.MethodName)) ∈ lw_all := lw_g (lw_at lw_m4 190 rfl) rfl
theorem q982 : (Jvm.Cond.native ({ cls := "java/lang/System", name := "identityHashCode", desc := "(Ljava/lang/Object;)I" } : Jvm.MethodName)) ∈ lw_all := lw_g (lw_at lw_m4 191 rfl) rfl

theorem q1995 : (Jvm.Cond.interfaceMethod "java/util/Collection" "java/util/Collection" "toArray" "()[Ljava/lang/Object;") ∈ lw_tbl := lw_at lw_m9 4 rfl
set_option maxRecDepth 100000
theorem q1996 : (Jvm.Cond.declares ({ cls := "java/util/Collection", name := "toArray", desc := "()[Ljava/lang/Object;" } : Jvm.MethodName)) ∈ lw_tbl := lw_at lw_m9 5 rfl

theorem q2138 : (Jvm.Cond.interfaceMethod "java/util/Iterator" "java/util/Iterator" "hasNext" "()Z") ∈ lw_tbl := lw_at lw_m9 147 rfl
set_option maxRecDepth 100000
theorem q2139 : (Jvm.Cond.declares ({ cls := "java/util/Iterator", name := "hasNext", desc := "()Z" } : Jvm.MethodName)) ∈ lw_tbl := lw_at lw_m9 148 rfl
theorem q2148 : (Jvm.Cond.interfaceMethod "java/util/Iterator" "java/util/Iterator" "next" "()Ljava/lang/Object;") ∈ lw_tbl := lw_at lw_m9 157 rfl
theorem q2149 : (Jvm.Cond.declares ({ cls := "java/util/Iterator", name := "next", desc := "()Ljava/lang/Object;" } : Jvm.MethodName)) ∈ lw_tbl := lw_at lw_m9 158 rfl

theorem q886 : (Jvm.Cond.interfaceMethod "java/util/List" "java/util/List" "get" "(I)Ljava/lang/Object;") ∈ lw_tbl := lw_at lw_m4 95 rfl
set_option maxRecDepth 100000
theorem q887 : (Jvm.Cond.declares ({ cls := "java/util/List", name := "get", desc := "(I)Ljava/lang/Object;" } : Jvm.MethodName)) ∈ lw_tbl := lw_at lw_m4 96 rfl
theorem q2563 : (Jvm.Cond.interfaceMethod "java/util/List" "java/util/List" "size" "()I") ∈ lw_tbl := lw_at lw_m11 92 rfl
theorem q2564 : (Jvm.Cond.declares ({ cls := "java/util/List", name := "size", desc := "()I" } : Jvm.MethodName)) ∈ lw_tbl := lw_at lw_m11 93 rfl

theorem q1046 : (Jvm.Cond.interfaceMethod "jdk/internal/access/JavaLangAccess" "jdk/internal/access/JavaLangAccess" "getUTF16Char" "([BI)C") ∈ lw_tbl := lw_at lw_m5 15 rfl
set_option maxRecDepth 100000
theorem q1047 : (Jvm.Cond.declares ({ cls := "jdk/internal/access/JavaLangAccess", name := "getUTF16Char", desc := "([BI)C" } : Jvm.MethodName)) ∈ lw_tbl := lw_at lw_m5 16 rfl

theorem q109 : (Jvm.Cond.initialized "jdk/internal/misc/UnsafeConstants") ∈ lw_all := lw_g (lw_at lw_m1 38 rfl) rfl
set_option maxRecDepth 100000
theorem q1332 : (Jvm.Cond.laysStatic "jdk/internal/misc/UnsafeConstants" "BIG_ENDIAN" "Z") ∈ lw_tbl := lw_at lw_m6 61 rfl

theorem q160 : (Jvm.Cond.arrayClass Jvm.ClassFile.FieldType.byte) ∈ lw_all := lw_g (lw_at lw_m1 89 rfl) rfl
set_option maxRecDepth 100000
theorem q806 : (Jvm.Cond.arrayOver (Jvm.ClassFile.FieldType.object "java/lang/Object")) ∈ lw_tbl := lw_at lw_m4 15 rfl
theorem q1530 : (Jvm.Cond.arrayOver (Jvm.ClassFile.FieldType.object "java/util/HashMap$Node")) ∈ lw_tbl := lw_at lw_m7 19 rfl
theorem q2753 : (Jvm.Cond.arrayClass Jvm.ClassFile.FieldType.int) ∈ lw_all := lw_g (lw_at lw_m12 42 rfl) rfl
theorem q3173 : (Jvm.Cond.arrayClass Jvm.ClassFile.FieldType.long) ∈ lw_all := lw_g (lw_at lw_m13 222 rfl) rfl
theorem q3282 : (Jvm.Cond.arrayClass Jvm.ClassFile.FieldType.char) ∈ lw_all := lw_g (lw_at lw_m14 91 rfl) rfl
theorem q3283 : (Jvm.Cond.arrayClass Jvm.ClassFile.FieldType.short) ∈ lw_all := lw_g (lw_at lw_m14 92 rfl) rfl
theorem q3311 : (Jvm.Cond.arrayOver (Jvm.ClassFile.FieldType.object "java/lang/String")) ∈ lw_tbl := lw_at lw_m14 120 rfl

