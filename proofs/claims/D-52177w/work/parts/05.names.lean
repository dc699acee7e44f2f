/-! ShadowSpell -/
set_option maxRecDepth 100000
def RX1 : String := "ShadowSpell"
def TX1 : u_T := fun k => match k with
  | 0 => ("ShadowSpell", "tape", "LShadowSpell$Tape;", true)
  | 1 => ("ShadowSpell", "errorAt", "I", false)
  | 2 => ("ShadowSpell", "sky", "LShadowSpell$Sky;", true)
  | _ => ("ShadowSpell", "ahead", "LShadowSpell$Sky;", true)
def tyX1 : Nat → FieldType := fun k => match k with
  | 0 => .object "ShadowSpell$Tape"
  | 1 => .int
  | 2 => .object "ShadowSpell$Sky"
  | _ => .object "ShadowSpell$Sky"
abbrev wsX10 : List Cond := u_ws RX1 TX1 4
theorem nmX1 : ∀ a, a < 4 → ∀ b, b < 4 → a ≠ b → (TX1 a).2.1 ≠ (TX1 b).2.1 := by decide +kernel
theorem tyX1_ok : ∀ k, k < 4 → parseFieldDescriptor (TX1 k).2.2.1 = some (tyX1 k) := by decide +kernel
abbrev cX1_init : ByteArray := prog_1_method_6_code
def yX1_init : MethodName := ⟨RX1, "<init>", "()V"⟩
def dkwX1_init_1 : List UInt8 := [89, 183, 0, 49, 181, 0, 50, 42, 187, 0, 47, 89, 183, 0, 49, 181, 0, 54, 177]
abbrev dktX1_init_1 : List UInt8 := dkwX1_init_1 ++ []
def dkwX1_init_0 : List UInt8 := [42, 183, 0, 33, 42, 187, 0, 36, 89, 183, 0, 38, 181, 0, 39, 42, 2, 181, 0, 43, 42, 187, 0, 47]
abbrev dktX1_init_0 : List UInt8 := dkwX1_init_0 ++ dktX1_init_1
theorem dksX1_init_0 : cX1_init.data.toList.drop 0 = dktX1_init_0 := by decide +kernel
theorem dksX1_init_1 : cX1_init.data.toList.drop 24 = dktX1_init_1 := dk_seg dksX1_init_0 24 rfl rfl
theorem dX1_init_0 : decode cX1_init 0 = .ok (.aload_n 0, 1) := dk_42 (dk_at dksX1_init_0 0 rfl rfl)
theorem dX1_init_1 : decode cX1_init 1 = .ok (.invokespecial 33, 3) := dk_183 0 33 (dk_at dksX1_init_0 1 rfl rfl)
theorem dX1_init_4 : decode cX1_init 4 = .ok (.aload_n 0, 1) := dk_42 (dk_at dksX1_init_0 4 rfl rfl)
theorem dX1_init_5 : decode cX1_init 5 = .ok (.new 36, 3) := dk_187 0 36 (dk_at dksX1_init_0 5 rfl rfl)
theorem dX1_init_8 : decode cX1_init 8 = .ok (.dup, 1) := dk_89 (dk_at dksX1_init_0 8 rfl rfl)
theorem dX1_init_9 : decode cX1_init 9 = .ok (.invokespecial 38, 3) := dk_183 0 38 (dk_at dksX1_init_0 9 rfl rfl)
theorem dX1_init_12 : decode cX1_init 12 = .ok (.putfield 39, 3) := dk_181 0 39 (dk_at dksX1_init_0 12 rfl rfl)
theorem dX1_init_15 : decode cX1_init 15 = .ok (.aload_n 0, 1) := dk_42 (dk_at dksX1_init_0 15 rfl rfl)
theorem dX1_init_16 : decode cX1_init 16 = .ok (.iconst (-1), 1) := dk_2 (dk_at dksX1_init_0 16 rfl rfl)
theorem dX1_init_17 : decode cX1_init 17 = .ok (.putfield 43, 3) := dk_181 0 43 (dk_at dksX1_init_0 17 rfl rfl)
theorem dX1_init_20 : decode cX1_init 20 = .ok (.aload_n 0, 1) := dk_42 (dk_at dksX1_init_0 20 rfl rfl)
theorem dX1_init_21 : decode cX1_init 21 = .ok (.new 47, 3) := dk_187 0 47 (dk_at dksX1_init_0 21 rfl rfl)
theorem dX1_init_24 : decode cX1_init 24 = .ok (.dup, 1) := dk_89 (dk_at dksX1_init_1 0 rfl rfl)
theorem dX1_init_25 : decode cX1_init 25 = .ok (.invokespecial 49, 3) := dk_183 0 49 (dk_at dksX1_init_1 1 rfl rfl)
theorem dX1_init_28 : decode cX1_init 28 = .ok (.putfield 50, 3) := dk_181 0 50 (dk_at dksX1_init_1 4 rfl rfl)
theorem dX1_init_31 : decode cX1_init 31 = .ok (.aload_n 0, 1) := dk_42 (dk_at dksX1_init_1 7 rfl rfl)
theorem dX1_init_32 : decode cX1_init 32 = .ok (.new 47, 3) := dk_187 0 47 (dk_at dksX1_init_1 8 rfl rfl)
theorem dX1_init_35 : decode cX1_init 35 = .ok (.dup, 1) := dk_89 (dk_at dksX1_init_1 11 rfl rfl)
theorem dX1_init_36 : decode cX1_init 36 = .ok (.invokespecial 49, 3) := dk_183 0 49 (dk_at dksX1_init_1 12 rfl rfl)
theorem dX1_init_39 : decode cX1_init 39 = .ok (.putfield 54, 3) := dk_181 0 54 (dk_at dksX1_init_1 15 rfl rfl)
theorem dX1_init_42 : decode cX1_init 42 = .ok (.return_, 1) := dk_177 (dk_at dksX1_init_1 18 rfl rfl)
abbrev cX1_teach : ByteArray := prog_1_method_9_code
def yX1_teach : MethodName := ⟨RX1, "teach", "()I"⟩
def dkwX1_teach_2 : List UInt8 := [42, 44, 180, 0, 97, 181, 0, 43, 42, 180, 0, 39, 3, 181, 0, 57, 27, 172]
abbrev dktX1_teach_2 : List UInt8 := dkwX1_teach_2 ++ []
def dkwX1_teach_1 : List UInt8 := [183, 0, 74, 182, 0, 77, 183, 0, 81, 182, 0, 84, 182, 0, 88, 167, 0, 17, 77, 44, 180, 0, 94, 60]
abbrev dktX1_teach_1 : List UInt8 := dkwX1_teach_1 ++ dktX1_teach_2
def dkwX1_teach_0 : List UInt8 := [3, 60, 42, 2, 181, 0, 43, 42, 180, 0, 50, 187, 0, 70, 89, 187, 0, 72, 89, 42, 180, 0, 39]
abbrev dktX1_teach_0 : List UInt8 := dkwX1_teach_0 ++ dktX1_teach_1
theorem dksX1_teach_0 : cX1_teach.data.toList.drop 0 = dktX1_teach_0 := by decide +kernel
theorem dksX1_teach_1 : cX1_teach.data.toList.drop 23 = dktX1_teach_1 := dk_seg dksX1_teach_0 23 rfl rfl
theorem dksX1_teach_2 : cX1_teach.data.toList.drop 47 = dktX1_teach_2 := dk_seg dksX1_teach_1 24 rfl rfl
theorem dX1_teach_0 : decode cX1_teach 0 = .ok (.iconst 0, 1) := dk_3 (dk_at dksX1_teach_0 0 rfl rfl)
theorem dX1_teach_1 : decode cX1_teach 1 = .ok (.istore_n 1, 1) := dk_60 (dk_at dksX1_teach_0 1 rfl rfl)
theorem dX1_teach_2 : decode cX1_teach 2 = .ok (.aload_n 0, 1) := dk_42 (dk_at dksX1_teach_0 2 rfl rfl)
theorem dX1_teach_3 : decode cX1_teach 3 = .ok (.iconst (-1), 1) := dk_2 (dk_at dksX1_teach_0 3 rfl rfl)
theorem dX1_teach_4 : decode cX1_teach 4 = .ok (.putfield 43, 3) := dk_181 0 43 (dk_at dksX1_teach_0 4 rfl rfl)
theorem dX1_teach_7 : decode cX1_teach 7 = .ok (.aload_n 0, 1) := dk_42 (dk_at dksX1_teach_0 7 rfl rfl)
theorem dX1_teach_8 : decode cX1_teach 8 = .ok (.getfield 50, 3) := dk_180 0 50 (dk_at dksX1_teach_0 8 rfl rfl)
theorem dX1_teach_11 : decode cX1_teach 11 = .ok (.new 70, 3) := dk_187 0 70 (dk_at dksX1_teach_0 11 rfl rfl)
theorem dX1_teach_14 : decode cX1_teach 14 = .ok (.dup, 1) := dk_89 (dk_at dksX1_teach_0 14 rfl rfl)
theorem dX1_teach_15 : decode cX1_teach 15 = .ok (.new 72, 3) := dk_187 0 72 (dk_at dksX1_teach_0 15 rfl rfl)
theorem dX1_teach_18 : decode cX1_teach 18 = .ok (.dup, 1) := dk_89 (dk_at dksX1_teach_0 18 rfl rfl)
theorem dX1_teach_19 : decode cX1_teach 19 = .ok (.aload_n 0, 1) := dk_42 (dk_at dksX1_teach_0 19 rfl rfl)
theorem dX1_teach_20 : decode cX1_teach 20 = .ok (.getfield 39, 3) := dk_180 0 39 (dk_at dksX1_teach_0 20 rfl rfl)
theorem dX1_teach_23 : decode cX1_teach 23 = .ok (.invokespecial 74, 3) := dk_183 0 74 (dk_at dksX1_teach_1 0 rfl rfl)
theorem dX1_teach_26 : decode cX1_teach 26 = .ok (.invokevirtual 77, 3) := dk_182 0 77 (dk_at dksX1_teach_1 3 rfl rfl)
theorem dX1_teach_29 : decode cX1_teach 29 = .ok (.invokespecial 81, 3) := dk_183 0 81 (dk_at dksX1_teach_1 6 rfl rfl)
theorem dX1_teach_32 : decode cX1_teach 32 = .ok (.invokevirtual 84, 3) := dk_182 0 84 (dk_at dksX1_teach_1 9 rfl rfl)
theorem dX1_teach_35 : decode cX1_teach 35 = .ok (.invokevirtual 88, 3) := dk_182 0 88 (dk_at dksX1_teach_1 12 rfl rfl)
theorem dX1_teach_38 : decode cX1_teach 38 = .ok (.goto 17, 3) := dk_167 0 17 (dk_at dksX1_teach_1 15 rfl rfl)
theorem dX1_teach_41 : decode cX1_teach 41 = .ok (.astore_n 2, 1) := dk_77 (dk_at dksX1_teach_1 18 rfl rfl)
theorem dX1_teach_42 : decode cX1_teach 42 = .ok (.aload_n 2, 1) := dk_44 (dk_at dksX1_teach_1 19 rfl rfl)
theorem dX1_teach_43 : decode cX1_teach 43 = .ok (.getfield 94, 3) := dk_180 0 94 (dk_at dksX1_teach_1 20 rfl rfl)
theorem dX1_teach_46 : decode cX1_teach 46 = .ok (.istore_n 1, 1) := dk_60 (dk_at dksX1_teach_1 23 rfl rfl)
theorem dX1_teach_47 : decode cX1_teach 47 = .ok (.aload_n 0, 1) := dk_42 (dk_at dksX1_teach_2 0 rfl rfl)
theorem dX1_teach_48 : decode cX1_teach 48 = .ok (.aload_n 2, 1) := dk_44 (dk_at dksX1_teach_2 1 rfl rfl)
theorem dX1_teach_49 : decode cX1_teach 49 = .ok (.getfield 97, 3) := dk_180 0 97 (dk_at dksX1_teach_2 2 rfl rfl)
theorem dX1_teach_52 : decode cX1_teach 52 = .ok (.putfield 43, 3) := dk_181 0 43 (dk_at dksX1_teach_2 5 rfl rfl)
theorem dX1_teach_55 : decode cX1_teach 55 = .ok (.aload_n 0, 1) := dk_42 (dk_at dksX1_teach_2 8 rfl rfl)
theorem dX1_teach_56 : decode cX1_teach 56 = .ok (.getfield 39, 3) := dk_180 0 39 (dk_at dksX1_teach_2 9 rfl rfl)
theorem dX1_teach_59 : decode cX1_teach 59 = .ok (.iconst 0, 1) := dk_3 (dk_at dksX1_teach_2 12 rfl rfl)
theorem dX1_teach_60 : decode cX1_teach 60 = .ok (.putfield 57, 3) := dk_181 0 57 (dk_at dksX1_teach_2 13 rfl rfl)
theorem dX1_teach_63 : decode cX1_teach 63 = .ok (.iload_n 1, 1) := dk_27 (dk_at dksX1_teach_2 16 rfl rfl)
theorem dX1_teach_64 : decode cX1_teach 64 = .ok (.ireturn, 1) := dk_172 (dk_at dksX1_teach_2 17 rfl rfl)
abbrev cX1_errorAt : ByteArray := prog_1_method_10_code
def yX1_errorAt : MethodName := ⟨RX1, "errorAt", "()I"⟩
theorem dX1_errorAt_0 : decode cX1_errorAt 0 = .ok (.aload_n 0, 1) := by decide +kernel
theorem dX1_errorAt_1 : decode cX1_errorAt 1 = .ok (.getfield 43, 3) := by decide +kernel
theorem dX1_errorAt_4 : decode cX1_errorAt 4 = .ok (.ireturn, 1) := by decide +kernel
abbrev cX1_clear : ByteArray := prog_1_method_20_code
def yX1_clear : MethodName := ⟨RX1, "clear", "()I"⟩
def dkwX1_clear_0 : List UInt8 := [42, 180, 0, 50, 180, 0, 116, 182, 0, 120, 60, 42, 180, 0, 50, 180, 0, 116, 3, 182, 0, 196, 27, 172]
abbrev dktX1_clear_0 : List UInt8 := dkwX1_clear_0 ++ []
theorem dksX1_clear_0 : cX1_clear.data.toList.drop 0 = dktX1_clear_0 := by decide +kernel
theorem dX1_clear_0 : decode cX1_clear 0 = .ok (.aload_n 0, 1) := dk_42 (dk_at dksX1_clear_0 0 rfl rfl)
theorem dX1_clear_1 : decode cX1_clear 1 = .ok (.getfield 50, 3) := dk_180 0 50 (dk_at dksX1_clear_0 1 rfl rfl)
theorem dX1_clear_4 : decode cX1_clear 4 = .ok (.getfield 116, 3) := dk_180 0 116 (dk_at dksX1_clear_0 4 rfl rfl)
theorem dX1_clear_7 : decode cX1_clear 7 = .ok (.invokevirtual 120, 3) := dk_182 0 120 (dk_at dksX1_clear_0 7 rfl rfl)
theorem dX1_clear_10 : decode cX1_clear 10 = .ok (.istore_n 1, 1) := dk_60 (dk_at dksX1_clear_0 10 rfl rfl)
theorem dX1_clear_11 : decode cX1_clear 11 = .ok (.aload_n 0, 1) := dk_42 (dk_at dksX1_clear_0 11 rfl rfl)
theorem dX1_clear_12 : decode cX1_clear 12 = .ok (.getfield 50, 3) := dk_180 0 50 (dk_at dksX1_clear_0 12 rfl rfl)
theorem dX1_clear_15 : decode cX1_clear 15 = .ok (.getfield 116, 3) := dk_180 0 116 (dk_at dksX1_clear_0 15 rfl rfl)
theorem dX1_clear_18 : decode cX1_clear 18 = .ok (.iconst 0, 1) := dk_3 (dk_at dksX1_clear_0 18 rfl rfl)
theorem dX1_clear_19 : decode cX1_clear 19 = .ok (.invokevirtual 196, 3) := dk_182 0 196 (dk_at dksX1_clear_0 19 rfl rfl)
theorem dX1_clear_22 : decode cX1_clear 22 = .ok (.iload_n 1, 1) := dk_27 (dk_at dksX1_clear_0 22 rfl rfl)
theorem dX1_clear_23 : decode cX1_clear 23 = .ok (.ireturn, 1) := dk_172 (dk_at dksX1_clear_0 23 rfl rfl)
abbrev cX1_find : ByteArray := prog_1_method_21_code
def yX1_find : MethodName := ⟨RX1, "find", "()I"⟩
def dkwX1_find_0 : List UInt8 := [42, 180, 0, 50, 42, 180, 0, 39, 182, 0, 199, 172]
abbrev dktX1_find_0 : List UInt8 := dkwX1_find_0 ++ []
theorem dksX1_find_0 : cX1_find.data.toList.drop 0 = dktX1_find_0 := by decide +kernel
theorem dX1_find_0 : decode cX1_find 0 = .ok (.aload_n 0, 1) := dk_42 (dk_at dksX1_find_0 0 rfl rfl)
theorem dX1_find_1 : decode cX1_find 1 = .ok (.getfield 50, 3) := dk_180 0 50 (dk_at dksX1_find_0 1 rfl rfl)
theorem dX1_find_4 : decode cX1_find 4 = .ok (.aload_n 0, 1) := dk_42 (dk_at dksX1_find_0 4 rfl rfl)
theorem dX1_find_5 : decode cX1_find 5 = .ok (.getfield 39, 3) := dk_180 0 39 (dk_at dksX1_find_0 5 rfl rfl)
theorem dX1_find_8 : decode cX1_find 8 = .ok (.invokevirtual 199, 3) := dk_182 0 199 (dk_at dksX1_find_0 8 rfl rfl)
theorem dX1_find_11 : decode cX1_find 11 = .ok (.ireturn, 1) := dk_172 (dk_at dksX1_find_0 11 rfl rfl)
abbrev cX1_spells : ByteArray := prog_1_method_25_code
def yX1_spells : MethodName := ⟨RX1, "spells", "()I"⟩
def dkwX1_spells_2 : List UInt8 := [27, 17, 1, 144, 162, 0, 11, 42, 180, 0, 54, 182, 0, 217, 87, 132, 1, 1, 167, 255, 204, 2, 172]
abbrev dktX1_spells_2 : List UInt8 := dkwX1_spells_2 ++ []
def dkwX1_spells_1 : List UInt8 := [27, 17, 1, 144, 163, 0, 41, 42, 180, 0, 54, 42, 180, 0, 39, 182, 0, 199, 2, 159, 0, 5, 27, 172]
abbrev dktX1_spells_1 : List UInt8 := dkwX1_spells_1 ++ dktX1_spells_2
def dkwX1_spells_0 : List UInt8 := [42, 180, 0, 54, 42, 180, 0, 50, 182, 0, 210, 87, 3, 60, 42, 180, 0, 39, 180, 0, 57, 158, 0, 48]
abbrev dktX1_spells_0 : List UInt8 := dkwX1_spells_0 ++ dktX1_spells_1
theorem dksX1_spells_0 : cX1_spells.data.toList.drop 0 = dktX1_spells_0 := by decide +kernel
theorem dksX1_spells_1 : cX1_spells.data.toList.drop 24 = dktX1_spells_1 := dk_seg dksX1_spells_0 24 rfl rfl
theorem dksX1_spells_2 : cX1_spells.data.toList.drop 48 = dktX1_spells_2 := dk_seg dksX1_spells_1 24 rfl rfl
theorem dX1_spells_0 : decode cX1_spells 0 = .ok (.aload_n 0, 1) := dk_42 (dk_at dksX1_spells_0 0 rfl rfl)
theorem dX1_spells_1 : decode cX1_spells 1 = .ok (.getfield 54, 3) := dk_180 0 54 (dk_at dksX1_spells_0 1 rfl rfl)
theorem dX1_spells_4 : decode cX1_spells 4 = .ok (.aload_n 0, 1) := dk_42 (dk_at dksX1_spells_0 4 rfl rfl)
theorem dX1_spells_5 : decode cX1_spells 5 = .ok (.getfield 50, 3) := dk_180 0 50 (dk_at dksX1_spells_0 5 rfl rfl)
theorem dX1_spells_8 : decode cX1_spells 8 = .ok (.invokevirtual 210, 3) := dk_182 0 210 (dk_at dksX1_spells_0 8 rfl rfl)
theorem dX1_spells_11 : decode cX1_spells 11 = .ok (.pop, 1) := dk_87 (dk_at dksX1_spells_0 11 rfl rfl)
theorem dX1_spells_12 : decode cX1_spells 12 = .ok (.iconst 0, 1) := dk_3 (dk_at dksX1_spells_0 12 rfl rfl)
theorem dX1_spells_13 : decode cX1_spells 13 = .ok (.istore_n 1, 1) := dk_60 (dk_at dksX1_spells_0 13 rfl rfl)
theorem dX1_spells_14 : decode cX1_spells 14 = .ok (.aload_n 0, 1) := dk_42 (dk_at dksX1_spells_0 14 rfl rfl)
theorem dX1_spells_15 : decode cX1_spells 15 = .ok (.getfield 39, 3) := dk_180 0 39 (dk_at dksX1_spells_0 15 rfl rfl)
theorem dX1_spells_18 : decode cX1_spells 18 = .ok (.getfield 57, 3) := dk_180 0 57 (dk_at dksX1_spells_0 18 rfl rfl)
theorem dX1_spells_21 : decode cX1_spells 21 = .ok (.ifCond .le 48, 3) := dk_158 0 48 (dk_at dksX1_spells_0 21 rfl rfl)
theorem dX1_spells_24 : decode cX1_spells 24 = .ok (.iload_n 1, 1) := dk_27 (dk_at dksX1_spells_1 0 rfl rfl)
theorem dX1_spells_25 : decode cX1_spells 25 = .ok (.sipush 400, 3) := dk_17 1 144 (dk_at dksX1_spells_1 1 rfl rfl)
theorem dX1_spells_28 : decode cX1_spells 28 = .ok (.if_icmp .gt 41, 3) := dk_163 0 41 (dk_at dksX1_spells_1 4 rfl rfl)
theorem dX1_spells_31 : decode cX1_spells 31 = .ok (.aload_n 0, 1) := dk_42 (dk_at dksX1_spells_1 7 rfl rfl)
theorem dX1_spells_32 : decode cX1_spells 32 = .ok (.getfield 54, 3) := dk_180 0 54 (dk_at dksX1_spells_1 8 rfl rfl)
theorem dX1_spells_35 : decode cX1_spells 35 = .ok (.aload_n 0, 1) := dk_42 (dk_at dksX1_spells_1 11 rfl rfl)
theorem dX1_spells_36 : decode cX1_spells 36 = .ok (.getfield 39, 3) := dk_180 0 39 (dk_at dksX1_spells_1 12 rfl rfl)
theorem dX1_spells_39 : decode cX1_spells 39 = .ok (.invokevirtual 199, 3) := dk_182 0 199 (dk_at dksX1_spells_1 15 rfl rfl)
theorem dX1_spells_42 : decode cX1_spells 42 = .ok (.iconst (-1), 1) := dk_2 (dk_at dksX1_spells_1 18 rfl rfl)
theorem dX1_spells_43 : decode cX1_spells 43 = .ok (.if_icmp .eq 5, 3) := dk_159 0 5 (dk_at dksX1_spells_1 19 rfl rfl)
theorem dX1_spells_46 : decode cX1_spells 46 = .ok (.iload_n 1, 1) := dk_27 (dk_at dksX1_spells_1 22 rfl rfl)
theorem dX1_spells_47 : decode cX1_spells 47 = .ok (.ireturn, 1) := dk_172 (dk_at dksX1_spells_1 23 rfl rfl)
theorem dX1_spells_48 : decode cX1_spells 48 = .ok (.iload_n 1, 1) := dk_27 (dk_at dksX1_spells_2 0 rfl rfl)
theorem dX1_spells_49 : decode cX1_spells 49 = .ok (.sipush 400, 3) := dk_17 1 144 (dk_at dksX1_spells_2 1 rfl rfl)
theorem dX1_spells_52 : decode cX1_spells 52 = .ok (.if_icmp .ge 11, 3) := dk_162 0 11 (dk_at dksX1_spells_2 4 rfl rfl)
theorem dX1_spells_55 : decode cX1_spells 55 = .ok (.aload_n 0, 1) := dk_42 (dk_at dksX1_spells_2 7 rfl rfl)
theorem dX1_spells_56 : decode cX1_spells 56 = .ok (.getfield 54, 3) := dk_180 0 54 (dk_at dksX1_spells_2 8 rfl rfl)
theorem dX1_spells_59 : decode cX1_spells 59 = .ok (.invokevirtual 217, 3) := dk_182 0 217 (dk_at dksX1_spells_2 11 rfl rfl)
theorem dX1_spells_62 : decode cX1_spells 62 = .ok (.pop, 1) := dk_87 (dk_at dksX1_spells_2 14 rfl rfl)
theorem dX1_spells_63 : decode cX1_spells 63 = .ok (.iinc 1 1, 3) := dk_132 1 1 (dk_at dksX1_spells_2 15 rfl rfl)
theorem dX1_spells_66 : decode cX1_spells 66 = .ok (.goto (-52), 3) := dk_167 255 204 (dk_at dksX1_spells_2 18 rfl rfl)
theorem dX1_spells_69 : decode cX1_spells 69 = .ok (.iconst (-1), 1) := dk_2 (dk_at dksX1_spells_2 21 rfl rfl)
theorem dX1_spells_70 : decode cX1_spells 70 = .ok (.ireturn, 1) := dk_172 (dk_at dksX1_spells_2 22 rfl rfl)
abbrev cX1_mean : ByteArray := prog_1_method_28_code
def yX1_mean : MethodName := ⟨RX1, "mean", "()D"⟩
def dkwX1_mean_2 : List UInt8 := [180, 0, 100, 154, 0, 7, 14, 167, 0, 14, 27, 135, 42, 180, 0, 50, 180, 0, 100, 135, 111, 175]
abbrev dktX1_mean_2 : List UInt8 := dkwX1_mean_2 ++ []
def dkwX1_mean_1 : List UInt8 := [185, 0, 135, 1, 0, 192, 0, 186, 78, 27, 45, 180, 0, 188, 96, 60, 167, 255, 230, 42, 180, 0, 50]
abbrev dktX1_mean_1 : List UInt8 := dkwX1_mean_1 ++ dktX1_mean_2
def dkwX1_mean_0 : List UInt8 := [3, 60, 42, 180, 0, 50, 180, 0, 113, 182, 0, 125, 77, 44, 185, 0, 129, 1, 0, 153, 0, 23, 44]
abbrev dktX1_mean_0 : List UInt8 := dkwX1_mean_0 ++ dktX1_mean_1
theorem dksX1_mean_0 : cX1_mean.data.toList.drop 0 = dktX1_mean_0 := by decide +kernel
theorem dksX1_mean_1 : cX1_mean.data.toList.drop 23 = dktX1_mean_1 := dk_seg dksX1_mean_0 23 rfl rfl
theorem dksX1_mean_2 : cX1_mean.data.toList.drop 46 = dktX1_mean_2 := dk_seg dksX1_mean_1 23 rfl rfl
theorem dX1_mean_0 : decode cX1_mean 0 = .ok (.iconst 0, 1) := dk_3 (dk_at dksX1_mean_0 0 rfl rfl)
theorem dX1_mean_1 : decode cX1_mean 1 = .ok (.istore_n 1, 1) := dk_60 (dk_at dksX1_mean_0 1 rfl rfl)
theorem dX1_mean_2 : decode cX1_mean 2 = .ok (.aload_n 0, 1) := dk_42 (dk_at dksX1_mean_0 2 rfl rfl)
theorem dX1_mean_3 : decode cX1_mean 3 = .ok (.getfield 50, 3) := dk_180 0 50 (dk_at dksX1_mean_0 3 rfl rfl)
theorem dX1_mean_6 : decode cX1_mean 6 = .ok (.getfield 113, 3) := dk_180 0 113 (dk_at dksX1_mean_0 6 rfl rfl)
theorem dX1_mean_9 : decode cX1_mean 9 = .ok (.invokevirtual 125, 3) := dk_182 0 125 (dk_at dksX1_mean_0 9 rfl rfl)
theorem dX1_mean_12 : decode cX1_mean 12 = .ok (.astore_n 2, 1) := dk_77 (dk_at dksX1_mean_0 12 rfl rfl)
theorem dX1_mean_13 : decode cX1_mean 13 = .ok (.aload_n 2, 1) := dk_44 (dk_at dksX1_mean_0 13 rfl rfl)
theorem dX1_mean_14 : decode cX1_mean 14 = .ok (.invokeinterface 129 1, 5) := by decide +kernel
theorem dX1_mean_19 : decode cX1_mean 19 = .ok (.ifCond .eq 23, 3) := dk_153 0 23 (dk_at dksX1_mean_0 19 rfl rfl)
theorem dX1_mean_22 : decode cX1_mean 22 = .ok (.aload_n 2, 1) := dk_44 (dk_at dksX1_mean_0 22 rfl rfl)
theorem dX1_mean_23 : decode cX1_mean 23 = .ok (.invokeinterface 135 1, 5) := by decide +kernel
theorem dX1_mean_28 : decode cX1_mean 28 = .ok (.checkcast 186, 3) := dk_192 0 186 (dk_at dksX1_mean_1 5 rfl rfl)
theorem dX1_mean_31 : decode cX1_mean 31 = .ok (.astore_n 3, 1) := dk_78 (dk_at dksX1_mean_1 8 rfl rfl)
theorem dX1_mean_32 : decode cX1_mean 32 = .ok (.iload_n 1, 1) := dk_27 (dk_at dksX1_mean_1 9 rfl rfl)
theorem dX1_mean_33 : decode cX1_mean 33 = .ok (.aload_n 3, 1) := dk_45 (dk_at dksX1_mean_1 10 rfl rfl)
theorem dX1_mean_34 : decode cX1_mean 34 = .ok (.getfield 188, 3) := dk_180 0 188 (dk_at dksX1_mean_1 11 rfl rfl)
theorem dX1_mean_37 : decode cX1_mean 37 = .ok (.iadd, 1) := dk_96 (dk_at dksX1_mean_1 14 rfl rfl)
theorem dX1_mean_38 : decode cX1_mean 38 = .ok (.istore_n 1, 1) := dk_60 (dk_at dksX1_mean_1 15 rfl rfl)
theorem dX1_mean_39 : decode cX1_mean 39 = .ok (.goto (-26), 3) := dk_167 255 230 (dk_at dksX1_mean_1 16 rfl rfl)
theorem dX1_mean_42 : decode cX1_mean 42 = .ok (.aload_n 0, 1) := dk_42 (dk_at dksX1_mean_1 19 rfl rfl)
theorem dX1_mean_43 : decode cX1_mean 43 = .ok (.getfield 50, 3) := dk_180 0 50 (dk_at dksX1_mean_1 20 rfl rfl)
theorem dX1_mean_46 : decode cX1_mean 46 = .ok (.getfield 100, 3) := dk_180 0 100 (dk_at dksX1_mean_2 0 rfl rfl)
theorem dX1_mean_49 : decode cX1_mean 49 = .ok (.ifCond .ne 7, 3) := dk_154 0 7 (dk_at dksX1_mean_2 3 rfl rfl)
theorem dX1_mean_52 : decode cX1_mean 52 = .ok (.dconst 0, 1) := dk_14 (dk_at dksX1_mean_2 6 rfl rfl)
theorem dX1_mean_53 : decode cX1_mean 53 = .ok (.goto 14, 3) := dk_167 0 14 (dk_at dksX1_mean_2 7 rfl rfl)
theorem dX1_mean_56 : decode cX1_mean 56 = .ok (.iload_n 1, 1) := dk_27 (dk_at dksX1_mean_2 10 rfl rfl)
theorem dX1_mean_57 : decode cX1_mean 57 = .ok (.i2d, 1) := dk_135 (dk_at dksX1_mean_2 11 rfl rfl)
theorem dX1_mean_58 : decode cX1_mean 58 = .ok (.aload_n 0, 1) := dk_42 (dk_at dksX1_mean_2 12 rfl rfl)
theorem dX1_mean_59 : decode cX1_mean 59 = .ok (.getfield 50, 3) := dk_180 0 50 (dk_at dksX1_mean_2 13 rfl rfl)
theorem dX1_mean_62 : decode cX1_mean 62 = .ok (.getfield 100, 3) := dk_180 0 100 (dk_at dksX1_mean_2 16 rfl rfl)
theorem dX1_mean_65 : decode cX1_mean 65 = .ok (.i2d, 1) := dk_135 (dk_at dksX1_mean_2 19 rfl rfl)
theorem dX1_mean_66 : decode cX1_mean 66 = .ok (.ddiv, 1) := dk_111 (dk_at dksX1_mean_2 20 rfl rfl)
theorem dX1_mean_67 : decode cX1_mean 67 = .ok (.dreturn, 1) := dk_175 (dk_at dksX1_mean_2 21 rfl rfl)
abbrev cX1_digest : ByteArray := prog_1_method_29_code
def yX1_digest : MethodName := ⟨RX1, "digest", "()J"⟩
def dkwX1_digest_12 : List UInt8 := [31, 173]
abbrev dktX1_digest_12 : List UInt8 := dkwX1_digest_12 ++ []
def dkwX1_digest_11 : List UInt8 := [20, 0, 230, 105, 42, 180, 0, 50, 180, 0, 116, 29, 182, 0, 195, 133, 97, 64, 132, 3, 1, 167, 255, 220]
abbrev dktX1_digest_11 : List UInt8 := dkwX1_digest_11 ++ dktX1_digest_12
def dkwX1_digest_10 : List UInt8 := [133, 97, 64, 167, 255, 223, 3, 62, 29, 42, 180, 0, 50, 180, 0, 116, 182, 0, 120, 162, 0, 28, 31]
abbrev dktX1_digest_10 : List UInt8 := dkwX1_digest_10 ++ dktX1_digest_11
def dkwX1_digest_9 : List UInt8 := [153, 0, 30, 45, 185, 0, 135, 1, 0, 192, 0, 186, 58, 4, 31, 20, 0, 230, 105, 25, 4, 180, 0, 188]
abbrev dktX1_digest_9 : List UInt8 := dkwX1_digest_9 ++ dktX1_digest_10
def dkwX1_digest_8 : List UInt8 := [167, 255, 222, 167, 255, 180, 42, 180, 0, 50, 180, 0, 113, 182, 0, 125, 78, 45, 185, 0, 129, 1, 0]
abbrev dktX1_digest_8 : List UInt8 := dkwX1_digest_8 ++ dktX1_digest_9
def dkwX1_digest_7 : List UInt8 := [162, 0, 27, 31, 20, 0, 230, 105, 25, 4, 180, 0, 175, 21, 5, 182, 0, 182, 133, 97, 64, 132, 5, 1]
abbrev dktX1_digest_7 : List UInt8 := dkwX1_digest_7 ++ dktX1_digest_8
def dkwX1_digest_6 : List UInt8 := [25, 4, 180, 0, 175, 182, 0, 179, 133, 97, 64, 3, 54, 5, 21, 5, 25, 4, 180, 0, 175, 182, 0, 179]
abbrev dktX1_digest_6 : List UInt8 := dkwX1_digest_6 ++ dktX1_digest_7
def dkwX1_digest_5 : List UInt8 := [185, 0, 129, 1, 0, 153, 0, 73, 45, 185, 0, 135, 1, 0, 192, 0, 173, 58, 4, 31, 20, 0, 230, 105]
abbrev dktX1_digest_5 : List UInt8 := dkwX1_digest_5 ++ dktX1_digest_6
def dkwX1_digest_4 : List UInt8 := [132, 5, 1, 167, 255, 224, 167, 255, 198, 42, 180, 0, 50, 180, 0, 110, 182, 0, 125, 78, 45]
abbrev dktX1_digest_4 : List UInt8 := dkwX1_digest_4 ++ dktX1_digest_5
def dkwX1_digest_3 : List UInt8 := [31, 20, 0, 230, 105, 25, 4, 21, 5, 42, 180, 0, 50, 180, 0, 100, 182, 0, 151, 133, 97, 64]
abbrev dktX1_digest_3 : List UInt8 := dkwX1_digest_3 ++ dktX1_digest_4
def dkwX1_digest_2 : List UInt8 := [153, 0, 55, 45, 185, 0, 135, 1, 0, 192, 0, 139, 58, 4, 3, 54, 5, 21, 5, 16, 7, 162, 0, 31]
abbrev dktX1_digest_2 : List UInt8 := dkwX1_digest_2 ++ dktX1_digest_3
def dkwX1_digest_1 : List UInt8 := [64, 132, 3, 1, 167, 255, 234, 42, 180, 0, 50, 180, 0, 103, 182, 0, 125, 78, 45, 185, 0, 129, 1, 0]
abbrev dktX1_digest_1 : List UInt8 := dkwX1_digest_1 ++ dktX1_digest_2
def dkwX1_digest_0 : List UInt8 := [20, 0, 228, 64, 3, 62, 29, 16, 8, 162, 0, 22, 31, 20, 0, 230, 105, 42, 29, 182, 0, 232, 133, 97]
abbrev dktX1_digest_0 : List UInt8 := dkwX1_digest_0 ++ dktX1_digest_1
theorem dksX1_digest_0 : cX1_digest.data.toList.drop 0 = dktX1_digest_0 := by decide +kernel
theorem dksX1_digest_1 : cX1_digest.data.toList.drop 24 = dktX1_digest_1 := dk_seg dksX1_digest_0 24 rfl rfl
theorem dksX1_digest_2 : cX1_digest.data.toList.drop 48 = dktX1_digest_2 := dk_seg dksX1_digest_1 24 rfl rfl
theorem dksX1_digest_3 : cX1_digest.data.toList.drop 72 = dktX1_digest_3 := dk_seg dksX1_digest_2 24 rfl rfl
theorem dksX1_digest_4 : cX1_digest.data.toList.drop 94 = dktX1_digest_4 := dk_seg dksX1_digest_3 22 rfl rfl
theorem dksX1_digest_5 : cX1_digest.data.toList.drop 115 = dktX1_digest_5 := dk_seg dksX1_digest_4 21 rfl rfl
theorem dksX1_digest_6 : cX1_digest.data.toList.drop 139 = dktX1_digest_6 := dk_seg dksX1_digest_5 24 rfl rfl
theorem dksX1_digest_7 : cX1_digest.data.toList.drop 163 = dktX1_digest_7 := dk_seg dksX1_digest_6 24 rfl rfl
theorem dksX1_digest_8 : cX1_digest.data.toList.drop 187 = dktX1_digest_8 := dk_seg dksX1_digest_7 24 rfl rfl
theorem dksX1_digest_9 : cX1_digest.data.toList.drop 210 = dktX1_digest_9 := dk_seg dksX1_digest_8 23 rfl rfl
theorem dksX1_digest_10 : cX1_digest.data.toList.drop 234 = dktX1_digest_10 := dk_seg dksX1_digest_9 24 rfl rfl
theorem dksX1_digest_11 : cX1_digest.data.toList.drop 257 = dktX1_digest_11 := dk_seg dksX1_digest_10 23 rfl rfl
theorem dksX1_digest_12 : cX1_digest.data.toList.drop 281 = dktX1_digest_12 := dk_seg dksX1_digest_11 24 rfl rfl
theorem dX1_digest_0 : decode cX1_digest 0 = .ok (.ldc2_w 228, 3) := dk_20 0 228 (dk_at dksX1_digest_0 0 rfl rfl)
theorem dX1_digest_3 : decode cX1_digest 3 = .ok (.lstore_n 1, 1) := dk_64 (dk_at dksX1_digest_0 3 rfl rfl)
theorem dX1_digest_4 : decode cX1_digest 4 = .ok (.iconst 0, 1) := dk_3 (dk_at dksX1_digest_0 4 rfl rfl)
theorem dX1_digest_5 : decode cX1_digest 5 = .ok (.istore_n 3, 1) := dk_62 (dk_at dksX1_digest_0 5 rfl rfl)
theorem dX1_digest_6 : decode cX1_digest 6 = .ok (.iload_n 3, 1) := dk_29 (dk_at dksX1_digest_0 6 rfl rfl)
theorem dX1_digest_7 : decode cX1_digest 7 = .ok (.bipush 8, 2) := dk_16 8 (dk_at dksX1_digest_0 7 rfl rfl)
theorem dX1_digest_9 : decode cX1_digest 9 = .ok (.if_icmp .ge 22, 3) := dk_162 0 22 (dk_at dksX1_digest_0 9 rfl rfl)
theorem dX1_digest_12 : decode cX1_digest 12 = .ok (.lload_n 1, 1) := dk_31 (dk_at dksX1_digest_0 12 rfl rfl)
theorem dX1_digest_13 : decode cX1_digest 13 = .ok (.ldc2_w 230, 3) := dk_20 0 230 (dk_at dksX1_digest_0 13 rfl rfl)
theorem dX1_digest_16 : decode cX1_digest 16 = .ok (.lmul, 1) := dk_105 (dk_at dksX1_digest_0 16 rfl rfl)
theorem dX1_digest_17 : decode cX1_digest 17 = .ok (.aload_n 0, 1) := dk_42 (dk_at dksX1_digest_0 17 rfl rfl)
theorem dX1_digest_18 : decode cX1_digest 18 = .ok (.iload_n 3, 1) := dk_29 (dk_at dksX1_digest_0 18 rfl rfl)
theorem dX1_digest_19 : decode cX1_digest 19 = .ok (.invokevirtual 232, 3) := dk_182 0 232 (dk_at dksX1_digest_0 19 rfl rfl)
theorem dX1_digest_22 : decode cX1_digest 22 = .ok (.i2l, 1) := dk_133 (dk_at dksX1_digest_0 22 rfl rfl)
theorem dX1_digest_23 : decode cX1_digest 23 = .ok (.ladd, 1) := dk_97 (dk_at dksX1_digest_0 23 rfl rfl)
theorem dX1_digest_24 : decode cX1_digest 24 = .ok (.lstore_n 1, 1) := dk_64 (dk_at dksX1_digest_1 0 rfl rfl)
theorem dX1_digest_25 : decode cX1_digest 25 = .ok (.iinc 3 1, 3) := dk_132 3 1 (dk_at dksX1_digest_1 1 rfl rfl)
theorem dX1_digest_28 : decode cX1_digest 28 = .ok (.goto (-22), 3) := dk_167 255 234 (dk_at dksX1_digest_1 4 rfl rfl)
theorem dX1_digest_31 : decode cX1_digest 31 = .ok (.aload_n 0, 1) := dk_42 (dk_at dksX1_digest_1 7 rfl rfl)
theorem dX1_digest_32 : decode cX1_digest 32 = .ok (.getfield 50, 3) := dk_180 0 50 (dk_at dksX1_digest_1 8 rfl rfl)
theorem dX1_digest_35 : decode cX1_digest 35 = .ok (.getfield 103, 3) := dk_180 0 103 (dk_at dksX1_digest_1 11 rfl rfl)
theorem dX1_digest_38 : decode cX1_digest 38 = .ok (.invokevirtual 125, 3) := dk_182 0 125 (dk_at dksX1_digest_1 14 rfl rfl)
theorem dX1_digest_41 : decode cX1_digest 41 = .ok (.astore_n 3, 1) := dk_78 (dk_at dksX1_digest_1 17 rfl rfl)
theorem dX1_digest_42 : decode cX1_digest 42 = .ok (.aload_n 3, 1) := dk_45 (dk_at dksX1_digest_1 18 rfl rfl)
theorem dX1_digest_43 : decode cX1_digest 43 = .ok (.invokeinterface 129 1, 5) := by decide +kernel
theorem dX1_digest_48 : decode cX1_digest 48 = .ok (.ifCond .eq 55, 3) := dk_153 0 55 (dk_at dksX1_digest_2 0 rfl rfl)
theorem dX1_digest_51 : decode cX1_digest 51 = .ok (.aload_n 3, 1) := dk_45 (dk_at dksX1_digest_2 3 rfl rfl)
theorem dX1_digest_52 : decode cX1_digest 52 = .ok (.invokeinterface 135 1, 5) := by decide +kernel
theorem dX1_digest_57 : decode cX1_digest 57 = .ok (.checkcast 139, 3) := dk_192 0 139 (dk_at dksX1_digest_2 9 rfl rfl)
theorem dX1_digest_60 : decode cX1_digest 60 = .ok (.astore 4, 2) := dk_58 4 (dk_at dksX1_digest_2 12 rfl rfl)
theorem dX1_digest_62 : decode cX1_digest 62 = .ok (.iconst 0, 1) := dk_3 (dk_at dksX1_digest_2 14 rfl rfl)
theorem dX1_digest_63 : decode cX1_digest 63 = .ok (.istore 5, 2) := dk_54 5 (dk_at dksX1_digest_2 15 rfl rfl)
theorem dX1_digest_65 : decode cX1_digest 65 = .ok (.iload 5, 2) := dk_21 5 (dk_at dksX1_digest_2 17 rfl rfl)
theorem dX1_digest_67 : decode cX1_digest 67 = .ok (.bipush 7, 2) := dk_16 7 (dk_at dksX1_digest_2 19 rfl rfl)
theorem dX1_digest_69 : decode cX1_digest 69 = .ok (.if_icmp .ge 31, 3) := dk_162 0 31 (dk_at dksX1_digest_2 21 rfl rfl)
theorem dX1_digest_72 : decode cX1_digest 72 = .ok (.lload_n 1, 1) := dk_31 (dk_at dksX1_digest_3 0 rfl rfl)
theorem dX1_digest_73 : decode cX1_digest 73 = .ok (.ldc2_w 230, 3) := dk_20 0 230 (dk_at dksX1_digest_3 1 rfl rfl)
theorem dX1_digest_76 : decode cX1_digest 76 = .ok (.lmul, 1) := dk_105 (dk_at dksX1_digest_3 4 rfl rfl)
theorem dX1_digest_77 : decode cX1_digest 77 = .ok (.aload 4, 2) := dk_25 4 (dk_at dksX1_digest_3 5 rfl rfl)
theorem dX1_digest_79 : decode cX1_digest 79 = .ok (.iload 5, 2) := dk_21 5 (dk_at dksX1_digest_3 7 rfl rfl)
theorem dX1_digest_81 : decode cX1_digest 81 = .ok (.aload_n 0, 1) := dk_42 (dk_at dksX1_digest_3 9 rfl rfl)
theorem dX1_digest_82 : decode cX1_digest 82 = .ok (.getfield 50, 3) := dk_180 0 50 (dk_at dksX1_digest_3 10 rfl rfl)
theorem dX1_digest_85 : decode cX1_digest 85 = .ok (.getfield 100, 3) := dk_180 0 100 (dk_at dksX1_digest_3 13 rfl rfl)
theorem dX1_digest_88 : decode cX1_digest 88 = .ok (.invokevirtual 151, 3) := dk_182 0 151 (dk_at dksX1_digest_3 16 rfl rfl)
theorem dX1_digest_91 : decode cX1_digest 91 = .ok (.i2l, 1) := dk_133 (dk_at dksX1_digest_3 19 rfl rfl)
theorem dX1_digest_92 : decode cX1_digest 92 = .ok (.ladd, 1) := dk_97 (dk_at dksX1_digest_3 20 rfl rfl)
theorem dX1_digest_93 : decode cX1_digest 93 = .ok (.lstore_n 1, 1) := dk_64 (dk_at dksX1_digest_3 21 rfl rfl)
theorem dX1_digest_94 : decode cX1_digest 94 = .ok (.iinc 5 1, 3) := dk_132 5 1 (dk_at dksX1_digest_4 0 rfl rfl)
theorem dX1_digest_97 : decode cX1_digest 97 = .ok (.goto (-32), 3) := dk_167 255 224 (dk_at dksX1_digest_4 3 rfl rfl)
theorem dX1_digest_100 : decode cX1_digest 100 = .ok (.goto (-58), 3) := dk_167 255 198 (dk_at dksX1_digest_4 6 rfl rfl)
theorem dX1_digest_103 : decode cX1_digest 103 = .ok (.aload_n 0, 1) := dk_42 (dk_at dksX1_digest_4 9 rfl rfl)
theorem dX1_digest_104 : decode cX1_digest 104 = .ok (.getfield 50, 3) := dk_180 0 50 (dk_at dksX1_digest_4 10 rfl rfl)
theorem dX1_digest_107 : decode cX1_digest 107 = .ok (.getfield 110, 3) := dk_180 0 110 (dk_at dksX1_digest_4 13 rfl rfl)
theorem dX1_digest_110 : decode cX1_digest 110 = .ok (.invokevirtual 125, 3) := dk_182 0 125 (dk_at dksX1_digest_4 16 rfl rfl)
theorem dX1_digest_113 : decode cX1_digest 113 = .ok (.astore_n 3, 1) := dk_78 (dk_at dksX1_digest_4 19 rfl rfl)
theorem dX1_digest_114 : decode cX1_digest 114 = .ok (.aload_n 3, 1) := dk_45 (dk_at dksX1_digest_4 20 rfl rfl)
theorem dX1_digest_115 : decode cX1_digest 115 = .ok (.invokeinterface 129 1, 5) := by decide +kernel
theorem dX1_digest_120 : decode cX1_digest 120 = .ok (.ifCond .eq 73, 3) := dk_153 0 73 (dk_at dksX1_digest_5 5 rfl rfl)
theorem dX1_digest_123 : decode cX1_digest 123 = .ok (.aload_n 3, 1) := dk_45 (dk_at dksX1_digest_5 8 rfl rfl)
theorem dX1_digest_124 : decode cX1_digest 124 = .ok (.invokeinterface 135 1, 5) := by decide +kernel
theorem dX1_digest_129 : decode cX1_digest 129 = .ok (.checkcast 173, 3) := dk_192 0 173 (dk_at dksX1_digest_5 14 rfl rfl)
theorem dX1_digest_132 : decode cX1_digest 132 = .ok (.astore 4, 2) := dk_58 4 (dk_at dksX1_digest_5 17 rfl rfl)
theorem dX1_digest_134 : decode cX1_digest 134 = .ok (.lload_n 1, 1) := dk_31 (dk_at dksX1_digest_5 19 rfl rfl)
theorem dX1_digest_135 : decode cX1_digest 135 = .ok (.ldc2_w 230, 3) := dk_20 0 230 (dk_at dksX1_digest_5 20 rfl rfl)
theorem dX1_digest_138 : decode cX1_digest 138 = .ok (.lmul, 1) := dk_105 (dk_at dksX1_digest_5 23 rfl rfl)
theorem dX1_digest_139 : decode cX1_digest 139 = .ok (.aload 4, 2) := dk_25 4 (dk_at dksX1_digest_6 0 rfl rfl)
theorem dX1_digest_141 : decode cX1_digest 141 = .ok (.getfield 175, 3) := dk_180 0 175 (dk_at dksX1_digest_6 2 rfl rfl)
theorem dX1_digest_144 : decode cX1_digest 144 = .ok (.invokevirtual 179, 3) := dk_182 0 179 (dk_at dksX1_digest_6 5 rfl rfl)
theorem dX1_digest_147 : decode cX1_digest 147 = .ok (.i2l, 1) := dk_133 (dk_at dksX1_digest_6 8 rfl rfl)
theorem dX1_digest_148 : decode cX1_digest 148 = .ok (.ladd, 1) := dk_97 (dk_at dksX1_digest_6 9 rfl rfl)
theorem dX1_digest_149 : decode cX1_digest 149 = .ok (.lstore_n 1, 1) := dk_64 (dk_at dksX1_digest_6 10 rfl rfl)
theorem dX1_digest_150 : decode cX1_digest 150 = .ok (.iconst 0, 1) := dk_3 (dk_at dksX1_digest_6 11 rfl rfl)
theorem dX1_digest_151 : decode cX1_digest 151 = .ok (.istore 5, 2) := dk_54 5 (dk_at dksX1_digest_6 12 rfl rfl)
theorem dX1_digest_153 : decode cX1_digest 153 = .ok (.iload 5, 2) := dk_21 5 (dk_at dksX1_digest_6 14 rfl rfl)
theorem dX1_digest_155 : decode cX1_digest 155 = .ok (.aload 4, 2) := dk_25 4 (dk_at dksX1_digest_6 16 rfl rfl)
theorem dX1_digest_157 : decode cX1_digest 157 = .ok (.getfield 175, 3) := dk_180 0 175 (dk_at dksX1_digest_6 18 rfl rfl)
theorem dX1_digest_160 : decode cX1_digest 160 = .ok (.invokevirtual 179, 3) := dk_182 0 179 (dk_at dksX1_digest_6 21 rfl rfl)
theorem dX1_digest_163 : decode cX1_digest 163 = .ok (.if_icmp .ge 27, 3) := dk_162 0 27 (dk_at dksX1_digest_7 0 rfl rfl)
theorem dX1_digest_166 : decode cX1_digest 166 = .ok (.lload_n 1, 1) := dk_31 (dk_at dksX1_digest_7 3 rfl rfl)
theorem dX1_digest_167 : decode cX1_digest 167 = .ok (.ldc2_w 230, 3) := dk_20 0 230 (dk_at dksX1_digest_7 4 rfl rfl)
theorem dX1_digest_170 : decode cX1_digest 170 = .ok (.lmul, 1) := dk_105 (dk_at dksX1_digest_7 7 rfl rfl)
theorem dX1_digest_171 : decode cX1_digest 171 = .ok (.aload 4, 2) := dk_25 4 (dk_at dksX1_digest_7 8 rfl rfl)
theorem dX1_digest_173 : decode cX1_digest 173 = .ok (.getfield 175, 3) := dk_180 0 175 (dk_at dksX1_digest_7 10 rfl rfl)
theorem dX1_digest_176 : decode cX1_digest 176 = .ok (.iload 5, 2) := dk_21 5 (dk_at dksX1_digest_7 13 rfl rfl)
theorem dX1_digest_178 : decode cX1_digest 178 = .ok (.invokevirtual 182, 3) := dk_182 0 182 (dk_at dksX1_digest_7 15 rfl rfl)
theorem dX1_digest_181 : decode cX1_digest 181 = .ok (.i2l, 1) := dk_133 (dk_at dksX1_digest_7 18 rfl rfl)
theorem dX1_digest_182 : decode cX1_digest 182 = .ok (.ladd, 1) := dk_97 (dk_at dksX1_digest_7 19 rfl rfl)
theorem dX1_digest_183 : decode cX1_digest 183 = .ok (.lstore_n 1, 1) := dk_64 (dk_at dksX1_digest_7 20 rfl rfl)
theorem dX1_digest_184 : decode cX1_digest 184 = .ok (.iinc 5 1, 3) := dk_132 5 1 (dk_at dksX1_digest_7 21 rfl rfl)
theorem dX1_digest_187 : decode cX1_digest 187 = .ok (.goto (-34), 3) := dk_167 255 222 (dk_at dksX1_digest_8 0 rfl rfl)
theorem dX1_digest_190 : decode cX1_digest 190 = .ok (.goto (-76), 3) := dk_167 255 180 (dk_at dksX1_digest_8 3 rfl rfl)
theorem dX1_digest_193 : decode cX1_digest 193 = .ok (.aload_n 0, 1) := dk_42 (dk_at dksX1_digest_8 6 rfl rfl)
theorem dX1_digest_194 : decode cX1_digest 194 = .ok (.getfield 50, 3) := dk_180 0 50 (dk_at dksX1_digest_8 7 rfl rfl)
theorem dX1_digest_197 : decode cX1_digest 197 = .ok (.getfield 113, 3) := dk_180 0 113 (dk_at dksX1_digest_8 10 rfl rfl)
theorem dX1_digest_200 : decode cX1_digest 200 = .ok (.invokevirtual 125, 3) := dk_182 0 125 (dk_at dksX1_digest_8 13 rfl rfl)
theorem dX1_digest_203 : decode cX1_digest 203 = .ok (.astore_n 3, 1) := dk_78 (dk_at dksX1_digest_8 16 rfl rfl)
theorem dX1_digest_204 : decode cX1_digest 204 = .ok (.aload_n 3, 1) := dk_45 (dk_at dksX1_digest_8 17 rfl rfl)
theorem dX1_digest_205 : decode cX1_digest 205 = .ok (.invokeinterface 129 1, 5) := by decide +kernel
theorem dX1_digest_210 : decode cX1_digest 210 = .ok (.ifCond .eq 30, 3) := dk_153 0 30 (dk_at dksX1_digest_9 0 rfl rfl)
theorem dX1_digest_213 : decode cX1_digest 213 = .ok (.aload_n 3, 1) := dk_45 (dk_at dksX1_digest_9 3 rfl rfl)
theorem dX1_digest_214 : decode cX1_digest 214 = .ok (.invokeinterface 135 1, 5) := by decide +kernel
theorem dX1_digest_219 : decode cX1_digest 219 = .ok (.checkcast 186, 3) := dk_192 0 186 (dk_at dksX1_digest_9 9 rfl rfl)
theorem dX1_digest_222 : decode cX1_digest 222 = .ok (.astore 4, 2) := dk_58 4 (dk_at dksX1_digest_9 12 rfl rfl)
theorem dX1_digest_224 : decode cX1_digest 224 = .ok (.lload_n 1, 1) := dk_31 (dk_at dksX1_digest_9 14 rfl rfl)
theorem dX1_digest_225 : decode cX1_digest 225 = .ok (.ldc2_w 230, 3) := dk_20 0 230 (dk_at dksX1_digest_9 15 rfl rfl)
theorem dX1_digest_228 : decode cX1_digest 228 = .ok (.lmul, 1) := dk_105 (dk_at dksX1_digest_9 18 rfl rfl)
theorem dX1_digest_229 : decode cX1_digest 229 = .ok (.aload 4, 2) := dk_25 4 (dk_at dksX1_digest_9 19 rfl rfl)
theorem dX1_digest_231 : decode cX1_digest 231 = .ok (.getfield 188, 3) := dk_180 0 188 (dk_at dksX1_digest_9 21 rfl rfl)
theorem dX1_digest_234 : decode cX1_digest 234 = .ok (.i2l, 1) := dk_133 (dk_at dksX1_digest_10 0 rfl rfl)
theorem dX1_digest_235 : decode cX1_digest 235 = .ok (.ladd, 1) := dk_97 (dk_at dksX1_digest_10 1 rfl rfl)
theorem dX1_digest_236 : decode cX1_digest 236 = .ok (.lstore_n 1, 1) := dk_64 (dk_at dksX1_digest_10 2 rfl rfl)
theorem dX1_digest_237 : decode cX1_digest 237 = .ok (.goto (-33), 3) := dk_167 255 223 (dk_at dksX1_digest_10 3 rfl rfl)
theorem dX1_digest_240 : decode cX1_digest 240 = .ok (.iconst 0, 1) := dk_3 (dk_at dksX1_digest_10 6 rfl rfl)
theorem dX1_digest_241 : decode cX1_digest 241 = .ok (.istore_n 3, 1) := dk_62 (dk_at dksX1_digest_10 7 rfl rfl)
theorem dX1_digest_242 : decode cX1_digest 242 = .ok (.iload_n 3, 1) := dk_29 (dk_at dksX1_digest_10 8 rfl rfl)
theorem dX1_digest_243 : decode cX1_digest 243 = .ok (.aload_n 0, 1) := dk_42 (dk_at dksX1_digest_10 9 rfl rfl)
theorem dX1_digest_244 : decode cX1_digest 244 = .ok (.getfield 50, 3) := dk_180 0 50 (dk_at dksX1_digest_10 10 rfl rfl)
theorem dX1_digest_247 : decode cX1_digest 247 = .ok (.getfield 116, 3) := dk_180 0 116 (dk_at dksX1_digest_10 13 rfl rfl)
theorem dX1_digest_250 : decode cX1_digest 250 = .ok (.invokevirtual 120, 3) := dk_182 0 120 (dk_at dksX1_digest_10 16 rfl rfl)
theorem dX1_digest_253 : decode cX1_digest 253 = .ok (.if_icmp .ge 28, 3) := dk_162 0 28 (dk_at dksX1_digest_10 19 rfl rfl)
theorem dX1_digest_256 : decode cX1_digest 256 = .ok (.lload_n 1, 1) := dk_31 (dk_at dksX1_digest_10 22 rfl rfl)
theorem dX1_digest_257 : decode cX1_digest 257 = .ok (.ldc2_w 230, 3) := dk_20 0 230 (dk_at dksX1_digest_11 0 rfl rfl)
theorem dX1_digest_260 : decode cX1_digest 260 = .ok (.lmul, 1) := dk_105 (dk_at dksX1_digest_11 3 rfl rfl)
theorem dX1_digest_261 : decode cX1_digest 261 = .ok (.aload_n 0, 1) := dk_42 (dk_at dksX1_digest_11 4 rfl rfl)
theorem dX1_digest_262 : decode cX1_digest 262 = .ok (.getfield 50, 3) := dk_180 0 50 (dk_at dksX1_digest_11 5 rfl rfl)
theorem dX1_digest_265 : decode cX1_digest 265 = .ok (.getfield 116, 3) := dk_180 0 116 (dk_at dksX1_digest_11 8 rfl rfl)
theorem dX1_digest_268 : decode cX1_digest 268 = .ok (.iload_n 3, 1) := dk_29 (dk_at dksX1_digest_11 11 rfl rfl)
theorem dX1_digest_269 : decode cX1_digest 269 = .ok (.invokevirtual 195, 3) := dk_182 0 195 (dk_at dksX1_digest_11 12 rfl rfl)
theorem dX1_digest_272 : decode cX1_digest 272 = .ok (.i2l, 1) := dk_133 (dk_at dksX1_digest_11 15 rfl rfl)
theorem dX1_digest_273 : decode cX1_digest 273 = .ok (.ladd, 1) := dk_97 (dk_at dksX1_digest_11 16 rfl rfl)
theorem dX1_digest_274 : decode cX1_digest 274 = .ok (.lstore_n 1, 1) := dk_64 (dk_at dksX1_digest_11 17 rfl rfl)
theorem dX1_digest_275 : decode cX1_digest 275 = .ok (.iinc 3 1, 3) := dk_132 3 1 (dk_at dksX1_digest_11 18 rfl rfl)
theorem dX1_digest_278 : decode cX1_digest 278 = .ok (.goto (-36), 3) := dk_167 255 220 (dk_at dksX1_digest_11 21 rfl rfl)
theorem dX1_digest_281 : decode cX1_digest 281 = .ok (.lload_n 1, 1) := dk_31 (dk_at dksX1_digest_12 0 rfl rfl)
theorem dX1_digest_282 : decode cX1_digest 282 = .ok (.lreturn, 1) := dk_173 (dk_at dksX1_digest_12 1 rfl rfl)
abbrev cX1_count : ByteArray := prog_1_method_11_code
def yX1_count : MethodName := ⟨RX1, "count", "(I)I"⟩
def dkwX1_count_7 : List UInt8 := [167, 255, 213, 28, 172, 42, 180, 0, 50, 182, 0, 145, 172]
abbrev dktX1_count_7 : List UInt8 := dkwX1_count_7 ++ []
def dkwX1_count_6 : List UInt8 := [28, 25, 4, 42, 180, 0, 50, 180, 0, 100, 182, 0, 141, 153, 0, 7, 4, 167, 0, 4, 3, 96, 61]
abbrev dktX1_count_6 : List UInt8 := dkwX1_count_6 ++ dktX1_count_7
def dkwX1_count_5 : List UInt8 := [182, 0, 125, 78, 45, 185, 0, 129, 1, 0, 153, 0, 40, 45, 185, 0, 135, 1, 0, 192, 0, 139, 58, 4]
abbrev dktX1_count_5 : List UInt8 := dkwX1_count_5 ++ dktX1_count_6
def dkwX1_count_4 : List UInt8 := [180, 0, 57, 172, 42, 180, 0, 50, 180, 0, 116, 182, 0, 120, 172, 42, 180, 0, 50, 180, 0, 103]
abbrev dktX1_count_4 : List UInt8 := dkwX1_count_4 ++ dktX1_count_5
def dkwX1_count_3 : List UInt8 := [180, 0, 110, 182, 0, 107, 172, 42, 180, 0, 50, 180, 0, 113, 182, 0, 107, 172, 42, 180, 0, 39]
abbrev dktX1_count_3 : List UInt8 := dkwX1_count_3 ++ dktX1_count_4
def dkwX1_count_2 : List UInt8 := [42, 180, 0, 50, 180, 0, 100, 172, 42, 180, 0, 50, 180, 0, 103, 182, 0, 107, 172, 42, 180, 0, 50]
abbrev dktX1_count_2 : List UInt8 := dkwX1_count_2 ++ dktX1_count_3
def dkwX1_count_1 : List UInt8 := [170, 0, 0, 0, 0, 0, 162, 0, 0, 0, 0, 0, 0, 0, 6, 0, 0, 0, 43, 0, 0, 0, 51, 0, 0, 0, 62, 0, 0, 0, 73, 0, 0, 0, 84, 0, 0, 0, 92, 0, 0, 0, 103]
abbrev dktX1_count_1 : List UInt8 := dkwX1_count_1 ++ dktX1_count_2
def dkwX1_count_0 : List UInt8 := [27, 16, 8, 184, 0, 25, 3, 61, 27]
abbrev dktX1_count_0 : List UInt8 := dkwX1_count_0 ++ dktX1_count_1
theorem dksX1_count_0 : cX1_count.data.toList.drop 0 = dktX1_count_0 := by decide +kernel
theorem dksX1_count_1 : cX1_count.data.toList.drop 9 = dktX1_count_1 := dk_seg dksX1_count_0 9 rfl rfl
theorem dksX1_count_2 : cX1_count.data.toList.drop 52 = dktX1_count_2 := dk_seg dksX1_count_1 43 rfl rfl
theorem dksX1_count_3 : cX1_count.data.toList.drop 75 = dktX1_count_3 := dk_seg dksX1_count_2 23 rfl rfl
theorem dksX1_count_4 : cX1_count.data.toList.drop 97 = dktX1_count_4 := dk_seg dksX1_count_3 22 rfl rfl
theorem dksX1_count_5 : cX1_count.data.toList.drop 119 = dktX1_count_5 := dk_seg dksX1_count_4 22 rfl rfl
theorem dksX1_count_6 : cX1_count.data.toList.drop 143 = dktX1_count_6 := dk_seg dksX1_count_5 24 rfl rfl
theorem dksX1_count_7 : cX1_count.data.toList.drop 166 = dktX1_count_7 := dk_seg dksX1_count_6 23 rfl rfl
theorem dX1_count_0 : decode cX1_count 0 = .ok (.iload_n 1, 1) := dk_27 (dk_at dksX1_count_0 0 rfl rfl)
theorem dX1_count_1 : decode cX1_count 1 = .ok (.bipush 8, 2) := dk_16 8 (dk_at dksX1_count_0 1 rfl rfl)
theorem dX1_count_3 : decode cX1_count 3 = .ok (.invokestatic 25, 3) := dk_184 0 25 (dk_at dksX1_count_0 3 rfl rfl)
theorem dX1_count_6 : decode cX1_count 6 = .ok (.iconst 0, 1) := dk_3 (dk_at dksX1_count_0 6 rfl rfl)
theorem dX1_count_7 : decode cX1_count 7 = .ok (.istore_n 2, 1) := dk_61 (dk_at dksX1_count_0 7 rfl rfl)
theorem dX1_count_8 : decode cX1_count 8 = .ok (.iload_n 1, 1) := dk_27 (dk_at dksX1_count_0 8 rfl rfl)
theorem dX1_count_9 : decode cX1_count 9 = .ok (.tableswitch 162 0 6 #[43, 51, 62, 73, 84, 92, 103], 43) := by decide +kernel
theorem dX1_count_52 : decode cX1_count 52 = .ok (.aload_n 0, 1) := dk_42 (dk_at dksX1_count_2 0 rfl rfl)
theorem dX1_count_53 : decode cX1_count 53 = .ok (.getfield 50, 3) := dk_180 0 50 (dk_at dksX1_count_2 1 rfl rfl)
theorem dX1_count_56 : decode cX1_count 56 = .ok (.getfield 100, 3) := dk_180 0 100 (dk_at dksX1_count_2 4 rfl rfl)
theorem dX1_count_59 : decode cX1_count 59 = .ok (.ireturn, 1) := dk_172 (dk_at dksX1_count_2 7 rfl rfl)
theorem dX1_count_60 : decode cX1_count 60 = .ok (.aload_n 0, 1) := dk_42 (dk_at dksX1_count_2 8 rfl rfl)
theorem dX1_count_61 : decode cX1_count 61 = .ok (.getfield 50, 3) := dk_180 0 50 (dk_at dksX1_count_2 9 rfl rfl)
theorem dX1_count_64 : decode cX1_count 64 = .ok (.getfield 103, 3) := dk_180 0 103 (dk_at dksX1_count_2 12 rfl rfl)
theorem dX1_count_67 : decode cX1_count 67 = .ok (.invokevirtual 107, 3) := dk_182 0 107 (dk_at dksX1_count_2 15 rfl rfl)
theorem dX1_count_70 : decode cX1_count 70 = .ok (.ireturn, 1) := dk_172 (dk_at dksX1_count_2 18 rfl rfl)
theorem dX1_count_71 : decode cX1_count 71 = .ok (.aload_n 0, 1) := dk_42 (dk_at dksX1_count_2 19 rfl rfl)
theorem dX1_count_72 : decode cX1_count 72 = .ok (.getfield 50, 3) := dk_180 0 50 (dk_at dksX1_count_2 20 rfl rfl)
theorem dX1_count_75 : decode cX1_count 75 = .ok (.getfield 110, 3) := dk_180 0 110 (dk_at dksX1_count_3 0 rfl rfl)
theorem dX1_count_78 : decode cX1_count 78 = .ok (.invokevirtual 107, 3) := dk_182 0 107 (dk_at dksX1_count_3 3 rfl rfl)
theorem dX1_count_81 : decode cX1_count 81 = .ok (.ireturn, 1) := dk_172 (dk_at dksX1_count_3 6 rfl rfl)
theorem dX1_count_82 : decode cX1_count 82 = .ok (.aload_n 0, 1) := dk_42 (dk_at dksX1_count_3 7 rfl rfl)
theorem dX1_count_83 : decode cX1_count 83 = .ok (.getfield 50, 3) := dk_180 0 50 (dk_at dksX1_count_3 8 rfl rfl)
theorem dX1_count_86 : decode cX1_count 86 = .ok (.getfield 113, 3) := dk_180 0 113 (dk_at dksX1_count_3 11 rfl rfl)
theorem dX1_count_89 : decode cX1_count 89 = .ok (.invokevirtual 107, 3) := dk_182 0 107 (dk_at dksX1_count_3 14 rfl rfl)
theorem dX1_count_92 : decode cX1_count 92 = .ok (.ireturn, 1) := dk_172 (dk_at dksX1_count_3 17 rfl rfl)
theorem dX1_count_93 : decode cX1_count 93 = .ok (.aload_n 0, 1) := dk_42 (dk_at dksX1_count_3 18 rfl rfl)
theorem dX1_count_94 : decode cX1_count 94 = .ok (.getfield 39, 3) := dk_180 0 39 (dk_at dksX1_count_3 19 rfl rfl)
theorem dX1_count_97 : decode cX1_count 97 = .ok (.getfield 57, 3) := dk_180 0 57 (dk_at dksX1_count_4 0 rfl rfl)
theorem dX1_count_100 : decode cX1_count 100 = .ok (.ireturn, 1) := dk_172 (dk_at dksX1_count_4 3 rfl rfl)
theorem dX1_count_101 : decode cX1_count 101 = .ok (.aload_n 0, 1) := dk_42 (dk_at dksX1_count_4 4 rfl rfl)
theorem dX1_count_102 : decode cX1_count 102 = .ok (.getfield 50, 3) := dk_180 0 50 (dk_at dksX1_count_4 5 rfl rfl)
theorem dX1_count_105 : decode cX1_count 105 = .ok (.getfield 116, 3) := dk_180 0 116 (dk_at dksX1_count_4 8 rfl rfl)
theorem dX1_count_108 : decode cX1_count 108 = .ok (.invokevirtual 120, 3) := dk_182 0 120 (dk_at dksX1_count_4 11 rfl rfl)
theorem dX1_count_111 : decode cX1_count 111 = .ok (.ireturn, 1) := dk_172 (dk_at dksX1_count_4 14 rfl rfl)
theorem dX1_count_112 : decode cX1_count 112 = .ok (.aload_n 0, 1) := dk_42 (dk_at dksX1_count_4 15 rfl rfl)
theorem dX1_count_113 : decode cX1_count 113 = .ok (.getfield 50, 3) := dk_180 0 50 (dk_at dksX1_count_4 16 rfl rfl)
theorem dX1_count_116 : decode cX1_count 116 = .ok (.getfield 103, 3) := dk_180 0 103 (dk_at dksX1_count_4 19 rfl rfl)
theorem dX1_count_119 : decode cX1_count 119 = .ok (.invokevirtual 125, 3) := dk_182 0 125 (dk_at dksX1_count_5 0 rfl rfl)
theorem dX1_count_122 : decode cX1_count 122 = .ok (.astore_n 3, 1) := dk_78 (dk_at dksX1_count_5 3 rfl rfl)
theorem dX1_count_123 : decode cX1_count 123 = .ok (.aload_n 3, 1) := dk_45 (dk_at dksX1_count_5 4 rfl rfl)
theorem dX1_count_124 : decode cX1_count 124 = .ok (.invokeinterface 129 1, 5) := by decide +kernel
theorem dX1_count_129 : decode cX1_count 129 = .ok (.ifCond .eq 40, 3) := dk_153 0 40 (dk_at dksX1_count_5 10 rfl rfl)
theorem dX1_count_132 : decode cX1_count 132 = .ok (.aload_n 3, 1) := dk_45 (dk_at dksX1_count_5 13 rfl rfl)
theorem dX1_count_133 : decode cX1_count 133 = .ok (.invokeinterface 135 1, 5) := by decide +kernel
theorem dX1_count_138 : decode cX1_count 138 = .ok (.checkcast 139, 3) := dk_192 0 139 (dk_at dksX1_count_5 19 rfl rfl)
theorem dX1_count_141 : decode cX1_count 141 = .ok (.astore 4, 2) := dk_58 4 (dk_at dksX1_count_5 22 rfl rfl)
theorem dX1_count_143 : decode cX1_count 143 = .ok (.iload_n 2, 1) := dk_28 (dk_at dksX1_count_6 0 rfl rfl)
theorem dX1_count_144 : decode cX1_count 144 = .ok (.aload 4, 2) := dk_25 4 (dk_at dksX1_count_6 1 rfl rfl)
theorem dX1_count_146 : decode cX1_count 146 = .ok (.aload_n 0, 1) := dk_42 (dk_at dksX1_count_6 3 rfl rfl)
theorem dX1_count_147 : decode cX1_count 147 = .ok (.getfield 50, 3) := dk_180 0 50 (dk_at dksX1_count_6 4 rfl rfl)
theorem dX1_count_150 : decode cX1_count 150 = .ok (.getfield 100, 3) := dk_180 0 100 (dk_at dksX1_count_6 7 rfl rfl)
theorem dX1_count_153 : decode cX1_count 153 = .ok (.invokevirtual 141, 3) := dk_182 0 141 (dk_at dksX1_count_6 10 rfl rfl)
theorem dX1_count_156 : decode cX1_count 156 = .ok (.ifCond .eq 7, 3) := dk_153 0 7 (dk_at dksX1_count_6 13 rfl rfl)
theorem dX1_count_159 : decode cX1_count 159 = .ok (.iconst 1, 1) := dk_4 (dk_at dksX1_count_6 16 rfl rfl)
theorem dX1_count_160 : decode cX1_count 160 = .ok (.goto 4, 3) := dk_167 0 4 (dk_at dksX1_count_6 17 rfl rfl)
theorem dX1_count_163 : decode cX1_count 163 = .ok (.iconst 0, 1) := dk_3 (dk_at dksX1_count_6 20 rfl rfl)
theorem dX1_count_164 : decode cX1_count 164 = .ok (.iadd, 1) := dk_96 (dk_at dksX1_count_6 21 rfl rfl)
theorem dX1_count_165 : decode cX1_count 165 = .ok (.istore_n 2, 1) := dk_61 (dk_at dksX1_count_6 22 rfl rfl)
theorem dX1_count_166 : decode cX1_count 166 = .ok (.goto (-43), 3) := dk_167 255 213 (dk_at dksX1_count_7 0 rfl rfl)
theorem dX1_count_169 : decode cX1_count 169 = .ok (.iload_n 2, 1) := dk_28 (dk_at dksX1_count_7 3 rfl rfl)
theorem dX1_count_170 : decode cX1_count 170 = .ok (.ireturn, 1) := dk_172 (dk_at dksX1_count_7 4 rfl rfl)
theorem dX1_count_171 : decode cX1_count 171 = .ok (.aload_n 0, 1) := dk_42 (dk_at dksX1_count_7 5 rfl rfl)
theorem dX1_count_172 : decode cX1_count 172 = .ok (.getfield 50, 3) := dk_180 0 50 (dk_at dksX1_count_7 6 rfl rfl)
theorem dX1_count_175 : decode cX1_count 175 = .ok (.invokevirtual 145, 3) := dk_182 0 145 (dk_at dksX1_count_7 9 rfl rfl)
theorem dX1_count_178 : decode cX1_count 178 = .ok (.ireturn, 1) := dk_172 (dk_at dksX1_count_7 12 rfl rfl)
abbrev cX1_requireIndex : ByteArray := prog_1_method_3_code
def yX1_requireIndex : MethodName := ⟨RX1, "requireIndex", "(II)V"⟩
def dkwX1_requireIndex_0 : List UInt8 := [26, 155, 0, 8, 26, 27, 161, 0, 11, 187, 0, 10, 89, 183, 0, 12, 191, 177]
abbrev dktX1_requireIndex_0 : List UInt8 := dkwX1_requireIndex_0 ++ []
theorem dksX1_requireIndex_0 : cX1_requireIndex.data.toList.drop 0 = dktX1_requireIndex_0 := by decide +kernel
theorem dX1_requireIndex_0 : decode cX1_requireIndex 0 = .ok (.iload_n 0, 1) := dk_26 (dk_at dksX1_requireIndex_0 0 rfl rfl)
theorem dX1_requireIndex_1 : decode cX1_requireIndex 1 = .ok (.ifCond .lt 8, 3) := dk_155 0 8 (dk_at dksX1_requireIndex_0 1 rfl rfl)
theorem dX1_requireIndex_4 : decode cX1_requireIndex 4 = .ok (.iload_n 0, 1) := dk_26 (dk_at dksX1_requireIndex_0 4 rfl rfl)
theorem dX1_requireIndex_5 : decode cX1_requireIndex 5 = .ok (.iload_n 1, 1) := dk_27 (dk_at dksX1_requireIndex_0 5 rfl rfl)
theorem dX1_requireIndex_6 : decode cX1_requireIndex 6 = .ok (.if_icmp .lt 11, 3) := dk_161 0 11 (dk_at dksX1_requireIndex_0 6 rfl rfl)
theorem dX1_requireIndex_9 : decode cX1_requireIndex 9 = .ok (.new 10, 3) := dk_187 0 10 (dk_at dksX1_requireIndex_0 9 rfl rfl)
theorem dX1_requireIndex_12 : decode cX1_requireIndex 12 = .ok (.dup, 1) := dk_89 (dk_at dksX1_requireIndex_0 12 rfl rfl)
theorem dX1_requireIndex_13 : decode cX1_requireIndex 13 = .ok (.invokespecial 12, 3) := dk_183 0 12 (dk_at dksX1_requireIndex_0 13 rfl rfl)
theorem dX1_requireIndex_16 : decode cX1_requireIndex 16 = .ok (.athrow, 1) := dk_191 (dk_at dksX1_requireIndex_0 16 rfl rfl)
theorem dX1_requireIndex_17 : decode cX1_requireIndex 17 = .ok (.return_, 1) := dk_177 (dk_at dksX1_requireIndex_0 17 rfl rfl)
abbrev cX1_feed : ByteArray := prog_1_method_7_code
def yX1_feed : MethodName := ⟨RX1, "feed", "(IIIII)I"⟩
def dkwX1_feed_3 : List UInt8 := [180, 0, 57, 172]
abbrev dktX1_feed_3 : List UInt8 := dkwX1_feed_3 ++ []
def dkwX1_feed_2 : List UInt8 := [42, 180, 0, 39, 21, 4, 182, 0, 62, 42, 180, 0, 39, 21, 5, 182, 0, 62, 42, 180, 0, 39]
abbrev dktX1_feed_2 : List UInt8 := dkwX1_feed_2 ++ dktX1_feed_3
def dkwX1_feed_1 : List UInt8 := [42, 180, 0, 39, 27, 182, 0, 62, 42, 180, 0, 39, 28, 182, 0, 62, 42, 180, 0, 39, 29, 182, 0, 62]
abbrev dktX1_feed_1 : List UInt8 := dkwX1_feed_1 ++ dktX1_feed_2
def dkwX1_feed_0 : List UInt8 := [42, 180, 0, 39, 180, 0, 57, 16, 20, 96, 17, 7, 208, 163, 0, 7, 4, 167, 0, 4, 3, 184, 0, 59]
abbrev dktX1_feed_0 : List UInt8 := dkwX1_feed_0 ++ dktX1_feed_1
theorem dksX1_feed_0 : cX1_feed.data.toList.drop 0 = dktX1_feed_0 := by decide +kernel
theorem dksX1_feed_1 : cX1_feed.data.toList.drop 24 = dktX1_feed_1 := dk_seg dksX1_feed_0 24 rfl rfl
theorem dksX1_feed_2 : cX1_feed.data.toList.drop 48 = dktX1_feed_2 := dk_seg dksX1_feed_1 24 rfl rfl
theorem dksX1_feed_3 : cX1_feed.data.toList.drop 70 = dktX1_feed_3 := dk_seg dksX1_feed_2 22 rfl rfl
theorem dX1_feed_0 : decode cX1_feed 0 = .ok (.aload_n 0, 1) := dk_42 (dk_at dksX1_feed_0 0 rfl rfl)
theorem dX1_feed_1 : decode cX1_feed 1 = .ok (.getfield 39, 3) := dk_180 0 39 (dk_at dksX1_feed_0 1 rfl rfl)
theorem dX1_feed_4 : decode cX1_feed 4 = .ok (.getfield 57, 3) := dk_180 0 57 (dk_at dksX1_feed_0 4 rfl rfl)
theorem dX1_feed_7 : decode cX1_feed 7 = .ok (.bipush 20, 2) := dk_16 20 (dk_at dksX1_feed_0 7 rfl rfl)
theorem dX1_feed_9 : decode cX1_feed 9 = .ok (.iadd, 1) := dk_96 (dk_at dksX1_feed_0 9 rfl rfl)
theorem dX1_feed_10 : decode cX1_feed 10 = .ok (.sipush 2000, 3) := dk_17 7 208 (dk_at dksX1_feed_0 10 rfl rfl)
theorem dX1_feed_13 : decode cX1_feed 13 = .ok (.if_icmp .gt 7, 3) := dk_163 0 7 (dk_at dksX1_feed_0 13 rfl rfl)
theorem dX1_feed_16 : decode cX1_feed 16 = .ok (.iconst 1, 1) := dk_4 (dk_at dksX1_feed_0 16 rfl rfl)
theorem dX1_feed_17 : decode cX1_feed 17 = .ok (.goto 4, 3) := dk_167 0 4 (dk_at dksX1_feed_0 17 rfl rfl)
theorem dX1_feed_20 : decode cX1_feed 20 = .ok (.iconst 0, 1) := dk_3 (dk_at dksX1_feed_0 20 rfl rfl)
theorem dX1_feed_21 : decode cX1_feed 21 = .ok (.invokestatic 59, 3) := dk_184 0 59 (dk_at dksX1_feed_0 21 rfl rfl)
theorem dX1_feed_24 : decode cX1_feed 24 = .ok (.aload_n 0, 1) := dk_42 (dk_at dksX1_feed_1 0 rfl rfl)
theorem dX1_feed_25 : decode cX1_feed 25 = .ok (.getfield 39, 3) := dk_180 0 39 (dk_at dksX1_feed_1 1 rfl rfl)
theorem dX1_feed_28 : decode cX1_feed 28 = .ok (.iload_n 1, 1) := dk_27 (dk_at dksX1_feed_1 4 rfl rfl)
theorem dX1_feed_29 : decode cX1_feed 29 = .ok (.invokevirtual 62, 3) := dk_182 0 62 (dk_at dksX1_feed_1 5 rfl rfl)
theorem dX1_feed_32 : decode cX1_feed 32 = .ok (.aload_n 0, 1) := dk_42 (dk_at dksX1_feed_1 8 rfl rfl)
theorem dX1_feed_33 : decode cX1_feed 33 = .ok (.getfield 39, 3) := dk_180 0 39 (dk_at dksX1_feed_1 9 rfl rfl)
theorem dX1_feed_36 : decode cX1_feed 36 = .ok (.iload_n 2, 1) := dk_28 (dk_at dksX1_feed_1 12 rfl rfl)
theorem dX1_feed_37 : decode cX1_feed 37 = .ok (.invokevirtual 62, 3) := dk_182 0 62 (dk_at dksX1_feed_1 13 rfl rfl)
theorem dX1_feed_40 : decode cX1_feed 40 = .ok (.aload_n 0, 1) := dk_42 (dk_at dksX1_feed_1 16 rfl rfl)
theorem dX1_feed_41 : decode cX1_feed 41 = .ok (.getfield 39, 3) := dk_180 0 39 (dk_at dksX1_feed_1 17 rfl rfl)
theorem dX1_feed_44 : decode cX1_feed 44 = .ok (.iload_n 3, 1) := dk_29 (dk_at dksX1_feed_1 20 rfl rfl)
theorem dX1_feed_45 : decode cX1_feed 45 = .ok (.invokevirtual 62, 3) := dk_182 0 62 (dk_at dksX1_feed_1 21 rfl rfl)
theorem dX1_feed_48 : decode cX1_feed 48 = .ok (.aload_n 0, 1) := dk_42 (dk_at dksX1_feed_2 0 rfl rfl)
theorem dX1_feed_49 : decode cX1_feed 49 = .ok (.getfield 39, 3) := dk_180 0 39 (dk_at dksX1_feed_2 1 rfl rfl)
theorem dX1_feed_52 : decode cX1_feed 52 = .ok (.iload 4, 2) := dk_21 4 (dk_at dksX1_feed_2 4 rfl rfl)
theorem dX1_feed_54 : decode cX1_feed 54 = .ok (.invokevirtual 62, 3) := dk_182 0 62 (dk_at dksX1_feed_2 6 rfl rfl)
theorem dX1_feed_57 : decode cX1_feed 57 = .ok (.aload_n 0, 1) := dk_42 (dk_at dksX1_feed_2 9 rfl rfl)
theorem dX1_feed_58 : decode cX1_feed 58 = .ok (.getfield 39, 3) := dk_180 0 39 (dk_at dksX1_feed_2 10 rfl rfl)
theorem dX1_feed_61 : decode cX1_feed 61 = .ok (.iload 5, 2) := dk_21 5 (dk_at dksX1_feed_2 13 rfl rfl)
theorem dX1_feed_63 : decode cX1_feed 63 = .ok (.invokevirtual 62, 3) := dk_182 0 62 (dk_at dksX1_feed_2 15 rfl rfl)
theorem dX1_feed_66 : decode cX1_feed 66 = .ok (.aload_n 0, 1) := dk_42 (dk_at dksX1_feed_2 18 rfl rfl)
theorem dX1_feed_67 : decode cX1_feed 67 = .ok (.getfield 39, 3) := dk_180 0 39 (dk_at dksX1_feed_2 19 rfl rfl)
theorem dX1_feed_70 : decode cX1_feed 70 = .ok (.getfield 57, 3) := dk_180 0 57 (dk_at dksX1_feed_3 0 rfl rfl)
theorem dX1_feed_73 : decode cX1_feed 73 = .ok (.ireturn, 1) := dk_172 (dk_at dksX1_feed_3 3 rfl rfl)
abbrev cX1_requireState : ByteArray := prog_1_method_2_code
def yX1_requireState : MethodName := ⟨RX1, "requireState", "(Z)V"⟩
def dkwX1_requireState_0 : List UInt8 := [26, 154, 0, 11, 187, 0, 7, 89, 183, 0, 9, 191, 177]
abbrev dktX1_requireState_0 : List UInt8 := dkwX1_requireState_0 ++ []
theorem dksX1_requireState_0 : cX1_requireState.data.toList.drop 0 = dktX1_requireState_0 := by decide +kernel
theorem dX1_requireState_0 : decode cX1_requireState 0 = .ok (.iload_n 0, 1) := dk_26 (dk_at dksX1_requireState_0 0 rfl rfl)
theorem dX1_requireState_1 : decode cX1_requireState 1 = .ok (.ifCond .ne 11, 3) := dk_154 0 11 (dk_at dksX1_requireState_0 1 rfl rfl)
theorem dX1_requireState_4 : decode cX1_requireState 4 = .ok (.new 7, 3) := dk_187 0 7 (dk_at dksX1_requireState_0 4 rfl rfl)
theorem dX1_requireState_7 : decode cX1_requireState 7 = .ok (.dup, 1) := dk_89 (dk_at dksX1_requireState_0 7 rfl rfl)
theorem dX1_requireState_8 : decode cX1_requireState 8 = .ok (.invokespecial 9, 3) := dk_183 0 9 (dk_at dksX1_requireState_0 8 rfl rfl)
theorem dX1_requireState_11 : decode cX1_requireState 11 = .ok (.athrow, 1) := dk_191 (dk_at dksX1_requireState_0 11 rfl rfl)
theorem dX1_requireState_12 : decode cX1_requireState 12 = .ok (.return_, 1) := dk_177 (dk_at dksX1_requireState_0 12 rfl rfl)
abbrev cX1_trim : ByteArray := prog_1_method_8_code
def yX1_trim : MethodName := ⟨RX1, "trim", "(I)I"⟩
def dkwX1_trim_0 : List UInt8 := [3, 42, 180, 0, 39, 180, 0, 57, 27, 184, 0, 66, 42, 180, 0, 39, 27, 181, 0, 57, 27, 172]
abbrev dktX1_trim_0 : List UInt8 := dkwX1_trim_0 ++ []
theorem dksX1_trim_0 : cX1_trim.data.toList.drop 0 = dktX1_trim_0 := by decide +kernel
theorem dX1_trim_0 : decode cX1_trim 0 = .ok (.iconst 0, 1) := dk_3 (dk_at dksX1_trim_0 0 rfl rfl)
theorem dX1_trim_1 : decode cX1_trim 1 = .ok (.aload_n 0, 1) := dk_42 (dk_at dksX1_trim_0 1 rfl rfl)
theorem dX1_trim_2 : decode cX1_trim 2 = .ok (.getfield 39, 3) := dk_180 0 39 (dk_at dksX1_trim_0 2 rfl rfl)
theorem dX1_trim_5 : decode cX1_trim 5 = .ok (.getfield 57, 3) := dk_180 0 57 (dk_at dksX1_trim_0 5 rfl rfl)
theorem dX1_trim_8 : decode cX1_trim 8 = .ok (.iload_n 1, 1) := dk_27 (dk_at dksX1_trim_0 8 rfl rfl)
theorem dX1_trim_9 : decode cX1_trim 9 = .ok (.invokestatic 66, 3) := dk_184 0 66 (dk_at dksX1_trim_0 9 rfl rfl)
theorem dX1_trim_12 : decode cX1_trim 12 = .ok (.aload_n 0, 1) := dk_42 (dk_at dksX1_trim_0 12 rfl rfl)
theorem dX1_trim_13 : decode cX1_trim 13 = .ok (.getfield 39, 3) := dk_180 0 39 (dk_at dksX1_trim_0 13 rfl rfl)
theorem dX1_trim_16 : decode cX1_trim 16 = .ok (.iload_n 1, 1) := dk_27 (dk_at dksX1_trim_0 16 rfl rfl)
theorem dX1_trim_17 : decode cX1_trim 17 = .ok (.putfield 57, 3) := dk_181 0 57 (dk_at dksX1_trim_0 17 rfl rfl)
theorem dX1_trim_20 : decode cX1_trim 20 = .ok (.iload_n 1, 1) := dk_27 (dk_at dksX1_trim_0 20 rfl rfl)
theorem dX1_trim_21 : decode cX1_trim 21 = .ok (.ireturn, 1) := dk_172 (dk_at dksX1_trim_0 21 rfl rfl)
abbrev cX1_requireFrom : ByteArray := prog_1_method_4_code
def yX1_requireFrom : MethodName := ⟨RX1, "requireFrom", "(III)V"⟩
def dkwX1_requireFrom_0 : List UInt8 := [28, 26, 161, 0, 12, 28, 27, 163, 0, 7, 4, 167, 0, 4, 3, 184, 0, 13, 177]
abbrev dktX1_requireFrom_0 : List UInt8 := dkwX1_requireFrom_0 ++ []
theorem dksX1_requireFrom_0 : cX1_requireFrom.data.toList.drop 0 = dktX1_requireFrom_0 := by decide +kernel
theorem dX1_requireFrom_0 : decode cX1_requireFrom 0 = .ok (.iload_n 2, 1) := dk_28 (dk_at dksX1_requireFrom_0 0 rfl rfl)
theorem dX1_requireFrom_1 : decode cX1_requireFrom 1 = .ok (.iload_n 0, 1) := dk_26 (dk_at dksX1_requireFrom_0 1 rfl rfl)
theorem dX1_requireFrom_2 : decode cX1_requireFrom 2 = .ok (.if_icmp .lt 12, 3) := dk_161 0 12 (dk_at dksX1_requireFrom_0 2 rfl rfl)
theorem dX1_requireFrom_5 : decode cX1_requireFrom 5 = .ok (.iload_n 2, 1) := dk_28 (dk_at dksX1_requireFrom_0 5 rfl rfl)
theorem dX1_requireFrom_6 : decode cX1_requireFrom 6 = .ok (.iload_n 1, 1) := dk_27 (dk_at dksX1_requireFrom_0 6 rfl rfl)
theorem dX1_requireFrom_7 : decode cX1_requireFrom 7 = .ok (.if_icmp .gt 7, 3) := dk_163 0 7 (dk_at dksX1_requireFrom_0 7 rfl rfl)
theorem dX1_requireFrom_10 : decode cX1_requireFrom 10 = .ok (.iconst 1, 1) := dk_4 (dk_at dksX1_requireFrom_0 10 rfl rfl)
theorem dX1_requireFrom_11 : decode cX1_requireFrom 11 = .ok (.goto 4, 3) := dk_167 0 4 (dk_at dksX1_requireFrom_0 11 rfl rfl)
theorem dX1_requireFrom_14 : decode cX1_requireFrom 14 = .ok (.iconst 0, 1) := dk_3 (dk_at dksX1_requireFrom_0 14 rfl rfl)
theorem dX1_requireFrom_15 : decode cX1_requireFrom 15 = .ok (.invokestatic 13, 3) := dk_184 0 13 (dk_at dksX1_requireFrom_0 15 rfl rfl)
theorem dX1_requireFrom_18 : decode cX1_requireFrom 18 = .ok (.return_, 1) := dk_177 (dk_at dksX1_requireFrom_0 18 rfl rfl)
abbrev cX1_require : ByteArray := prog_1_method_1_code
def yX1_require : MethodName := ⟨RX1, "require", "(Z)V"⟩
def dkwX1_require_0 : List UInt8 := [26, 154, 0, 11, 187, 0, 1, 89, 183, 0, 3, 191, 177]
abbrev dktX1_require_0 : List UInt8 := dkwX1_require_0 ++ []
theorem dksX1_require_0 : cX1_require.data.toList.drop 0 = dktX1_require_0 := by decide +kernel
theorem dX1_require_0 : decode cX1_require 0 = .ok (.iload_n 0, 1) := dk_26 (dk_at dksX1_require_0 0 rfl rfl)
theorem dX1_require_1 : decode cX1_require 1 = .ok (.ifCond .ne 11, 3) := dk_154 0 11 (dk_at dksX1_require_0 1 rfl rfl)
theorem dX1_require_4 : decode cX1_require 4 = .ok (.new 1, 3) := dk_187 0 1 (dk_at dksX1_require_0 4 rfl rfl)
theorem dX1_require_7 : decode cX1_require 7 = .ok (.dup, 1) := dk_89 (dk_at dksX1_require_0 7 rfl rfl)
theorem dX1_require_8 : decode cX1_require 8 = .ok (.invokespecial 3, 3) := dk_183 0 3 (dk_at dksX1_require_0 8 rfl rfl)
theorem dX1_require_11 : decode cX1_require 11 = .ok (.athrow, 1) := dk_191 (dk_at dksX1_require_0 11 rfl rfl)
theorem dX1_require_12 : decode cX1_require 12 = .ok (.return_, 1) := dk_177 (dk_at dksX1_require_0 12 rfl rfl)
abbrev cX1_planet : ByteArray := prog_1_method_12_code
def yX1_planet : MethodName := ⟨RX1, "planet", "(II)I"⟩
def dkwX1_planet_1 : List UInt8 := [180, 0, 50, 180, 0, 100, 182, 0, 151, 172]
abbrev dktX1_planet_1 : List UInt8 := dkwX1_planet_1 ++ []
def dkwX1_planet_0 : List UInt8 := [42, 180, 0, 50, 180, 0, 103, 27, 184, 0, 148, 192, 0, 139, 78, 28, 16, 7, 184, 0, 25, 45, 28, 42]
abbrev dktX1_planet_0 : List UInt8 := dkwX1_planet_0 ++ dktX1_planet_1
theorem dksX1_planet_0 : cX1_planet.data.toList.drop 0 = dktX1_planet_0 := by decide +kernel
theorem dksX1_planet_1 : cX1_planet.data.toList.drop 24 = dktX1_planet_1 := dk_seg dksX1_planet_0 24 rfl rfl
theorem dX1_planet_0 : decode cX1_planet 0 = .ok (.aload_n 0, 1) := dk_42 (dk_at dksX1_planet_0 0 rfl rfl)
theorem dX1_planet_1 : decode cX1_planet 1 = .ok (.getfield 50, 3) := dk_180 0 50 (dk_at dksX1_planet_0 1 rfl rfl)
theorem dX1_planet_4 : decode cX1_planet 4 = .ok (.getfield 103, 3) := dk_180 0 103 (dk_at dksX1_planet_0 4 rfl rfl)
theorem dX1_planet_7 : decode cX1_planet 7 = .ok (.iload_n 1, 1) := dk_27 (dk_at dksX1_planet_0 7 rfl rfl)
theorem dX1_planet_8 : decode cX1_planet 8 = .ok (.invokestatic 148, 3) := dk_184 0 148 (dk_at dksX1_planet_0 8 rfl rfl)
theorem dX1_planet_11 : decode cX1_planet 11 = .ok (.checkcast 139, 3) := dk_192 0 139 (dk_at dksX1_planet_0 11 rfl rfl)
theorem dX1_planet_14 : decode cX1_planet 14 = .ok (.astore_n 3, 1) := dk_78 (dk_at dksX1_planet_0 14 rfl rfl)
theorem dX1_planet_15 : decode cX1_planet 15 = .ok (.iload_n 2, 1) := dk_28 (dk_at dksX1_planet_0 15 rfl rfl)
theorem dX1_planet_16 : decode cX1_planet 16 = .ok (.bipush 7, 2) := dk_16 7 (dk_at dksX1_planet_0 16 rfl rfl)
theorem dX1_planet_18 : decode cX1_planet 18 = .ok (.invokestatic 25, 3) := dk_184 0 25 (dk_at dksX1_planet_0 18 rfl rfl)
theorem dX1_planet_21 : decode cX1_planet 21 = .ok (.aload_n 3, 1) := dk_45 (dk_at dksX1_planet_0 21 rfl rfl)
theorem dX1_planet_22 : decode cX1_planet 22 = .ok (.iload_n 2, 1) := dk_28 (dk_at dksX1_planet_0 22 rfl rfl)
theorem dX1_planet_23 : decode cX1_planet 23 = .ok (.aload_n 0, 1) := dk_42 (dk_at dksX1_planet_0 23 rfl rfl)
theorem dX1_planet_24 : decode cX1_planet 24 = .ok (.getfield 50, 3) := dk_180 0 50 (dk_at dksX1_planet_1 0 rfl rfl)
theorem dX1_planet_27 : decode cX1_planet 27 = .ok (.getfield 100, 3) := dk_180 0 100 (dk_at dksX1_planet_1 3 rfl rfl)
theorem dX1_planet_30 : decode cX1_planet 30 = .ok (.invokevirtual 151, 3) := dk_182 0 151 (dk_at dksX1_planet_1 6 rfl rfl)
theorem dX1_planet_33 : decode cX1_planet 33 = .ok (.ireturn, 1) := dk_172 (dk_at dksX1_planet_1 9 rfl rfl)
abbrev cX1_at : ByteArray := prog_1_method_5_code
def yX1_at : MethodName := ⟨RX1, "at", "(Ljava/util/List;I)Ljava/lang/Object;"⟩
def dkwX1_at_0 : List UInt8 := [27, 42, 185, 0, 19, 1, 0, 184, 0, 25, 42, 27, 185, 0, 29, 2, 0, 176]
abbrev dktX1_at_0 : List UInt8 := dkwX1_at_0 ++ []
theorem dksX1_at_0 : cX1_at.data.toList.drop 0 = dktX1_at_0 := by decide +kernel
theorem dX1_at_0 : decode cX1_at 0 = .ok (.iload_n 1, 1) := dk_27 (dk_at dksX1_at_0 0 rfl rfl)
theorem dX1_at_1 : decode cX1_at 1 = .ok (.aload_n 0, 1) := dk_42 (dk_at dksX1_at_0 1 rfl rfl)
theorem dX1_at_2 : decode cX1_at 2 = .ok (.invokeinterface 19 1, 5) := by decide +kernel
theorem dX1_at_7 : decode cX1_at 7 = .ok (.invokestatic 25, 3) := dk_184 0 25 (dk_at dksX1_at_0 7 rfl rfl)
theorem dX1_at_10 : decode cX1_at 10 = .ok (.aload_n 0, 1) := dk_42 (dk_at dksX1_at_0 10 rfl rfl)
theorem dX1_at_11 : decode cX1_at 11 = .ok (.iload_n 1, 1) := dk_27 (dk_at dksX1_at_0 11 rfl rfl)
theorem dX1_at_12 : decode cX1_at 12 = .ok (.invokeinterface 29 2, 5) := by decide +kernel
theorem dX1_at_17 : decode cX1_at 17 = .ok (.areturn, 1) := dk_176 (dk_at dksX1_at_0 17 rfl rfl)
abbrev cX1_set : ByteArray := prog_1_method_13_code
def yX1_set : MethodName := ⟨RX1, "set", "(II)I"⟩
def dkwX1_set_1 : List UInt8 := [180, 0, 154, 54, 4, 45, 28, 182, 0, 157, 21, 4, 172]
abbrev dktX1_set_1 : List UInt8 := dkwX1_set_1 ++ []
def dkwX1_set_0 : List UInt8 := [42, 180, 0, 50, 180, 0, 103, 27, 184, 0, 148, 192, 0, 139, 78, 3, 17, 1, 103, 28, 184, 0, 66, 45]
abbrev dktX1_set_0 : List UInt8 := dkwX1_set_0 ++ dktX1_set_1
theorem dksX1_set_0 : cX1_set.data.toList.drop 0 = dktX1_set_0 := by decide +kernel
theorem dksX1_set_1 : cX1_set.data.toList.drop 24 = dktX1_set_1 := dk_seg dksX1_set_0 24 rfl rfl
theorem dX1_set_0 : decode cX1_set 0 = .ok (.aload_n 0, 1) := dk_42 (dk_at dksX1_set_0 0 rfl rfl)
theorem dX1_set_1 : decode cX1_set 1 = .ok (.getfield 50, 3) := dk_180 0 50 (dk_at dksX1_set_0 1 rfl rfl)
theorem dX1_set_4 : decode cX1_set 4 = .ok (.getfield 103, 3) := dk_180 0 103 (dk_at dksX1_set_0 4 rfl rfl)
theorem dX1_set_7 : decode cX1_set 7 = .ok (.iload_n 1, 1) := dk_27 (dk_at dksX1_set_0 7 rfl rfl)
theorem dX1_set_8 : decode cX1_set 8 = .ok (.invokestatic 148, 3) := dk_184 0 148 (dk_at dksX1_set_0 8 rfl rfl)
theorem dX1_set_11 : decode cX1_set 11 = .ok (.checkcast 139, 3) := dk_192 0 139 (dk_at dksX1_set_0 11 rfl rfl)
theorem dX1_set_14 : decode cX1_set 14 = .ok (.astore_n 3, 1) := dk_78 (dk_at dksX1_set_0 14 rfl rfl)
theorem dX1_set_15 : decode cX1_set 15 = .ok (.iconst 0, 1) := dk_3 (dk_at dksX1_set_0 15 rfl rfl)
theorem dX1_set_16 : decode cX1_set 16 = .ok (.sipush 359, 3) := dk_17 1 103 (dk_at dksX1_set_0 16 rfl rfl)
theorem dX1_set_19 : decode cX1_set 19 = .ok (.iload_n 2, 1) := dk_28 (dk_at dksX1_set_0 19 rfl rfl)
theorem dX1_set_20 : decode cX1_set 20 = .ok (.invokestatic 66, 3) := dk_184 0 66 (dk_at dksX1_set_0 20 rfl rfl)
theorem dX1_set_23 : decode cX1_set 23 = .ok (.aload_n 3, 1) := dk_45 (dk_at dksX1_set_0 23 rfl rfl)
theorem dX1_set_24 : decode cX1_set 24 = .ok (.getfield 154, 3) := dk_180 0 154 (dk_at dksX1_set_1 0 rfl rfl)
theorem dX1_set_27 : decode cX1_set 27 = .ok (.istore 4, 2) := dk_54 4 (dk_at dksX1_set_1 3 rfl rfl)
theorem dX1_set_29 : decode cX1_set 29 = .ok (.aload_n 3, 1) := dk_45 (dk_at dksX1_set_1 5 rfl rfl)
theorem dX1_set_30 : decode cX1_set 30 = .ok (.iload_n 2, 1) := dk_28 (dk_at dksX1_set_1 6 rfl rfl)
theorem dX1_set_31 : decode cX1_set 31 = .ok (.invokevirtual 157, 3) := dk_182 0 157 (dk_at dksX1_set_1 7 rfl rfl)
theorem dX1_set_34 : decode cX1_set 34 = .ok (.iload 4, 2) := dk_21 4 (dk_at dksX1_set_1 10 rfl rfl)
theorem dX1_set_36 : decode cX1_set 36 = .ok (.ireturn, 1) := dk_172 (dk_at dksX1_set_1 12 rfl rfl)
abbrev cX1_gap : ByteArray := prog_1_method_14_code
def yX1_gap : MethodName := ⟨RX1, "gap", "(II)I"⟩
def dkwX1_gap_1 : List UInt8 := [42, 180, 0, 50, 27, 28, 182, 0, 160, 172]
abbrev dktX1_gap_1 : List UInt8 := dkwX1_gap_1 ++ []
def dkwX1_gap_0 : List UInt8 := [42, 180, 0, 50, 180, 0, 103, 27, 184, 0, 148, 87, 42, 180, 0, 50, 180, 0, 103, 28, 184, 0, 148, 87]
abbrev dktX1_gap_0 : List UInt8 := dkwX1_gap_0 ++ dktX1_gap_1
theorem dksX1_gap_0 : cX1_gap.data.toList.drop 0 = dktX1_gap_0 := by decide +kernel
theorem dksX1_gap_1 : cX1_gap.data.toList.drop 24 = dktX1_gap_1 := dk_seg dksX1_gap_0 24 rfl rfl
theorem dX1_gap_0 : decode cX1_gap 0 = .ok (.aload_n 0, 1) := dk_42 (dk_at dksX1_gap_0 0 rfl rfl)
theorem dX1_gap_1 : decode cX1_gap 1 = .ok (.getfield 50, 3) := dk_180 0 50 (dk_at dksX1_gap_0 1 rfl rfl)
theorem dX1_gap_4 : decode cX1_gap 4 = .ok (.getfield 103, 3) := dk_180 0 103 (dk_at dksX1_gap_0 4 rfl rfl)
theorem dX1_gap_7 : decode cX1_gap 7 = .ok (.iload_n 1, 1) := dk_27 (dk_at dksX1_gap_0 7 rfl rfl)
theorem dX1_gap_8 : decode cX1_gap 8 = .ok (.invokestatic 148, 3) := dk_184 0 148 (dk_at dksX1_gap_0 8 rfl rfl)
theorem dX1_gap_11 : decode cX1_gap 11 = .ok (.pop, 1) := dk_87 (dk_at dksX1_gap_0 11 rfl rfl)
theorem dX1_gap_12 : decode cX1_gap 12 = .ok (.aload_n 0, 1) := dk_42 (dk_at dksX1_gap_0 12 rfl rfl)
theorem dX1_gap_13 : decode cX1_gap 13 = .ok (.getfield 50, 3) := dk_180 0 50 (dk_at dksX1_gap_0 13 rfl rfl)
theorem dX1_gap_16 : decode cX1_gap 16 = .ok (.getfield 103, 3) := dk_180 0 103 (dk_at dksX1_gap_0 16 rfl rfl)
theorem dX1_gap_19 : decode cX1_gap 19 = .ok (.iload_n 2, 1) := dk_28 (dk_at dksX1_gap_0 19 rfl rfl)
theorem dX1_gap_20 : decode cX1_gap 20 = .ok (.invokestatic 148, 3) := dk_184 0 148 (dk_at dksX1_gap_0 20 rfl rfl)
theorem dX1_gap_23 : decode cX1_gap 23 = .ok (.pop, 1) := dk_87 (dk_at dksX1_gap_0 23 rfl rfl)
theorem dX1_gap_24 : decode cX1_gap 24 = .ok (.aload_n 0, 1) := dk_42 (dk_at dksX1_gap_1 0 rfl rfl)
theorem dX1_gap_25 : decode cX1_gap 25 = .ok (.getfield 50, 3) := dk_180 0 50 (dk_at dksX1_gap_1 1 rfl rfl)
theorem dX1_gap_28 : decode cX1_gap 28 = .ok (.iload_n 1, 1) := dk_27 (dk_at dksX1_gap_1 4 rfl rfl)
theorem dX1_gap_29 : decode cX1_gap 29 = .ok (.iload_n 2, 1) := dk_28 (dk_at dksX1_gap_1 5 rfl rfl)
theorem dX1_gap_30 : decode cX1_gap 30 = .ok (.invokevirtual 160, 3) := dk_182 0 160 (dk_at dksX1_gap_1 6 rfl rfl)
theorem dX1_gap_33 : decode cX1_gap 33 = .ok (.ireturn, 1) := dk_172 (dk_at dksX1_gap_1 9 rfl rfl)
abbrev cX1_meets : ByteArray := prog_1_method_15_code
def yX1_meets : MethodName := ⟨RX1, "meets", "(IIZ)Z"⟩
def dkwX1_meets_1 : List UInt8 := [180, 0, 50, 180, 0, 103, 28, 184, 0, 148, 192, 0, 139, 182, 0, 169, 172]
abbrev dktX1_meets_1 : List UInt8 := dkwX1_meets_1 ++ []
def dkwX1_meets_0 : List UInt8 := [42, 180, 0, 50, 180, 0, 103, 27, 184, 0, 148, 192, 0, 139, 58, 4, 29, 184, 0, 163, 25, 4, 42]
abbrev dktX1_meets_0 : List UInt8 := dkwX1_meets_0 ++ dktX1_meets_1
theorem dksX1_meets_0 : cX1_meets.data.toList.drop 0 = dktX1_meets_0 := by decide +kernel
theorem dksX1_meets_1 : cX1_meets.data.toList.drop 23 = dktX1_meets_1 := dk_seg dksX1_meets_0 23 rfl rfl
theorem dX1_meets_0 : decode cX1_meets 0 = .ok (.aload_n 0, 1) := dk_42 (dk_at dksX1_meets_0 0 rfl rfl)
theorem dX1_meets_1 : decode cX1_meets 1 = .ok (.getfield 50, 3) := dk_180 0 50 (dk_at dksX1_meets_0 1 rfl rfl)
theorem dX1_meets_4 : decode cX1_meets 4 = .ok (.getfield 103, 3) := dk_180 0 103 (dk_at dksX1_meets_0 4 rfl rfl)
theorem dX1_meets_7 : decode cX1_meets 7 = .ok (.iload_n 1, 1) := dk_27 (dk_at dksX1_meets_0 7 rfl rfl)
theorem dX1_meets_8 : decode cX1_meets 8 = .ok (.invokestatic 148, 3) := dk_184 0 148 (dk_at dksX1_meets_0 8 rfl rfl)
theorem dX1_meets_11 : decode cX1_meets 11 = .ok (.checkcast 139, 3) := dk_192 0 139 (dk_at dksX1_meets_0 11 rfl rfl)
theorem dX1_meets_14 : decode cX1_meets 14 = .ok (.astore 4, 2) := dk_58 4 (dk_at dksX1_meets_0 14 rfl rfl)
theorem dX1_meets_16 : decode cX1_meets 16 = .ok (.iload_n 3, 1) := dk_29 (dk_at dksX1_meets_0 16 rfl rfl)
theorem dX1_meets_17 : decode cX1_meets 17 = .ok (.invokestatic 163, 3) := dk_184 0 163 (dk_at dksX1_meets_0 17 rfl rfl)
theorem dX1_meets_20 : decode cX1_meets 20 = .ok (.aload 4, 2) := dk_25 4 (dk_at dksX1_meets_0 20 rfl rfl)
theorem dX1_meets_22 : decode cX1_meets 22 = .ok (.aload_n 0, 1) := dk_42 (dk_at dksX1_meets_0 22 rfl rfl)
theorem dX1_meets_23 : decode cX1_meets 23 = .ok (.getfield 50, 3) := dk_180 0 50 (dk_at dksX1_meets_1 0 rfl rfl)
theorem dX1_meets_26 : decode cX1_meets 26 = .ok (.getfield 103, 3) := dk_180 0 103 (dk_at dksX1_meets_1 3 rfl rfl)
theorem dX1_meets_29 : decode cX1_meets 29 = .ok (.iload_n 2, 1) := dk_28 (dk_at dksX1_meets_1 6 rfl rfl)
theorem dX1_meets_30 : decode cX1_meets 30 = .ok (.invokestatic 148, 3) := dk_184 0 148 (dk_at dksX1_meets_1 7 rfl rfl)
theorem dX1_meets_33 : decode cX1_meets 33 = .ok (.checkcast 139, 3) := dk_192 0 139 (dk_at dksX1_meets_1 10 rfl rfl)
theorem dX1_meets_36 : decode cX1_meets 36 = .ok (.invokevirtual 169, 3) := dk_182 0 169 (dk_at dksX1_meets_1 13 rfl rfl)
theorem dX1_meets_39 : decode cX1_meets 39 = .ok (.ireturn, 1) := dk_172 (dk_at dksX1_meets_1 16 rfl rfl)
abbrev cX1_letter : ByteArray := prog_1_method_16_code
def yX1_letter : MethodName := ⟨RX1, "letter", "(II)I"⟩
def dkwX1_letter_1 : List UInt8 := [184, 0, 25, 45, 28, 182, 0, 182, 172]
abbrev dktX1_letter_1 : List UInt8 := dkwX1_letter_1 ++ []
def dkwX1_letter_0 : List UInt8 := [42, 180, 0, 50, 180, 0, 110, 27, 184, 0, 148, 192, 0, 173, 180, 0, 175, 78, 28, 45, 182, 0, 179]
abbrev dktX1_letter_0 : List UInt8 := dkwX1_letter_0 ++ dktX1_letter_1
theorem dksX1_letter_0 : cX1_letter.data.toList.drop 0 = dktX1_letter_0 := by decide +kernel
theorem dksX1_letter_1 : cX1_letter.data.toList.drop 23 = dktX1_letter_1 := dk_seg dksX1_letter_0 23 rfl rfl
theorem dX1_letter_0 : decode cX1_letter 0 = .ok (.aload_n 0, 1) := dk_42 (dk_at dksX1_letter_0 0 rfl rfl)
theorem dX1_letter_1 : decode cX1_letter 1 = .ok (.getfield 50, 3) := dk_180 0 50 (dk_at dksX1_letter_0 1 rfl rfl)
theorem dX1_letter_4 : decode cX1_letter 4 = .ok (.getfield 110, 3) := dk_180 0 110 (dk_at dksX1_letter_0 4 rfl rfl)
theorem dX1_letter_7 : decode cX1_letter 7 = .ok (.iload_n 1, 1) := dk_27 (dk_at dksX1_letter_0 7 rfl rfl)
theorem dX1_letter_8 : decode cX1_letter 8 = .ok (.invokestatic 148, 3) := dk_184 0 148 (dk_at dksX1_letter_0 8 rfl rfl)
theorem dX1_letter_11 : decode cX1_letter 11 = .ok (.checkcast 173, 3) := dk_192 0 173 (dk_at dksX1_letter_0 11 rfl rfl)
theorem dX1_letter_14 : decode cX1_letter 14 = .ok (.getfield 175, 3) := dk_180 0 175 (dk_at dksX1_letter_0 14 rfl rfl)
theorem dX1_letter_17 : decode cX1_letter 17 = .ok (.astore_n 3, 1) := dk_78 (dk_at dksX1_letter_0 17 rfl rfl)
theorem dX1_letter_18 : decode cX1_letter 18 = .ok (.iload_n 2, 1) := dk_28 (dk_at dksX1_letter_0 18 rfl rfl)
theorem dX1_letter_19 : decode cX1_letter 19 = .ok (.aload_n 3, 1) := dk_45 (dk_at dksX1_letter_0 19 rfl rfl)
theorem dX1_letter_20 : decode cX1_letter 20 = .ok (.invokevirtual 179, 3) := dk_182 0 179 (dk_at dksX1_letter_0 20 rfl rfl)
theorem dX1_letter_23 : decode cX1_letter 23 = .ok (.invokestatic 25, 3) := dk_184 0 25 (dk_at dksX1_letter_1 0 rfl rfl)
theorem dX1_letter_26 : decode cX1_letter 26 = .ok (.aload_n 3, 1) := dk_45 (dk_at dksX1_letter_1 3 rfl rfl)
theorem dX1_letter_27 : decode cX1_letter 27 = .ok (.iload_n 2, 1) := dk_28 (dk_at dksX1_letter_1 4 rfl rfl)
theorem dX1_letter_28 : decode cX1_letter 28 = .ok (.invokevirtual 182, 3) := dk_182 0 182 (dk_at dksX1_letter_1 5 rfl rfl)
theorem dX1_letter_31 : decode cX1_letter 31 = .ok (.ireturn, 1) := dk_172 (dk_at dksX1_letter_1 8 rfl rfl)
abbrev cX1_wrote : ByteArray := prog_1_method_17_code
def yX1_wrote : MethodName := ⟨RX1, "wrote", "(I)I"⟩
def dkwX1_wrote_0 : List UInt8 := [42, 180, 0, 50, 180, 0, 113, 27, 184, 0, 148, 192, 0, 186, 180, 0, 188, 172]
abbrev dktX1_wrote_0 : List UInt8 := dkwX1_wrote_0 ++ []
theorem dksX1_wrote_0 : cX1_wrote.data.toList.drop 0 = dktX1_wrote_0 := by decide +kernel
theorem dX1_wrote_0 : decode cX1_wrote 0 = .ok (.aload_n 0, 1) := dk_42 (dk_at dksX1_wrote_0 0 rfl rfl)
theorem dX1_wrote_1 : decode cX1_wrote 1 = .ok (.getfield 50, 3) := dk_180 0 50 (dk_at dksX1_wrote_0 1 rfl rfl)
theorem dX1_wrote_4 : decode cX1_wrote 4 = .ok (.getfield 113, 3) := dk_180 0 113 (dk_at dksX1_wrote_0 4 rfl rfl)
theorem dX1_wrote_7 : decode cX1_wrote 7 = .ok (.iload_n 1, 1) := dk_27 (dk_at dksX1_wrote_0 7 rfl rfl)
theorem dX1_wrote_8 : decode cX1_wrote 8 = .ok (.invokestatic 148, 3) := dk_184 0 148 (dk_at dksX1_wrote_0 8 rfl rfl)
theorem dX1_wrote_11 : decode cX1_wrote 11 = .ok (.checkcast 186, 3) := dk_192 0 186 (dk_at dksX1_wrote_0 11 rfl rfl)
theorem dX1_wrote_14 : decode cX1_wrote 14 = .ok (.getfield 188, 3) := dk_180 0 188 (dk_at dksX1_wrote_0 14 rfl rfl)
theorem dX1_wrote_17 : decode cX1_wrote 17 = .ok (.ireturn, 1) := dk_172 (dk_at dksX1_wrote_0 17 rfl rfl)
abbrev cX1_pass : ByteArray := prog_1_method_18_code
def yX1_pass : MethodName := ⟨RX1, "pass", "(I)I"⟩
def dkwX1_pass_0 : List UInt8 := [4, 17, 1, 44, 27, 184, 0, 66, 42, 180, 0, 50, 27, 182, 0, 191, 172]
abbrev dktX1_pass_0 : List UInt8 := dkwX1_pass_0 ++ []
theorem dksX1_pass_0 : cX1_pass.data.toList.drop 0 = dktX1_pass_0 := by decide +kernel
theorem dX1_pass_0 : decode cX1_pass 0 = .ok (.iconst 1, 1) := dk_4 (dk_at dksX1_pass_0 0 rfl rfl)
theorem dX1_pass_1 : decode cX1_pass 1 = .ok (.sipush 300, 3) := dk_17 1 44 (dk_at dksX1_pass_0 1 rfl rfl)
theorem dX1_pass_4 : decode cX1_pass 4 = .ok (.iload_n 1, 1) := dk_27 (dk_at dksX1_pass_0 4 rfl rfl)
theorem dX1_pass_5 : decode cX1_pass 5 = .ok (.invokestatic 66, 3) := dk_184 0 66 (dk_at dksX1_pass_0 5 rfl rfl)
theorem dX1_pass_8 : decode cX1_pass 8 = .ok (.aload_n 0, 1) := dk_42 (dk_at dksX1_pass_0 8 rfl rfl)
theorem dX1_pass_9 : decode cX1_pass 9 = .ok (.getfield 50, 3) := dk_180 0 50 (dk_at dksX1_pass_0 9 rfl rfl)
theorem dX1_pass_12 : decode cX1_pass 12 = .ok (.iload_n 1, 1) := dk_27 (dk_at dksX1_pass_0 12 rfl rfl)
theorem dX1_pass_13 : decode cX1_pass 13 = .ok (.invokevirtual 191, 3) := dk_182 0 191 (dk_at dksX1_pass_0 13 rfl rfl)
theorem dX1_pass_16 : decode cX1_pass 16 = .ok (.ireturn, 1) := dk_172 (dk_at dksX1_pass_0 16 rfl rfl)
abbrev cX1_byteAt : ByteArray := prog_1_method_19_code
def yX1_byteAt : MethodName := ⟨RX1, "byteAt", "(I)I"⟩
def dkwX1_byteAt_1 : List UInt8 := [182, 0, 195, 172]
abbrev dktX1_byteAt_1 : List UInt8 := dkwX1_byteAt_1 ++ []
def dkwX1_byteAt_0 : List UInt8 := [27, 42, 180, 0, 50, 180, 0, 116, 182, 0, 120, 184, 0, 25, 42, 180, 0, 50, 180, 0, 116, 27]
abbrev dktX1_byteAt_0 : List UInt8 := dkwX1_byteAt_0 ++ dktX1_byteAt_1
theorem dksX1_byteAt_0 : cX1_byteAt.data.toList.drop 0 = dktX1_byteAt_0 := by decide +kernel
theorem dksX1_byteAt_1 : cX1_byteAt.data.toList.drop 22 = dktX1_byteAt_1 := dk_seg dksX1_byteAt_0 22 rfl rfl
theorem dX1_byteAt_0 : decode cX1_byteAt 0 = .ok (.iload_n 1, 1) := dk_27 (dk_at dksX1_byteAt_0 0 rfl rfl)
theorem dX1_byteAt_1 : decode cX1_byteAt 1 = .ok (.aload_n 0, 1) := dk_42 (dk_at dksX1_byteAt_0 1 rfl rfl)
theorem dX1_byteAt_2 : decode cX1_byteAt 2 = .ok (.getfield 50, 3) := dk_180 0 50 (dk_at dksX1_byteAt_0 2 rfl rfl)
theorem dX1_byteAt_5 : decode cX1_byteAt 5 = .ok (.getfield 116, 3) := dk_180 0 116 (dk_at dksX1_byteAt_0 5 rfl rfl)
theorem dX1_byteAt_8 : decode cX1_byteAt 8 = .ok (.invokevirtual 120, 3) := dk_182 0 120 (dk_at dksX1_byteAt_0 8 rfl rfl)
theorem dX1_byteAt_11 : decode cX1_byteAt 11 = .ok (.invokestatic 25, 3) := dk_184 0 25 (dk_at dksX1_byteAt_0 11 rfl rfl)
theorem dX1_byteAt_14 : decode cX1_byteAt 14 = .ok (.aload_n 0, 1) := dk_42 (dk_at dksX1_byteAt_0 14 rfl rfl)
theorem dX1_byteAt_15 : decode cX1_byteAt 15 = .ok (.getfield 50, 3) := dk_180 0 50 (dk_at dksX1_byteAt_0 15 rfl rfl)
theorem dX1_byteAt_18 : decode cX1_byteAt 18 = .ok (.getfield 116, 3) := dk_180 0 116 (dk_at dksX1_byteAt_0 18 rfl rfl)
theorem dX1_byteAt_21 : decode cX1_byteAt 21 = .ok (.iload_n 1, 1) := dk_27 (dk_at dksX1_byteAt_0 21 rfl rfl)
theorem dX1_byteAt_22 : decode cX1_byteAt 22 = .ok (.invokevirtual 195, 3) := dk_182 0 195 (dk_at dksX1_byteAt_1 0 rfl rfl)
theorem dX1_byteAt_25 : decode cX1_byteAt 25 = .ok (.ireturn, 1) := dk_172 (dk_at dksX1_byteAt_1 3 rfl rfl)
abbrev cX1_translate : ByteArray := prog_1_method_22_code
def yX1_translate : MethodName := ⟨RX1, "translate", "(II)I"⟩
def dkwX1_translate_6 : List UInt8 := [21, 5, 172]
abbrev dktX1_translate_6 : List UInt8 := dkwX1_translate_6 ++ []
def dkwX1_translate_5 : List UInt8 := [180, 0, 116, 21, 6, 25, 4, 21, 8, 182, 0, 182, 182, 0, 206, 132, 5, 1, 132, 6, 1, 167, 255, 164]
abbrev dktX1_translate_5 : List UInt8 := dkwX1_translate_5 ++ dktX1_translate_6
def dkwX1_translate_4 : List UInt8 := [162, 0, 40, 25, 4, 21, 8, 182, 0, 182, 21, 7, 160, 0, 6, 167, 0, 25, 42, 180, 0, 50]
abbrev dktX1_translate_4 : List UInt8 := dkwX1_translate_4 ++ dktX1_translate_5
def dkwX1_translate_3 : List UInt8 := [54, 7, 45, 21, 7, 182, 0, 203, 54, 8, 21, 8, 155, 0, 50, 21, 8, 25, 4, 182, 0, 179]
abbrev dktX1_translate_3 : List UInt8 := dkwX1_translate_3 ++ dktX1_translate_4
def dkwX1_translate_2 : List UInt8 := [180, 0, 50, 180, 0, 116, 182, 0, 120, 162, 0, 83, 42, 180, 0, 50, 180, 0, 116, 21, 6, 182, 0, 195]
abbrev dktX1_translate_2 : List UInt8 := dkwX1_translate_2 ++ dktX1_translate_3
def dkwX1_translate_1 : List UInt8 := [180, 0, 110, 28, 184, 0, 148, 192, 0, 173, 180, 0, 175, 58, 4, 3, 54, 5, 3, 54, 6, 21, 6, 42]
abbrev dktX1_translate_1 : List UInt8 := dkwX1_translate_1 ++ dktX1_translate_2
def dkwX1_translate_0 : List UInt8 := [42, 180, 0, 50, 180, 0, 110, 27, 184, 0, 148, 192, 0, 173, 180, 0, 175, 78, 42, 180, 0, 50]
abbrev dktX1_translate_0 : List UInt8 := dkwX1_translate_0 ++ dktX1_translate_1
theorem dksX1_translate_0 : cX1_translate.data.toList.drop 0 = dktX1_translate_0 := by decide +kernel
theorem dksX1_translate_1 : cX1_translate.data.toList.drop 22 = dktX1_translate_1 := dk_seg dksX1_translate_0 22 rfl rfl
theorem dksX1_translate_2 : cX1_translate.data.toList.drop 46 = dktX1_translate_2 := dk_seg dksX1_translate_1 24 rfl rfl
theorem dksX1_translate_3 : cX1_translate.data.toList.drop 70 = dktX1_translate_3 := dk_seg dksX1_translate_2 24 rfl rfl
theorem dksX1_translate_4 : cX1_translate.data.toList.drop 92 = dktX1_translate_4 := dk_seg dksX1_translate_3 22 rfl rfl
theorem dksX1_translate_5 : cX1_translate.data.toList.drop 114 = dktX1_translate_5 := dk_seg dksX1_translate_4 22 rfl rfl
theorem dksX1_translate_6 : cX1_translate.data.toList.drop 138 = dktX1_translate_6 := dk_seg dksX1_translate_5 24 rfl rfl
theorem dX1_translate_0 : decode cX1_translate 0 = .ok (.aload_n 0, 1) := dk_42 (dk_at dksX1_translate_0 0 rfl rfl)
theorem dX1_translate_1 : decode cX1_translate 1 = .ok (.getfield 50, 3) := dk_180 0 50 (dk_at dksX1_translate_0 1 rfl rfl)
theorem dX1_translate_4 : decode cX1_translate 4 = .ok (.getfield 110, 3) := dk_180 0 110 (dk_at dksX1_translate_0 4 rfl rfl)
theorem dX1_translate_7 : decode cX1_translate 7 = .ok (.iload_n 1, 1) := dk_27 (dk_at dksX1_translate_0 7 rfl rfl)
theorem dX1_translate_8 : decode cX1_translate 8 = .ok (.invokestatic 148, 3) := dk_184 0 148 (dk_at dksX1_translate_0 8 rfl rfl)
theorem dX1_translate_11 : decode cX1_translate 11 = .ok (.checkcast 173, 3) := dk_192 0 173 (dk_at dksX1_translate_0 11 rfl rfl)
theorem dX1_translate_14 : decode cX1_translate 14 = .ok (.getfield 175, 3) := dk_180 0 175 (dk_at dksX1_translate_0 14 rfl rfl)
theorem dX1_translate_17 : decode cX1_translate 17 = .ok (.astore_n 3, 1) := dk_78 (dk_at dksX1_translate_0 17 rfl rfl)
theorem dX1_translate_18 : decode cX1_translate 18 = .ok (.aload_n 0, 1) := dk_42 (dk_at dksX1_translate_0 18 rfl rfl)
theorem dX1_translate_19 : decode cX1_translate 19 = .ok (.getfield 50, 3) := dk_180 0 50 (dk_at dksX1_translate_0 19 rfl rfl)
theorem dX1_translate_22 : decode cX1_translate 22 = .ok (.getfield 110, 3) := dk_180 0 110 (dk_at dksX1_translate_1 0 rfl rfl)
theorem dX1_translate_25 : decode cX1_translate 25 = .ok (.iload_n 2, 1) := dk_28 (dk_at dksX1_translate_1 3 rfl rfl)
theorem dX1_translate_26 : decode cX1_translate 26 = .ok (.invokestatic 148, 3) := dk_184 0 148 (dk_at dksX1_translate_1 4 rfl rfl)
theorem dX1_translate_29 : decode cX1_translate 29 = .ok (.checkcast 173, 3) := dk_192 0 173 (dk_at dksX1_translate_1 7 rfl rfl)
theorem dX1_translate_32 : decode cX1_translate 32 = .ok (.getfield 175, 3) := dk_180 0 175 (dk_at dksX1_translate_1 10 rfl rfl)
theorem dX1_translate_35 : decode cX1_translate 35 = .ok (.astore 4, 2) := dk_58 4 (dk_at dksX1_translate_1 13 rfl rfl)
theorem dX1_translate_37 : decode cX1_translate 37 = .ok (.iconst 0, 1) := dk_3 (dk_at dksX1_translate_1 15 rfl rfl)
theorem dX1_translate_38 : decode cX1_translate 38 = .ok (.istore 5, 2) := dk_54 5 (dk_at dksX1_translate_1 16 rfl rfl)
theorem dX1_translate_40 : decode cX1_translate 40 = .ok (.iconst 0, 1) := dk_3 (dk_at dksX1_translate_1 18 rfl rfl)
theorem dX1_translate_41 : decode cX1_translate 41 = .ok (.istore 6, 2) := dk_54 6 (dk_at dksX1_translate_1 19 rfl rfl)
theorem dX1_translate_43 : decode cX1_translate 43 = .ok (.iload 6, 2) := dk_21 6 (dk_at dksX1_translate_1 21 rfl rfl)
theorem dX1_translate_45 : decode cX1_translate 45 = .ok (.aload_n 0, 1) := dk_42 (dk_at dksX1_translate_1 23 rfl rfl)
theorem dX1_translate_46 : decode cX1_translate 46 = .ok (.getfield 50, 3) := dk_180 0 50 (dk_at dksX1_translate_2 0 rfl rfl)
theorem dX1_translate_49 : decode cX1_translate 49 = .ok (.getfield 116, 3) := dk_180 0 116 (dk_at dksX1_translate_2 3 rfl rfl)
theorem dX1_translate_52 : decode cX1_translate 52 = .ok (.invokevirtual 120, 3) := dk_182 0 120 (dk_at dksX1_translate_2 6 rfl rfl)
theorem dX1_translate_55 : decode cX1_translate 55 = .ok (.if_icmp .ge 83, 3) := dk_162 0 83 (dk_at dksX1_translate_2 9 rfl rfl)
theorem dX1_translate_58 : decode cX1_translate 58 = .ok (.aload_n 0, 1) := dk_42 (dk_at dksX1_translate_2 12 rfl rfl)
theorem dX1_translate_59 : decode cX1_translate 59 = .ok (.getfield 50, 3) := dk_180 0 50 (dk_at dksX1_translate_2 13 rfl rfl)
theorem dX1_translate_62 : decode cX1_translate 62 = .ok (.getfield 116, 3) := dk_180 0 116 (dk_at dksX1_translate_2 16 rfl rfl)
theorem dX1_translate_65 : decode cX1_translate 65 = .ok (.iload 6, 2) := dk_21 6 (dk_at dksX1_translate_2 19 rfl rfl)
theorem dX1_translate_67 : decode cX1_translate 67 = .ok (.invokevirtual 195, 3) := dk_182 0 195 (dk_at dksX1_translate_2 21 rfl rfl)
theorem dX1_translate_70 : decode cX1_translate 70 = .ok (.istore 7, 2) := dk_54 7 (dk_at dksX1_translate_3 0 rfl rfl)
theorem dX1_translate_72 : decode cX1_translate 72 = .ok (.aload_n 3, 1) := dk_45 (dk_at dksX1_translate_3 2 rfl rfl)
theorem dX1_translate_73 : decode cX1_translate 73 = .ok (.iload 7, 2) := dk_21 7 (dk_at dksX1_translate_3 3 rfl rfl)
theorem dX1_translate_75 : decode cX1_translate 75 = .ok (.invokevirtual 203, 3) := dk_182 0 203 (dk_at dksX1_translate_3 5 rfl rfl)
theorem dX1_translate_78 : decode cX1_translate 78 = .ok (.istore 8, 2) := dk_54 8 (dk_at dksX1_translate_3 8 rfl rfl)
theorem dX1_translate_80 : decode cX1_translate 80 = .ok (.iload 8, 2) := dk_21 8 (dk_at dksX1_translate_3 10 rfl rfl)
theorem dX1_translate_82 : decode cX1_translate 82 = .ok (.ifCond .lt 50, 3) := dk_155 0 50 (dk_at dksX1_translate_3 12 rfl rfl)
theorem dX1_translate_85 : decode cX1_translate 85 = .ok (.iload 8, 2) := dk_21 8 (dk_at dksX1_translate_3 15 rfl rfl)
theorem dX1_translate_87 : decode cX1_translate 87 = .ok (.aload 4, 2) := dk_25 4 (dk_at dksX1_translate_3 17 rfl rfl)
theorem dX1_translate_89 : decode cX1_translate 89 = .ok (.invokevirtual 179, 3) := dk_182 0 179 (dk_at dksX1_translate_3 19 rfl rfl)
theorem dX1_translate_92 : decode cX1_translate 92 = .ok (.if_icmp .ge 40, 3) := dk_162 0 40 (dk_at dksX1_translate_4 0 rfl rfl)
theorem dX1_translate_95 : decode cX1_translate 95 = .ok (.aload 4, 2) := dk_25 4 (dk_at dksX1_translate_4 3 rfl rfl)
theorem dX1_translate_97 : decode cX1_translate 97 = .ok (.iload 8, 2) := dk_21 8 (dk_at dksX1_translate_4 5 rfl rfl)
theorem dX1_translate_99 : decode cX1_translate 99 = .ok (.invokevirtual 182, 3) := dk_182 0 182 (dk_at dksX1_translate_4 7 rfl rfl)
theorem dX1_translate_102 : decode cX1_translate 102 = .ok (.iload 7, 2) := dk_21 7 (dk_at dksX1_translate_4 10 rfl rfl)
theorem dX1_translate_104 : decode cX1_translate 104 = .ok (.if_icmp .ne 6, 3) := dk_160 0 6 (dk_at dksX1_translate_4 12 rfl rfl)
theorem dX1_translate_107 : decode cX1_translate 107 = .ok (.goto 25, 3) := dk_167 0 25 (dk_at dksX1_translate_4 15 rfl rfl)
theorem dX1_translate_110 : decode cX1_translate 110 = .ok (.aload_n 0, 1) := dk_42 (dk_at dksX1_translate_4 18 rfl rfl)
theorem dX1_translate_111 : decode cX1_translate 111 = .ok (.getfield 50, 3) := dk_180 0 50 (dk_at dksX1_translate_4 19 rfl rfl)
theorem dX1_translate_114 : decode cX1_translate 114 = .ok (.getfield 116, 3) := dk_180 0 116 (dk_at dksX1_translate_5 0 rfl rfl)
theorem dX1_translate_117 : decode cX1_translate 117 = .ok (.iload 6, 2) := dk_21 6 (dk_at dksX1_translate_5 3 rfl rfl)
theorem dX1_translate_119 : decode cX1_translate 119 = .ok (.aload 4, 2) := dk_25 4 (dk_at dksX1_translate_5 5 rfl rfl)
theorem dX1_translate_121 : decode cX1_translate 121 = .ok (.iload 8, 2) := dk_21 8 (dk_at dksX1_translate_5 7 rfl rfl)
theorem dX1_translate_123 : decode cX1_translate 123 = .ok (.invokevirtual 182, 3) := dk_182 0 182 (dk_at dksX1_translate_5 9 rfl rfl)
theorem dX1_translate_126 : decode cX1_translate 126 = .ok (.invokevirtual 206, 3) := dk_182 0 206 (dk_at dksX1_translate_5 12 rfl rfl)
theorem dX1_translate_129 : decode cX1_translate 129 = .ok (.iinc 5 1, 3) := dk_132 5 1 (dk_at dksX1_translate_5 15 rfl rfl)
theorem dX1_translate_132 : decode cX1_translate 132 = .ok (.iinc 6 1, 3) := dk_132 6 1 (dk_at dksX1_translate_5 18 rfl rfl)
theorem dX1_translate_135 : decode cX1_translate 135 = .ok (.goto (-92), 3) := dk_167 255 164 (dk_at dksX1_translate_5 21 rfl rfl)
theorem dX1_translate_138 : decode cX1_translate 138 = .ok (.iload 5, 2) := dk_21 5 (dk_at dksX1_translate_6 0 rfl rfl)
theorem dX1_translate_140 : decode cX1_translate 140 = .ok (.ireturn, 1) := dk_172 (dk_at dksX1_translate_6 2 rfl rfl)
abbrev cX1_foresee : ByteArray := prog_1_method_23_code
def yX1_foresee : MethodName := ⟨RX1, "foresee", "(II)I"⟩
def dkwX1_foresee_2 : List UInt8 := [182, 0, 145, 167, 0, 10, 42, 180, 0, 54, 182, 0, 214, 172]
abbrev dktX1_foresee_2 : List UInt8 := dkwX1_foresee_2 ++ []
def dkwX1_foresee_1 : List UInt8 := [27, 182, 0, 191, 62, 28, 154, 0, 7, 29, 167, 0, 25, 28, 4, 160, 0, 13, 42, 180, 0, 54]
abbrev dktX1_foresee_1 : List UInt8 := dkwX1_foresee_1 ++ dktX1_foresee_2
def dkwX1_foresee_0 : List UInt8 := [4, 17, 1, 44, 27, 184, 0, 66, 28, 6, 184, 0, 25, 42, 180, 0, 54, 42, 180, 0, 50, 182, 0, 210]
abbrev dktX1_foresee_0 : List UInt8 := dkwX1_foresee_0 ++ dktX1_foresee_1
theorem dksX1_foresee_0 : cX1_foresee.data.toList.drop 0 = dktX1_foresee_0 := by decide +kernel
theorem dksX1_foresee_1 : cX1_foresee.data.toList.drop 24 = dktX1_foresee_1 := dk_seg dksX1_foresee_0 24 rfl rfl
theorem dksX1_foresee_2 : cX1_foresee.data.toList.drop 46 = dktX1_foresee_2 := dk_seg dksX1_foresee_1 22 rfl rfl
theorem dX1_foresee_0 : decode cX1_foresee 0 = .ok (.iconst 1, 1) := dk_4 (dk_at dksX1_foresee_0 0 rfl rfl)
theorem dX1_foresee_1 : decode cX1_foresee 1 = .ok (.sipush 300, 3) := dk_17 1 44 (dk_at dksX1_foresee_0 1 rfl rfl)
theorem dX1_foresee_4 : decode cX1_foresee 4 = .ok (.iload_n 1, 1) := dk_27 (dk_at dksX1_foresee_0 4 rfl rfl)
theorem dX1_foresee_5 : decode cX1_foresee 5 = .ok (.invokestatic 66, 3) := dk_184 0 66 (dk_at dksX1_foresee_0 5 rfl rfl)
theorem dX1_foresee_8 : decode cX1_foresee 8 = .ok (.iload_n 2, 1) := dk_28 (dk_at dksX1_foresee_0 8 rfl rfl)
theorem dX1_foresee_9 : decode cX1_foresee 9 = .ok (.iconst 3, 1) := dk_6 (dk_at dksX1_foresee_0 9 rfl rfl)
theorem dX1_foresee_10 : decode cX1_foresee 10 = .ok (.invokestatic 25, 3) := dk_184 0 25 (dk_at dksX1_foresee_0 10 rfl rfl)
theorem dX1_foresee_13 : decode cX1_foresee 13 = .ok (.aload_n 0, 1) := dk_42 (dk_at dksX1_foresee_0 13 rfl rfl)
theorem dX1_foresee_14 : decode cX1_foresee 14 = .ok (.getfield 54, 3) := dk_180 0 54 (dk_at dksX1_foresee_0 14 rfl rfl)
theorem dX1_foresee_17 : decode cX1_foresee 17 = .ok (.aload_n 0, 1) := dk_42 (dk_at dksX1_foresee_0 17 rfl rfl)
theorem dX1_foresee_18 : decode cX1_foresee 18 = .ok (.getfield 50, 3) := dk_180 0 50 (dk_at dksX1_foresee_0 18 rfl rfl)
theorem dX1_foresee_21 : decode cX1_foresee 21 = .ok (.invokevirtual 210, 3) := dk_182 0 210 (dk_at dksX1_foresee_0 21 rfl rfl)
theorem dX1_foresee_24 : decode cX1_foresee 24 = .ok (.iload_n 1, 1) := dk_27 (dk_at dksX1_foresee_1 0 rfl rfl)
theorem dX1_foresee_25 : decode cX1_foresee 25 = .ok (.invokevirtual 191, 3) := dk_182 0 191 (dk_at dksX1_foresee_1 1 rfl rfl)
theorem dX1_foresee_28 : decode cX1_foresee 28 = .ok (.istore_n 3, 1) := dk_62 (dk_at dksX1_foresee_1 4 rfl rfl)
theorem dX1_foresee_29 : decode cX1_foresee 29 = .ok (.iload_n 2, 1) := dk_28 (dk_at dksX1_foresee_1 5 rfl rfl)
theorem dX1_foresee_30 : decode cX1_foresee 30 = .ok (.ifCond .ne 7, 3) := dk_154 0 7 (dk_at dksX1_foresee_1 6 rfl rfl)
theorem dX1_foresee_33 : decode cX1_foresee 33 = .ok (.iload_n 3, 1) := dk_29 (dk_at dksX1_foresee_1 9 rfl rfl)
theorem dX1_foresee_34 : decode cX1_foresee 34 = .ok (.goto 25, 3) := dk_167 0 25 (dk_at dksX1_foresee_1 10 rfl rfl)
theorem dX1_foresee_37 : decode cX1_foresee 37 = .ok (.iload_n 2, 1) := dk_28 (dk_at dksX1_foresee_1 13 rfl rfl)
theorem dX1_foresee_38 : decode cX1_foresee 38 = .ok (.iconst 1, 1) := dk_4 (dk_at dksX1_foresee_1 14 rfl rfl)
theorem dX1_foresee_39 : decode cX1_foresee 39 = .ok (.if_icmp .ne 13, 3) := dk_160 0 13 (dk_at dksX1_foresee_1 15 rfl rfl)
theorem dX1_foresee_42 : decode cX1_foresee 42 = .ok (.aload_n 0, 1) := dk_42 (dk_at dksX1_foresee_1 18 rfl rfl)
theorem dX1_foresee_43 : decode cX1_foresee 43 = .ok (.getfield 54, 3) := dk_180 0 54 (dk_at dksX1_foresee_1 19 rfl rfl)
theorem dX1_foresee_46 : decode cX1_foresee 46 = .ok (.invokevirtual 145, 3) := dk_182 0 145 (dk_at dksX1_foresee_2 0 rfl rfl)
theorem dX1_foresee_49 : decode cX1_foresee 49 = .ok (.goto 10, 3) := dk_167 0 10 (dk_at dksX1_foresee_2 3 rfl rfl)
theorem dX1_foresee_52 : decode cX1_foresee 52 = .ok (.aload_n 0, 1) := dk_42 (dk_at dksX1_foresee_2 6 rfl rfl)
theorem dX1_foresee_53 : decode cX1_foresee 53 = .ok (.getfield 54, 3) := dk_180 0 54 (dk_at dksX1_foresee_2 7 rfl rfl)
theorem dX1_foresee_56 : decode cX1_foresee 56 = .ok (.invokevirtual 214, 3) := dk_182 0 214 (dk_at dksX1_foresee_2 10 rfl rfl)
theorem dX1_foresee_59 : decode cX1_foresee 59 = .ok (.ireturn, 1) := dk_172 (dk_at dksX1_foresee_2 13 rfl rfl)
abbrev cX1_next : ByteArray := prog_1_method_24_code
def yX1_next : MethodName := ⟨RX1, "next", "(IIZ)I"⟩
def dkwX1_next_4 : List UInt8 := [153, 0, 6, 21, 5, 172, 132, 5, 1, 167, 255, 198, 2, 172]
abbrev dktX1_next_4 : List UInt8 := dkwX1_next_4 ++ []
def dkwX1_next_3 : List UInt8 := [182, 0, 220, 192, 0, 139, 42, 180, 0, 54, 180, 0, 103, 28, 182, 0, 220, 192, 0, 139, 182, 0, 169]
abbrev dktX1_next_3 : List UInt8 := dkwX1_next_3 ++ dktX1_next_4
def dkwX1_next_2 : List UInt8 := [17, 3, 232, 163, 0, 56, 42, 180, 0, 54, 182, 0, 217, 87, 25, 4, 42, 180, 0, 54, 180, 0, 103, 27]
abbrev dktX1_next_2 : List UInt8 := dkwX1_next_2 ++ dktX1_next_3
def dkwX1_next_1 : List UInt8 := [29, 184, 0, 163, 58, 4, 42, 180, 0, 54, 42, 180, 0, 50, 182, 0, 210, 87, 4, 54, 5, 21, 5]
abbrev dktX1_next_1 : List UInt8 := dkwX1_next_1 ++ dktX1_next_2
def dkwX1_next_0 : List UInt8 := [42, 180, 0, 50, 180, 0, 103, 27, 184, 0, 148, 87, 42, 180, 0, 50, 180, 0, 103, 28, 184, 0, 148, 87]
abbrev dktX1_next_0 : List UInt8 := dkwX1_next_0 ++ dktX1_next_1
theorem dksX1_next_0 : cX1_next.data.toList.drop 0 = dktX1_next_0 := by decide +kernel
theorem dksX1_next_1 : cX1_next.data.toList.drop 24 = dktX1_next_1 := dk_seg dksX1_next_0 24 rfl rfl
theorem dksX1_next_2 : cX1_next.data.toList.drop 47 = dktX1_next_2 := dk_seg dksX1_next_1 23 rfl rfl
theorem dksX1_next_3 : cX1_next.data.toList.drop 71 = dktX1_next_3 := dk_seg dksX1_next_2 24 rfl rfl
theorem dksX1_next_4 : cX1_next.data.toList.drop 94 = dktX1_next_4 := dk_seg dksX1_next_3 23 rfl rfl
theorem dX1_next_0 : decode cX1_next 0 = .ok (.aload_n 0, 1) := dk_42 (dk_at dksX1_next_0 0 rfl rfl)
theorem dX1_next_1 : decode cX1_next 1 = .ok (.getfield 50, 3) := dk_180 0 50 (dk_at dksX1_next_0 1 rfl rfl)
theorem dX1_next_4 : decode cX1_next 4 = .ok (.getfield 103, 3) := dk_180 0 103 (dk_at dksX1_next_0 4 rfl rfl)
theorem dX1_next_7 : decode cX1_next 7 = .ok (.iload_n 1, 1) := dk_27 (dk_at dksX1_next_0 7 rfl rfl)
theorem dX1_next_8 : decode cX1_next 8 = .ok (.invokestatic 148, 3) := dk_184 0 148 (dk_at dksX1_next_0 8 rfl rfl)
theorem dX1_next_11 : decode cX1_next 11 = .ok (.pop, 1) := dk_87 (dk_at dksX1_next_0 11 rfl rfl)
theorem dX1_next_12 : decode cX1_next 12 = .ok (.aload_n 0, 1) := dk_42 (dk_at dksX1_next_0 12 rfl rfl)
theorem dX1_next_13 : decode cX1_next 13 = .ok (.getfield 50, 3) := dk_180 0 50 (dk_at dksX1_next_0 13 rfl rfl)
theorem dX1_next_16 : decode cX1_next 16 = .ok (.getfield 103, 3) := dk_180 0 103 (dk_at dksX1_next_0 16 rfl rfl)
theorem dX1_next_19 : decode cX1_next 19 = .ok (.iload_n 2, 1) := dk_28 (dk_at dksX1_next_0 19 rfl rfl)
theorem dX1_next_20 : decode cX1_next 20 = .ok (.invokestatic 148, 3) := dk_184 0 148 (dk_at dksX1_next_0 20 rfl rfl)
theorem dX1_next_23 : decode cX1_next 23 = .ok (.pop, 1) := dk_87 (dk_at dksX1_next_0 23 rfl rfl)
theorem dX1_next_24 : decode cX1_next 24 = .ok (.iload_n 3, 1) := dk_29 (dk_at dksX1_next_1 0 rfl rfl)
theorem dX1_next_25 : decode cX1_next 25 = .ok (.invokestatic 163, 3) := dk_184 0 163 (dk_at dksX1_next_1 1 rfl rfl)
theorem dX1_next_28 : decode cX1_next 28 = .ok (.astore 4, 2) := dk_58 4 (dk_at dksX1_next_1 4 rfl rfl)
theorem dX1_next_30 : decode cX1_next 30 = .ok (.aload_n 0, 1) := dk_42 (dk_at dksX1_next_1 6 rfl rfl)
theorem dX1_next_31 : decode cX1_next 31 = .ok (.getfield 54, 3) := dk_180 0 54 (dk_at dksX1_next_1 7 rfl rfl)
theorem dX1_next_34 : decode cX1_next 34 = .ok (.aload_n 0, 1) := dk_42 (dk_at dksX1_next_1 10 rfl rfl)
theorem dX1_next_35 : decode cX1_next 35 = .ok (.getfield 50, 3) := dk_180 0 50 (dk_at dksX1_next_1 11 rfl rfl)
theorem dX1_next_38 : decode cX1_next 38 = .ok (.invokevirtual 210, 3) := dk_182 0 210 (dk_at dksX1_next_1 14 rfl rfl)
theorem dX1_next_41 : decode cX1_next 41 = .ok (.pop, 1) := dk_87 (dk_at dksX1_next_1 17 rfl rfl)
theorem dX1_next_42 : decode cX1_next 42 = .ok (.iconst 1, 1) := dk_4 (dk_at dksX1_next_1 18 rfl rfl)
theorem dX1_next_43 : decode cX1_next 43 = .ok (.istore 5, 2) := dk_54 5 (dk_at dksX1_next_1 19 rfl rfl)
theorem dX1_next_45 : decode cX1_next 45 = .ok (.iload 5, 2) := dk_21 5 (dk_at dksX1_next_1 21 rfl rfl)
theorem dX1_next_47 : decode cX1_next 47 = .ok (.sipush 1000, 3) := dk_17 3 232 (dk_at dksX1_next_2 0 rfl rfl)
theorem dX1_next_50 : decode cX1_next 50 = .ok (.if_icmp .gt 56, 3) := dk_163 0 56 (dk_at dksX1_next_2 3 rfl rfl)
theorem dX1_next_53 : decode cX1_next 53 = .ok (.aload_n 0, 1) := dk_42 (dk_at dksX1_next_2 6 rfl rfl)
theorem dX1_next_54 : decode cX1_next 54 = .ok (.getfield 54, 3) := dk_180 0 54 (dk_at dksX1_next_2 7 rfl rfl)
theorem dX1_next_57 : decode cX1_next 57 = .ok (.invokevirtual 217, 3) := dk_182 0 217 (dk_at dksX1_next_2 10 rfl rfl)
theorem dX1_next_60 : decode cX1_next 60 = .ok (.pop, 1) := dk_87 (dk_at dksX1_next_2 13 rfl rfl)
theorem dX1_next_61 : decode cX1_next 61 = .ok (.aload 4, 2) := dk_25 4 (dk_at dksX1_next_2 14 rfl rfl)
theorem dX1_next_63 : decode cX1_next 63 = .ok (.aload_n 0, 1) := dk_42 (dk_at dksX1_next_2 16 rfl rfl)
theorem dX1_next_64 : decode cX1_next 64 = .ok (.getfield 54, 3) := dk_180 0 54 (dk_at dksX1_next_2 17 rfl rfl)
theorem dX1_next_67 : decode cX1_next 67 = .ok (.getfield 103, 3) := dk_180 0 103 (dk_at dksX1_next_2 20 rfl rfl)
theorem dX1_next_70 : decode cX1_next 70 = .ok (.iload_n 1, 1) := dk_27 (dk_at dksX1_next_2 23 rfl rfl)
theorem dX1_next_71 : decode cX1_next 71 = .ok (.invokevirtual 220, 3) := dk_182 0 220 (dk_at dksX1_next_3 0 rfl rfl)
theorem dX1_next_74 : decode cX1_next 74 = .ok (.checkcast 139, 3) := dk_192 0 139 (dk_at dksX1_next_3 3 rfl rfl)
theorem dX1_next_77 : decode cX1_next 77 = .ok (.aload_n 0, 1) := dk_42 (dk_at dksX1_next_3 6 rfl rfl)
theorem dX1_next_78 : decode cX1_next 78 = .ok (.getfield 54, 3) := dk_180 0 54 (dk_at dksX1_next_3 7 rfl rfl)
theorem dX1_next_81 : decode cX1_next 81 = .ok (.getfield 103, 3) := dk_180 0 103 (dk_at dksX1_next_3 10 rfl rfl)
theorem dX1_next_84 : decode cX1_next 84 = .ok (.iload_n 2, 1) := dk_28 (dk_at dksX1_next_3 13 rfl rfl)
theorem dX1_next_85 : decode cX1_next 85 = .ok (.invokevirtual 220, 3) := dk_182 0 220 (dk_at dksX1_next_3 14 rfl rfl)
theorem dX1_next_88 : decode cX1_next 88 = .ok (.checkcast 139, 3) := dk_192 0 139 (dk_at dksX1_next_3 17 rfl rfl)
theorem dX1_next_91 : decode cX1_next 91 = .ok (.invokevirtual 169, 3) := dk_182 0 169 (dk_at dksX1_next_3 20 rfl rfl)
theorem dX1_next_94 : decode cX1_next 94 = .ok (.ifCond .eq 6, 3) := dk_153 0 6 (dk_at dksX1_next_4 0 rfl rfl)
theorem dX1_next_97 : decode cX1_next 97 = .ok (.iload 5, 2) := dk_21 5 (dk_at dksX1_next_4 3 rfl rfl)
theorem dX1_next_99 : decode cX1_next 99 = .ok (.ireturn, 1) := dk_172 (dk_at dksX1_next_4 5 rfl rfl)
theorem dX1_next_100 : decode cX1_next 100 = .ok (.iinc 5 1, 3) := dk_132 5 1 (dk_at dksX1_next_4 6 rfl rfl)
theorem dX1_next_103 : decode cX1_next 103 = .ok (.goto (-58), 3) := dk_167 255 198 (dk_at dksX1_next_4 9 rfl rfl)
theorem dX1_next_106 : decode cX1_next 106 = .ok (.iconst (-1), 1) := dk_2 (dk_at dksX1_next_4 12 rfl rfl)
theorem dX1_next_107 : decode cX1_next 107 = .ok (.ireturn, 1) := dk_172 (dk_at dksX1_next_4 13 rfl rfl)
abbrev cX1_again : ByteArray := prog_1_method_26_code
def yX1_again : MethodName := ⟨RX1, "again", "(I)I"⟩
def dkwX1_again_2 : List UInt8 := [42, 180, 0, 54, 42, 180, 0, 50, 182, 0, 224, 153, 0, 5, 28, 172, 132, 2, 1, 167, 255, 211, 2, 172]
abbrev dktX1_again_2 : List UInt8 := dkwX1_again_2 ++ []
def dkwX1_again_1 : List UInt8 := [163, 0, 46, 42, 180, 0, 50, 180, 0, 103, 182, 0, 221, 154, 0, 33, 42, 180, 0, 54, 182, 0, 217, 87]
abbrev dktX1_again_1 : List UInt8 := dkwX1_again_1 ++ dktX1_again_2
def dkwX1_again_0 : List UInt8 := [4, 17, 7, 208, 27, 184, 0, 66, 42, 180, 0, 54, 42, 180, 0, 50, 182, 0, 210, 87, 4, 61, 28, 27]
abbrev dktX1_again_0 : List UInt8 := dkwX1_again_0 ++ dktX1_again_1
theorem dksX1_again_0 : cX1_again.data.toList.drop 0 = dktX1_again_0 := by decide +kernel
theorem dksX1_again_1 : cX1_again.data.toList.drop 24 = dktX1_again_1 := dk_seg dksX1_again_0 24 rfl rfl
theorem dksX1_again_2 : cX1_again.data.toList.drop 48 = dktX1_again_2 := dk_seg dksX1_again_1 24 rfl rfl
theorem dX1_again_0 : decode cX1_again 0 = .ok (.iconst 1, 1) := dk_4 (dk_at dksX1_again_0 0 rfl rfl)
theorem dX1_again_1 : decode cX1_again 1 = .ok (.sipush 2000, 3) := dk_17 7 208 (dk_at dksX1_again_0 1 rfl rfl)
theorem dX1_again_4 : decode cX1_again 4 = .ok (.iload_n 1, 1) := dk_27 (dk_at dksX1_again_0 4 rfl rfl)
theorem dX1_again_5 : decode cX1_again 5 = .ok (.invokestatic 66, 3) := dk_184 0 66 (dk_at dksX1_again_0 5 rfl rfl)
theorem dX1_again_8 : decode cX1_again 8 = .ok (.aload_n 0, 1) := dk_42 (dk_at dksX1_again_0 8 rfl rfl)
theorem dX1_again_9 : decode cX1_again 9 = .ok (.getfield 54, 3) := dk_180 0 54 (dk_at dksX1_again_0 9 rfl rfl)
theorem dX1_again_12 : decode cX1_again 12 = .ok (.aload_n 0, 1) := dk_42 (dk_at dksX1_again_0 12 rfl rfl)
theorem dX1_again_13 : decode cX1_again 13 = .ok (.getfield 50, 3) := dk_180 0 50 (dk_at dksX1_again_0 13 rfl rfl)
theorem dX1_again_16 : decode cX1_again 16 = .ok (.invokevirtual 210, 3) := dk_182 0 210 (dk_at dksX1_again_0 16 rfl rfl)
theorem dX1_again_19 : decode cX1_again 19 = .ok (.pop, 1) := dk_87 (dk_at dksX1_again_0 19 rfl rfl)
theorem dX1_again_20 : decode cX1_again 20 = .ok (.iconst 1, 1) := dk_4 (dk_at dksX1_again_0 20 rfl rfl)
theorem dX1_again_21 : decode cX1_again 21 = .ok (.istore_n 2, 1) := dk_61 (dk_at dksX1_again_0 21 rfl rfl)
theorem dX1_again_22 : decode cX1_again 22 = .ok (.iload_n 2, 1) := dk_28 (dk_at dksX1_again_0 22 rfl rfl)
theorem dX1_again_23 : decode cX1_again 23 = .ok (.iload_n 1, 1) := dk_27 (dk_at dksX1_again_0 23 rfl rfl)
theorem dX1_again_24 : decode cX1_again 24 = .ok (.if_icmp .gt 46, 3) := dk_163 0 46 (dk_at dksX1_again_1 0 rfl rfl)
theorem dX1_again_27 : decode cX1_again 27 = .ok (.aload_n 0, 1) := dk_42 (dk_at dksX1_again_1 3 rfl rfl)
theorem dX1_again_28 : decode cX1_again 28 = .ok (.getfield 50, 3) := dk_180 0 50 (dk_at dksX1_again_1 4 rfl rfl)
theorem dX1_again_31 : decode cX1_again 31 = .ok (.getfield 103, 3) := dk_180 0 103 (dk_at dksX1_again_1 7 rfl rfl)
theorem dX1_again_34 : decode cX1_again 34 = .ok (.invokevirtual 221, 3) := dk_182 0 221 (dk_at dksX1_again_1 10 rfl rfl)
theorem dX1_again_37 : decode cX1_again 37 = .ok (.ifCond .ne 33, 3) := dk_154 0 33 (dk_at dksX1_again_1 13 rfl rfl)
theorem dX1_again_40 : decode cX1_again 40 = .ok (.aload_n 0, 1) := dk_42 (dk_at dksX1_again_1 16 rfl rfl)
theorem dX1_again_41 : decode cX1_again 41 = .ok (.getfield 54, 3) := dk_180 0 54 (dk_at dksX1_again_1 17 rfl rfl)
theorem dX1_again_44 : decode cX1_again 44 = .ok (.invokevirtual 217, 3) := dk_182 0 217 (dk_at dksX1_again_1 20 rfl rfl)
theorem dX1_again_47 : decode cX1_again 47 = .ok (.pop, 1) := dk_87 (dk_at dksX1_again_1 23 rfl rfl)
theorem dX1_again_48 : decode cX1_again 48 = .ok (.aload_n 0, 1) := dk_42 (dk_at dksX1_again_2 0 rfl rfl)
theorem dX1_again_49 : decode cX1_again 49 = .ok (.getfield 54, 3) := dk_180 0 54 (dk_at dksX1_again_2 1 rfl rfl)
theorem dX1_again_52 : decode cX1_again 52 = .ok (.aload_n 0, 1) := dk_42 (dk_at dksX1_again_2 4 rfl rfl)
theorem dX1_again_53 : decode cX1_again 53 = .ok (.getfield 50, 3) := dk_180 0 50 (dk_at dksX1_again_2 5 rfl rfl)
theorem dX1_again_56 : decode cX1_again 56 = .ok (.invokevirtual 224, 3) := dk_182 0 224 (dk_at dksX1_again_2 8 rfl rfl)
theorem dX1_again_59 : decode cX1_again 59 = .ok (.ifCond .eq 5, 3) := dk_153 0 5 (dk_at dksX1_again_2 11 rfl rfl)
theorem dX1_again_62 : decode cX1_again 62 = .ok (.iload_n 2, 1) := dk_28 (dk_at dksX1_again_2 14 rfl rfl)
theorem dX1_again_63 : decode cX1_again 63 = .ok (.ireturn, 1) := dk_172 (dk_at dksX1_again_2 15 rfl rfl)
theorem dX1_again_64 : decode cX1_again 64 = .ok (.iinc 2 1, 3) := dk_132 2 1 (dk_at dksX1_again_2 16 rfl rfl)
theorem dX1_again_67 : decode cX1_again 67 = .ok (.goto (-45), 3) := dk_167 255 211 (dk_at dksX1_again_2 19 rfl rfl)
theorem dX1_again_70 : decode cX1_again 70 = .ok (.iconst (-1), 1) := dk_2 (dk_at dksX1_again_2 22 rfl rfl)
theorem dX1_again_71 : decode cX1_again 71 = .ok (.ireturn, 1) := dk_172 (dk_at dksX1_again_2 23 rfl rfl)
abbrev cX1_advise : ByteArray := prog_1_method_27_code
def yX1_advise : MethodName := ⟨RX1, "advise", "(II)I"⟩
def dkwX1_advise_4 : List UInt8 := [167, 0, 11, 21, 6, 54, 4, 21, 7, 54, 5, 132, 6, 1, 167, 255, 180, 21, 4, 172]
abbrev dktX1_advise_4 : List UInt8 := dkwX1_advise_4 ++ []
def dkwX1_advise_3 : List UInt8 := [17, 1, 104, 112, 182, 0, 157, 42, 180, 0, 54, 28, 182, 0, 191, 54, 7, 21, 7, 21, 5, 163, 0, 6]
abbrev dktX1_advise_3 : List UInt8 := dkwX1_advise_3 ++ dktX1_advise_4
def dkwX1_advise_2 : List UInt8 := [182, 0, 210, 180, 0, 103, 27, 182, 0, 220, 192, 0, 139, 45, 180, 0, 154, 16, 10, 21, 6, 104, 96]
abbrev dktX1_advise_2 : List UInt8 := dkwX1_advise_2 ++ dktX1_advise_3
def dkwX1_advise_1 : List UInt8 := [54, 4, 2, 54, 5, 3, 54, 6, 21, 6, 16, 36, 162, 0, 75, 42, 180, 0, 54, 42, 180, 0, 50]
abbrev dktX1_advise_1 : List UInt8 := dkwX1_advise_1 ++ dktX1_advise_2
def dkwX1_advise_0 : List UInt8 := [42, 180, 0, 50, 180, 0, 103, 27, 184, 0, 148, 192, 0, 139, 78, 4, 16, 60, 28, 184, 0, 66, 2]
abbrev dktX1_advise_0 : List UInt8 := dkwX1_advise_0 ++ dktX1_advise_1
theorem dksX1_advise_0 : cX1_advise.data.toList.drop 0 = dktX1_advise_0 := by decide +kernel
theorem dksX1_advise_1 : cX1_advise.data.toList.drop 23 = dktX1_advise_1 := dk_seg dksX1_advise_0 23 rfl rfl
theorem dksX1_advise_2 : cX1_advise.data.toList.drop 46 = dktX1_advise_2 := dk_seg dksX1_advise_1 23 rfl rfl
theorem dksX1_advise_3 : cX1_advise.data.toList.drop 69 = dktX1_advise_3 := dk_seg dksX1_advise_2 23 rfl rfl
theorem dksX1_advise_4 : cX1_advise.data.toList.drop 93 = dktX1_advise_4 := dk_seg dksX1_advise_3 24 rfl rfl
theorem dX1_advise_0 : decode cX1_advise 0 = .ok (.aload_n 0, 1) := dk_42 (dk_at dksX1_advise_0 0 rfl rfl)
theorem dX1_advise_1 : decode cX1_advise 1 = .ok (.getfield 50, 3) := dk_180 0 50 (dk_at dksX1_advise_0 1 rfl rfl)
theorem dX1_advise_4 : decode cX1_advise 4 = .ok (.getfield 103, 3) := dk_180 0 103 (dk_at dksX1_advise_0 4 rfl rfl)
theorem dX1_advise_7 : decode cX1_advise 7 = .ok (.iload_n 1, 1) := dk_27 (dk_at dksX1_advise_0 7 rfl rfl)
theorem dX1_advise_8 : decode cX1_advise 8 = .ok (.invokestatic 148, 3) := dk_184 0 148 (dk_at dksX1_advise_0 8 rfl rfl)
theorem dX1_advise_11 : decode cX1_advise 11 = .ok (.checkcast 139, 3) := dk_192 0 139 (dk_at dksX1_advise_0 11 rfl rfl)
theorem dX1_advise_14 : decode cX1_advise 14 = .ok (.astore_n 3, 1) := dk_78 (dk_at dksX1_advise_0 14 rfl rfl)
theorem dX1_advise_15 : decode cX1_advise 15 = .ok (.iconst 1, 1) := dk_4 (dk_at dksX1_advise_0 15 rfl rfl)
theorem dX1_advise_16 : decode cX1_advise 16 = .ok (.bipush 60, 2) := dk_16 60 (dk_at dksX1_advise_0 16 rfl rfl)
theorem dX1_advise_18 : decode cX1_advise 18 = .ok (.iload_n 2, 1) := dk_28 (dk_at dksX1_advise_0 18 rfl rfl)
theorem dX1_advise_19 : decode cX1_advise 19 = .ok (.invokestatic 66, 3) := dk_184 0 66 (dk_at dksX1_advise_0 19 rfl rfl)
theorem dX1_advise_22 : decode cX1_advise 22 = .ok (.iconst (-1), 1) := dk_2 (dk_at dksX1_advise_0 22 rfl rfl)
theorem dX1_advise_23 : decode cX1_advise 23 = .ok (.istore 4, 2) := dk_54 4 (dk_at dksX1_advise_1 0 rfl rfl)
theorem dX1_advise_25 : decode cX1_advise 25 = .ok (.iconst (-1), 1) := dk_2 (dk_at dksX1_advise_1 2 rfl rfl)
theorem dX1_advise_26 : decode cX1_advise 26 = .ok (.istore 5, 2) := dk_54 5 (dk_at dksX1_advise_1 3 rfl rfl)
theorem dX1_advise_28 : decode cX1_advise 28 = .ok (.iconst 0, 1) := dk_3 (dk_at dksX1_advise_1 5 rfl rfl)
theorem dX1_advise_29 : decode cX1_advise 29 = .ok (.istore 6, 2) := dk_54 6 (dk_at dksX1_advise_1 6 rfl rfl)
theorem dX1_advise_31 : decode cX1_advise 31 = .ok (.iload 6, 2) := dk_21 6 (dk_at dksX1_advise_1 8 rfl rfl)
theorem dX1_advise_33 : decode cX1_advise 33 = .ok (.bipush 36, 2) := dk_16 36 (dk_at dksX1_advise_1 10 rfl rfl)
theorem dX1_advise_35 : decode cX1_advise 35 = .ok (.if_icmp .ge 75, 3) := dk_162 0 75 (dk_at dksX1_advise_1 12 rfl rfl)
theorem dX1_advise_38 : decode cX1_advise 38 = .ok (.aload_n 0, 1) := dk_42 (dk_at dksX1_advise_1 15 rfl rfl)
theorem dX1_advise_39 : decode cX1_advise 39 = .ok (.getfield 54, 3) := dk_180 0 54 (dk_at dksX1_advise_1 16 rfl rfl)
theorem dX1_advise_42 : decode cX1_advise 42 = .ok (.aload_n 0, 1) := dk_42 (dk_at dksX1_advise_1 19 rfl rfl)
theorem dX1_advise_43 : decode cX1_advise 43 = .ok (.getfield 50, 3) := dk_180 0 50 (dk_at dksX1_advise_1 20 rfl rfl)
theorem dX1_advise_46 : decode cX1_advise 46 = .ok (.invokevirtual 210, 3) := dk_182 0 210 (dk_at dksX1_advise_2 0 rfl rfl)
theorem dX1_advise_49 : decode cX1_advise 49 = .ok (.getfield 103, 3) := dk_180 0 103 (dk_at dksX1_advise_2 3 rfl rfl)
theorem dX1_advise_52 : decode cX1_advise 52 = .ok (.iload_n 1, 1) := dk_27 (dk_at dksX1_advise_2 6 rfl rfl)
theorem dX1_advise_53 : decode cX1_advise 53 = .ok (.invokevirtual 220, 3) := dk_182 0 220 (dk_at dksX1_advise_2 7 rfl rfl)
theorem dX1_advise_56 : decode cX1_advise 56 = .ok (.checkcast 139, 3) := dk_192 0 139 (dk_at dksX1_advise_2 10 rfl rfl)
theorem dX1_advise_59 : decode cX1_advise 59 = .ok (.aload_n 3, 1) := dk_45 (dk_at dksX1_advise_2 13 rfl rfl)
theorem dX1_advise_60 : decode cX1_advise 60 = .ok (.getfield 154, 3) := dk_180 0 154 (dk_at dksX1_advise_2 14 rfl rfl)
theorem dX1_advise_63 : decode cX1_advise 63 = .ok (.bipush 10, 2) := dk_16 10 (dk_at dksX1_advise_2 17 rfl rfl)
theorem dX1_advise_65 : decode cX1_advise 65 = .ok (.iload 6, 2) := dk_21 6 (dk_at dksX1_advise_2 19 rfl rfl)
theorem dX1_advise_67 : decode cX1_advise 67 = .ok (.imul, 1) := dk_104 (dk_at dksX1_advise_2 21 rfl rfl)
theorem dX1_advise_68 : decode cX1_advise 68 = .ok (.iadd, 1) := dk_96 (dk_at dksX1_advise_2 22 rfl rfl)
theorem dX1_advise_69 : decode cX1_advise 69 = .ok (.sipush 360, 3) := dk_17 1 104 (dk_at dksX1_advise_3 0 rfl rfl)
theorem dX1_advise_72 : decode cX1_advise 72 = .ok (.irem, 1) := dk_112 (dk_at dksX1_advise_3 3 rfl rfl)
theorem dX1_advise_73 : decode cX1_advise 73 = .ok (.invokevirtual 157, 3) := dk_182 0 157 (dk_at dksX1_advise_3 4 rfl rfl)
theorem dX1_advise_76 : decode cX1_advise 76 = .ok (.aload_n 0, 1) := dk_42 (dk_at dksX1_advise_3 7 rfl rfl)
theorem dX1_advise_77 : decode cX1_advise 77 = .ok (.getfield 54, 3) := dk_180 0 54 (dk_at dksX1_advise_3 8 rfl rfl)
theorem dX1_advise_80 : decode cX1_advise 80 = .ok (.iload_n 2, 1) := dk_28 (dk_at dksX1_advise_3 11 rfl rfl)
theorem dX1_advise_81 : decode cX1_advise 81 = .ok (.invokevirtual 191, 3) := dk_182 0 191 (dk_at dksX1_advise_3 12 rfl rfl)
theorem dX1_advise_84 : decode cX1_advise 84 = .ok (.istore 7, 2) := dk_54 7 (dk_at dksX1_advise_3 15 rfl rfl)
theorem dX1_advise_86 : decode cX1_advise 86 = .ok (.iload 7, 2) := dk_21 7 (dk_at dksX1_advise_3 17 rfl rfl)
theorem dX1_advise_88 : decode cX1_advise 88 = .ok (.iload 5, 2) := dk_21 5 (dk_at dksX1_advise_3 19 rfl rfl)
theorem dX1_advise_90 : decode cX1_advise 90 = .ok (.if_icmp .gt 6, 3) := dk_163 0 6 (dk_at dksX1_advise_3 21 rfl rfl)
theorem dX1_advise_93 : decode cX1_advise 93 = .ok (.goto 11, 3) := dk_167 0 11 (dk_at dksX1_advise_4 0 rfl rfl)
theorem dX1_advise_96 : decode cX1_advise 96 = .ok (.iload 6, 2) := dk_21 6 (dk_at dksX1_advise_4 3 rfl rfl)
theorem dX1_advise_98 : decode cX1_advise 98 = .ok (.istore 4, 2) := dk_54 4 (dk_at dksX1_advise_4 5 rfl rfl)
theorem dX1_advise_100 : decode cX1_advise 100 = .ok (.iload 7, 2) := dk_21 7 (dk_at dksX1_advise_4 7 rfl rfl)
theorem dX1_advise_102 : decode cX1_advise 102 = .ok (.istore 5, 2) := dk_54 5 (dk_at dksX1_advise_4 9 rfl rfl)
theorem dX1_advise_104 : decode cX1_advise 104 = .ok (.iinc 6 1, 3) := dk_132 6 1 (dk_at dksX1_advise_4 11 rfl rfl)
theorem dX1_advise_107 : decode cX1_advise 107 = .ok (.goto (-76), 3) := dk_167 255 180 (dk_at dksX1_advise_4 14 rfl rfl)
theorem dX1_advise_110 : decode cX1_advise 110 = .ok (.iload 4, 2) := dk_21 4 (dk_at dksX1_advise_4 17 rfl rfl)
theorem dX1_advise_112 : decode cX1_advise 112 = .ok (.ireturn, 1) := dk_172 (dk_at dksX1_advise_4 19 rfl rfl)
theorem q72 : (Jvm.Cond.initialized "ShadowSpell") ∈ lw_all := lw_g (lw_at lw_m1 1 rfl) rfl
theorem q137 : (Jvm.Cond.instantiable "ShadowSpell" (4 : Nat)) ∈ lw_all := lw_g (lw_at lw_m1 66 rfl) rfl
theorem q139 : (Jvm.Cond.instanceMethod ({ cls := "ShadowSpell", name := "<init>", desc := "()V" } : Jvm.MethodName)) ∈ lw_all := lw_g (lw_at lw_m1 68 rfl) rfl
theorem q140 : (Jvm.Cond.code ({ cls := "ShadowSpell", name := "<init>", desc := "()V" } : Jvm.MethodName) prog_1_method_6_code (1 : Nat) (Option.none : Option Jvm.ClassFile.FieldType)) ∈ lw_all := lw_g (lw_at lw_m1 69 rfl) rfl
theorem q141 : (Jvm.Cond.methodLink "ShadowSpell" (33 : Nat) ({ cls := "java/lang/Object", name := "<init>", desc := "()V" } : Jvm.MethodName)) ∈ lw_all := lw_g (lw_at lw_m1 70 rfl) rfl
theorem q144 : (Jvm.Cond.classLink "ShadowSpell" (36 : Nat) "ShadowSpell$Tape") ∈ lw_all := lw_g (lw_at lw_m1 73 rfl) rfl
theorem q146 : (Jvm.Cond.methodLinkNest "ShadowSpell" (38 : Nat) ({ cls := "ShadowSpell$Tape", name := "<init>", desc := "()V" } : Jvm.MethodName) "ShadowSpell") ∈ lw_tbl := lw_at lw_m1 75 rfl
theorem q153 : (Jvm.Cond.fieldLinkNest "ShadowSpell" (57 : Nat) "ShadowSpell$Tape" "size" "I" "ShadowSpell") ∈ lw_tbl := lw_at lw_m1 82 rfl
theorem q161 : (Jvm.Cond.classLink "ShadowSpell" (47 : Nat) "ShadowSpell$Sky") ∈ lw_all := lw_g (lw_at lw_m1 90 rfl) rfl
theorem q163 : (Jvm.Cond.methodLinkNest "ShadowSpell" (49 : Nat) ({ cls := "ShadowSpell$Sky", name := "<init>", desc := "()V" } : Jvm.MethodName) "ShadowSpell") ∈ lw_tbl := lw_at lw_m1 92 rfl
theorem q233 : (Jvm.Cond.fieldLinkNest "ShadowSpell" (103 : Nat) "ShadowSpell$Sky" "planets" "Ljava/util/ArrayList;" "ShadowSpell") ∈ lw_tbl := lw_at lw_m1 162 rfl
theorem q236 : (Jvm.Cond.fieldLinkNest "ShadowSpell" (110 : Nat) "ShadowSpell$Sky" "alphabets" "Ljava/util/ArrayList;" "ShadowSpell") ∈ lw_tbl := lw_at lw_m1 165 rfl
theorem q239 : (Jvm.Cond.fieldLinkNest "ShadowSpell" (113 : Nat) "ShadowSpell$Sky" "rules" "Ljava/util/ArrayList;" "ShadowSpell") ∈ lw_tbl := lw_at lw_m1 168 rfl
theorem q243 : (Jvm.Cond.fieldLinkNest "ShadowSpell" (116 : Nat) "ShadowSpell$Sky" "paper" "Ljava/lang/StringBuilder;" "ShadowSpell") ∈ lw_tbl := lw_at lw_m1 172 rfl
theorem q247 : (Jvm.Cond.fieldLinkNest "ShadowSpell" (100 : Nat) "ShadowSpell$Sky" "day" "I" "ShadowSpell") ∈ lw_tbl := lw_at lw_m1 176 rfl
theorem q259 : (Jvm.Cond.fieldLink "ShadowSpell" (39 : Nat) "ShadowSpell" "tape" "LShadowSpell$Tape;") ∈ lw_all := lw_g (lw_at lw_m1 188 rfl) rfl
theorem q260 : (Jvm.Cond.fieldLink "ShadowSpell" (43 : Nat) "ShadowSpell" "errorAt" "I") ∈ lw_all := lw_g (lw_at lw_m1 189 rfl) rfl
theorem q261 : (Jvm.Cond.fieldLink "ShadowSpell" (50 : Nat) "ShadowSpell" "sky" "LShadowSpell$Sky;") ∈ lw_all := lw_g (lw_at lw_m1 190 rfl) rfl
theorem q262 : (Jvm.Cond.fieldLink "ShadowSpell" (54 : Nat) "ShadowSpell" "ahead" "LShadowSpell$Sky;") ∈ lw_all := lw_g (lw_at lw_m1 191 rfl) rfl
theorem q263 : (Jvm.Cond.laysFinal "ShadowSpell" "ShadowSpell" "tape" "LShadowSpell$Tape;") ∈ lw_all := lw_g (lw_at lw_m1 192 rfl) rfl
theorem q264 : (Jvm.Cond.soleField "ShadowSpell" "tape") ∈ lw_all := lw_g (lw_at lw_m1 193 rfl) rfl
theorem q265 : (Jvm.Cond.lays "ShadowSpell" "ShadowSpell" "errorAt" "I") ∈ lw_all := lw_g (lw_at lw_m1 194 rfl) rfl
theorem q266 : (Jvm.Cond.soleField "ShadowSpell" "errorAt") ∈ lw_all := lw_g (lw_at lw_m1 195 rfl) rfl
theorem q267 : (Jvm.Cond.laysFinal "ShadowSpell" "ShadowSpell" "sky" "LShadowSpell$Sky;") ∈ lw_all := lw_g (lw_at lw_m1 196 rfl) rfl
theorem q268 : (Jvm.Cond.soleField "ShadowSpell" "sky") ∈ lw_all := lw_g (lw_at lw_m1 197 rfl) rfl
theorem q269 : (Jvm.Cond.laysFinal "ShadowSpell" "ShadowSpell" "ahead" "LShadowSpell$Sky;") ∈ lw_all := lw_g (lw_at lw_m1 198 rfl) rfl
theorem q270 : (Jvm.Cond.soleField "ShadowSpell" "ahead") ∈ lw_all := lw_g (lw_at lw_m1 199 rfl) rfl
theorem q271 : (Jvm.Cond.superclass "ShadowSpell" "java/lang/Object") ∈ lw_all := lw_g (lw_at lw_m1 200 rfl) rfl
theorem q273 : (Jvm.Cond.instanceMethod ({ cls := "ShadowSpell", name := "teach", desc := "()I" } : Jvm.MethodName)) ∈ lw_all := lw_g (lw_at lw_m1 202 rfl) rfl
theorem q274 : (Jvm.Cond.selects "ShadowSpell" ({ cls := "ShadowSpell", name := "teach", desc := "()I" } : Jvm.MethodName) ({ cls := "ShadowSpell", name := "teach", desc := "()I" } : Jvm.MethodName)) ∈ lw_all := lw_g (lw_at lw_m1 203 rfl) rfl
theorem q275 : (Jvm.Cond.codeWith ({ cls := "ShadowSpell", name := "teach", desc := "()I" } : Jvm.MethodName) prog_1_method_9_code (3 : Nat) (Option.some Jvm.ClassFile.FieldType.int) [((7 : Nat), (38 : Nat), (41 : Nat), (92 : Nat))]) ∈ lw_all := lw_g (lw_at lw_m1 204 rfl) rfl
theorem q276 : (Jvm.Cond.classLink "ShadowSpell" (92 : Nat) "ShadowSpell$Fault") ∈ lw_all := lw_g (lw_at lw_m1 205 rfl) rfl
theorem q277 : (Jvm.Cond.classLink "ShadowSpell" (70 : Nat) "ShadowSpell$Reader") ∈ lw_all := lw_g (lw_at lw_m1 206 rfl) rfl
theorem q279 : (Jvm.Cond.classLink "ShadowSpell" (72 : Nat) "ShadowSpell$Scanner") ∈ lw_all := lw_g (lw_at lw_m1 208 rfl) rfl
theorem q281 : (Jvm.Cond.methodLink "ShadowSpell" (74 : Nat) ({ cls := "ShadowSpell$Scanner", name := "<init>", desc := "(LShadowSpell$Tape;)V" } : Jvm.MethodName)) ∈ lw_all := lw_g (lw_at lw_m1 210 rfl) rfl
theorem q294 : (Jvm.Cond.methodLink "ShadowSpell" (77 : Nat) ({ cls := "ShadowSpell$Scanner", name := "all", desc := "()Ljava/util/List;" } : Jvm.MethodName)) ∈ lw_all := lw_g (lw_at lw_m1 223 rfl) rfl
theorem q748 : (Jvm.Cond.selects "ShadowSpell" ({ cls := "java/lang/Object", name := "getClass", desc := "()Ljava/lang/Class;" } : Jvm.MethodName) ({ cls := "java/lang/Object", name := "getClass", desc := "()Ljava/lang/Class;" } : Jvm.MethodName)) ∈ lw_all := lw_g (lw_at lw_m3 197 rfl) rfl
theorem q812 : (Jvm.Cond.methodLink "ShadowSpell" (81 : Nat) ({ cls := "ShadowSpell$Reader", name := "<init>", desc := "(Ljava/util/List;)V" } : Jvm.MethodName)) ∈ lw_all := lw_g (lw_at lw_m4 21 rfl) rfl
theorem q872 : (Jvm.Cond.methodLink "ShadowSpell" (84 : Nat) ({ cls := "ShadowSpell$Reader", name := "read", desc := "()LShadowSpell$Sky;" } : Jvm.MethodName)) ∈ lw_all := lw_g (lw_at lw_m4 81 rfl) rfl
theorem q950 : (Jvm.Cond.fieldLinkNest "ShadowSpell" (94 : Nat) "ShadowSpell$Fault" "error" "I" "ShadowSpell") ∈ lw_tbl := lw_at lw_m4 159 rfl
theorem q952 : (Jvm.Cond.fieldLinkNest "ShadowSpell" (97 : Nat) "ShadowSpell$Fault" "at" "I" "ShadowSpell") ∈ lw_tbl := lw_at lw_m4 161 rfl
theorem q974 : (Jvm.Cond.selects "ShadowSpell" ({ cls := "java/lang/Object", name := "hashCode", desc := "()I" } : Jvm.MethodName) ({ cls := "java/lang/Object", name := "hashCode", desc := "()I" } : Jvm.MethodName)) ∈ lw_all := lw_g (lw_at lw_m4 183 rfl) rfl
theorem q1091 : (Jvm.Cond.selects "ShadowSpell" ({ cls := "java/lang/Object", name := "equals", desc := "(Ljava/lang/Object;)Z" } : Jvm.MethodName) ({ cls := "java/lang/Object", name := "equals", desc := "(Ljava/lang/Object;)Z" } : Jvm.MethodName)) ∈ lw_all := lw_g (lw_at lw_m5 60 rfl) rfl
theorem q1675 : (Jvm.Cond.fieldLinkNest "ShadowSpell" (154 : Nat) "ShadowSpell$Planet" "angle" "I" "ShadowSpell") ∈ lw_tbl := lw_at lw_m7 164 rfl
theorem q1717 : (Jvm.Cond.fieldLinkNest "ShadowSpell" (175 : Nat) "ShadowSpell$Alphabet" "letters" "Ljava/lang/String;" "ShadowSpell") ∈ lw_tbl := lw_at lw_m7 206 rfl
theorem q1971 : (Jvm.Cond.fieldLinkNest "ShadowSpell" (188 : Nat) "ShadowSpell$Rule" "wrote" "I" "ShadowSpell") ∈ lw_tbl := lw_at lw_m8 220 rfl
theorem q1981 : (Jvm.Cond.methodLink "ShadowSpell" (88 : Nat) ({ cls := "ShadowSpell$Sky", name := "take", desc := "(LShadowSpell$Sky;)V" } : Jvm.MethodName)) ∈ lw_all := lw_g (lw_at lw_m8 230 rfl) rfl
theorem q2005 : (Jvm.Cond.instanceMethod ({ cls := "ShadowSpell", name := "errorAt", desc := "()I" } : Jvm.MethodName)) ∈ lw_all := lw_g (lw_at lw_m9 14 rfl) rfl
theorem q2006 : (Jvm.Cond.selects "ShadowSpell" ({ cls := "ShadowSpell", name := "errorAt", desc := "()I" } : Jvm.MethodName) ({ cls := "ShadowSpell", name := "errorAt", desc := "()I" } : Jvm.MethodName)) ∈ lw_all := lw_g (lw_at lw_m9 15 rfl) rfl
theorem q2007 : (Jvm.Cond.code ({ cls := "ShadowSpell", name := "errorAt", desc := "()I" } : Jvm.MethodName) prog_1_method_10_code (1 : Nat) (Option.some Jvm.ClassFile.FieldType.int)) ∈ lw_all := lw_g (lw_at lw_m9 16 rfl) rfl
theorem q2009 : (Jvm.Cond.instanceMethod ({ cls := "ShadowSpell", name := "clear", desc := "()I" } : Jvm.MethodName)) ∈ lw_all := lw_g (lw_at lw_m9 18 rfl) rfl
theorem q2010 : (Jvm.Cond.selects "ShadowSpell" ({ cls := "ShadowSpell", name := "clear", desc := "()I" } : Jvm.MethodName) ({ cls := "ShadowSpell", name := "clear", desc := "()I" } : Jvm.MethodName)) ∈ lw_all := lw_g (lw_at lw_m9 19 rfl) rfl
theorem q2011 : (Jvm.Cond.code ({ cls := "ShadowSpell", name := "clear", desc := "()I" } : Jvm.MethodName) prog_1_method_20_code (2 : Nat) (Option.some Jvm.ClassFile.FieldType.int)) ∈ lw_all := lw_g (lw_at lw_m9 20 rfl) rfl
theorem q2012 : (Jvm.Cond.methodLink "ShadowSpell" (120 : Nat) ({ cls := "java/lang/StringBuilder", name := "length", desc := "()I" } : Jvm.MethodName)) ∈ lw_all := lw_g (lw_at lw_m9 21 rfl) rfl
theorem q2013 : (Jvm.Cond.methodLink "ShadowSpell" (196 : Nat) ({ cls := "java/lang/StringBuilder", name := "setLength", desc := "(I)V" } : Jvm.MethodName)) ∈ lw_all := lw_g (lw_at lw_m9 22 rfl) rfl
theorem q2082 : (Jvm.Cond.instanceMethod ({ cls := "ShadowSpell", name := "find", desc := "()I" } : Jvm.MethodName)) ∈ lw_all := lw_g (lw_at lw_m9 91 rfl) rfl
theorem q2083 : (Jvm.Cond.selects "ShadowSpell" ({ cls := "ShadowSpell", name := "find", desc := "()I" } : Jvm.MethodName) ({ cls := "ShadowSpell", name := "find", desc := "()I" } : Jvm.MethodName)) ∈ lw_all := lw_g (lw_at lw_m9 92 rfl) rfl
theorem q2084 : (Jvm.Cond.code ({ cls := "ShadowSpell", name := "find", desc := "()I" } : Jvm.MethodName) prog_1_method_21_code (1 : Nat) (Option.some Jvm.ClassFile.FieldType.int)) ∈ lw_all := lw_g (lw_at lw_m9 93 rfl) rfl
theorem q2085 : (Jvm.Cond.methodLink "ShadowSpell" (199 : Nat) ({ cls := "ShadowSpell$Sky", name := "find", desc := "(LShadowSpell$Tape;)I" } : Jvm.MethodName)) ∈ lw_all := lw_g (lw_at lw_m9 94 rfl) rfl
theorem q2106 : (Jvm.Cond.instanceMethod ({ cls := "ShadowSpell", name := "spells", desc := "()I" } : Jvm.MethodName)) ∈ lw_all := lw_g (lw_at lw_m9 115 rfl) rfl
theorem q2107 : (Jvm.Cond.selects "ShadowSpell" ({ cls := "ShadowSpell", name := "spells", desc := "()I" } : Jvm.MethodName) ({ cls := "ShadowSpell", name := "spells", desc := "()I" } : Jvm.MethodName)) ∈ lw_all := lw_g (lw_at lw_m9 116 rfl) rfl
theorem q2108 : (Jvm.Cond.code ({ cls := "ShadowSpell", name := "spells", desc := "()I" } : Jvm.MethodName) prog_1_method_25_code (2 : Nat) (Option.some Jvm.ClassFile.FieldType.int)) ∈ lw_all := lw_g (lw_at lw_m9 117 rfl) rfl
theorem q2109 : (Jvm.Cond.methodLink "ShadowSpell" (210 : Nat) ({ cls := "ShadowSpell$Sky", name := "as", desc := "(LShadowSpell$Sky;)LShadowSpell$Sky;" } : Jvm.MethodName)) ∈ lw_all := lw_g (lw_at lw_m9 118 rfl) rfl
theorem q2261 : (Jvm.Cond.methodLink "ShadowSpell" (217 : Nat) ({ cls := "ShadowSpell$Sky", name := "dayOn", desc := "()I" } : Jvm.MethodName)) ∈ lw_all := lw_g (lw_at lw_m10 30 rfl) rfl
theorem q2438 : (Jvm.Cond.instanceMethod ({ cls := "ShadowSpell", name := "mean", desc := "()D" } : Jvm.MethodName)) ∈ lw_all := lw_g (lw_at lw_m10 207 rfl) rfl
theorem q2439 : (Jvm.Cond.selects "ShadowSpell" ({ cls := "ShadowSpell", name := "mean", desc := "()D" } : Jvm.MethodName) ({ cls := "ShadowSpell", name := "mean", desc := "()D" } : Jvm.MethodName)) ∈ lw_all := lw_g (lw_at lw_m10 208 rfl) rfl
theorem q2440 : (Jvm.Cond.code ({ cls := "ShadowSpell", name := "mean", desc := "()D" } : Jvm.MethodName) prog_1_method_28_code (4 : Nat) (Option.some Jvm.ClassFile.FieldType.double)) ∈ lw_all := lw_g (lw_at lw_m10 209 rfl) rfl
theorem q2441 : (Jvm.Cond.methodLink "ShadowSpell" (125 : Nat) ({ cls := "java/util/ArrayList", name := "iterator", desc := "()Ljava/util/Iterator;" } : Jvm.MethodName)) ∈ lw_all := lw_g (lw_at lw_m10 210 rfl) rfl
theorem q2442 : (Jvm.Cond.interfaceEntry "ShadowSpell" (129 : Nat)) ∈ lw_tbl := lw_at lw_m10 211 rfl
theorem q2443 : (Jvm.Cond.methodLink "ShadowSpell" (129 : Nat) ({ cls := "java/util/Iterator", name := "hasNext", desc := "()Z" } : Jvm.MethodName)) ∈ lw_all := lw_g (lw_at lw_m10 212 rfl) rfl
theorem q2444 : (Jvm.Cond.interfaceEntry "ShadowSpell" (135 : Nat)) ∈ lw_tbl := lw_at lw_m10 213 rfl
theorem q2445 : (Jvm.Cond.methodLink "ShadowSpell" (135 : Nat) ({ cls := "java/util/Iterator", name := "next", desc := "()Ljava/lang/Object;" } : Jvm.MethodName)) ∈ lw_all := lw_g (lw_at lw_m10 214 rfl) rfl
theorem q2446 : (Jvm.Cond.classLink "ShadowSpell" (186 : Nat) "ShadowSpell$Rule") ∈ lw_all := lw_g (lw_at lw_m10 215 rfl) rfl
theorem q2448 : (Jvm.Cond.instanceMethod ({ cls := "ShadowSpell", name := "digest", desc := "()J" } : Jvm.MethodName)) ∈ lw_all := lw_g (lw_at lw_m10 217 rfl) rfl
theorem q2449 : (Jvm.Cond.selects "ShadowSpell" ({ cls := "ShadowSpell", name := "digest", desc := "()J" } : Jvm.MethodName) ({ cls := "ShadowSpell", name := "digest", desc := "()J" } : Jvm.MethodName)) ∈ lw_all := lw_g (lw_at lw_m10 218 rfl) rfl
theorem q2450 : (Jvm.Cond.code ({ cls := "ShadowSpell", name := "digest", desc := "()J" } : Jvm.MethodName) prog_1_method_29_code (6 : Nat) (Option.some Jvm.ClassFile.FieldType.long)) ∈ lw_all := lw_g (lw_at lw_m10 219 rfl) rfl
theorem q2451 : (Jvm.Cond.constantLong "ShadowSpell" (228 : Nat) (727 : Int64)) ∈ lw_all := lw_g (lw_at lw_m10 220 rfl) rfl
theorem q2452 : (Jvm.Cond.constantLong "ShadowSpell" (230 : Nat) (31 : Int64)) ∈ lw_all := lw_g (lw_at lw_m10 221 rfl) rfl
theorem q2453 : (Jvm.Cond.methodLink "ShadowSpell" (232 : Nat) ({ cls := "ShadowSpell", name := "count", desc := "(I)I" } : Jvm.MethodName)) ∈ lw_all := lw_g (lw_at lw_m10 222 rfl) rfl
theorem q2454 : (Jvm.Cond.instanceMethod ({ cls := "ShadowSpell", name := "count", desc := "(I)I" } : Jvm.MethodName)) ∈ lw_all := lw_g (lw_at lw_m10 223 rfl) rfl
theorem q2455 : (Jvm.Cond.selects "ShadowSpell" ({ cls := "ShadowSpell", name := "count", desc := "(I)I" } : Jvm.MethodName) ({ cls := "ShadowSpell", name := "count", desc := "(I)I" } : Jvm.MethodName)) ∈ lw_all := lw_g (lw_at lw_m10 224 rfl) rfl
theorem q2456 : (Jvm.Cond.code ({ cls := "ShadowSpell", name := "count", desc := "(I)I" } : Jvm.MethodName) prog_1_method_11_code (5 : Nat) (Option.some Jvm.ClassFile.FieldType.int)) ∈ lw_all := lw_g (lw_at lw_m10 225 rfl) rfl
theorem q2457 : (Jvm.Cond.methodLink "ShadowSpell" (25 : Nat) ({ cls := "ShadowSpell", name := "requireIndex", desc := "(II)V" } : Jvm.MethodName)) ∈ lw_all := lw_g (lw_at lw_m10 226 rfl) rfl
theorem q2458 : (Jvm.Cond.static ({ cls := "ShadowSpell", name := "requireIndex", desc := "(II)V" } : Jvm.MethodName)) ∈ lw_all := lw_g (lw_at lw_m10 227 rfl) rfl
theorem q2459 : (Jvm.Cond.code ({ cls := "ShadowSpell", name := "requireIndex", desc := "(II)V" } : Jvm.MethodName) prog_1_method_3_code (2 : Nat) (Option.none : Option Jvm.ClassFile.FieldType)) ∈ lw_all := lw_g (lw_at lw_m10 228 rfl) rfl
theorem q2460 : (Jvm.Cond.classLink "ShadowSpell" (10 : Nat) "java/lang/IndexOutOfBoundsException") ∈ lw_all := lw_g (lw_at lw_m10 229 rfl) rfl
theorem q2469 : (Jvm.Cond.methodLink "ShadowSpell" (12 : Nat) ({ cls := "java/lang/IndexOutOfBoundsException", name := "<init>", desc := "()V" } : Jvm.MethodName)) ∈ lw_all := lw_g (lw_at lw_m10 238 rfl) rfl
theorem q2478 : (Jvm.Cond.methodLink "ShadowSpell" (107 : Nat) ({ cls := "java/util/ArrayList", name := "size", desc := "()I" } : Jvm.MethodName)) ∈ lw_all := lw_g (lw_at lw_m11 7 rfl) rfl
theorem q2479 : (Jvm.Cond.classLink "ShadowSpell" (139 : Nat) "ShadowSpell$Planet") ∈ lw_all := lw_g (lw_at lw_m11 8 rfl) rfl
theorem q2480 : (Jvm.Cond.methodLink "ShadowSpell" (141 : Nat) ({ cls := "ShadowSpell$Planet", name := "isRetro", desc := "(I)Z" } : Jvm.MethodName)) ∈ lw_all := lw_g (lw_at lw_m11 9 rfl) rfl
theorem q2481 : (Jvm.Cond.methodLink "ShadowSpell" (145 : Nat) ({ cls := "ShadowSpell$Sky", name := "transits", desc := "()I" } : Jvm.MethodName)) ∈ lw_all := lw_g (lw_at lw_m11 10 rfl) rfl
theorem q2487 : (Jvm.Cond.methodLink "ShadowSpell" (151 : Nat) ({ cls := "ShadowSpell$Planet", name := "get", desc := "(II)I" } : Jvm.MethodName)) ∈ lw_all := lw_g (lw_at lw_m11 16 rfl) rfl
theorem q2491 : (Jvm.Cond.classLink "ShadowSpell" (173 : Nat) "ShadowSpell$Alphabet") ∈ lw_all := lw_g (lw_at lw_m11 20 rfl) rfl
theorem q2492 : (Jvm.Cond.methodLink "ShadowSpell" (179 : Nat) ({ cls := "java/lang/String", name := "length", desc := "()I" } : Jvm.MethodName)) ∈ lw_all := lw_g (lw_at lw_m11 21 rfl) rfl
theorem q2493 : (Jvm.Cond.methodLink "ShadowSpell" (182 : Nat) ({ cls := "java/lang/String", name := "charAt", desc := "(I)C" } : Jvm.MethodName)) ∈ lw_all := lw_g (lw_at lw_m11 22 rfl) rfl
theorem q2494 : (Jvm.Cond.methodLink "ShadowSpell" (195 : Nat) ({ cls := "java/lang/StringBuilder", name := "charAt", desc := "(I)C" } : Jvm.MethodName)) ∈ lw_all := lw_g (lw_at lw_m11 23 rfl) rfl
theorem q2500 : (Jvm.Cond.instanceMethod ({ cls := "ShadowSpell", name := "feed", desc := "(IIIII)I" } : Jvm.MethodName)) ∈ lw_all := lw_g (lw_at lw_m11 29 rfl) rfl
theorem q2501 : (Jvm.Cond.selects "ShadowSpell" ({ cls := "ShadowSpell", name := "feed", desc := "(IIIII)I" } : Jvm.MethodName) ({ cls := "ShadowSpell", name := "feed", desc := "(IIIII)I" } : Jvm.MethodName)) ∈ lw_all := lw_g (lw_at lw_m11 30 rfl) rfl
theorem q2502 : (Jvm.Cond.code ({ cls := "ShadowSpell", name := "feed", desc := "(IIIII)I" } : Jvm.MethodName) prog_1_method_7_code (6 : Nat) (Option.some Jvm.ClassFile.FieldType.int)) ∈ lw_all := lw_g (lw_at lw_m11 31 rfl) rfl
theorem q2503 : (Jvm.Cond.methodLink "ShadowSpell" (59 : Nat) ({ cls := "ShadowSpell", name := "requireState", desc := "(Z)V" } : Jvm.MethodName)) ∈ lw_all := lw_g (lw_at lw_m11 32 rfl) rfl
theorem q2504 : (Jvm.Cond.static ({ cls := "ShadowSpell", name := "requireState", desc := "(Z)V" } : Jvm.MethodName)) ∈ lw_all := lw_g (lw_at lw_m11 33 rfl) rfl
theorem q2505 : (Jvm.Cond.code ({ cls := "ShadowSpell", name := "requireState", desc := "(Z)V" } : Jvm.MethodName) prog_1_method_2_code (1 : Nat) (Option.none : Option Jvm.ClassFile.FieldType)) ∈ lw_all := lw_g (lw_at lw_m11 34 rfl) rfl
theorem q2506 : (Jvm.Cond.classLink "ShadowSpell" (7 : Nat) "java/lang/IllegalStateException") ∈ lw_all := lw_g (lw_at lw_m11 35 rfl) rfl
theorem q2515 : (Jvm.Cond.methodLink "ShadowSpell" (9 : Nat) ({ cls := "java/lang/IllegalStateException", name := "<init>", desc := "()V" } : Jvm.MethodName)) ∈ lw_all := lw_g (lw_at lw_m11 44 rfl) rfl
theorem q2521 : (Jvm.Cond.methodLink "ShadowSpell" (62 : Nat) ({ cls := "ShadowSpell$Tape", name := "put", desc := "(I)V" } : Jvm.MethodName)) ∈ lw_all := lw_g (lw_at lw_m11 50 rfl) rfl
theorem q2530 : (Jvm.Cond.instanceMethod ({ cls := "ShadowSpell", name := "trim", desc := "(I)I" } : Jvm.MethodName)) ∈ lw_all := lw_g (lw_at lw_m11 59 rfl) rfl
theorem q2531 : (Jvm.Cond.selects "ShadowSpell" ({ cls := "ShadowSpell", name := "trim", desc := "(I)I" } : Jvm.MethodName) ({ cls := "ShadowSpell", name := "trim", desc := "(I)I" } : Jvm.MethodName)) ∈ lw_all := lw_g (lw_at lw_m11 60 rfl) rfl
theorem q2532 : (Jvm.Cond.code ({ cls := "ShadowSpell", name := "trim", desc := "(I)I" } : Jvm.MethodName) prog_1_method_8_code (2 : Nat) (Option.some Jvm.ClassFile.FieldType.int)) ∈ lw_all := lw_g (lw_at lw_m11 61 rfl) rfl
theorem q2533 : (Jvm.Cond.methodLink "ShadowSpell" (66 : Nat) ({ cls := "ShadowSpell", name := "requireFrom", desc := "(III)V" } : Jvm.MethodName)) ∈ lw_all := lw_g (lw_at lw_m11 62 rfl) rfl
theorem q2534 : (Jvm.Cond.static ({ cls := "ShadowSpell", name := "requireFrom", desc := "(III)V" } : Jvm.MethodName)) ∈ lw_all := lw_g (lw_at lw_m11 63 rfl) rfl
theorem q2535 : (Jvm.Cond.code ({ cls := "ShadowSpell", name := "requireFrom", desc := "(III)V" } : Jvm.MethodName) prog_1_method_4_code (3 : Nat) (Option.none : Option Jvm.ClassFile.FieldType)) ∈ lw_all := lw_g (lw_at lw_m11 64 rfl) rfl
theorem q2536 : (Jvm.Cond.methodLink "ShadowSpell" (13 : Nat) ({ cls := "ShadowSpell", name := "require", desc := "(Z)V" } : Jvm.MethodName)) ∈ lw_all := lw_g (lw_at lw_m11 65 rfl) rfl
theorem q2537 : (Jvm.Cond.static ({ cls := "ShadowSpell", name := "require", desc := "(Z)V" } : Jvm.MethodName)) ∈ lw_all := lw_g (lw_at lw_m11 66 rfl) rfl
theorem q2538 : (Jvm.Cond.code ({ cls := "ShadowSpell", name := "require", desc := "(Z)V" } : Jvm.MethodName) prog_1_method_1_code (1 : Nat) (Option.none : Option Jvm.ClassFile.FieldType)) ∈ lw_all := lw_g (lw_at lw_m11 67 rfl) rfl
theorem q2539 : (Jvm.Cond.classLink "ShadowSpell" (1 : Nat) "java/lang/IllegalArgumentException") ∈ lw_all := lw_g (lw_at lw_m11 68 rfl) rfl
theorem q2540 : (Jvm.Cond.methodLink "ShadowSpell" (3 : Nat) ({ cls := "java/lang/IllegalArgumentException", name := "<init>", desc := "()V" } : Jvm.MethodName)) ∈ lw_all := lw_g (lw_at lw_m11 69 rfl) rfl
theorem q2555 : (Jvm.Cond.instanceMethod ({ cls := "ShadowSpell", name := "planet", desc := "(II)I" } : Jvm.MethodName)) ∈ lw_all := lw_g (lw_at lw_m11 84 rfl) rfl
theorem q2556 : (Jvm.Cond.selects "ShadowSpell" ({ cls := "ShadowSpell", name := "planet", desc := "(II)I" } : Jvm.MethodName) ({ cls := "ShadowSpell", name := "planet", desc := "(II)I" } : Jvm.MethodName)) ∈ lw_all := lw_g (lw_at lw_m11 85 rfl) rfl
theorem q2557 : (Jvm.Cond.code ({ cls := "ShadowSpell", name := "planet", desc := "(II)I" } : Jvm.MethodName) prog_1_method_12_code (4 : Nat) (Option.some Jvm.ClassFile.FieldType.int)) ∈ lw_all := lw_g (lw_at lw_m11 86 rfl) rfl
theorem q2558 : (Jvm.Cond.methodLink "ShadowSpell" (148 : Nat) ({ cls := "ShadowSpell", name := "at", desc := "(Ljava/util/List;I)Ljava/lang/Object;" } : Jvm.MethodName)) ∈ lw_all := lw_g (lw_at lw_m11 87 rfl) rfl
theorem q2559 : (Jvm.Cond.static ({ cls := "ShadowSpell", name := "at", desc := "(Ljava/util/List;I)Ljava/lang/Object;" } : Jvm.MethodName)) ∈ lw_all := lw_g (lw_at lw_m11 88 rfl) rfl
theorem q2560 : (Jvm.Cond.code ({ cls := "ShadowSpell", name := "at", desc := "(Ljava/util/List;I)Ljava/lang/Object;" } : Jvm.MethodName) prog_1_method_5_code (2 : Nat) (Option.some (Jvm.ClassFile.FieldType.object "java/lang/Object"))) ∈ lw_all := lw_g (lw_at lw_m11 89 rfl) rfl
theorem q2561 : (Jvm.Cond.interfaceEntry "ShadowSpell" (19 : Nat)) ∈ lw_tbl := lw_at lw_m11 90 rfl
theorem q2562 : (Jvm.Cond.methodLink "ShadowSpell" (19 : Nat) ({ cls := "java/util/List", name := "size", desc := "()I" } : Jvm.MethodName)) ∈ lw_all := lw_g (lw_at lw_m11 91 rfl) rfl
theorem q2568 : (Jvm.Cond.interfaceEntry "ShadowSpell" (29 : Nat)) ∈ lw_tbl := lw_at lw_m11 97 rfl
theorem q2569 : (Jvm.Cond.methodLink "ShadowSpell" (29 : Nat) ({ cls := "java/util/List", name := "get", desc := "(I)Ljava/lang/Object;" } : Jvm.MethodName)) ∈ lw_all := lw_g (lw_at lw_m11 98 rfl) rfl
theorem q2574 : (Jvm.Cond.instanceMethod ({ cls := "ShadowSpell", name := "set", desc := "(II)I" } : Jvm.MethodName)) ∈ lw_all := lw_g (lw_at lw_m11 103 rfl) rfl
theorem q2575 : (Jvm.Cond.selects "ShadowSpell" ({ cls := "ShadowSpell", name := "set", desc := "(II)I" } : Jvm.MethodName) ({ cls := "ShadowSpell", name := "set", desc := "(II)I" } : Jvm.MethodName)) ∈ lw_all := lw_g (lw_at lw_m11 104 rfl) rfl
theorem q2576 : (Jvm.Cond.code ({ cls := "ShadowSpell", name := "set", desc := "(II)I" } : Jvm.MethodName) prog_1_method_13_code (5 : Nat) (Option.some Jvm.ClassFile.FieldType.int)) ∈ lw_all := lw_g (lw_at lw_m11 105 rfl) rfl
theorem q2577 : (Jvm.Cond.methodLink "ShadowSpell" (157 : Nat) ({ cls := "ShadowSpell$Planet", name := "set", desc := "(I)V" } : Jvm.MethodName)) ∈ lw_all := lw_g (lw_at lw_m11 106 rfl) rfl
theorem q2582 : (Jvm.Cond.instanceMethod ({ cls := "ShadowSpell", name := "gap", desc := "(II)I" } : Jvm.MethodName)) ∈ lw_all := lw_g (lw_at lw_m11 111 rfl) rfl
theorem q2583 : (Jvm.Cond.selects "ShadowSpell" ({ cls := "ShadowSpell", name := "gap", desc := "(II)I" } : Jvm.MethodName) ({ cls := "ShadowSpell", name := "gap", desc := "(II)I" } : Jvm.MethodName)) ∈ lw_all := lw_g (lw_at lw_m11 112 rfl) rfl
theorem q2584 : (Jvm.Cond.code ({ cls := "ShadowSpell", name := "gap", desc := "(II)I" } : Jvm.MethodName) prog_1_method_14_code (3 : Nat) (Option.some Jvm.ClassFile.FieldType.int)) ∈ lw_all := lw_g (lw_at lw_m11 113 rfl) rfl
theorem q2585 : (Jvm.Cond.methodLink "ShadowSpell" (160 : Nat) ({ cls := "ShadowSpell$Sky", name := "gap", desc := "(II)I" } : Jvm.MethodName)) ∈ lw_all := lw_g (lw_at lw_m11 114 rfl) rfl
theorem q2590 : (Jvm.Cond.instanceMethod ({ cls := "ShadowSpell", name := "meets", desc := "(IIZ)Z" } : Jvm.MethodName)) ∈ lw_all := lw_g (lw_at lw_m11 119 rfl) rfl
theorem q2591 : (Jvm.Cond.selects "ShadowSpell" ({ cls := "ShadowSpell", name := "meets", desc := "(IIZ)Z" } : Jvm.MethodName) ({ cls := "ShadowSpell", name := "meets", desc := "(IIZ)Z" } : Jvm.MethodName)) ∈ lw_all := lw_g (lw_at lw_m11 120 rfl) rfl
theorem q2592 : (Jvm.Cond.code ({ cls := "ShadowSpell", name := "meets", desc := "(IIZ)Z" } : Jvm.MethodName) prog_1_method_15_code (5 : Nat) (Option.some Jvm.ClassFile.FieldType.boolean)) ∈ lw_all := lw_g (lw_at lw_m11 121 rfl) rfl
theorem q2593 : (Jvm.Cond.methodLink "ShadowSpell" (163 : Nat) ({ cls := "ShadowSpell$Aspect", name := "of", desc := "(Z)LShadowSpell$Aspect;" } : Jvm.MethodName)) ∈ lw_all := lw_g (lw_at lw_m11 122 rfl) rfl
theorem q2594 : (Jvm.Cond.methodLink "ShadowSpell" (169 : Nat) ({ cls := "ShadowSpell$Aspect", name := "is", desc := "(LShadowSpell$Planet;LShadowSpell$Planet;)Z" } : Jvm.MethodName)) ∈ lw_all := lw_g (lw_at lw_m11 123 rfl) rfl
theorem q2599 : (Jvm.Cond.instanceMethod ({ cls := "ShadowSpell", name := "letter", desc := "(II)I" } : Jvm.MethodName)) ∈ lw_all := lw_g (lw_at lw_m11 128 rfl) rfl
theorem q2600 : (Jvm.Cond.selects "ShadowSpell" ({ cls := "ShadowSpell", name := "letter", desc := "(II)I" } : Jvm.MethodName) ({ cls := "ShadowSpell", name := "letter", desc := "(II)I" } : Jvm.MethodName)) ∈ lw_all := lw_g (lw_at lw_m11 129 rfl) rfl
theorem q2601 : (Jvm.Cond.code ({ cls := "ShadowSpell", name := "letter", desc := "(II)I" } : Jvm.MethodName) prog_1_method_16_code (4 : Nat) (Option.some Jvm.ClassFile.FieldType.int)) ∈ lw_all := lw_g (lw_at lw_m11 130 rfl) rfl
theorem q2606 : (Jvm.Cond.instanceMethod ({ cls := "ShadowSpell", name := "wrote", desc := "(I)I" } : Jvm.MethodName)) ∈ lw_all := lw_g (lw_at lw_m11 135 rfl) rfl
theorem q2607 : (Jvm.Cond.selects "ShadowSpell" ({ cls := "ShadowSpell", name := "wrote", desc := "(I)I" } : Jvm.MethodName) ({ cls := "ShadowSpell", name := "wrote", desc := "(I)I" } : Jvm.MethodName)) ∈ lw_all := lw_g (lw_at lw_m11 136 rfl) rfl
theorem q2608 : (Jvm.Cond.code ({ cls := "ShadowSpell", name := "wrote", desc := "(I)I" } : Jvm.MethodName) prog_1_method_17_code (2 : Nat) (Option.some Jvm.ClassFile.FieldType.int)) ∈ lw_all := lw_g (lw_at lw_m11 137 rfl) rfl
theorem q2613 : (Jvm.Cond.instanceMethod ({ cls := "ShadowSpell", name := "pass", desc := "(I)I" } : Jvm.MethodName)) ∈ lw_all := lw_g (lw_at lw_m11 142 rfl) rfl
theorem q2614 : (Jvm.Cond.selects "ShadowSpell" ({ cls := "ShadowSpell", name := "pass", desc := "(I)I" } : Jvm.MethodName) ({ cls := "ShadowSpell", name := "pass", desc := "(I)I" } : Jvm.MethodName)) ∈ lw_all := lw_g (lw_at lw_m11 143 rfl) rfl
theorem q2615 : (Jvm.Cond.code ({ cls := "ShadowSpell", name := "pass", desc := "(I)I" } : Jvm.MethodName) prog_1_method_18_code (2 : Nat) (Option.some Jvm.ClassFile.FieldType.int)) ∈ lw_all := lw_g (lw_at lw_m11 144 rfl) rfl
theorem q2616 : (Jvm.Cond.methodLink "ShadowSpell" (191 : Nat) ({ cls := "ShadowSpell$Sky", name := "pass", desc := "(I)I" } : Jvm.MethodName)) ∈ lw_all := lw_g (lw_at lw_m11 145 rfl) rfl
theorem q2625 : (Jvm.Cond.instanceMethod ({ cls := "ShadowSpell", name := "byteAt", desc := "(I)I" } : Jvm.MethodName)) ∈ lw_all := lw_g (lw_at lw_m11 154 rfl) rfl
theorem q2626 : (Jvm.Cond.selects "ShadowSpell" ({ cls := "ShadowSpell", name := "byteAt", desc := "(I)I" } : Jvm.MethodName) ({ cls := "ShadowSpell", name := "byteAt", desc := "(I)I" } : Jvm.MethodName)) ∈ lw_all := lw_g (lw_at lw_m11 155 rfl) rfl
theorem q2627 : (Jvm.Cond.code ({ cls := "ShadowSpell", name := "byteAt", desc := "(I)I" } : Jvm.MethodName) prog_1_method_19_code (2 : Nat) (Option.some Jvm.ClassFile.FieldType.int)) ∈ lw_all := lw_g (lw_at lw_m11 156 rfl) rfl
theorem q2632 : (Jvm.Cond.instanceMethod ({ cls := "ShadowSpell", name := "translate", desc := "(II)I" } : Jvm.MethodName)) ∈ lw_all := lw_g (lw_at lw_m11 161 rfl) rfl
theorem q2633 : (Jvm.Cond.selects "ShadowSpell" ({ cls := "ShadowSpell", name := "translate", desc := "(II)I" } : Jvm.MethodName) ({ cls := "ShadowSpell", name := "translate", desc := "(II)I" } : Jvm.MethodName)) ∈ lw_all := lw_g (lw_at lw_m11 162 rfl) rfl
theorem q2634 : (Jvm.Cond.code ({ cls := "ShadowSpell", name := "translate", desc := "(II)I" } : Jvm.MethodName) prog_1_method_22_code (9 : Nat) (Option.some Jvm.ClassFile.FieldType.int)) ∈ lw_all := lw_g (lw_at lw_m11 163 rfl) rfl
theorem q2635 : (Jvm.Cond.methodLink "ShadowSpell" (203 : Nat) ({ cls := "java/lang/String", name := "indexOf", desc := "(I)I" } : Jvm.MethodName)) ∈ lw_all := lw_g (lw_at lw_m11 164 rfl) rfl
theorem q2636 : (Jvm.Cond.methodLink "ShadowSpell" (206 : Nat) ({ cls := "java/lang/StringBuilder", name := "setCharAt", desc := "(IC)V" } : Jvm.MethodName)) ∈ lw_all := lw_g (lw_at lw_m11 165 rfl) rfl
theorem q2647 : (Jvm.Cond.instanceMethod ({ cls := "ShadowSpell", name := "foresee", desc := "(II)I" } : Jvm.MethodName)) ∈ lw_all := lw_g (lw_at lw_m11 176 rfl) rfl
theorem q2648 : (Jvm.Cond.selects "ShadowSpell" ({ cls := "ShadowSpell", name := "foresee", desc := "(II)I" } : Jvm.MethodName) ({ cls := "ShadowSpell", name := "foresee", desc := "(II)I" } : Jvm.MethodName)) ∈ lw_all := lw_g (lw_at lw_m11 177 rfl) rfl
theorem q2649 : (Jvm.Cond.code ({ cls := "ShadowSpell", name := "foresee", desc := "(II)I" } : Jvm.MethodName) prog_1_method_23_code (4 : Nat) (Option.some Jvm.ClassFile.FieldType.int)) ∈ lw_all := lw_g (lw_at lw_m11 178 rfl) rfl
theorem q2650 : (Jvm.Cond.methodLink "ShadowSpell" (214 : Nat) ({ cls := "ShadowSpell$Sky", name := "laps", desc := "()I" } : Jvm.MethodName)) ∈ lw_all := lw_g (lw_at lw_m11 179 rfl) rfl
theorem q2658 : (Jvm.Cond.instanceMethod ({ cls := "ShadowSpell", name := "next", desc := "(IIZ)I" } : Jvm.MethodName)) ∈ lw_all := lw_g (lw_at lw_m11 187 rfl) rfl
theorem q2659 : (Jvm.Cond.selects "ShadowSpell" ({ cls := "ShadowSpell", name := "next", desc := "(IIZ)I" } : Jvm.MethodName) ({ cls := "ShadowSpell", name := "next", desc := "(IIZ)I" } : Jvm.MethodName)) ∈ lw_all := lw_g (lw_at lw_m11 188 rfl) rfl
theorem q2660 : (Jvm.Cond.code ({ cls := "ShadowSpell", name := "next", desc := "(IIZ)I" } : Jvm.MethodName) prog_1_method_24_code (6 : Nat) (Option.some Jvm.ClassFile.FieldType.int)) ∈ lw_all := lw_g (lw_at lw_m11 189 rfl) rfl
theorem q2661 : (Jvm.Cond.methodLink "ShadowSpell" (220 : Nat) ({ cls := "java/util/ArrayList", name := "get", desc := "(I)Ljava/lang/Object;" } : Jvm.MethodName)) ∈ lw_all := lw_g (lw_at lw_m11 190 rfl) rfl
theorem q2666 : (Jvm.Cond.instanceMethod ({ cls := "ShadowSpell", name := "again", desc := "(I)I" } : Jvm.MethodName)) ∈ lw_all := lw_g (lw_at lw_m11 195 rfl) rfl
theorem q2667 : (Jvm.Cond.selects "ShadowSpell" ({ cls := "ShadowSpell", name := "again", desc := "(I)I" } : Jvm.MethodName) ({ cls := "ShadowSpell", name := "again", desc := "(I)I" } : Jvm.MethodName)) ∈ lw_all := lw_g (lw_at lw_m11 196 rfl) rfl
theorem q2668 : (Jvm.Cond.code ({ cls := "ShadowSpell", name := "again", desc := "(I)I" } : Jvm.MethodName) prog_1_method_26_code (3 : Nat) (Option.some Jvm.ClassFile.FieldType.int)) ∈ lw_all := lw_g (lw_at lw_m11 197 rfl) rfl
theorem q2669 : (Jvm.Cond.methodLink "ShadowSpell" (221 : Nat) ({ cls := "java/util/ArrayList", name := "isEmpty", desc := "()Z" } : Jvm.MethodName)) ∈ lw_all := lw_g (lw_at lw_m11 198 rfl) rfl
theorem q2673 : (Jvm.Cond.methodLink "ShadowSpell" (224 : Nat) ({ cls := "ShadowSpell$Sky", name := "isAs", desc := "(LShadowSpell$Sky;)Z" } : Jvm.MethodName)) ∈ lw_all := lw_g (lw_at lw_m11 202 rfl) rfl
theorem q2681 : (Jvm.Cond.instanceMethod ({ cls := "ShadowSpell", name := "advise", desc := "(II)I" } : Jvm.MethodName)) ∈ lw_all := lw_g (lw_at lw_m11 210 rfl) rfl
theorem q2682 : (Jvm.Cond.selects "ShadowSpell" ({ cls := "ShadowSpell", name := "advise", desc := "(II)I" } : Jvm.MethodName) ({ cls := "ShadowSpell", name := "advise", desc := "(II)I" } : Jvm.MethodName)) ∈ lw_all := lw_g (lw_at lw_m11 211 rfl) rfl
theorem q2683 : (Jvm.Cond.code ({ cls := "ShadowSpell", name := "advise", desc := "(II)I" } : Jvm.MethodName) prog_1_method_27_code (8 : Nat) (Option.some Jvm.ClassFile.FieldType.int)) ∈ lw_all := lw_g (lw_at lw_m11 212 rfl) rfl
theorem q3217 : (Jvm.Cond.castable "ShadowSpell" "java/lang/Object") ∈ lw_tbl := lw_at lw_m14 26 rfl
theorem in_X1 : ∀ w ∈ wsX10, w ∈ lw_all := lw_in wsX10 [263, 265, 267, 269] (by decide +kernel) (by decide +kernel)

/-! ShadowSpell$Sky -/
set_option maxRecDepth 100000
def RX3 : String := "ShadowSpell$Sky"
def TX3 : u_T := fun k => match k with
  | 0 => ("ShadowSpell$Sky", "planets", "Ljava/util/ArrayList;", true)
  | 1 => ("ShadowSpell$Sky", "alphabets", "Ljava/util/ArrayList;", true)
  | 2 => ("ShadowSpell$Sky", "rules", "Ljava/util/ArrayList;", true)
  | 3 => ("ShadowSpell$Sky", "paper", "Ljava/lang/StringBuilder;", true)
  | _ => ("ShadowSpell$Sky", "day", "I", false)
def tyX3 : Nat → FieldType := fun k => match k with
  | 0 => .object "java/util/ArrayList"
  | 1 => .object "java/util/ArrayList"
  | 2 => .object "java/util/ArrayList"
  | 3 => .object "java/lang/StringBuilder"
  | _ => .int
abbrev wsX30 : List Cond := u_ws RX3 TX3 5
theorem nmX3 : ∀ a, a < 5 → ∀ b, b < 5 → a ≠ b → (TX3 a).2.1 ≠ (TX3 b).2.1 := by decide +kernel
theorem tyX3_ok : ∀ k, k < 5 → parseFieldDescriptor (TX3 k).2.2.1 = some (tyX3 k) := by decide +kernel
abbrev cX3_init : ByteArray := prog_27_method_1_code
def yX3_init : MethodName := ⟨RX3, "<init>", "()V"⟩
def dkwX3_init_2 : List UInt8 := [181, 0, 27, 177]
abbrev dktX3_init_2 : List UInt8 := dkwX3_init_2 ++ []
def dkwX3_init_1 : List UInt8 := [181, 0, 18, 42, 187, 0, 9, 89, 183, 0, 11, 181, 0, 21, 42, 187, 0, 24, 89, 183, 0, 26]
abbrev dktX3_init_1 : List UInt8 := dkwX3_init_1 ++ dktX3_init_2
def dkwX3_init_0 : List UInt8 := [42, 183, 0, 3, 42, 187, 0, 9, 89, 183, 0, 11, 181, 0, 12, 42, 187, 0, 9, 89, 183, 0, 11]
abbrev dktX3_init_0 : List UInt8 := dkwX3_init_0 ++ dktX3_init_1
theorem dksX3_init_0 : cX3_init.data.toList.drop 0 = dktX3_init_0 := by decide +kernel
theorem dksX3_init_1 : cX3_init.data.toList.drop 23 = dktX3_init_1 := dk_seg dksX3_init_0 23 rfl rfl
theorem dksX3_init_2 : cX3_init.data.toList.drop 45 = dktX3_init_2 := dk_seg dksX3_init_1 22 rfl rfl
theorem dX3_init_0 : decode cX3_init 0 = .ok (.aload_n 0, 1) := dk_42 (dk_at dksX3_init_0 0 rfl rfl)
theorem dX3_init_1 : decode cX3_init 1 = .ok (.invokespecial 3, 3) := dk_183 0 3 (dk_at dksX3_init_0 1 rfl rfl)
theorem dX3_init_4 : decode cX3_init 4 = .ok (.aload_n 0, 1) := dk_42 (dk_at dksX3_init_0 4 rfl rfl)
theorem dX3_init_5 : decode cX3_init 5 = .ok (.new 9, 3) := dk_187 0 9 (dk_at dksX3_init_0 5 rfl rfl)
theorem dX3_init_8 : decode cX3_init 8 = .ok (.dup, 1) := dk_89 (dk_at dksX3_init_0 8 rfl rfl)
theorem dX3_init_9 : decode cX3_init 9 = .ok (.invokespecial 11, 3) := dk_183 0 11 (dk_at dksX3_init_0 9 rfl rfl)
theorem dX3_init_12 : decode cX3_init 12 = .ok (.putfield 12, 3) := dk_181 0 12 (dk_at dksX3_init_0 12 rfl rfl)
theorem dX3_init_15 : decode cX3_init 15 = .ok (.aload_n 0, 1) := dk_42 (dk_at dksX3_init_0 15 rfl rfl)
theorem dX3_init_16 : decode cX3_init 16 = .ok (.new 9, 3) := dk_187 0 9 (dk_at dksX3_init_0 16 rfl rfl)
theorem dX3_init_19 : decode cX3_init 19 = .ok (.dup, 1) := dk_89 (dk_at dksX3_init_0 19 rfl rfl)
theorem dX3_init_20 : decode cX3_init 20 = .ok (.invokespecial 11, 3) := dk_183 0 11 (dk_at dksX3_init_0 20 rfl rfl)
theorem dX3_init_23 : decode cX3_init 23 = .ok (.putfield 18, 3) := dk_181 0 18 (dk_at dksX3_init_1 0 rfl rfl)
theorem dX3_init_26 : decode cX3_init 26 = .ok (.aload_n 0, 1) := dk_42 (dk_at dksX3_init_1 3 rfl rfl)
theorem dX3_init_27 : decode cX3_init 27 = .ok (.new 9, 3) := dk_187 0 9 (dk_at dksX3_init_1 4 rfl rfl)
theorem dX3_init_30 : decode cX3_init 30 = .ok (.dup, 1) := dk_89 (dk_at dksX3_init_1 7 rfl rfl)
theorem dX3_init_31 : decode cX3_init 31 = .ok (.invokespecial 11, 3) := dk_183 0 11 (dk_at dksX3_init_1 8 rfl rfl)
theorem dX3_init_34 : decode cX3_init 34 = .ok (.putfield 21, 3) := dk_181 0 21 (dk_at dksX3_init_1 11 rfl rfl)
theorem dX3_init_37 : decode cX3_init 37 = .ok (.aload_n 0, 1) := dk_42 (dk_at dksX3_init_1 14 rfl rfl)
theorem dX3_init_38 : decode cX3_init 38 = .ok (.new 24, 3) := dk_187 0 24 (dk_at dksX3_init_1 15 rfl rfl)
theorem dX3_init_41 : decode cX3_init 41 = .ok (.dup, 1) := dk_89 (dk_at dksX3_init_1 18 rfl rfl)
theorem dX3_init_42 : decode cX3_init 42 = .ok (.invokespecial 26, 3) := dk_183 0 26 (dk_at dksX3_init_1 19 rfl rfl)
theorem dX3_init_45 : decode cX3_init 45 = .ok (.putfield 27, 3) := dk_181 0 27 (dk_at dksX3_init_2 0 rfl rfl)
theorem dX3_init_48 : decode cX3_init 48 = .ok (.return_, 1) := dk_177 (dk_at dksX3_init_2 3 rfl rfl)
abbrev cX3_take : ByteArray := prog_27_method_3_code
def yX3_take : MethodName := ⟨RX3, "take", "(LShadowSpell$Sky;)V"⟩
def dkwX3_take_2 : List UInt8 := [180, 0, 21, 43, 180, 0, 21, 182, 0, 87, 87, 177]
abbrev dktX3_take_2 : List UInt8 := dkwX3_take_2 ++ []
def dkwX3_take_1 : List UInt8 := [182, 0, 31, 42, 180, 0, 18, 43, 180, 0, 18, 182, 0, 87, 87, 42, 180, 0, 21, 182, 0, 31, 42]
abbrev dktX3_take_1 : List UInt8 := dkwX3_take_1 ++ dktX3_take_2
def dkwX3_take_0 : List UInt8 := [42, 180, 0, 12, 182, 0, 31, 42, 180, 0, 12, 43, 180, 0, 12, 182, 0, 87, 87, 42, 180, 0, 18]
abbrev dktX3_take_0 : List UInt8 := dkwX3_take_0 ++ dktX3_take_1
theorem dksX3_take_0 : cX3_take.data.toList.drop 0 = dktX3_take_0 := by decide +kernel
theorem dksX3_take_1 : cX3_take.data.toList.drop 23 = dktX3_take_1 := dk_seg dksX3_take_0 23 rfl rfl
theorem dksX3_take_2 : cX3_take.data.toList.drop 46 = dktX3_take_2 := dk_seg dksX3_take_1 23 rfl rfl
theorem dX3_take_0 : decode cX3_take 0 = .ok (.aload_n 0, 1) := dk_42 (dk_at dksX3_take_0 0 rfl rfl)
theorem dX3_take_1 : decode cX3_take 1 = .ok (.getfield 12, 3) := dk_180 0 12 (dk_at dksX3_take_0 1 rfl rfl)
theorem dX3_take_4 : decode cX3_take 4 = .ok (.invokevirtual 31, 3) := dk_182 0 31 (dk_at dksX3_take_0 4 rfl rfl)
theorem dX3_take_7 : decode cX3_take 7 = .ok (.aload_n 0, 1) := dk_42 (dk_at dksX3_take_0 7 rfl rfl)
theorem dX3_take_8 : decode cX3_take 8 = .ok (.getfield 12, 3) := dk_180 0 12 (dk_at dksX3_take_0 8 rfl rfl)
theorem dX3_take_11 : decode cX3_take 11 = .ok (.aload_n 1, 1) := dk_43 (dk_at dksX3_take_0 11 rfl rfl)
theorem dX3_take_12 : decode cX3_take 12 = .ok (.getfield 12, 3) := dk_180 0 12 (dk_at dksX3_take_0 12 rfl rfl)
theorem dX3_take_15 : decode cX3_take 15 = .ok (.invokevirtual 87, 3) := dk_182 0 87 (dk_at dksX3_take_0 15 rfl rfl)
theorem dX3_take_18 : decode cX3_take 18 = .ok (.pop, 1) := dk_87 (dk_at dksX3_take_0 18 rfl rfl)
theorem dX3_take_19 : decode cX3_take 19 = .ok (.aload_n 0, 1) := dk_42 (dk_at dksX3_take_0 19 rfl rfl)
theorem dX3_take_20 : decode cX3_take 20 = .ok (.getfield 18, 3) := dk_180 0 18 (dk_at dksX3_take_0 20 rfl rfl)
theorem dX3_take_23 : decode cX3_take 23 = .ok (.invokevirtual 31, 3) := dk_182 0 31 (dk_at dksX3_take_1 0 rfl rfl)
theorem dX3_take_26 : decode cX3_take 26 = .ok (.aload_n 0, 1) := dk_42 (dk_at dksX3_take_1 3 rfl rfl)
theorem dX3_take_27 : decode cX3_take 27 = .ok (.getfield 18, 3) := dk_180 0 18 (dk_at dksX3_take_1 4 rfl rfl)
theorem dX3_take_30 : decode cX3_take 30 = .ok (.aload_n 1, 1) := dk_43 (dk_at dksX3_take_1 7 rfl rfl)
theorem dX3_take_31 : decode cX3_take 31 = .ok (.getfield 18, 3) := dk_180 0 18 (dk_at dksX3_take_1 8 rfl rfl)
theorem dX3_take_34 : decode cX3_take 34 = .ok (.invokevirtual 87, 3) := dk_182 0 87 (dk_at dksX3_take_1 11 rfl rfl)
theorem dX3_take_37 : decode cX3_take 37 = .ok (.pop, 1) := dk_87 (dk_at dksX3_take_1 14 rfl rfl)
theorem dX3_take_38 : decode cX3_take 38 = .ok (.aload_n 0, 1) := dk_42 (dk_at dksX3_take_1 15 rfl rfl)
theorem dX3_take_39 : decode cX3_take 39 = .ok (.getfield 21, 3) := dk_180 0 21 (dk_at dksX3_take_1 16 rfl rfl)
theorem dX3_take_42 : decode cX3_take 42 = .ok (.invokevirtual 31, 3) := dk_182 0 31 (dk_at dksX3_take_1 19 rfl rfl)
theorem dX3_take_45 : decode cX3_take 45 = .ok (.aload_n 0, 1) := dk_42 (dk_at dksX3_take_1 22 rfl rfl)
theorem dX3_take_46 : decode cX3_take 46 = .ok (.getfield 21, 3) := dk_180 0 21 (dk_at dksX3_take_2 0 rfl rfl)
theorem dX3_take_49 : decode cX3_take 49 = .ok (.aload_n 1, 1) := dk_43 (dk_at dksX3_take_2 3 rfl rfl)
theorem dX3_take_50 : decode cX3_take 50 = .ok (.getfield 21, 3) := dk_180 0 21 (dk_at dksX3_take_2 4 rfl rfl)
theorem dX3_take_53 : decode cX3_take 53 = .ok (.invokevirtual 87, 3) := dk_182 0 87 (dk_at dksX3_take_2 7 rfl rfl)
theorem dX3_take_56 : decode cX3_take 56 = .ok (.pop, 1) := dk_87 (dk_at dksX3_take_2 10 rfl rfl)
theorem dX3_take_57 : decode cX3_take 57 = .ok (.return_, 1) := dk_177 (dk_at dksX3_take_2 11 rfl rfl)
abbrev cX3_find : ByteArray := prog_27_method_11_code
def yX3_find : MethodName := ⟨RX3, "find", "(LShadowSpell$Tape;)I"⟩
def dkwX3_find_1 : List UInt8 := [163, 0, 20, 42, 43, 28, 182, 0, 167, 153, 0, 5, 28, 172, 132, 2, 1, 167, 255, 219, 2, 172]
abbrev dktX3_find_1 : List UInt8 := dkwX3_find_1 ++ []
def dkwX3_find_0 : List UInt8 := [3, 61, 43, 180, 0, 156, 158, 0, 36, 28, 43, 180, 0, 156, 96, 42, 180, 0, 27, 182, 0, 104]
abbrev dktX3_find_0 : List UInt8 := dkwX3_find_0 ++ dktX3_find_1
theorem dksX3_find_0 : cX3_find.data.toList.drop 0 = dktX3_find_0 := by decide +kernel
theorem dksX3_find_1 : cX3_find.data.toList.drop 22 = dktX3_find_1 := dk_seg dksX3_find_0 22 rfl rfl
theorem dX3_find_0 : decode cX3_find 0 = .ok (.iconst 0, 1) := dk_3 (dk_at dksX3_find_0 0 rfl rfl)
theorem dX3_find_1 : decode cX3_find 1 = .ok (.istore_n 2, 1) := dk_61 (dk_at dksX3_find_0 1 rfl rfl)
theorem dX3_find_2 : decode cX3_find 2 = .ok (.aload_n 1, 1) := dk_43 (dk_at dksX3_find_0 2 rfl rfl)
theorem dX3_find_3 : decode cX3_find 3 = .ok (.getfield 156, 3) := dk_180 0 156 (dk_at dksX3_find_0 3 rfl rfl)
theorem dX3_find_6 : decode cX3_find 6 = .ok (.ifCond .le 36, 3) := dk_158 0 36 (dk_at dksX3_find_0 6 rfl rfl)
theorem dX3_find_9 : decode cX3_find 9 = .ok (.iload_n 2, 1) := dk_28 (dk_at dksX3_find_0 9 rfl rfl)
theorem dX3_find_10 : decode cX3_find 10 = .ok (.aload_n 1, 1) := dk_43 (dk_at dksX3_find_0 10 rfl rfl)
theorem dX3_find_11 : decode cX3_find 11 = .ok (.getfield 156, 3) := dk_180 0 156 (dk_at dksX3_find_0 11 rfl rfl)
theorem dX3_find_14 : decode cX3_find 14 = .ok (.iadd, 1) := dk_96 (dk_at dksX3_find_0 14 rfl rfl)
theorem dX3_find_15 : decode cX3_find 15 = .ok (.aload_n 0, 1) := dk_42 (dk_at dksX3_find_0 15 rfl rfl)
theorem dX3_find_16 : decode cX3_find 16 = .ok (.getfield 27, 3) := dk_180 0 27 (dk_at dksX3_find_0 16 rfl rfl)
theorem dX3_find_19 : decode cX3_find 19 = .ok (.invokevirtual 104, 3) := dk_182 0 104 (dk_at dksX3_find_0 19 rfl rfl)
theorem dX3_find_22 : decode cX3_find 22 = .ok (.if_icmp .gt 20, 3) := dk_163 0 20 (dk_at dksX3_find_1 0 rfl rfl)
theorem dX3_find_25 : decode cX3_find 25 = .ok (.aload_n 0, 1) := dk_42 (dk_at dksX3_find_1 3 rfl rfl)
theorem dX3_find_26 : decode cX3_find 26 = .ok (.aload_n 1, 1) := dk_43 (dk_at dksX3_find_1 4 rfl rfl)
theorem dX3_find_27 : decode cX3_find 27 = .ok (.iload_n 2, 1) := dk_28 (dk_at dksX3_find_1 5 rfl rfl)
theorem dX3_find_28 : decode cX3_find 28 = .ok (.invokevirtual 167, 3) := dk_182 0 167 (dk_at dksX3_find_1 6 rfl rfl)
theorem dX3_find_31 : decode cX3_find 31 = .ok (.ifCond .eq 5, 3) := dk_153 0 5 (dk_at dksX3_find_1 9 rfl rfl)
theorem dX3_find_34 : decode cX3_find 34 = .ok (.iload_n 2, 1) := dk_28 (dk_at dksX3_find_1 12 rfl rfl)
theorem dX3_find_35 : decode cX3_find 35 = .ok (.ireturn, 1) := dk_172 (dk_at dksX3_find_1 13 rfl rfl)
theorem dX3_find_36 : decode cX3_find 36 = .ok (.iinc 2 1, 3) := dk_132 2 1 (dk_at dksX3_find_1 14 rfl rfl)
theorem dX3_find_39 : decode cX3_find 39 = .ok (.goto (-37), 3) := dk_167 255 219 (dk_at dksX3_find_1 17 rfl rfl)
theorem dX3_find_42 : decode cX3_find 42 = .ok (.iconst (-1), 1) := dk_2 (dk_at dksX3_find_1 20 rfl rfl)
theorem dX3_find_43 : decode cX3_find 43 = .ok (.ireturn, 1) := dk_172 (dk_at dksX3_find_1 21 rfl rfl)
abbrev cX3_isAt : ByteArray := prog_27_method_10_code
def yX3_isAt : MethodName := ⟨RX3, "isAt", "(LShadowSpell$Tape;I)Z"⟩
def dkwX3_isAt_1 : List UInt8 := [182, 0, 163, 159, 0, 5, 3, 172, 132, 3, 1, 167, 255, 225, 4, 172]
abbrev dktX3_isAt_1 : List UInt8 := dkwX3_isAt_1 ++ []
def dkwX3_isAt_0 : List UInt8 := [3, 62, 29, 43, 180, 0, 156, 162, 0, 29, 42, 180, 0, 27, 28, 29, 96, 182, 0, 160, 43, 29]
abbrev dktX3_isAt_0 : List UInt8 := dkwX3_isAt_0 ++ dktX3_isAt_1
theorem dksX3_isAt_0 : cX3_isAt.data.toList.drop 0 = dktX3_isAt_0 := by decide +kernel
theorem dksX3_isAt_1 : cX3_isAt.data.toList.drop 22 = dktX3_isAt_1 := dk_seg dksX3_isAt_0 22 rfl rfl
theorem dX3_isAt_0 : decode cX3_isAt 0 = .ok (.iconst 0, 1) := dk_3 (dk_at dksX3_isAt_0 0 rfl rfl)
theorem dX3_isAt_1 : decode cX3_isAt 1 = .ok (.istore_n 3, 1) := dk_62 (dk_at dksX3_isAt_0 1 rfl rfl)
theorem dX3_isAt_2 : decode cX3_isAt 2 = .ok (.iload_n 3, 1) := dk_29 (dk_at dksX3_isAt_0 2 rfl rfl)
theorem dX3_isAt_3 : decode cX3_isAt 3 = .ok (.aload_n 1, 1) := dk_43 (dk_at dksX3_isAt_0 3 rfl rfl)
theorem dX3_isAt_4 : decode cX3_isAt 4 = .ok (.getfield 156, 3) := dk_180 0 156 (dk_at dksX3_isAt_0 4 rfl rfl)
theorem dX3_isAt_7 : decode cX3_isAt 7 = .ok (.if_icmp .ge 29, 3) := dk_162 0 29 (dk_at dksX3_isAt_0 7 rfl rfl)
theorem dX3_isAt_10 : decode cX3_isAt 10 = .ok (.aload_n 0, 1) := dk_42 (dk_at dksX3_isAt_0 10 rfl rfl)
theorem dX3_isAt_11 : decode cX3_isAt 11 = .ok (.getfield 27, 3) := dk_180 0 27 (dk_at dksX3_isAt_0 11 rfl rfl)
theorem dX3_isAt_14 : decode cX3_isAt 14 = .ok (.iload_n 2, 1) := dk_28 (dk_at dksX3_isAt_0 14 rfl rfl)
theorem dX3_isAt_15 : decode cX3_isAt 15 = .ok (.iload_n 3, 1) := dk_29 (dk_at dksX3_isAt_0 15 rfl rfl)
theorem dX3_isAt_16 : decode cX3_isAt 16 = .ok (.iadd, 1) := dk_96 (dk_at dksX3_isAt_0 16 rfl rfl)
theorem dX3_isAt_17 : decode cX3_isAt 17 = .ok (.invokevirtual 160, 3) := dk_182 0 160 (dk_at dksX3_isAt_0 17 rfl rfl)
theorem dX3_isAt_20 : decode cX3_isAt 20 = .ok (.aload_n 1, 1) := dk_43 (dk_at dksX3_isAt_0 20 rfl rfl)
theorem dX3_isAt_21 : decode cX3_isAt 21 = .ok (.iload_n 3, 1) := dk_29 (dk_at dksX3_isAt_0 21 rfl rfl)
theorem dX3_isAt_22 : decode cX3_isAt 22 = .ok (.invokevirtual 163, 3) := dk_182 0 163 (dk_at dksX3_isAt_1 0 rfl rfl)
theorem dX3_isAt_25 : decode cX3_isAt 25 = .ok (.if_icmp .eq 5, 3) := dk_159 0 5 (dk_at dksX3_isAt_1 3 rfl rfl)
theorem dX3_isAt_28 : decode cX3_isAt 28 = .ok (.iconst 0, 1) := dk_3 (dk_at dksX3_isAt_1 6 rfl rfl)
theorem dX3_isAt_29 : decode cX3_isAt 29 = .ok (.ireturn, 1) := dk_172 (dk_at dksX3_isAt_1 7 rfl rfl)
theorem dX3_isAt_30 : decode cX3_isAt 30 = .ok (.iinc 3 1, 3) := dk_132 3 1 (dk_at dksX3_isAt_1 8 rfl rfl)
theorem dX3_isAt_33 : decode cX3_isAt 33 = .ok (.goto (-31), 3) := dk_167 255 225 (dk_at dksX3_isAt_1 11 rfl rfl)
theorem dX3_isAt_36 : decode cX3_isAt 36 = .ok (.iconst 1, 1) := dk_4 (dk_at dksX3_isAt_1 14 rfl rfl)
theorem dX3_isAt_37 : decode cX3_isAt 37 = .ok (.ireturn, 1) := dk_172 (dk_at dksX3_isAt_1 15 rfl rfl)
abbrev cX3_as : ByteArray := prog_27_method_2_code
def yX3_as : MethodName := ⟨RX3, "as", "(LShadowSpell$Sky;)LShadowSpell$Sky;"⟩
def dkwX3_as_6 : List UInt8 := [181, 0, 83, 42, 176]
abbrev dktX3_as_6 : List UInt8 := dkwX3_as_6 ++ []
def dkwX3_as_5 : List UInt8 := [180, 0, 27, 3, 182, 0, 75, 42, 180, 0, 27, 43, 180, 0, 27, 182, 0, 79, 87, 42, 43, 180, 0, 83]
abbrev dktX3_as_5 : List UInt8 := dkwX3_as_5 ++ dktX3_as_6
def dkwX3_as_4 : List UInt8 := [180, 0, 60, 45, 180, 0, 64, 45, 180, 0, 68, 183, 0, 72, 182, 0, 54, 87, 167, 255, 210, 42]
abbrev dktX3_as_4 : List UInt8 := dkwX3_as_4 ++ dktX3_as_5
def dkwX3_as_3 : List UInt8 := [153, 0, 43, 44, 185, 0, 44, 1, 0, 192, 0, 58, 78, 42, 180, 0, 21, 187, 0, 58, 89, 45]
abbrev dktX3_as_3 : List UInt8 := dkwX3_as_3 ++ dktX3_as_4
def dkwX3_as_2 : List UInt8 := [167, 255, 225, 42, 180, 0, 21, 182, 0, 31, 43, 180, 0, 21, 182, 0, 34, 77, 44, 185, 0, 38, 1, 0]
abbrev dktX3_as_2 : List UInt8 := dkwX3_as_2 ++ dktX3_as_3
def dkwX3_as_1 : List UInt8 := [44, 185, 0, 44, 1, 0, 192, 0, 48, 78, 42, 180, 0, 12, 45, 182, 0, 50, 182, 0, 54, 87]
abbrev dktX3_as_1 : List UInt8 := dkwX3_as_1 ++ dktX3_as_2
def dkwX3_as_0 : List UInt8 := [42, 180, 0, 12, 182, 0, 31, 43, 180, 0, 12, 182, 0, 34, 77, 44, 185, 0, 38, 1, 0, 153, 0, 28]
abbrev dktX3_as_0 : List UInt8 := dkwX3_as_0 ++ dktX3_as_1
theorem dksX3_as_0 : cX3_as.data.toList.drop 0 = dktX3_as_0 := by decide +kernel
theorem dksX3_as_1 : cX3_as.data.toList.drop 24 = dktX3_as_1 := dk_seg dksX3_as_0 24 rfl rfl
theorem dksX3_as_2 : cX3_as.data.toList.drop 46 = dktX3_as_2 := dk_seg dksX3_as_1 22 rfl rfl
theorem dksX3_as_3 : cX3_as.data.toList.drop 70 = dktX3_as_3 := dk_seg dksX3_as_2 24 rfl rfl
theorem dksX3_as_4 : cX3_as.data.toList.drop 92 = dktX3_as_4 := dk_seg dksX3_as_3 22 rfl rfl
theorem dksX3_as_5 : cX3_as.data.toList.drop 114 = dktX3_as_5 := dk_seg dksX3_as_4 22 rfl rfl
theorem dksX3_as_6 : cX3_as.data.toList.drop 138 = dktX3_as_6 := dk_seg dksX3_as_5 24 rfl rfl
theorem dX3_as_0 : decode cX3_as 0 = .ok (.aload_n 0, 1) := dk_42 (dk_at dksX3_as_0 0 rfl rfl)
theorem dX3_as_1 : decode cX3_as 1 = .ok (.getfield 12, 3) := dk_180 0 12 (dk_at dksX3_as_0 1 rfl rfl)
theorem dX3_as_4 : decode cX3_as 4 = .ok (.invokevirtual 31, 3) := dk_182 0 31 (dk_at dksX3_as_0 4 rfl rfl)
theorem dX3_as_7 : decode cX3_as 7 = .ok (.aload_n 1, 1) := dk_43 (dk_at dksX3_as_0 7 rfl rfl)
theorem dX3_as_8 : decode cX3_as 8 = .ok (.getfield 12, 3) := dk_180 0 12 (dk_at dksX3_as_0 8 rfl rfl)
theorem dX3_as_11 : decode cX3_as 11 = .ok (.invokevirtual 34, 3) := dk_182 0 34 (dk_at dksX3_as_0 11 rfl rfl)
theorem dX3_as_14 : decode cX3_as 14 = .ok (.astore_n 2, 1) := dk_77 (dk_at dksX3_as_0 14 rfl rfl)
theorem dX3_as_15 : decode cX3_as 15 = .ok (.aload_n 2, 1) := dk_44 (dk_at dksX3_as_0 15 rfl rfl)
theorem dX3_as_16 : decode cX3_as 16 = .ok (.invokeinterface 38 1, 5) := by decide +kernel
theorem dX3_as_21 : decode cX3_as 21 = .ok (.ifCond .eq 28, 3) := dk_153 0 28 (dk_at dksX3_as_0 21 rfl rfl)
theorem dX3_as_24 : decode cX3_as 24 = .ok (.aload_n 2, 1) := dk_44 (dk_at dksX3_as_1 0 rfl rfl)
theorem dX3_as_25 : decode cX3_as 25 = .ok (.invokeinterface 44 1, 5) := by decide +kernel
theorem dX3_as_30 : decode cX3_as 30 = .ok (.checkcast 48, 3) := dk_192 0 48 (dk_at dksX3_as_1 6 rfl rfl)
theorem dX3_as_33 : decode cX3_as 33 = .ok (.astore_n 3, 1) := dk_78 (dk_at dksX3_as_1 9 rfl rfl)
theorem dX3_as_34 : decode cX3_as 34 = .ok (.aload_n 0, 1) := dk_42 (dk_at dksX3_as_1 10 rfl rfl)
theorem dX3_as_35 : decode cX3_as 35 = .ok (.getfield 12, 3) := dk_180 0 12 (dk_at dksX3_as_1 11 rfl rfl)
theorem dX3_as_38 : decode cX3_as 38 = .ok (.aload_n 3, 1) := dk_45 (dk_at dksX3_as_1 14 rfl rfl)
theorem dX3_as_39 : decode cX3_as 39 = .ok (.invokevirtual 50, 3) := dk_182 0 50 (dk_at dksX3_as_1 15 rfl rfl)
theorem dX3_as_42 : decode cX3_as 42 = .ok (.invokevirtual 54, 3) := dk_182 0 54 (dk_at dksX3_as_1 18 rfl rfl)
theorem dX3_as_45 : decode cX3_as 45 = .ok (.pop, 1) := dk_87 (dk_at dksX3_as_1 21 rfl rfl)
theorem dX3_as_46 : decode cX3_as 46 = .ok (.goto (-31), 3) := dk_167 255 225 (dk_at dksX3_as_2 0 rfl rfl)
theorem dX3_as_49 : decode cX3_as 49 = .ok (.aload_n 0, 1) := dk_42 (dk_at dksX3_as_2 3 rfl rfl)
theorem dX3_as_50 : decode cX3_as 50 = .ok (.getfield 21, 3) := dk_180 0 21 (dk_at dksX3_as_2 4 rfl rfl)
theorem dX3_as_53 : decode cX3_as 53 = .ok (.invokevirtual 31, 3) := dk_182 0 31 (dk_at dksX3_as_2 7 rfl rfl)
theorem dX3_as_56 : decode cX3_as 56 = .ok (.aload_n 1, 1) := dk_43 (dk_at dksX3_as_2 10 rfl rfl)
theorem dX3_as_57 : decode cX3_as 57 = .ok (.getfield 21, 3) := dk_180 0 21 (dk_at dksX3_as_2 11 rfl rfl)
theorem dX3_as_60 : decode cX3_as 60 = .ok (.invokevirtual 34, 3) := dk_182 0 34 (dk_at dksX3_as_2 14 rfl rfl)
theorem dX3_as_63 : decode cX3_as 63 = .ok (.astore_n 2, 1) := dk_77 (dk_at dksX3_as_2 17 rfl rfl)
theorem dX3_as_64 : decode cX3_as 64 = .ok (.aload_n 2, 1) := dk_44 (dk_at dksX3_as_2 18 rfl rfl)
theorem dX3_as_65 : decode cX3_as 65 = .ok (.invokeinterface 38 1, 5) := by decide +kernel
theorem dX3_as_70 : decode cX3_as 70 = .ok (.ifCond .eq 43, 3) := dk_153 0 43 (dk_at dksX3_as_3 0 rfl rfl)
theorem dX3_as_73 : decode cX3_as 73 = .ok (.aload_n 2, 1) := dk_44 (dk_at dksX3_as_3 3 rfl rfl)
theorem dX3_as_74 : decode cX3_as 74 = .ok (.invokeinterface 44 1, 5) := by decide +kernel
theorem dX3_as_79 : decode cX3_as 79 = .ok (.checkcast 58, 3) := dk_192 0 58 (dk_at dksX3_as_3 9 rfl rfl)
theorem dX3_as_82 : decode cX3_as 82 = .ok (.astore_n 3, 1) := dk_78 (dk_at dksX3_as_3 12 rfl rfl)
theorem dX3_as_83 : decode cX3_as 83 = .ok (.aload_n 0, 1) := dk_42 (dk_at dksX3_as_3 13 rfl rfl)
theorem dX3_as_84 : decode cX3_as 84 = .ok (.getfield 21, 3) := dk_180 0 21 (dk_at dksX3_as_3 14 rfl rfl)
theorem dX3_as_87 : decode cX3_as 87 = .ok (.new 58, 3) := dk_187 0 58 (dk_at dksX3_as_3 17 rfl rfl)
theorem dX3_as_90 : decode cX3_as 90 = .ok (.dup, 1) := dk_89 (dk_at dksX3_as_3 20 rfl rfl)
theorem dX3_as_91 : decode cX3_as 91 = .ok (.aload_n 3, 1) := dk_45 (dk_at dksX3_as_3 21 rfl rfl)
theorem dX3_as_92 : decode cX3_as 92 = .ok (.getfield 60, 3) := dk_180 0 60 (dk_at dksX3_as_4 0 rfl rfl)
theorem dX3_as_95 : decode cX3_as 95 = .ok (.aload_n 3, 1) := dk_45 (dk_at dksX3_as_4 3 rfl rfl)
theorem dX3_as_96 : decode cX3_as 96 = .ok (.getfield 64, 3) := dk_180 0 64 (dk_at dksX3_as_4 4 rfl rfl)
theorem dX3_as_99 : decode cX3_as 99 = .ok (.aload_n 3, 1) := dk_45 (dk_at dksX3_as_4 7 rfl rfl)
theorem dX3_as_100 : decode cX3_as 100 = .ok (.getfield 68, 3) := dk_180 0 68 (dk_at dksX3_as_4 8 rfl rfl)
theorem dX3_as_103 : decode cX3_as 103 = .ok (.invokespecial 72, 3) := dk_183 0 72 (dk_at dksX3_as_4 11 rfl rfl)
theorem dX3_as_106 : decode cX3_as 106 = .ok (.invokevirtual 54, 3) := dk_182 0 54 (dk_at dksX3_as_4 14 rfl rfl)
theorem dX3_as_109 : decode cX3_as 109 = .ok (.pop, 1) := dk_87 (dk_at dksX3_as_4 17 rfl rfl)
theorem dX3_as_110 : decode cX3_as 110 = .ok (.goto (-46), 3) := dk_167 255 210 (dk_at dksX3_as_4 18 rfl rfl)
theorem dX3_as_113 : decode cX3_as 113 = .ok (.aload_n 0, 1) := dk_42 (dk_at dksX3_as_4 21 rfl rfl)
theorem dX3_as_114 : decode cX3_as 114 = .ok (.getfield 27, 3) := dk_180 0 27 (dk_at dksX3_as_5 0 rfl rfl)
theorem dX3_as_117 : decode cX3_as 117 = .ok (.iconst 0, 1) := dk_3 (dk_at dksX3_as_5 3 rfl rfl)
theorem dX3_as_118 : decode cX3_as 118 = .ok (.invokevirtual 75, 3) := dk_182 0 75 (dk_at dksX3_as_5 4 rfl rfl)
theorem dX3_as_121 : decode cX3_as 121 = .ok (.aload_n 0, 1) := dk_42 (dk_at dksX3_as_5 7 rfl rfl)
theorem dX3_as_122 : decode cX3_as 122 = .ok (.getfield 27, 3) := dk_180 0 27 (dk_at dksX3_as_5 8 rfl rfl)
theorem dX3_as_125 : decode cX3_as 125 = .ok (.aload_n 1, 1) := dk_43 (dk_at dksX3_as_5 11 rfl rfl)
theorem dX3_as_126 : decode cX3_as 126 = .ok (.getfield 27, 3) := dk_180 0 27 (dk_at dksX3_as_5 12 rfl rfl)
theorem dX3_as_129 : decode cX3_as 129 = .ok (.invokevirtual 79, 3) := dk_182 0 79 (dk_at dksX3_as_5 15 rfl rfl)
theorem dX3_as_132 : decode cX3_as 132 = .ok (.pop, 1) := dk_87 (dk_at dksX3_as_5 18 rfl rfl)
theorem dX3_as_133 : decode cX3_as 133 = .ok (.aload_n 0, 1) := dk_42 (dk_at dksX3_as_5 19 rfl rfl)
theorem dX3_as_134 : decode cX3_as 134 = .ok (.aload_n 1, 1) := dk_43 (dk_at dksX3_as_5 20 rfl rfl)
theorem dX3_as_135 : decode cX3_as 135 = .ok (.getfield 83, 3) := dk_180 0 83 (dk_at dksX3_as_5 21 rfl rfl)
theorem dX3_as_138 : decode cX3_as 138 = .ok (.putfield 83, 3) := dk_181 0 83 (dk_at dksX3_as_6 0 rfl rfl)
theorem dX3_as_141 : decode cX3_as 141 = .ok (.aload_n 0, 1) := dk_42 (dk_at dksX3_as_6 3 rfl rfl)
theorem dX3_as_142 : decode cX3_as 142 = .ok (.areturn, 1) := dk_176 (dk_at dksX3_as_6 4 rfl rfl)
abbrev cX3_dayOn : ByteArray := prog_27_method_6_code
def yX3_dayOn : MethodName := ⟨RX3, "dayOn", "()I"⟩
def dkwX3_dayOn_4 : List UInt8 := [182, 0, 104, 27, 100, 172]
abbrev dktX3_dayOn_4 : List UInt8 := dkwX3_dayOn_4 ++ []
def dkwX3_dayOn_3 : List UInt8 := [180, 0, 21, 28, 182, 0, 91, 192, 0, 58, 182, 0, 138, 132, 2, 1, 167, 255, 227, 42, 180, 0, 27]
abbrev dktX3_dayOn_3 : List UInt8 := dkwX3_dayOn_3 ++ dktX3_dayOn_4
def dkwX3_dayOn_2 : List UInt8 := [182, 0, 135, 132, 2, 1, 167, 255, 224, 3, 61, 28, 42, 180, 0, 21, 182, 0, 132, 162, 0, 24, 42, 42]
abbrev dktX3_dayOn_2 : List UInt8 := dkwX3_dayOn_2 ++ dktX3_dayOn_3
def dkwX3_dayOn_1 : List UInt8 := [180, 0, 12, 182, 0, 132, 162, 0, 27, 42, 180, 0, 12, 28, 182, 0, 91, 192, 0, 48, 42, 180, 0, 83]
abbrev dktX3_dayOn_1 : List UInt8 := dkwX3_dayOn_1 ++ dktX3_dayOn_2
def dkwX3_dayOn_0 : List UInt8 := [42, 180, 0, 27, 182, 0, 104, 60, 42, 89, 180, 0, 83, 4, 96, 181, 0, 83, 3, 61, 28, 42]
abbrev dktX3_dayOn_0 : List UInt8 := dkwX3_dayOn_0 ++ dktX3_dayOn_1
theorem dksX3_dayOn_0 : cX3_dayOn.data.toList.drop 0 = dktX3_dayOn_0 := by decide +kernel
theorem dksX3_dayOn_1 : cX3_dayOn.data.toList.drop 22 = dktX3_dayOn_1 := dk_seg dksX3_dayOn_0 22 rfl rfl
theorem dksX3_dayOn_2 : cX3_dayOn.data.toList.drop 46 = dktX3_dayOn_2 := dk_seg dksX3_dayOn_1 24 rfl rfl
theorem dksX3_dayOn_3 : cX3_dayOn.data.toList.drop 70 = dktX3_dayOn_3 := dk_seg dksX3_dayOn_2 24 rfl rfl
theorem dksX3_dayOn_4 : cX3_dayOn.data.toList.drop 93 = dktX3_dayOn_4 := dk_seg dksX3_dayOn_3 23 rfl rfl
theorem dX3_dayOn_0 : decode cX3_dayOn 0 = .ok (.aload_n 0, 1) := dk_42 (dk_at dksX3_dayOn_0 0 rfl rfl)
theorem dX3_dayOn_1 : decode cX3_dayOn 1 = .ok (.getfield 27, 3) := dk_180 0 27 (dk_at dksX3_dayOn_0 1 rfl rfl)
theorem dX3_dayOn_4 : decode cX3_dayOn 4 = .ok (.invokevirtual 104, 3) := dk_182 0 104 (dk_at dksX3_dayOn_0 4 rfl rfl)
theorem dX3_dayOn_7 : decode cX3_dayOn 7 = .ok (.istore_n 1, 1) := dk_60 (dk_at dksX3_dayOn_0 7 rfl rfl)
theorem dX3_dayOn_8 : decode cX3_dayOn 8 = .ok (.aload_n 0, 1) := dk_42 (dk_at dksX3_dayOn_0 8 rfl rfl)
theorem dX3_dayOn_9 : decode cX3_dayOn 9 = .ok (.dup, 1) := dk_89 (dk_at dksX3_dayOn_0 9 rfl rfl)
theorem dX3_dayOn_10 : decode cX3_dayOn 10 = .ok (.getfield 83, 3) := dk_180 0 83 (dk_at dksX3_dayOn_0 10 rfl rfl)
theorem dX3_dayOn_13 : decode cX3_dayOn 13 = .ok (.iconst 1, 1) := dk_4 (dk_at dksX3_dayOn_0 13 rfl rfl)
theorem dX3_dayOn_14 : decode cX3_dayOn 14 = .ok (.iadd, 1) := dk_96 (dk_at dksX3_dayOn_0 14 rfl rfl)
theorem dX3_dayOn_15 : decode cX3_dayOn 15 = .ok (.putfield 83, 3) := dk_181 0 83 (dk_at dksX3_dayOn_0 15 rfl rfl)
theorem dX3_dayOn_18 : decode cX3_dayOn 18 = .ok (.iconst 0, 1) := dk_3 (dk_at dksX3_dayOn_0 18 rfl rfl)
theorem dX3_dayOn_19 : decode cX3_dayOn 19 = .ok (.istore_n 2, 1) := dk_61 (dk_at dksX3_dayOn_0 19 rfl rfl)
theorem dX3_dayOn_20 : decode cX3_dayOn 20 = .ok (.iload_n 2, 1) := dk_28 (dk_at dksX3_dayOn_0 20 rfl rfl)
theorem dX3_dayOn_21 : decode cX3_dayOn 21 = .ok (.aload_n 0, 1) := dk_42 (dk_at dksX3_dayOn_0 21 rfl rfl)
theorem dX3_dayOn_22 : decode cX3_dayOn 22 = .ok (.getfield 12, 3) := dk_180 0 12 (dk_at dksX3_dayOn_1 0 rfl rfl)
theorem dX3_dayOn_25 : decode cX3_dayOn 25 = .ok (.invokevirtual 132, 3) := dk_182 0 132 (dk_at dksX3_dayOn_1 3 rfl rfl)
theorem dX3_dayOn_28 : decode cX3_dayOn 28 = .ok (.if_icmp .ge 27, 3) := dk_162 0 27 (dk_at dksX3_dayOn_1 6 rfl rfl)
theorem dX3_dayOn_31 : decode cX3_dayOn 31 = .ok (.aload_n 0, 1) := dk_42 (dk_at dksX3_dayOn_1 9 rfl rfl)
theorem dX3_dayOn_32 : decode cX3_dayOn 32 = .ok (.getfield 12, 3) := dk_180 0 12 (dk_at dksX3_dayOn_1 10 rfl rfl)
theorem dX3_dayOn_35 : decode cX3_dayOn 35 = .ok (.iload_n 2, 1) := dk_28 (dk_at dksX3_dayOn_1 13 rfl rfl)
theorem dX3_dayOn_36 : decode cX3_dayOn 36 = .ok (.invokevirtual 91, 3) := dk_182 0 91 (dk_at dksX3_dayOn_1 14 rfl rfl)
theorem dX3_dayOn_39 : decode cX3_dayOn 39 = .ok (.checkcast 48, 3) := dk_192 0 48 (dk_at dksX3_dayOn_1 17 rfl rfl)
theorem dX3_dayOn_42 : decode cX3_dayOn 42 = .ok (.aload_n 0, 1) := dk_42 (dk_at dksX3_dayOn_1 20 rfl rfl)
theorem dX3_dayOn_43 : decode cX3_dayOn 43 = .ok (.getfield 83, 3) := dk_180 0 83 (dk_at dksX3_dayOn_1 21 rfl rfl)
theorem dX3_dayOn_46 : decode cX3_dayOn 46 = .ok (.invokevirtual 135, 3) := dk_182 0 135 (dk_at dksX3_dayOn_2 0 rfl rfl)
theorem dX3_dayOn_49 : decode cX3_dayOn 49 = .ok (.iinc 2 1, 3) := dk_132 2 1 (dk_at dksX3_dayOn_2 3 rfl rfl)
theorem dX3_dayOn_52 : decode cX3_dayOn 52 = .ok (.goto (-32), 3) := dk_167 255 224 (dk_at dksX3_dayOn_2 6 rfl rfl)
theorem dX3_dayOn_55 : decode cX3_dayOn 55 = .ok (.iconst 0, 1) := dk_3 (dk_at dksX3_dayOn_2 9 rfl rfl)
theorem dX3_dayOn_56 : decode cX3_dayOn 56 = .ok (.istore_n 2, 1) := dk_61 (dk_at dksX3_dayOn_2 10 rfl rfl)
theorem dX3_dayOn_57 : decode cX3_dayOn 57 = .ok (.iload_n 2, 1) := dk_28 (dk_at dksX3_dayOn_2 11 rfl rfl)
theorem dX3_dayOn_58 : decode cX3_dayOn 58 = .ok (.aload_n 0, 1) := dk_42 (dk_at dksX3_dayOn_2 12 rfl rfl)
theorem dX3_dayOn_59 : decode cX3_dayOn 59 = .ok (.getfield 21, 3) := dk_180 0 21 (dk_at dksX3_dayOn_2 13 rfl rfl)
theorem dX3_dayOn_62 : decode cX3_dayOn 62 = .ok (.invokevirtual 132, 3) := dk_182 0 132 (dk_at dksX3_dayOn_2 16 rfl rfl)
theorem dX3_dayOn_65 : decode cX3_dayOn 65 = .ok (.if_icmp .ge 24, 3) := dk_162 0 24 (dk_at dksX3_dayOn_2 19 rfl rfl)
theorem dX3_dayOn_68 : decode cX3_dayOn 68 = .ok (.aload_n 0, 1) := dk_42 (dk_at dksX3_dayOn_2 22 rfl rfl)
theorem dX3_dayOn_69 : decode cX3_dayOn 69 = .ok (.aload_n 0, 1) := dk_42 (dk_at dksX3_dayOn_2 23 rfl rfl)
theorem dX3_dayOn_70 : decode cX3_dayOn 70 = .ok (.getfield 21, 3) := dk_180 0 21 (dk_at dksX3_dayOn_3 0 rfl rfl)
theorem dX3_dayOn_73 : decode cX3_dayOn 73 = .ok (.iload_n 2, 1) := dk_28 (dk_at dksX3_dayOn_3 3 rfl rfl)
theorem dX3_dayOn_74 : decode cX3_dayOn 74 = .ok (.invokevirtual 91, 3) := dk_182 0 91 (dk_at dksX3_dayOn_3 4 rfl rfl)
theorem dX3_dayOn_77 : decode cX3_dayOn 77 = .ok (.checkcast 58, 3) := dk_192 0 58 (dk_at dksX3_dayOn_3 7 rfl rfl)
theorem dX3_dayOn_80 : decode cX3_dayOn 80 = .ok (.invokevirtual 138, 3) := dk_182 0 138 (dk_at dksX3_dayOn_3 10 rfl rfl)
theorem dX3_dayOn_83 : decode cX3_dayOn 83 = .ok (.iinc 2 1, 3) := dk_132 2 1 (dk_at dksX3_dayOn_3 13 rfl rfl)
theorem dX3_dayOn_86 : decode cX3_dayOn 86 = .ok (.goto (-29), 3) := dk_167 255 227 (dk_at dksX3_dayOn_3 16 rfl rfl)
theorem dX3_dayOn_89 : decode cX3_dayOn 89 = .ok (.aload_n 0, 1) := dk_42 (dk_at dksX3_dayOn_3 19 rfl rfl)
theorem dX3_dayOn_90 : decode cX3_dayOn 90 = .ok (.getfield 27, 3) := dk_180 0 27 (dk_at dksX3_dayOn_3 20 rfl rfl)
theorem dX3_dayOn_93 : decode cX3_dayOn 93 = .ok (.invokevirtual 104, 3) := dk_182 0 104 (dk_at dksX3_dayOn_4 0 rfl rfl)
theorem dX3_dayOn_96 : decode cX3_dayOn 96 = .ok (.iload_n 1, 1) := dk_27 (dk_at dksX3_dayOn_4 3 rfl rfl)
theorem dX3_dayOn_97 : decode cX3_dayOn 97 = .ok (.isub, 1) := dk_100 (dk_at dksX3_dayOn_4 4 rfl rfl)
theorem dX3_dayOn_98 : decode cX3_dayOn 98 = .ok (.ireturn, 1) := dk_172 (dk_at dksX3_dayOn_4 5 rfl rfl)
abbrev cX3_write : ByteArray := prog_27_method_5_code
def yX3_write : MethodName := ⟨RX3, "write", "(LShadowSpell$Rule;)V"⟩
def dkwX3_write_2 : List UInt8 := [182, 0, 126, 87, 43, 89, 180, 0, 129, 4, 96, 181, 0, 129, 177]
abbrev dktX3_write_2 : List UInt8 := dkwX3_write_2 ++ []
def dkwX3_write_1 : List UInt8 := [154, 0, 4, 177, 42, 180, 0, 27, 43, 180, 0, 68, 43, 180, 0, 64, 42, 182, 0, 114, 182, 0, 120]
abbrev dktX3_write_1 : List UInt8 := dkwX3_write_1 ++ dktX3_write_2
def dkwX3_write_0 : List UInt8 := [42, 180, 0, 27, 182, 0, 104, 17, 2, 88, 159, 0, 16, 43, 180, 0, 60, 42, 185, 0, 108, 2, 0]
abbrev dktX3_write_0 : List UInt8 := dkwX3_write_0 ++ dktX3_write_1
theorem dksX3_write_0 : cX3_write.data.toList.drop 0 = dktX3_write_0 := by decide +kernel
theorem dksX3_write_1 : cX3_write.data.toList.drop 23 = dktX3_write_1 := dk_seg dksX3_write_0 23 rfl rfl
theorem dksX3_write_2 : cX3_write.data.toList.drop 46 = dktX3_write_2 := dk_seg dksX3_write_1 23 rfl rfl
theorem dX3_write_0 : decode cX3_write 0 = .ok (.aload_n 0, 1) := dk_42 (dk_at dksX3_write_0 0 rfl rfl)
theorem dX3_write_1 : decode cX3_write 1 = .ok (.getfield 27, 3) := dk_180 0 27 (dk_at dksX3_write_0 1 rfl rfl)
theorem dX3_write_4 : decode cX3_write 4 = .ok (.invokevirtual 104, 3) := dk_182 0 104 (dk_at dksX3_write_0 4 rfl rfl)
theorem dX3_write_7 : decode cX3_write 7 = .ok (.sipush 600, 3) := dk_17 2 88 (dk_at dksX3_write_0 7 rfl rfl)
theorem dX3_write_10 : decode cX3_write 10 = .ok (.if_icmp .eq 16, 3) := dk_159 0 16 (dk_at dksX3_write_0 10 rfl rfl)
theorem dX3_write_13 : decode cX3_write 13 = .ok (.aload_n 1, 1) := dk_43 (dk_at dksX3_write_0 13 rfl rfl)
theorem dX3_write_14 : decode cX3_write 14 = .ok (.getfield 60, 3) := dk_180 0 60 (dk_at dksX3_write_0 14 rfl rfl)
theorem dX3_write_17 : decode cX3_write 17 = .ok (.aload_n 0, 1) := dk_42 (dk_at dksX3_write_0 17 rfl rfl)
theorem dX3_write_18 : decode cX3_write 18 = .ok (.invokeinterface 108 2, 5) := by decide +kernel
theorem dX3_write_23 : decode cX3_write 23 = .ok (.ifCond .ne 4, 3) := dk_154 0 4 (dk_at dksX3_write_1 0 rfl rfl)
theorem dX3_write_26 : decode cX3_write 26 = .ok (.return_, 1) := dk_177 (dk_at dksX3_write_1 3 rfl rfl)
theorem dX3_write_27 : decode cX3_write 27 = .ok (.aload_n 0, 1) := dk_42 (dk_at dksX3_write_1 4 rfl rfl)
theorem dX3_write_28 : decode cX3_write 28 = .ok (.getfield 27, 3) := dk_180 0 27 (dk_at dksX3_write_1 5 rfl rfl)
theorem dX3_write_31 : decode cX3_write 31 = .ok (.aload_n 1, 1) := dk_43 (dk_at dksX3_write_1 8 rfl rfl)
theorem dX3_write_32 : decode cX3_write 32 = .ok (.getfield 68, 3) := dk_180 0 68 (dk_at dksX3_write_1 9 rfl rfl)
theorem dX3_write_35 : decode cX3_write 35 = .ok (.aload_n 1, 1) := dk_43 (dk_at dksX3_write_1 12 rfl rfl)
theorem dX3_write_36 : decode cX3_write 36 = .ok (.getfield 64, 3) := dk_180 0 64 (dk_at dksX3_write_1 13 rfl rfl)
theorem dX3_write_39 : decode cX3_write 39 = .ok (.aload_n 0, 1) := dk_42 (dk_at dksX3_write_1 16 rfl rfl)
theorem dX3_write_40 : decode cX3_write 40 = .ok (.invokevirtual 114, 3) := dk_182 0 114 (dk_at dksX3_write_1 17 rfl rfl)
theorem dX3_write_43 : decode cX3_write 43 = .ok (.invokevirtual 120, 3) := dk_182 0 120 (dk_at dksX3_write_1 20 rfl rfl)
theorem dX3_write_46 : decode cX3_write 46 = .ok (.invokevirtual 126, 3) := dk_182 0 126 (dk_at dksX3_write_2 0 rfl rfl)
theorem dX3_write_49 : decode cX3_write 49 = .ok (.pop, 1) := dk_87 (dk_at dksX3_write_2 3 rfl rfl)
theorem dX3_write_50 : decode cX3_write 50 = .ok (.aload_n 1, 1) := dk_43 (dk_at dksX3_write_2 4 rfl rfl)
theorem dX3_write_51 : decode cX3_write 51 = .ok (.dup, 1) := dk_89 (dk_at dksX3_write_2 5 rfl rfl)
theorem dX3_write_52 : decode cX3_write 52 = .ok (.getfield 129, 3) := dk_180 0 129 (dk_at dksX3_write_2 6 rfl rfl)
theorem dX3_write_55 : decode cX3_write 55 = .ok (.iconst 1, 1) := dk_4 (dk_at dksX3_write_2 9 rfl rfl)
theorem dX3_write_56 : decode cX3_write 56 = .ok (.iadd, 1) := dk_96 (dk_at dksX3_write_2 10 rfl rfl)
theorem dX3_write_57 : decode cX3_write 57 = .ok (.putfield 129, 3) := dk_181 0 129 (dk_at dksX3_write_2 11 rfl rfl)
theorem dX3_write_60 : decode cX3_write 60 = .ok (.return_, 1) := dk_177 (dk_at dksX3_write_2 14 rfl rfl)
abbrev cX3_gap : ByteArray := prog_27_method_4_code
def yX3_gap : MethodName := ⟨RX3, "gap", "(II)I"⟩
def dkwX3_gap_1 : List UInt8 := [192, 0, 48, 180, 0, 95, 184, 0, 98, 172]
abbrev dktX3_gap_1 : List UInt8 := dkwX3_gap_1 ++ []
def dkwX3_gap_0 : List UInt8 := [42, 180, 0, 12, 27, 182, 0, 91, 192, 0, 48, 180, 0, 95, 42, 180, 0, 12, 28, 182, 0, 91]
abbrev dktX3_gap_0 : List UInt8 := dkwX3_gap_0 ++ dktX3_gap_1
theorem dksX3_gap_0 : cX3_gap.data.toList.drop 0 = dktX3_gap_0 := by decide +kernel
theorem dksX3_gap_1 : cX3_gap.data.toList.drop 22 = dktX3_gap_1 := dk_seg dksX3_gap_0 22 rfl rfl
theorem dX3_gap_0 : decode cX3_gap 0 = .ok (.aload_n 0, 1) := dk_42 (dk_at dksX3_gap_0 0 rfl rfl)
theorem dX3_gap_1 : decode cX3_gap 1 = .ok (.getfield 12, 3) := dk_180 0 12 (dk_at dksX3_gap_0 1 rfl rfl)
theorem dX3_gap_4 : decode cX3_gap 4 = .ok (.iload_n 1, 1) := dk_27 (dk_at dksX3_gap_0 4 rfl rfl)
theorem dX3_gap_5 : decode cX3_gap 5 = .ok (.invokevirtual 91, 3) := dk_182 0 91 (dk_at dksX3_gap_0 5 rfl rfl)
theorem dX3_gap_8 : decode cX3_gap 8 = .ok (.checkcast 48, 3) := dk_192 0 48 (dk_at dksX3_gap_0 8 rfl rfl)
theorem dX3_gap_11 : decode cX3_gap 11 = .ok (.getfield 95, 3) := dk_180 0 95 (dk_at dksX3_gap_0 11 rfl rfl)
theorem dX3_gap_14 : decode cX3_gap 14 = .ok (.aload_n 0, 1) := dk_42 (dk_at dksX3_gap_0 14 rfl rfl)
theorem dX3_gap_15 : decode cX3_gap 15 = .ok (.getfield 12, 3) := dk_180 0 12 (dk_at dksX3_gap_0 15 rfl rfl)
theorem dX3_gap_18 : decode cX3_gap 18 = .ok (.iload_n 2, 1) := dk_28 (dk_at dksX3_gap_0 18 rfl rfl)
theorem dX3_gap_19 : decode cX3_gap 19 = .ok (.invokevirtual 91, 3) := dk_182 0 91 (dk_at dksX3_gap_0 19 rfl rfl)
theorem dX3_gap_22 : decode cX3_gap 22 = .ok (.checkcast 48, 3) := dk_192 0 48 (dk_at dksX3_gap_1 0 rfl rfl)
theorem dX3_gap_25 : decode cX3_gap 25 = .ok (.getfield 95, 3) := dk_180 0 95 (dk_at dksX3_gap_1 3 rfl rfl)
theorem dX3_gap_28 : decode cX3_gap 28 = .ok (.invokestatic 98, 3) := dk_184 0 98 (dk_at dksX3_gap_1 6 rfl rfl)
theorem dX3_gap_31 : decode cX3_gap 31 = .ok (.ireturn, 1) := dk_172 (dk_at dksX3_gap_1 9 rfl rfl)
abbrev cX3_transits : ByteArray := prog_27_method_8_code
def yX3_transits : MethodName := ⟨RX3, "transits", "()I"⟩
def dkwX3_transits_3 : List UInt8 := [132, 3, 1, 167, 255, 203, 132, 2, 1, 167, 255, 182, 27, 172]
abbrev dktX3_transits_3 : List UInt8 := dkwX3_transits_3 ++ []
def dkwX3_transits_2 : List UInt8 := [180, 0, 12, 29, 182, 0, 91, 192, 0, 48, 182, 0, 149, 153, 0, 7, 4, 167, 0, 4, 3, 96, 60]
abbrev dktX3_transits_2 : List UInt8 := dkwX3_transits_2 ++ dktX3_transits_3
def dkwX3_transits_1 : List UInt8 := [182, 0, 132, 162, 0, 48, 27, 178, 0, 145, 42, 180, 0, 12, 28, 182, 0, 91, 192, 0, 48, 42]
abbrev dktX3_transits_1 : List UInt8 := dkwX3_transits_1 ++ dktX3_transits_2
def dkwX3_transits_0 : List UInt8 := [3, 60, 3, 61, 28, 42, 180, 0, 12, 182, 0, 132, 162, 0, 69, 28, 4, 96, 62, 29, 42, 180, 0, 12]
abbrev dktX3_transits_0 : List UInt8 := dkwX3_transits_0 ++ dktX3_transits_1
theorem dksX3_transits_0 : cX3_transits.data.toList.drop 0 = dktX3_transits_0 := by decide +kernel
theorem dksX3_transits_1 : cX3_transits.data.toList.drop 24 = dktX3_transits_1 := dk_seg dksX3_transits_0 24 rfl rfl
theorem dksX3_transits_2 : cX3_transits.data.toList.drop 46 = dktX3_transits_2 := dk_seg dksX3_transits_1 22 rfl rfl
theorem dksX3_transits_3 : cX3_transits.data.toList.drop 69 = dktX3_transits_3 := dk_seg dksX3_transits_2 23 rfl rfl
theorem dX3_transits_0 : decode cX3_transits 0 = .ok (.iconst 0, 1) := dk_3 (dk_at dksX3_transits_0 0 rfl rfl)
theorem dX3_transits_1 : decode cX3_transits 1 = .ok (.istore_n 1, 1) := dk_60 (dk_at dksX3_transits_0 1 rfl rfl)
theorem dX3_transits_2 : decode cX3_transits 2 = .ok (.iconst 0, 1) := dk_3 (dk_at dksX3_transits_0 2 rfl rfl)
theorem dX3_transits_3 : decode cX3_transits 3 = .ok (.istore_n 2, 1) := dk_61 (dk_at dksX3_transits_0 3 rfl rfl)
theorem dX3_transits_4 : decode cX3_transits 4 = .ok (.iload_n 2, 1) := dk_28 (dk_at dksX3_transits_0 4 rfl rfl)
theorem dX3_transits_5 : decode cX3_transits 5 = .ok (.aload_n 0, 1) := dk_42 (dk_at dksX3_transits_0 5 rfl rfl)
theorem dX3_transits_6 : decode cX3_transits 6 = .ok (.getfield 12, 3) := dk_180 0 12 (dk_at dksX3_transits_0 6 rfl rfl)
theorem dX3_transits_9 : decode cX3_transits 9 = .ok (.invokevirtual 132, 3) := dk_182 0 132 (dk_at dksX3_transits_0 9 rfl rfl)
theorem dX3_transits_12 : decode cX3_transits 12 = .ok (.if_icmp .ge 69, 3) := dk_162 0 69 (dk_at dksX3_transits_0 12 rfl rfl)
theorem dX3_transits_15 : decode cX3_transits 15 = .ok (.iload_n 2, 1) := dk_28 (dk_at dksX3_transits_0 15 rfl rfl)
theorem dX3_transits_16 : decode cX3_transits 16 = .ok (.iconst 1, 1) := dk_4 (dk_at dksX3_transits_0 16 rfl rfl)
theorem dX3_transits_17 : decode cX3_transits 17 = .ok (.iadd, 1) := dk_96 (dk_at dksX3_transits_0 17 rfl rfl)
theorem dX3_transits_18 : decode cX3_transits 18 = .ok (.istore_n 3, 1) := dk_62 (dk_at dksX3_transits_0 18 rfl rfl)
theorem dX3_transits_19 : decode cX3_transits 19 = .ok (.iload_n 3, 1) := dk_29 (dk_at dksX3_transits_0 19 rfl rfl)
theorem dX3_transits_20 : decode cX3_transits 20 = .ok (.aload_n 0, 1) := dk_42 (dk_at dksX3_transits_0 20 rfl rfl)
theorem dX3_transits_21 : decode cX3_transits 21 = .ok (.getfield 12, 3) := dk_180 0 12 (dk_at dksX3_transits_0 21 rfl rfl)
theorem dX3_transits_24 : decode cX3_transits 24 = .ok (.invokevirtual 132, 3) := dk_182 0 132 (dk_at dksX3_transits_1 0 rfl rfl)
theorem dX3_transits_27 : decode cX3_transits 27 = .ok (.if_icmp .ge 48, 3) := dk_162 0 48 (dk_at dksX3_transits_1 3 rfl rfl)
theorem dX3_transits_30 : decode cX3_transits 30 = .ok (.iload_n 1, 1) := dk_27 (dk_at dksX3_transits_1 6 rfl rfl)
theorem dX3_transits_31 : decode cX3_transits 31 = .ok (.getstatic 145, 3) := dk_178 0 145 (dk_at dksX3_transits_1 7 rfl rfl)
theorem dX3_transits_34 : decode cX3_transits 34 = .ok (.aload_n 0, 1) := dk_42 (dk_at dksX3_transits_1 10 rfl rfl)
theorem dX3_transits_35 : decode cX3_transits 35 = .ok (.getfield 12, 3) := dk_180 0 12 (dk_at dksX3_transits_1 11 rfl rfl)
theorem dX3_transits_38 : decode cX3_transits 38 = .ok (.iload_n 2, 1) := dk_28 (dk_at dksX3_transits_1 14 rfl rfl)
theorem dX3_transits_39 : decode cX3_transits 39 = .ok (.invokevirtual 91, 3) := dk_182 0 91 (dk_at dksX3_transits_1 15 rfl rfl)
theorem dX3_transits_42 : decode cX3_transits 42 = .ok (.checkcast 48, 3) := dk_192 0 48 (dk_at dksX3_transits_1 18 rfl rfl)
theorem dX3_transits_45 : decode cX3_transits 45 = .ok (.aload_n 0, 1) := dk_42 (dk_at dksX3_transits_1 21 rfl rfl)
theorem dX3_transits_46 : decode cX3_transits 46 = .ok (.getfield 12, 3) := dk_180 0 12 (dk_at dksX3_transits_2 0 rfl rfl)
theorem dX3_transits_49 : decode cX3_transits 49 = .ok (.iload_n 3, 1) := dk_29 (dk_at dksX3_transits_2 3 rfl rfl)
theorem dX3_transits_50 : decode cX3_transits 50 = .ok (.invokevirtual 91, 3) := dk_182 0 91 (dk_at dksX3_transits_2 4 rfl rfl)
theorem dX3_transits_53 : decode cX3_transits 53 = .ok (.checkcast 48, 3) := dk_192 0 48 (dk_at dksX3_transits_2 7 rfl rfl)
theorem dX3_transits_56 : decode cX3_transits 56 = .ok (.invokevirtual 149, 3) := dk_182 0 149 (dk_at dksX3_transits_2 10 rfl rfl)
theorem dX3_transits_59 : decode cX3_transits 59 = .ok (.ifCond .eq 7, 3) := dk_153 0 7 (dk_at dksX3_transits_2 13 rfl rfl)
theorem dX3_transits_62 : decode cX3_transits 62 = .ok (.iconst 1, 1) := dk_4 (dk_at dksX3_transits_2 16 rfl rfl)
theorem dX3_transits_63 : decode cX3_transits 63 = .ok (.goto 4, 3) := dk_167 0 4 (dk_at dksX3_transits_2 17 rfl rfl)
theorem dX3_transits_66 : decode cX3_transits 66 = .ok (.iconst 0, 1) := dk_3 (dk_at dksX3_transits_2 20 rfl rfl)
theorem dX3_transits_67 : decode cX3_transits 67 = .ok (.iadd, 1) := dk_96 (dk_at dksX3_transits_2 21 rfl rfl)
theorem dX3_transits_68 : decode cX3_transits 68 = .ok (.istore_n 1, 1) := dk_60 (dk_at dksX3_transits_2 22 rfl rfl)
theorem dX3_transits_69 : decode cX3_transits 69 = .ok (.iinc 3 1, 3) := dk_132 3 1 (dk_at dksX3_transits_3 0 rfl rfl)
theorem dX3_transits_72 : decode cX3_transits 72 = .ok (.goto (-53), 3) := dk_167 255 203 (dk_at dksX3_transits_3 3 rfl rfl)
theorem dX3_transits_75 : decode cX3_transits 75 = .ok (.iinc 2 1, 3) := dk_132 2 1 (dk_at dksX3_transits_3 6 rfl rfl)
theorem dX3_transits_78 : decode cX3_transits 78 = .ok (.goto (-74), 3) := dk_167 255 182 (dk_at dksX3_transits_3 9 rfl rfl)
theorem dX3_transits_81 : decode cX3_transits 81 = .ok (.iload_n 1, 1) := dk_27 (dk_at dksX3_transits_3 12 rfl rfl)
theorem dX3_transits_82 : decode cX3_transits 82 = .ok (.ireturn, 1) := dk_172 (dk_at dksX3_transits_3 13 rfl rfl)
abbrev cX3_pass : ByteArray := prog_27_method_7_code
def yX3_pass : MethodName := ⟨RX3, "pass", "(I)I"⟩
def dkwX3_pass_0 : List UInt8 := [3, 61, 3, 62, 29, 27, 162, 0, 16, 28, 42, 182, 0, 142, 96, 61, 132, 3, 1, 167, 255, 241, 28, 172]
abbrev dktX3_pass_0 : List UInt8 := dkwX3_pass_0 ++ []
theorem dksX3_pass_0 : cX3_pass.data.toList.drop 0 = dktX3_pass_0 := by decide +kernel
theorem dX3_pass_0 : decode cX3_pass 0 = .ok (.iconst 0, 1) := dk_3 (dk_at dksX3_pass_0 0 rfl rfl)
theorem dX3_pass_1 : decode cX3_pass 1 = .ok (.istore_n 2, 1) := dk_61 (dk_at dksX3_pass_0 1 rfl rfl)
theorem dX3_pass_2 : decode cX3_pass 2 = .ok (.iconst 0, 1) := dk_3 (dk_at dksX3_pass_0 2 rfl rfl)
theorem dX3_pass_3 : decode cX3_pass 3 = .ok (.istore_n 3, 1) := dk_62 (dk_at dksX3_pass_0 3 rfl rfl)
theorem dX3_pass_4 : decode cX3_pass 4 = .ok (.iload_n 3, 1) := dk_29 (dk_at dksX3_pass_0 4 rfl rfl)
theorem dX3_pass_5 : decode cX3_pass 5 = .ok (.iload_n 1, 1) := dk_27 (dk_at dksX3_pass_0 5 rfl rfl)
theorem dX3_pass_6 : decode cX3_pass 6 = .ok (.if_icmp .ge 16, 3) := dk_162 0 16 (dk_at dksX3_pass_0 6 rfl rfl)
theorem dX3_pass_9 : decode cX3_pass 9 = .ok (.iload_n 2, 1) := dk_28 (dk_at dksX3_pass_0 9 rfl rfl)
theorem dX3_pass_10 : decode cX3_pass 10 = .ok (.aload_n 0, 1) := dk_42 (dk_at dksX3_pass_0 10 rfl rfl)
theorem dX3_pass_11 : decode cX3_pass 11 = .ok (.invokevirtual 142, 3) := dk_182 0 142 (dk_at dksX3_pass_0 11 rfl rfl)
theorem dX3_pass_14 : decode cX3_pass 14 = .ok (.iadd, 1) := dk_96 (dk_at dksX3_pass_0 14 rfl rfl)
theorem dX3_pass_15 : decode cX3_pass 15 = .ok (.istore_n 2, 1) := dk_61 (dk_at dksX3_pass_0 15 rfl rfl)
theorem dX3_pass_16 : decode cX3_pass 16 = .ok (.iinc 3 1, 3) := dk_132 3 1 (dk_at dksX3_pass_0 16 rfl rfl)
theorem dX3_pass_19 : decode cX3_pass 19 = .ok (.goto (-15), 3) := dk_167 255 241 (dk_at dksX3_pass_0 19 rfl rfl)
theorem dX3_pass_22 : decode cX3_pass 22 = .ok (.iload_n 2, 1) := dk_28 (dk_at dksX3_pass_0 22 rfl rfl)
theorem dX3_pass_23 : decode cX3_pass 23 = .ok (.ireturn, 1) := dk_172 (dk_at dksX3_pass_0 23 rfl rfl)
abbrev cX3_laps : ByteArray := prog_27_method_9_code
def yX3_laps : MethodName := ⟨RX3, "laps", "()I"⟩
def dkwX3_laps_1 : List UInt8 := [192, 0, 48, 180, 0, 153, 96, 60, 132, 2, 1, 167, 255, 225, 27, 172]
abbrev dktX3_laps_1 : List UInt8 := dkwX3_laps_1 ++ []
def dkwX3_laps_0 : List UInt8 := [3, 60, 3, 61, 28, 42, 180, 0, 12, 182, 0, 132, 162, 0, 26, 27, 42, 180, 0, 12, 28, 182, 0, 91]
abbrev dktX3_laps_0 : List UInt8 := dkwX3_laps_0 ++ dktX3_laps_1
theorem dksX3_laps_0 : cX3_laps.data.toList.drop 0 = dktX3_laps_0 := by decide +kernel
theorem dksX3_laps_1 : cX3_laps.data.toList.drop 24 = dktX3_laps_1 := dk_seg dksX3_laps_0 24 rfl rfl
theorem dX3_laps_0 : decode cX3_laps 0 = .ok (.iconst 0, 1) := dk_3 (dk_at dksX3_laps_0 0 rfl rfl)
theorem dX3_laps_1 : decode cX3_laps 1 = .ok (.istore_n 1, 1) := dk_60 (dk_at dksX3_laps_0 1 rfl rfl)
theorem dX3_laps_2 : decode cX3_laps 2 = .ok (.iconst 0, 1) := dk_3 (dk_at dksX3_laps_0 2 rfl rfl)
theorem dX3_laps_3 : decode cX3_laps 3 = .ok (.istore_n 2, 1) := dk_61 (dk_at dksX3_laps_0 3 rfl rfl)
theorem dX3_laps_4 : decode cX3_laps 4 = .ok (.iload_n 2, 1) := dk_28 (dk_at dksX3_laps_0 4 rfl rfl)
theorem dX3_laps_5 : decode cX3_laps 5 = .ok (.aload_n 0, 1) := dk_42 (dk_at dksX3_laps_0 5 rfl rfl)
theorem dX3_laps_6 : decode cX3_laps 6 = .ok (.getfield 12, 3) := dk_180 0 12 (dk_at dksX3_laps_0 6 rfl rfl)
theorem dX3_laps_9 : decode cX3_laps 9 = .ok (.invokevirtual 132, 3) := dk_182 0 132 (dk_at dksX3_laps_0 9 rfl rfl)
theorem dX3_laps_12 : decode cX3_laps 12 = .ok (.if_icmp .ge 26, 3) := dk_162 0 26 (dk_at dksX3_laps_0 12 rfl rfl)
theorem dX3_laps_15 : decode cX3_laps 15 = .ok (.iload_n 1, 1) := dk_27 (dk_at dksX3_laps_0 15 rfl rfl)
theorem dX3_laps_16 : decode cX3_laps 16 = .ok (.aload_n 0, 1) := dk_42 (dk_at dksX3_laps_0 16 rfl rfl)
theorem dX3_laps_17 : decode cX3_laps 17 = .ok (.getfield 12, 3) := dk_180 0 12 (dk_at dksX3_laps_0 17 rfl rfl)
theorem dX3_laps_20 : decode cX3_laps 20 = .ok (.iload_n 2, 1) := dk_28 (dk_at dksX3_laps_0 20 rfl rfl)
theorem dX3_laps_21 : decode cX3_laps 21 = .ok (.invokevirtual 91, 3) := dk_182 0 91 (dk_at dksX3_laps_0 21 rfl rfl)
theorem dX3_laps_24 : decode cX3_laps 24 = .ok (.checkcast 48, 3) := dk_192 0 48 (dk_at dksX3_laps_1 0 rfl rfl)
theorem dX3_laps_27 : decode cX3_laps 27 = .ok (.getfield 153, 3) := dk_180 0 153 (dk_at dksX3_laps_1 3 rfl rfl)
theorem dX3_laps_30 : decode cX3_laps 30 = .ok (.iadd, 1) := dk_96 (dk_at dksX3_laps_1 6 rfl rfl)
theorem dX3_laps_31 : decode cX3_laps 31 = .ok (.istore_n 1, 1) := dk_60 (dk_at dksX3_laps_1 7 rfl rfl)
theorem dX3_laps_32 : decode cX3_laps 32 = .ok (.iinc 2 1, 3) := dk_132 2 1 (dk_at dksX3_laps_1 8 rfl rfl)
theorem dX3_laps_35 : decode cX3_laps 35 = .ok (.goto (-31), 3) := dk_167 255 225 (dk_at dksX3_laps_1 11 rfl rfl)
theorem dX3_laps_38 : decode cX3_laps 38 = .ok (.iload_n 1, 1) := dk_27 (dk_at dksX3_laps_1 14 rfl rfl)
theorem dX3_laps_39 : decode cX3_laps 39 = .ok (.ireturn, 1) := dk_172 (dk_at dksX3_laps_1 15 rfl rfl)
abbrev cX3_isAs : ByteArray := prog_27_method_12_code
def yX3_isAs : MethodName := ⟨RX3, "isAs", "(LShadowSpell$Sky;)Z"⟩
def dkwX3_isAs_2 : List UInt8 := [132, 2, 1, 167, 255, 209, 4, 172]
abbrev dktX3_isAs_2 : List UInt8 := dkwX3_isAs_2 ++ []
def dkwX3_isAs_1 : List UInt8 := [180, 0, 95, 43, 180, 0, 12, 28, 182, 0, 91, 192, 0, 48, 180, 0, 95, 159, 0, 5, 3, 172]
abbrev dktX3_isAs_1 : List UInt8 := dkwX3_isAs_1 ++ dktX3_isAs_2
def dkwX3_isAs_0 : List UInt8 := [3, 61, 28, 42, 180, 0, 12, 182, 0, 132, 162, 0, 42, 42, 180, 0, 12, 28, 182, 0, 91, 192, 0, 48]
abbrev dktX3_isAs_0 : List UInt8 := dkwX3_isAs_0 ++ dktX3_isAs_1
theorem dksX3_isAs_0 : cX3_isAs.data.toList.drop 0 = dktX3_isAs_0 := by decide +kernel
theorem dksX3_isAs_1 : cX3_isAs.data.toList.drop 24 = dktX3_isAs_1 := dk_seg dksX3_isAs_0 24 rfl rfl
theorem dksX3_isAs_2 : cX3_isAs.data.toList.drop 46 = dktX3_isAs_2 := dk_seg dksX3_isAs_1 22 rfl rfl
theorem dX3_isAs_0 : decode cX3_isAs 0 = .ok (.iconst 0, 1) := dk_3 (dk_at dksX3_isAs_0 0 rfl rfl)
theorem dX3_isAs_1 : decode cX3_isAs 1 = .ok (.istore_n 2, 1) := dk_61 (dk_at dksX3_isAs_0 1 rfl rfl)
theorem dX3_isAs_2 : decode cX3_isAs 2 = .ok (.iload_n 2, 1) := dk_28 (dk_at dksX3_isAs_0 2 rfl rfl)
theorem dX3_isAs_3 : decode cX3_isAs 3 = .ok (.aload_n 0, 1) := dk_42 (dk_at dksX3_isAs_0 3 rfl rfl)
theorem dX3_isAs_4 : decode cX3_isAs 4 = .ok (.getfield 12, 3) := dk_180 0 12 (dk_at dksX3_isAs_0 4 rfl rfl)
theorem dX3_isAs_7 : decode cX3_isAs 7 = .ok (.invokevirtual 132, 3) := dk_182 0 132 (dk_at dksX3_isAs_0 7 rfl rfl)
theorem dX3_isAs_10 : decode cX3_isAs 10 = .ok (.if_icmp .ge 42, 3) := dk_162 0 42 (dk_at dksX3_isAs_0 10 rfl rfl)
theorem dX3_isAs_13 : decode cX3_isAs 13 = .ok (.aload_n 0, 1) := dk_42 (dk_at dksX3_isAs_0 13 rfl rfl)
theorem dX3_isAs_14 : decode cX3_isAs 14 = .ok (.getfield 12, 3) := dk_180 0 12 (dk_at dksX3_isAs_0 14 rfl rfl)
theorem dX3_isAs_17 : decode cX3_isAs 17 = .ok (.iload_n 2, 1) := dk_28 (dk_at dksX3_isAs_0 17 rfl rfl)
theorem dX3_isAs_18 : decode cX3_isAs 18 = .ok (.invokevirtual 91, 3) := dk_182 0 91 (dk_at dksX3_isAs_0 18 rfl rfl)
theorem dX3_isAs_21 : decode cX3_isAs 21 = .ok (.checkcast 48, 3) := dk_192 0 48 (dk_at dksX3_isAs_0 21 rfl rfl)
theorem dX3_isAs_24 : decode cX3_isAs 24 = .ok (.getfield 95, 3) := dk_180 0 95 (dk_at dksX3_isAs_1 0 rfl rfl)
theorem dX3_isAs_27 : decode cX3_isAs 27 = .ok (.aload_n 1, 1) := dk_43 (dk_at dksX3_isAs_1 3 rfl rfl)
theorem dX3_isAs_28 : decode cX3_isAs 28 = .ok (.getfield 12, 3) := dk_180 0 12 (dk_at dksX3_isAs_1 4 rfl rfl)
theorem dX3_isAs_31 : decode cX3_isAs 31 = .ok (.iload_n 2, 1) := dk_28 (dk_at dksX3_isAs_1 7 rfl rfl)
theorem dX3_isAs_32 : decode cX3_isAs 32 = .ok (.invokevirtual 91, 3) := dk_182 0 91 (dk_at dksX3_isAs_1 8 rfl rfl)
theorem dX3_isAs_35 : decode cX3_isAs 35 = .ok (.checkcast 48, 3) := dk_192 0 48 (dk_at dksX3_isAs_1 11 rfl rfl)
theorem dX3_isAs_38 : decode cX3_isAs 38 = .ok (.getfield 95, 3) := dk_180 0 95 (dk_at dksX3_isAs_1 14 rfl rfl)
theorem dX3_isAs_41 : decode cX3_isAs 41 = .ok (.if_icmp .eq 5, 3) := dk_159 0 5 (dk_at dksX3_isAs_1 17 rfl rfl)
theorem dX3_isAs_44 : decode cX3_isAs 44 = .ok (.iconst 0, 1) := dk_3 (dk_at dksX3_isAs_1 20 rfl rfl)
theorem dX3_isAs_45 : decode cX3_isAs 45 = .ok (.ireturn, 1) := dk_172 (dk_at dksX3_isAs_1 21 rfl rfl)
theorem dX3_isAs_46 : decode cX3_isAs 46 = .ok (.iinc 2 1, 3) := dk_132 2 1 (dk_at dksX3_isAs_2 0 rfl rfl)
theorem dX3_isAs_49 : decode cX3_isAs 49 = .ok (.goto (-47), 3) := dk_167 255 209 (dk_at dksX3_isAs_2 3 rfl rfl)
theorem dX3_isAs_52 : decode cX3_isAs 52 = .ok (.iconst 1, 1) := dk_4 (dk_at dksX3_isAs_2 6 rfl rfl)
theorem dX3_isAs_53 : decode cX3_isAs 53 = .ok (.ireturn, 1) := dk_172 (dk_at dksX3_isAs_2 7 rfl rfl)
theorem q74 : (Jvm.Cond.initialized "ShadowSpell$Sky") ∈ lw_all := lw_g (lw_at lw_m1 3 rfl) rfl
theorem q154 : (Jvm.Cond.fieldLinkNest "ShadowSpell$Sky" (156 : Nat) "ShadowSpell$Tape" "size" "I" "ShadowSpell") ∈ lw_tbl := lw_at lw_m1 83 rfl
theorem q162 : (Jvm.Cond.instantiable "ShadowSpell$Sky" (5 : Nat)) ∈ lw_all := lw_g (lw_at lw_m1 91 rfl) rfl
theorem q164 : (Jvm.Cond.instanceMethod ({ cls := "ShadowSpell$Sky", name := "<init>", desc := "()V" } : Jvm.MethodName)) ∈ lw_all := lw_g (lw_at lw_m1 93 rfl) rfl
theorem q165 : (Jvm.Cond.code ({ cls := "ShadowSpell$Sky", name := "<init>", desc := "()V" } : Jvm.MethodName) prog_27_method_1_code (1 : Nat) (Option.none : Option Jvm.ClassFile.FieldType)) ∈ lw_all := lw_g (lw_at lw_m1 94 rfl) rfl
theorem q166 : (Jvm.Cond.methodLink "ShadowSpell$Sky" (3 : Nat) ({ cls := "java/lang/Object", name := "<init>", desc := "()V" } : Jvm.MethodName)) ∈ lw_all := lw_g (lw_at lw_m1 95 rfl) rfl
theorem q167 : (Jvm.Cond.classLink "ShadowSpell$Sky" (9 : Nat) "java/util/ArrayList") ∈ lw_all := lw_g (lw_at lw_m1 96 rfl) rfl
theorem q169 : (Jvm.Cond.methodLink "ShadowSpell$Sky" (11 : Nat) ({ cls := "java/util/ArrayList", name := "<init>", desc := "()V" } : Jvm.MethodName)) ∈ lw_all := lw_g (lw_at lw_m1 98 rfl) rfl
theorem q196 : (Jvm.Cond.classLink "ShadowSpell$Sky" (24 : Nat) "java/lang/StringBuilder") ∈ lw_all := lw_g (lw_at lw_m1 125 rfl) rfl
theorem q198 : (Jvm.Cond.methodLink "ShadowSpell$Sky" (26 : Nat) ({ cls := "java/lang/StringBuilder", name := "<init>", desc := "()V" } : Jvm.MethodName)) ∈ lw_all := lw_g (lw_at lw_m1 127 rfl) rfl
theorem q228 : (Jvm.Cond.fieldLink "ShadowSpell$Sky" (12 : Nat) "ShadowSpell$Sky" "planets" "Ljava/util/ArrayList;") ∈ lw_all := lw_g (lw_at lw_m1 157 rfl) rfl
theorem q235 : (Jvm.Cond.fieldLink "ShadowSpell$Sky" (18 : Nat) "ShadowSpell$Sky" "alphabets" "Ljava/util/ArrayList;") ∈ lw_all := lw_g (lw_at lw_m1 164 rfl) rfl
theorem q238 : (Jvm.Cond.fieldLink "ShadowSpell$Sky" (21 : Nat) "ShadowSpell$Sky" "rules" "Ljava/util/ArrayList;") ∈ lw_all := lw_g (lw_at lw_m1 167 rfl) rfl
theorem q241 : (Jvm.Cond.fieldLink "ShadowSpell$Sky" (27 : Nat) "ShadowSpell$Sky" "paper" "Ljava/lang/StringBuilder;") ∈ lw_all := lw_g (lw_at lw_m1 170 rfl) rfl
theorem q246 : (Jvm.Cond.fieldLink "ShadowSpell$Sky" (83 : Nat) "ShadowSpell$Sky" "day" "I") ∈ lw_all := lw_g (lw_at lw_m1 175 rfl) rfl
theorem q248 : (Jvm.Cond.laysFinal "ShadowSpell$Sky" "ShadowSpell$Sky" "planets" "Ljava/util/ArrayList;") ∈ lw_all := lw_g (lw_at lw_m1 177 rfl) rfl
theorem q249 : (Jvm.Cond.soleField "ShadowSpell$Sky" "planets") ∈ lw_all := lw_g (lw_at lw_m1 178 rfl) rfl
theorem q250 : (Jvm.Cond.laysFinal "ShadowSpell$Sky" "ShadowSpell$Sky" "alphabets" "Ljava/util/ArrayList;") ∈ lw_all := lw_g (lw_at lw_m1 179 rfl) rfl
theorem q251 : (Jvm.Cond.soleField "ShadowSpell$Sky" "alphabets") ∈ lw_all := lw_g (lw_at lw_m1 180 rfl) rfl
theorem q252 : (Jvm.Cond.laysFinal "ShadowSpell$Sky" "ShadowSpell$Sky" "rules" "Ljava/util/ArrayList;") ∈ lw_all := lw_g (lw_at lw_m1 181 rfl) rfl
theorem q253 : (Jvm.Cond.soleField "ShadowSpell$Sky" "rules") ∈ lw_all := lw_g (lw_at lw_m1 182 rfl) rfl
theorem q254 : (Jvm.Cond.laysFinal "ShadowSpell$Sky" "ShadowSpell$Sky" "paper" "Ljava/lang/StringBuilder;") ∈ lw_all := lw_g (lw_at lw_m1 183 rfl) rfl
theorem q255 : (Jvm.Cond.soleField "ShadowSpell$Sky" "paper") ∈ lw_all := lw_g (lw_at lw_m1 184 rfl) rfl
theorem q256 : (Jvm.Cond.lays "ShadowSpell$Sky" "ShadowSpell$Sky" "day" "I") ∈ lw_all := lw_g (lw_at lw_m1 185 rfl) rfl
theorem q257 : (Jvm.Cond.soleField "ShadowSpell$Sky" "day") ∈ lw_all := lw_g (lw_at lw_m1 186 rfl) rfl
theorem q258 : (Jvm.Cond.superclass "ShadowSpell$Sky" "java/lang/Object") ∈ lw_all := lw_g (lw_at lw_m1 187 rfl) rfl
theorem q772 : (Jvm.Cond.selects "ShadowSpell$Sky" ({ cls := "java/lang/Object", name := "getClass", desc := "()Ljava/lang/Class;" } : Jvm.MethodName) ({ cls := "java/lang/Object", name := "getClass", desc := "()Ljava/lang/Class;" } : Jvm.MethodName)) ∈ lw_all := lw_g (lw_at lw_m3 221 rfl) rfl
theorem q1003 : (Jvm.Cond.selects "ShadowSpell$Sky" ({ cls := "java/lang/Object", name := "hashCode", desc := "()I" } : Jvm.MethodName) ({ cls := "java/lang/Object", name := "hashCode", desc := "()I" } : Jvm.MethodName)) ∈ lw_all := lw_g (lw_at lw_m4 212 rfl) rfl
theorem q1117 : (Jvm.Cond.selects "ShadowSpell$Sky" ({ cls := "java/lang/Object", name := "equals", desc := "(Ljava/lang/Object;)Z" } : Jvm.MethodName) ({ cls := "java/lang/Object", name := "equals", desc := "(Ljava/lang/Object;)Z" } : Jvm.MethodName)) ∈ lw_all := lw_g (lw_at lw_m5 86 rfl) rfl
theorem q1673 : (Jvm.Cond.fieldLinkNest "ShadowSpell$Sky" (95 : Nat) "ShadowSpell$Planet" "angle" "I" "ShadowSpell") ∈ lw_tbl := lw_at lw_m7 162 rfl
theorem q1680 : (Jvm.Cond.fieldLinkNest "ShadowSpell$Sky" (153 : Nat) "ShadowSpell$Planet" "lap" "I" "ShadowSpell") ∈ lw_tbl := lw_at lw_m7 169 rfl
theorem q1965 : (Jvm.Cond.fieldLinkNest "ShadowSpell$Sky" (60 : Nat) "ShadowSpell$Rule" "test" "LShadowSpell$Test;" "ShadowSpell") ∈ lw_tbl := lw_at lw_m8 214 rfl
theorem q1967 : (Jvm.Cond.fieldLinkNest "ShadowSpell$Sky" (64 : Nat) "ShadowSpell$Rule" "sum" "LShadowSpell$Sum;" "ShadowSpell") ∈ lw_tbl := lw_at lw_m8 216 rfl
theorem q1969 : (Jvm.Cond.fieldLinkNest "ShadowSpell$Sky" (68 : Nat) "ShadowSpell$Rule" "alphabet" "LShadowSpell$Alphabet;" "ShadowSpell") ∈ lw_tbl := lw_at lw_m8 218 rfl
theorem q1970 : (Jvm.Cond.fieldLinkNest "ShadowSpell$Sky" (129 : Nat) "ShadowSpell$Rule" "wrote" "I" "ShadowSpell") ∈ lw_tbl := lw_at lw_m8 219 rfl
theorem q1982 : (Jvm.Cond.instanceMethod ({ cls := "ShadowSpell$Sky", name := "take", desc := "(LShadowSpell$Sky;)V" } : Jvm.MethodName)) ∈ lw_all := lw_g (lw_at lw_m8 231 rfl) rfl
theorem q1983 : (Jvm.Cond.selects "ShadowSpell$Sky" ({ cls := "ShadowSpell$Sky", name := "take", desc := "(LShadowSpell$Sky;)V" } : Jvm.MethodName) ({ cls := "ShadowSpell$Sky", name := "take", desc := "(LShadowSpell$Sky;)V" } : Jvm.MethodName)) ∈ lw_all := lw_g (lw_at lw_m8 232 rfl) rfl
theorem q1984 : (Jvm.Cond.code ({ cls := "ShadowSpell$Sky", name := "take", desc := "(LShadowSpell$Sky;)V" } : Jvm.MethodName) prog_27_method_3_code (2 : Nat) (Option.none : Option Jvm.ClassFile.FieldType)) ∈ lw_all := lw_g (lw_at lw_m8 233 rfl) rfl
theorem q1985 : (Jvm.Cond.methodLink "ShadowSpell$Sky" (31 : Nat) ({ cls := "java/util/ArrayList", name := "clear", desc := "()V" } : Jvm.MethodName)) ∈ lw_all := lw_g (lw_at lw_m8 234 rfl) rfl
theorem q1989 : (Jvm.Cond.methodLink "ShadowSpell$Sky" (87 : Nat) ({ cls := "java/util/ArrayList", name := "addAll", desc := "(Ljava/util/Collection;)Z" } : Jvm.MethodName)) ∈ lw_all := lw_g (lw_at lw_m8 238 rfl) rfl
theorem q2086 : (Jvm.Cond.instanceMethod ({ cls := "ShadowSpell$Sky", name := "find", desc := "(LShadowSpell$Tape;)I" } : Jvm.MethodName)) ∈ lw_all := lw_g (lw_at lw_m9 95 rfl) rfl
theorem q2087 : (Jvm.Cond.selects "ShadowSpell$Sky" ({ cls := "ShadowSpell$Sky", name := "find", desc := "(LShadowSpell$Tape;)I" } : Jvm.MethodName) ({ cls := "ShadowSpell$Sky", name := "find", desc := "(LShadowSpell$Tape;)I" } : Jvm.MethodName)) ∈ lw_all := lw_g (lw_at lw_m9 96 rfl) rfl
theorem q2088 : (Jvm.Cond.code ({ cls := "ShadowSpell$Sky", name := "find", desc := "(LShadowSpell$Tape;)I" } : Jvm.MethodName) prog_27_method_11_code (3 : Nat) (Option.some Jvm.ClassFile.FieldType.int)) ∈ lw_all := lw_g (lw_at lw_m9 97 rfl) rfl
theorem q2089 : (Jvm.Cond.methodLink "ShadowSpell$Sky" (104 : Nat) ({ cls := "java/lang/StringBuilder", name := "length", desc := "()I" } : Jvm.MethodName)) ∈ lw_all := lw_g (lw_at lw_m9 98 rfl) rfl
theorem q2090 : (Jvm.Cond.methodLink "ShadowSpell$Sky" (167 : Nat) ({ cls := "ShadowSpell$Sky", name := "isAt", desc := "(LShadowSpell$Tape;I)Z" } : Jvm.MethodName)) ∈ lw_all := lw_g (lw_at lw_m9 99 rfl) rfl
theorem q2091 : (Jvm.Cond.privateMethod ({ cls := "ShadowSpell$Sky", name := "isAt", desc := "(LShadowSpell$Tape;I)Z" } : Jvm.MethodName)) ∈ lw_tbl := lw_at lw_m9 100 rfl
theorem q2092 : (Jvm.Cond.instanceMethod ({ cls := "ShadowSpell$Sky", name := "isAt", desc := "(LShadowSpell$Tape;I)Z" } : Jvm.MethodName)) ∈ lw_all := lw_g (lw_at lw_m9 101 rfl) rfl
theorem q2093 : (Jvm.Cond.code ({ cls := "ShadowSpell$Sky", name := "isAt", desc := "(LShadowSpell$Tape;I)Z" } : Jvm.MethodName) prog_27_method_10_code (4 : Nat) (Option.some Jvm.ClassFile.FieldType.boolean)) ∈ lw_all := lw_g (lw_at lw_m9 102 rfl) rfl
theorem q2094 : (Jvm.Cond.methodLink "ShadowSpell$Sky" (160 : Nat) ({ cls := "java/lang/StringBuilder", name := "charAt", desc := "(I)C" } : Jvm.MethodName)) ∈ lw_all := lw_g (lw_at lw_m9 103 rfl) rfl
theorem q2104 : (Jvm.Cond.methodLink "ShadowSpell$Sky" (163 : Nat) ({ cls := "ShadowSpell$Tape", name := "at", desc := "(I)I" } : Jvm.MethodName)) ∈ lw_all := lw_g (lw_at lw_m9 113 rfl) rfl
theorem q2110 : (Jvm.Cond.instanceMethod ({ cls := "ShadowSpell$Sky", name := "as", desc := "(LShadowSpell$Sky;)LShadowSpell$Sky;" } : Jvm.MethodName)) ∈ lw_all := lw_g (lw_at lw_m9 119 rfl) rfl
theorem q2111 : (Jvm.Cond.selects "ShadowSpell$Sky" ({ cls := "ShadowSpell$Sky", name := "as", desc := "(LShadowSpell$Sky;)LShadowSpell$Sky;" } : Jvm.MethodName) ({ cls := "ShadowSpell$Sky", name := "as", desc := "(LShadowSpell$Sky;)LShadowSpell$Sky;" } : Jvm.MethodName)) ∈ lw_all := lw_g (lw_at lw_m9 120 rfl) rfl
theorem q2112 : (Jvm.Cond.code ({ cls := "ShadowSpell$Sky", name := "as", desc := "(LShadowSpell$Sky;)LShadowSpell$Sky;" } : Jvm.MethodName) prog_27_method_2_code (4 : Nat) (Option.some (Jvm.ClassFile.FieldType.object "ShadowSpell$Sky"))) ∈ lw_all := lw_g (lw_at lw_m9 121 rfl) rfl
theorem q2113 : (Jvm.Cond.methodLink "ShadowSpell$Sky" (34 : Nat) ({ cls := "java/util/ArrayList", name := "iterator", desc := "()Ljava/util/Iterator;" } : Jvm.MethodName)) ∈ lw_all := lw_g (lw_at lw_m9 122 rfl) rfl
theorem q2136 : (Jvm.Cond.interfaceEntry "ShadowSpell$Sky" (38 : Nat)) ∈ lw_tbl := lw_at lw_m9 145 rfl
theorem q2137 : (Jvm.Cond.methodLink "ShadowSpell$Sky" (38 : Nat) ({ cls := "java/util/Iterator", name := "hasNext", desc := "()Z" } : Jvm.MethodName)) ∈ lw_all := lw_g (lw_at lw_m9 146 rfl) rfl
theorem q2146 : (Jvm.Cond.interfaceEntry "ShadowSpell$Sky" (44 : Nat)) ∈ lw_tbl := lw_at lw_m9 155 rfl
theorem q2147 : (Jvm.Cond.methodLink "ShadowSpell$Sky" (44 : Nat) ({ cls := "java/util/Iterator", name := "next", desc := "()Ljava/lang/Object;" } : Jvm.MethodName)) ∈ lw_all := lw_g (lw_at lw_m9 156 rfl) rfl
theorem q2159 : (Jvm.Cond.classLink "ShadowSpell$Sky" (48 : Nat) "ShadowSpell$Planet") ∈ lw_all := lw_g (lw_at lw_m9 168 rfl) rfl
theorem q2160 : (Jvm.Cond.methodLink "ShadowSpell$Sky" (50 : Nat) ({ cls := "ShadowSpell$Planet", name := "copy", desc := "()LShadowSpell$Planet;" } : Jvm.MethodName)) ∈ lw_all := lw_g (lw_at lw_m9 169 rfl) rfl
theorem q2166 : (Jvm.Cond.methodLink "ShadowSpell$Sky" (54 : Nat) ({ cls := "java/util/ArrayList", name := "add", desc := "(Ljava/lang/Object;)Z" } : Jvm.MethodName)) ∈ lw_all := lw_g (lw_at lw_m9 175 rfl) rfl
theorem q2167 : (Jvm.Cond.classLink "ShadowSpell$Sky" (58 : Nat) "ShadowSpell$Rule") ∈ lw_all := lw_g (lw_at lw_m9 176 rfl) rfl
theorem q2168 : (Jvm.Cond.methodLink "ShadowSpell$Sky" (72 : Nat) ({ cls := "ShadowSpell$Rule", name := "<init>", desc := "(LShadowSpell$Test;LShadowSpell$Sum;LShadowSpell$Alphabet;)V" } : Jvm.MethodName)) ∈ lw_all := lw_g (lw_at lw_m9 177 rfl) rfl
theorem q2169 : (Jvm.Cond.methodLink "ShadowSpell$Sky" (75 : Nat) ({ cls := "java/lang/StringBuilder", name := "setLength", desc := "(I)V" } : Jvm.MethodName)) ∈ lw_all := lw_g (lw_at lw_m9 178 rfl) rfl
theorem q2170 : (Jvm.Cond.methodLink "ShadowSpell$Sky" (79 : Nat) ({ cls := "java/lang/StringBuilder", name := "append", desc := "(Ljava/lang/CharSequence;)Ljava/lang/StringBuilder;" } : Jvm.MethodName)) ∈ lw_all := lw_g (lw_at lw_m9 179 rfl) rfl
theorem q2262 : (Jvm.Cond.instanceMethod ({ cls := "ShadowSpell$Sky", name := "dayOn", desc := "()I" } : Jvm.MethodName)) ∈ lw_all := lw_g (lw_at lw_m10 31 rfl) rfl
theorem q2263 : (Jvm.Cond.selects "ShadowSpell$Sky" ({ cls := "ShadowSpell$Sky", name := "dayOn", desc := "()I" } : Jvm.MethodName) ({ cls := "ShadowSpell$Sky", name := "dayOn", desc := "()I" } : Jvm.MethodName)) ∈ lw_all := lw_g (lw_at lw_m10 32 rfl) rfl
theorem q2264 : (Jvm.Cond.code ({ cls := "ShadowSpell$Sky", name := "dayOn", desc := "()I" } : Jvm.MethodName) prog_27_method_6_code (3 : Nat) (Option.some Jvm.ClassFile.FieldType.int)) ∈ lw_all := lw_g (lw_at lw_m10 33 rfl) rfl
theorem q2265 : (Jvm.Cond.methodLink "ShadowSpell$Sky" (132 : Nat) ({ cls := "java/util/ArrayList", name := "size", desc := "()I" } : Jvm.MethodName)) ∈ lw_all := lw_g (lw_at lw_m10 34 rfl) rfl
theorem q2266 : (Jvm.Cond.methodLink "ShadowSpell$Sky" (91 : Nat) ({ cls := "java/util/ArrayList", name := "get", desc := "(I)Ljava/lang/Object;" } : Jvm.MethodName)) ∈ lw_all := lw_g (lw_at lw_m10 35 rfl) rfl
theorem q2267 : (Jvm.Cond.methodLink "ShadowSpell$Sky" (135 : Nat) ({ cls := "ShadowSpell$Planet", name := "go", desc := "(I)V" } : Jvm.MethodName)) ∈ lw_all := lw_g (lw_at lw_m10 36 rfl) rfl
theorem q2281 : (Jvm.Cond.methodLink "ShadowSpell$Sky" (138 : Nat) ({ cls := "ShadowSpell$Sky", name := "write", desc := "(LShadowSpell$Rule;)V" } : Jvm.MethodName)) ∈ lw_all := lw_g (lw_at lw_m10 50 rfl) rfl
theorem q2282 : (Jvm.Cond.privateMethod ({ cls := "ShadowSpell$Sky", name := "write", desc := "(LShadowSpell$Rule;)V" } : Jvm.MethodName)) ∈ lw_tbl := lw_at lw_m10 51 rfl
theorem q2283 : (Jvm.Cond.instanceMethod ({ cls := "ShadowSpell$Sky", name := "write", desc := "(LShadowSpell$Rule;)V" } : Jvm.MethodName)) ∈ lw_all := lw_g (lw_at lw_m10 52 rfl) rfl
theorem q2284 : (Jvm.Cond.code ({ cls := "ShadowSpell$Sky", name := "write", desc := "(LShadowSpell$Rule;)V" } : Jvm.MethodName) prog_27_method_5_code (2 : Nat) (Option.none : Option Jvm.ClassFile.FieldType)) ∈ lw_all := lw_g (lw_at lw_m10 53 rfl) rfl
theorem q2285 : (Jvm.Cond.interfaceEntry "ShadowSpell$Sky" (108 : Nat)) ∈ lw_tbl := lw_at lw_m10 54 rfl
theorem q2286 : (Jvm.Cond.methodLink "ShadowSpell$Sky" (108 : Nat) ({ cls := "ShadowSpell$Test", name := "holds", desc := "(LShadowSpell$Sky;)Z" } : Jvm.MethodName)) ∈ lw_all := lw_g (lw_at lw_m10 55 rfl) rfl
theorem q2334 : (Jvm.Cond.instanceMethod ({ cls := "ShadowSpell$Sky", name := "gap", desc := "(II)I" } : Jvm.MethodName)) ∈ lw_all := lw_g (lw_at lw_m10 103 rfl) rfl
theorem q2335 : (Jvm.Cond.selects "ShadowSpell$Sky" ({ cls := "ShadowSpell$Sky", name := "gap", desc := "(II)I" } : Jvm.MethodName) ({ cls := "ShadowSpell$Sky", name := "gap", desc := "(II)I" } : Jvm.MethodName)) ∈ lw_all := lw_g (lw_at lw_m10 104 rfl) rfl
theorem q2336 : (Jvm.Cond.code ({ cls := "ShadowSpell$Sky", name := "gap", desc := "(II)I" } : Jvm.MethodName) prog_27_method_4_code (3 : Nat) (Option.some Jvm.ClassFile.FieldType.int)) ∈ lw_all := lw_g (lw_at lw_m10 105 rfl) rfl
theorem q2337 : (Jvm.Cond.methodLink "ShadowSpell$Sky" (98 : Nat) ({ cls := "ShadowSpell$Aspect", name := "gap", desc := "(II)I" } : Jvm.MethodName)) ∈ lw_all := lw_g (lw_at lw_m10 106 rfl) rfl
theorem q2428 : (Jvm.Cond.methodLink "ShadowSpell$Sky" (114 : Nat) ({ cls := "ShadowSpell$Sum", name := "of", desc := "(LShadowSpell$Sky;)I" } : Jvm.MethodName)) ∈ lw_all := lw_g (lw_at lw_m10 197 rfl) rfl
theorem q2429 : (Jvm.Cond.methodLink "ShadowSpell$Sky" (120 : Nat) ({ cls := "ShadowSpell$Alphabet", name := "letter", desc := "(I)C" } : Jvm.MethodName)) ∈ lw_all := lw_g (lw_at lw_m10 198 rfl) rfl
theorem q2436 : (Jvm.Cond.methodLink "ShadowSpell$Sky" (126 : Nat) ({ cls := "java/lang/StringBuilder", name := "append", desc := "(C)Ljava/lang/StringBuilder;" } : Jvm.MethodName)) ∈ lw_all := lw_g (lw_at lw_m10 205 rfl) rfl
theorem q2482 : (Jvm.Cond.instanceMethod ({ cls := "ShadowSpell$Sky", name := "transits", desc := "()I" } : Jvm.MethodName)) ∈ lw_all := lw_g (lw_at lw_m11 11 rfl) rfl
theorem q2483 : (Jvm.Cond.selects "ShadowSpell$Sky" ({ cls := "ShadowSpell$Sky", name := "transits", desc := "()I" } : Jvm.MethodName) ({ cls := "ShadowSpell$Sky", name := "transits", desc := "()I" } : Jvm.MethodName)) ∈ lw_all := lw_g (lw_at lw_m11 12 rfl) rfl
theorem q2484 : (Jvm.Cond.code ({ cls := "ShadowSpell$Sky", name := "transits", desc := "()I" } : Jvm.MethodName) prog_27_method_8_code (4 : Nat) (Option.some Jvm.ClassFile.FieldType.int)) ∈ lw_all := lw_g (lw_at lw_m11 13 rfl) rfl
theorem q2485 : (Jvm.Cond.fieldLink "ShadowSpell$Sky" (145 : Nat) "ShadowSpell$Aspect" "TRANSIT" "LShadowSpell$Aspect;") ∈ lw_all := lw_g (lw_at lw_m11 14 rfl) rfl
theorem q2486 : (Jvm.Cond.methodLink "ShadowSpell$Sky" (149 : Nat) ({ cls := "ShadowSpell$Aspect", name := "is", desc := "(LShadowSpell$Planet;LShadowSpell$Planet;)Z" } : Jvm.MethodName)) ∈ lw_all := lw_g (lw_at lw_m11 15 rfl) rfl
theorem q2617 : (Jvm.Cond.instanceMethod ({ cls := "ShadowSpell$Sky", name := "pass", desc := "(I)I" } : Jvm.MethodName)) ∈ lw_all := lw_g (lw_at lw_m11 146 rfl) rfl
theorem q2618 : (Jvm.Cond.selects "ShadowSpell$Sky" ({ cls := "ShadowSpell$Sky", name := "pass", desc := "(I)I" } : Jvm.MethodName) ({ cls := "ShadowSpell$Sky", name := "pass", desc := "(I)I" } : Jvm.MethodName)) ∈ lw_all := lw_g (lw_at lw_m11 147 rfl) rfl
theorem q2619 : (Jvm.Cond.code ({ cls := "ShadowSpell$Sky", name := "pass", desc := "(I)I" } : Jvm.MethodName) prog_27_method_7_code (4 : Nat) (Option.some Jvm.ClassFile.FieldType.int)) ∈ lw_all := lw_g (lw_at lw_m11 148 rfl) rfl
theorem q2620 : (Jvm.Cond.methodLink "ShadowSpell$Sky" (142 : Nat) ({ cls := "ShadowSpell$Sky", name := "dayOn", desc := "()I" } : Jvm.MethodName)) ∈ lw_all := lw_g (lw_at lw_m11 149 rfl) rfl
theorem q2651 : (Jvm.Cond.instanceMethod ({ cls := "ShadowSpell$Sky", name := "laps", desc := "()I" } : Jvm.MethodName)) ∈ lw_all := lw_g (lw_at lw_m11 180 rfl) rfl
theorem q2652 : (Jvm.Cond.selects "ShadowSpell$Sky" ({ cls := "ShadowSpell$Sky", name := "laps", desc := "()I" } : Jvm.MethodName) ({ cls := "ShadowSpell$Sky", name := "laps", desc := "()I" } : Jvm.MethodName)) ∈ lw_all := lw_g (lw_at lw_m11 181 rfl) rfl
theorem q2653 : (Jvm.Cond.code ({ cls := "ShadowSpell$Sky", name := "laps", desc := "()I" } : Jvm.MethodName) prog_27_method_9_code (3 : Nat) (Option.some Jvm.ClassFile.FieldType.int)) ∈ lw_all := lw_g (lw_at lw_m11 182 rfl) rfl
theorem q2674 : (Jvm.Cond.instanceMethod ({ cls := "ShadowSpell$Sky", name := "isAs", desc := "(LShadowSpell$Sky;)Z" } : Jvm.MethodName)) ∈ lw_all := lw_g (lw_at lw_m11 203 rfl) rfl
theorem q2675 : (Jvm.Cond.selects "ShadowSpell$Sky" ({ cls := "ShadowSpell$Sky", name := "isAs", desc := "(LShadowSpell$Sky;)Z" } : Jvm.MethodName) ({ cls := "ShadowSpell$Sky", name := "isAs", desc := "(LShadowSpell$Sky;)Z" } : Jvm.MethodName)) ∈ lw_all := lw_g (lw_at lw_m11 204 rfl) rfl
theorem q2676 : (Jvm.Cond.code ({ cls := "ShadowSpell$Sky", name := "isAs", desc := "(LShadowSpell$Sky;)Z" } : Jvm.MethodName) prog_27_method_12_code (3 : Nat) (Option.some Jvm.ClassFile.FieldType.boolean)) ∈ lw_all := lw_g (lw_at lw_m11 205 rfl) rfl
theorem q3219 : (Jvm.Cond.castable "ShadowSpell$Sky" "java/lang/Object") ∈ lw_tbl := lw_at lw_m14 28 rfl
theorem in_X3 : ∀ w ∈ wsX30, w ∈ lw_all := lw_in wsX30 [248, 250, 252, 254, 256] (by decide +kernel) (by decide +kernel)

/-! ShadowSpell$Reader -/
set_option maxRecDepth 100000
def RX7 : String := "ShadowSpell$Reader"
def TX7 : u_T := fun k => match k with
  | 0 => ("ShadowSpell$Reader", "tokens", "Ljava/util/List;", true)
  | 1 => ("ShadowSpell$Reader", "at", "I", false)
  | 2 => ("ShadowSpell$Reader", "depth", "I", false)
  | 3 => ("ShadowSpell$Reader", "isSecond", "Z", false)
  | 4 => ("ShadowSpell$Reader", "sky", "LShadowSpell$Sky;", false)
  | 5 => ("ShadowSpell$Reader", "planets", "Ljava/util/HashMap;", true)
  | _ => ("ShadowSpell$Reader", "alphabets", "Ljava/util/HashMap;", true)
def tyX7 : Nat → FieldType := fun k => match k with
  | 0 => .object "java/util/List"
  | 1 => .int
  | 2 => .int
  | 3 => .boolean
  | 4 => .object "ShadowSpell$Sky"
  | 5 => .object "java/util/HashMap"
  | _ => .object "java/util/HashMap"
abbrev wsX70 : List Cond := u_ws RX7 TX7 7
theorem nmX7 : ∀ a, a < 7 → ∀ b, b < 7 → a ≠ b → (TX7 a).2.1 ≠ (TX7 b).2.1 := by decide +kernel
theorem tyX7_ok : ∀ k, k < 7 → parseFieldDescriptor (TX7 k).2.2.1 = some (tyX7 k) := by decide +kernel
abbrev cX7_init : ByteArray := prog_14_method_1_code
def yX7_init : MethodName := ⟨RX7, "<init>", "(Ljava/util/List;)V"⟩
def dkwX7_init_1 : List UInt8 := [181, 0, 21, 42, 187, 0, 18, 89, 183, 0, 20, 181, 0, 25, 42, 43, 181, 0, 28, 177]
abbrev dktX7_init_1 : List UInt8 := dkwX7_init_1 ++ []
def dkwX7_init_0 : List UInt8 := [42, 183, 0, 3, 42, 187, 0, 9, 89, 183, 0, 11, 181, 0, 12, 42, 187, 0, 18, 89, 183, 0, 20]
abbrev dktX7_init_0 : List UInt8 := dkwX7_init_0 ++ dktX7_init_1
theorem dksX7_init_0 : cX7_init.data.toList.drop 0 = dktX7_init_0 := by decide +kernel
theorem dksX7_init_1 : cX7_init.data.toList.drop 23 = dktX7_init_1 := dk_seg dksX7_init_0 23 rfl rfl
theorem dX7_init_0 : decode cX7_init 0 = .ok (.aload_n 0, 1) := dk_42 (dk_at dksX7_init_0 0 rfl rfl)
theorem dX7_init_1 : decode cX7_init 1 = .ok (.invokespecial 3, 3) := dk_183 0 3 (dk_at dksX7_init_0 1 rfl rfl)
theorem dX7_init_4 : decode cX7_init 4 = .ok (.aload_n 0, 1) := dk_42 (dk_at dksX7_init_0 4 rfl rfl)
theorem dX7_init_5 : decode cX7_init 5 = .ok (.new 9, 3) := dk_187 0 9 (dk_at dksX7_init_0 5 rfl rfl)
theorem dX7_init_8 : decode cX7_init 8 = .ok (.dup, 1) := dk_89 (dk_at dksX7_init_0 8 rfl rfl)
theorem dX7_init_9 : decode cX7_init 9 = .ok (.invokespecial 11, 3) := dk_183 0 11 (dk_at dksX7_init_0 9 rfl rfl)
theorem dX7_init_12 : decode cX7_init 12 = .ok (.putfield 12, 3) := dk_181 0 12 (dk_at dksX7_init_0 12 rfl rfl)
theorem dX7_init_15 : decode cX7_init 15 = .ok (.aload_n 0, 1) := dk_42 (dk_at dksX7_init_0 15 rfl rfl)
theorem dX7_init_16 : decode cX7_init 16 = .ok (.new 18, 3) := dk_187 0 18 (dk_at dksX7_init_0 16 rfl rfl)
theorem dX7_init_19 : decode cX7_init 19 = .ok (.dup, 1) := dk_89 (dk_at dksX7_init_0 19 rfl rfl)
theorem dX7_init_20 : decode cX7_init 20 = .ok (.invokespecial 20, 3) := dk_183 0 20 (dk_at dksX7_init_0 20 rfl rfl)
theorem dX7_init_23 : decode cX7_init 23 = .ok (.putfield 21, 3) := dk_181 0 21 (dk_at dksX7_init_1 0 rfl rfl)
theorem dX7_init_26 : decode cX7_init 26 = .ok (.aload_n 0, 1) := dk_42 (dk_at dksX7_init_1 3 rfl rfl)
theorem dX7_init_27 : decode cX7_init 27 = .ok (.new 18, 3) := dk_187 0 18 (dk_at dksX7_init_1 4 rfl rfl)
theorem dX7_init_30 : decode cX7_init 30 = .ok (.dup, 1) := dk_89 (dk_at dksX7_init_1 7 rfl rfl)
theorem dX7_init_31 : decode cX7_init 31 = .ok (.invokespecial 20, 3) := dk_183 0 20 (dk_at dksX7_init_1 8 rfl rfl)
theorem dX7_init_34 : decode cX7_init 34 = .ok (.putfield 25, 3) := dk_181 0 25 (dk_at dksX7_init_1 11 rfl rfl)
theorem dX7_init_37 : decode cX7_init 37 = .ok (.aload_n 0, 1) := dk_42 (dk_at dksX7_init_1 14 rfl rfl)
theorem dX7_init_38 : decode cX7_init 38 = .ok (.aload_n 1, 1) := dk_43 (dk_at dksX7_init_1 15 rfl rfl)
theorem dX7_init_39 : decode cX7_init 39 = .ok (.putfield 28, 3) := dk_181 0 28 (dk_at dksX7_init_1 16 rfl rfl)
theorem dX7_init_42 : decode cX7_init 42 = .ok (.return_, 1) := dk_177 (dk_at dksX7_init_1 19 rfl rfl)
abbrev cX7_read : ByteArray := prog_14_method_9_code
def yX7_read : MethodName := ⟨RX7, "read", "()LShadowSpell$Sky;"⟩
def dkwX7_read_1 : List UInt8 := [181, 0, 12, 42, 182, 0, 76, 42, 180, 0, 12, 176]
abbrev dktX7_read_1 : List UInt8 := dkwX7_read_1 ++ []
def dkwX7_read_0 : List UInt8 := [42, 182, 0, 76, 42, 3, 181, 0, 32, 42, 4, 181, 0, 79, 42, 187, 0, 9, 89, 183, 0, 11]
abbrev dktX7_read_0 : List UInt8 := dkwX7_read_0 ++ dktX7_read_1
theorem dksX7_read_0 : cX7_read.data.toList.drop 0 = dktX7_read_0 := by decide +kernel
theorem dksX7_read_1 : cX7_read.data.toList.drop 22 = dktX7_read_1 := dk_seg dksX7_read_0 22 rfl rfl
theorem dX7_read_0 : decode cX7_read 0 = .ok (.aload_n 0, 1) := dk_42 (dk_at dksX7_read_0 0 rfl rfl)
theorem dX7_read_1 : decode cX7_read 1 = .ok (.invokevirtual 76, 3) := dk_182 0 76 (dk_at dksX7_read_0 1 rfl rfl)
theorem dX7_read_4 : decode cX7_read 4 = .ok (.aload_n 0, 1) := dk_42 (dk_at dksX7_read_0 4 rfl rfl)
theorem dX7_read_5 : decode cX7_read 5 = .ok (.iconst 0, 1) := dk_3 (dk_at dksX7_read_0 5 rfl rfl)
theorem dX7_read_6 : decode cX7_read 6 = .ok (.putfield 32, 3) := dk_181 0 32 (dk_at dksX7_read_0 6 rfl rfl)
theorem dX7_read_9 : decode cX7_read 9 = .ok (.aload_n 0, 1) := dk_42 (dk_at dksX7_read_0 9 rfl rfl)
theorem dX7_read_10 : decode cX7_read 10 = .ok (.iconst 1, 1) := dk_4 (dk_at dksX7_read_0 10 rfl rfl)
theorem dX7_read_11 : decode cX7_read 11 = .ok (.putfield 79, 3) := dk_181 0 79 (dk_at dksX7_read_0 11 rfl rfl)
theorem dX7_read_14 : decode cX7_read 14 = .ok (.aload_n 0, 1) := dk_42 (dk_at dksX7_read_0 14 rfl rfl)
theorem dX7_read_15 : decode cX7_read 15 = .ok (.new 9, 3) := dk_187 0 9 (dk_at dksX7_read_0 15 rfl rfl)
theorem dX7_read_18 : decode cX7_read 18 = .ok (.dup, 1) := dk_89 (dk_at dksX7_read_0 18 rfl rfl)
theorem dX7_read_19 : decode cX7_read 19 = .ok (.invokespecial 11, 3) := dk_183 0 11 (dk_at dksX7_read_0 19 rfl rfl)
theorem dX7_read_22 : decode cX7_read 22 = .ok (.putfield 12, 3) := dk_181 0 12 (dk_at dksX7_read_1 0 rfl rfl)
theorem dX7_read_25 : decode cX7_read 25 = .ok (.aload_n 0, 1) := dk_42 (dk_at dksX7_read_1 3 rfl rfl)
theorem dX7_read_26 : decode cX7_read 26 = .ok (.invokevirtual 76, 3) := dk_182 0 76 (dk_at dksX7_read_1 4 rfl rfl)
theorem dX7_read_29 : decode cX7_read 29 = .ok (.aload_n 0, 1) := dk_42 (dk_at dksX7_read_1 7 rfl rfl)
theorem dX7_read_30 : decode cX7_read 30 = .ok (.getfield 12, 3) := dk_180 0 12 (dk_at dksX7_read_1 8 rfl rfl)
theorem dX7_read_33 : decode cX7_read 33 = .ok (.areturn, 1) := dk_176 (dk_at dksX7_read_1 11 rfl rfl)
abbrev cX7_text : ByteArray := prog_14_method_16_code
def yX7_text : MethodName := ⟨RX7, "text", "()V"⟩
def dkwX7_text_2 : List UInt8 := [182, 0, 152, 167, 255, 207, 177]
abbrev dktX7_text_2 : List UInt8 := dkwX7_text_2 ++ []
def dkwX7_text_1 : List UInt8 := [182, 0, 146, 167, 255, 230, 42, 18, 148, 182, 0, 58, 153, 0, 10, 42, 182, 0, 150, 167, 255, 214, 42]
abbrev dktX7_text_1 : List UInt8 := dkwX7_text_1 ++ dktX7_text_2
def dkwX7_text_0 : List UInt8 := [42, 182, 0, 46, 180, 0, 65, 178, 0, 141, 165, 0, 42, 42, 18, 144, 182, 0, 58, 153, 0, 10, 42]
abbrev dktX7_text_0 : List UInt8 := dkwX7_text_0 ++ dktX7_text_1
theorem dksX7_text_0 : cX7_text.data.toList.drop 0 = dktX7_text_0 := by decide +kernel
theorem dksX7_text_1 : cX7_text.data.toList.drop 23 = dktX7_text_1 := dk_seg dksX7_text_0 23 rfl rfl
theorem dksX7_text_2 : cX7_text.data.toList.drop 46 = dktX7_text_2 := dk_seg dksX7_text_1 23 rfl rfl
theorem dX7_text_0 : decode cX7_text 0 = .ok (.aload_n 0, 1) := dk_42 (dk_at dksX7_text_0 0 rfl rfl)
theorem dX7_text_1 : decode cX7_text 1 = .ok (.invokevirtual 46, 3) := dk_182 0 46 (dk_at dksX7_text_0 1 rfl rfl)
theorem dX7_text_4 : decode cX7_text 4 = .ok (.getfield 65, 3) := dk_180 0 65 (dk_at dksX7_text_0 4 rfl rfl)
theorem dX7_text_7 : decode cX7_text 7 = .ok (.getstatic 141, 3) := dk_178 0 141 (dk_at dksX7_text_0 7 rfl rfl)
theorem dX7_text_10 : decode cX7_text 10 = .ok (.if_acmp .eq 42, 3) := dk_165 0 42 (dk_at dksX7_text_0 10 rfl rfl)
theorem dX7_text_13 : decode cX7_text 13 = .ok (.aload_n 0, 1) := dk_42 (dk_at dksX7_text_0 13 rfl rfl)
theorem dX7_text_14 : decode cX7_text 14 = .ok (.ldc 144, 2) := dk_18 144 (dk_at dksX7_text_0 14 rfl rfl)
theorem dX7_text_16 : decode cX7_text 16 = .ok (.invokevirtual 58, 3) := dk_182 0 58 (dk_at dksX7_text_0 16 rfl rfl)
theorem dX7_text_19 : decode cX7_text 19 = .ok (.ifCond .eq 10, 3) := dk_153 0 10 (dk_at dksX7_text_0 19 rfl rfl)
theorem dX7_text_22 : decode cX7_text 22 = .ok (.aload_n 0, 1) := dk_42 (dk_at dksX7_text_0 22 rfl rfl)
theorem dX7_text_23 : decode cX7_text 23 = .ok (.invokevirtual 146, 3) := dk_182 0 146 (dk_at dksX7_text_1 0 rfl rfl)
theorem dX7_text_26 : decode cX7_text 26 = .ok (.goto (-26), 3) := dk_167 255 230 (dk_at dksX7_text_1 3 rfl rfl)
theorem dX7_text_29 : decode cX7_text 29 = .ok (.aload_n 0, 1) := dk_42 (dk_at dksX7_text_1 6 rfl rfl)
theorem dX7_text_30 : decode cX7_text 30 = .ok (.ldc 148, 2) := dk_18 148 (dk_at dksX7_text_1 7 rfl rfl)
theorem dX7_text_32 : decode cX7_text 32 = .ok (.invokevirtual 58, 3) := dk_182 0 58 (dk_at dksX7_text_1 9 rfl rfl)
theorem dX7_text_35 : decode cX7_text 35 = .ok (.ifCond .eq 10, 3) := dk_153 0 10 (dk_at dksX7_text_1 12 rfl rfl)
theorem dX7_text_38 : decode cX7_text 38 = .ok (.aload_n 0, 1) := dk_42 (dk_at dksX7_text_1 15 rfl rfl)
theorem dX7_text_39 : decode cX7_text 39 = .ok (.invokevirtual 150, 3) := dk_182 0 150 (dk_at dksX7_text_1 16 rfl rfl)
theorem dX7_text_42 : decode cX7_text 42 = .ok (.goto (-42), 3) := dk_167 255 214 (dk_at dksX7_text_1 19 rfl rfl)
theorem dX7_text_45 : decode cX7_text 45 = .ok (.aload_n 0, 1) := dk_42 (dk_at dksX7_text_1 22 rfl rfl)
theorem dX7_text_46 : decode cX7_text 46 = .ok (.invokevirtual 152, 3) := dk_182 0 152 (dk_at dksX7_text_2 0 rfl rfl)
theorem dX7_text_49 : decode cX7_text 49 = .ok (.goto (-49), 3) := dk_167 255 207 (dk_at dksX7_text_2 3 rfl rfl)
theorem dX7_text_52 : decode cX7_text 52 = .ok (.return_, 1) := dk_177 (dk_at dksX7_text_2 6 rfl rfl)
abbrev cX7_now : ByteArray := prog_14_method_2_code
def yX7_now : MethodName := ⟨RX7, "now", "()LShadowSpell$Token;"⟩
def dkwX7_now_0 : List UInt8 := [42, 180, 0, 28, 42, 180, 0, 32, 185, 0, 36, 2, 0, 192, 0, 42, 176]
abbrev dktX7_now_0 : List UInt8 := dkwX7_now_0 ++ []
theorem dksX7_now_0 : cX7_now.data.toList.drop 0 = dktX7_now_0 := by decide +kernel
theorem dX7_now_0 : decode cX7_now 0 = .ok (.aload_n 0, 1) := dk_42 (dk_at dksX7_now_0 0 rfl rfl)
theorem dX7_now_1 : decode cX7_now 1 = .ok (.getfield 28, 3) := dk_180 0 28 (dk_at dksX7_now_0 1 rfl rfl)
theorem dX7_now_4 : decode cX7_now 4 = .ok (.aload_n 0, 1) := dk_42 (dk_at dksX7_now_0 4 rfl rfl)
theorem dX7_now_5 : decode cX7_now 5 = .ok (.getfield 32, 3) := dk_180 0 32 (dk_at dksX7_now_0 5 rfl rfl)
theorem dX7_now_8 : decode cX7_now 8 = .ok (.invokeinterface 36 2, 5) := by decide +kernel
theorem dX7_now_13 : decode cX7_now 13 = .ok (.checkcast 42, 3) := dk_192 0 42 (dk_at dksX7_now_0 13 rfl rfl)
theorem dX7_now_16 : decode cX7_now 16 = .ok (.areturn, 1) := dk_176 (dk_at dksX7_now_0 16 rfl rfl)
abbrev cX7_takeIf : ByteArray := prog_14_method_4_code
def yX7_takeIf : MethodName := ⟨RX7, "takeIf", "(Ljava/lang/String;)Z"⟩
def dkwX7_takeIf_1 : List UInt8 := [172]
abbrev dktX7_takeIf_1 : List UInt8 := dkwX7_takeIf_1 ++ []
def dkwX7_takeIf_0 : List UInt8 := [42, 182, 0, 46, 43, 182, 0, 54, 61, 28, 153, 0, 13, 42, 89, 180, 0, 32, 4, 96, 181, 0, 32, 28]
abbrev dktX7_takeIf_0 : List UInt8 := dkwX7_takeIf_0 ++ dktX7_takeIf_1
theorem dksX7_takeIf_0 : cX7_takeIf.data.toList.drop 0 = dktX7_takeIf_0 := by decide +kernel
theorem dksX7_takeIf_1 : cX7_takeIf.data.toList.drop 24 = dktX7_takeIf_1 := dk_seg dksX7_takeIf_0 24 rfl rfl
theorem dX7_takeIf_0 : decode cX7_takeIf 0 = .ok (.aload_n 0, 1) := dk_42 (dk_at dksX7_takeIf_0 0 rfl rfl)
theorem dX7_takeIf_1 : decode cX7_takeIf 1 = .ok (.invokevirtual 46, 3) := dk_182 0 46 (dk_at dksX7_takeIf_0 1 rfl rfl)
theorem dX7_takeIf_4 : decode cX7_takeIf 4 = .ok (.aload_n 1, 1) := dk_43 (dk_at dksX7_takeIf_0 4 rfl rfl)
theorem dX7_takeIf_5 : decode cX7_takeIf 5 = .ok (.invokevirtual 54, 3) := dk_182 0 54 (dk_at dksX7_takeIf_0 5 rfl rfl)
theorem dX7_takeIf_8 : decode cX7_takeIf 8 = .ok (.istore_n 2, 1) := dk_61 (dk_at dksX7_takeIf_0 8 rfl rfl)
theorem dX7_takeIf_9 : decode cX7_takeIf 9 = .ok (.iload_n 2, 1) := dk_28 (dk_at dksX7_takeIf_0 9 rfl rfl)
theorem dX7_takeIf_10 : decode cX7_takeIf 10 = .ok (.ifCond .eq 13, 3) := dk_153 0 13 (dk_at dksX7_takeIf_0 10 rfl rfl)
theorem dX7_takeIf_13 : decode cX7_takeIf 13 = .ok (.aload_n 0, 1) := dk_42 (dk_at dksX7_takeIf_0 13 rfl rfl)
theorem dX7_takeIf_14 : decode cX7_takeIf 14 = .ok (.dup, 1) := dk_89 (dk_at dksX7_takeIf_0 14 rfl rfl)
theorem dX7_takeIf_15 : decode cX7_takeIf 15 = .ok (.getfield 32, 3) := dk_180 0 32 (dk_at dksX7_takeIf_0 15 rfl rfl)
theorem dX7_takeIf_18 : decode cX7_takeIf 18 = .ok (.iconst 1, 1) := dk_4 (dk_at dksX7_takeIf_0 18 rfl rfl)
theorem dX7_takeIf_19 : decode cX7_takeIf 19 = .ok (.iadd, 1) := dk_96 (dk_at dksX7_takeIf_0 19 rfl rfl)
theorem dX7_takeIf_20 : decode cX7_takeIf 20 = .ok (.putfield 32, 3) := dk_181 0 32 (dk_at dksX7_takeIf_0 20 rfl rfl)
theorem dX7_takeIf_23 : decode cX7_takeIf 23 = .ok (.iload_n 2, 1) := dk_28 (dk_at dksX7_takeIf_0 23 rfl rfl)
theorem dX7_takeIf_24 : decode cX7_takeIf 24 = .ok (.ireturn, 1) := dk_172 (dk_at dksX7_takeIf_1 0 rfl rfl)
abbrev cX7_planet : ByteArray := prog_14_method_17_code
def yX7_planet : MethodName := ⟨RX7, "planet", "()V"⟩
def dkwX7_planet_6 : List UInt8 := [180, 0, 177, 182, 0, 182, 28, 29, 21, 5, 21, 6, 21, 4, 183, 0, 185, 182, 0, 188, 87, 177]
abbrev dktX7_planet_6 : List UInt8 := dkwX7_planet_6 ++ []
def dkwX7_planet_5 : List UInt8 := [42, 180, 0, 79, 153, 0, 39, 42, 180, 0, 12, 180, 0, 177, 187, 0, 180, 89, 42, 180, 0, 12]
abbrev dktX7_planet_5 : List UInt8 := dkwX7_planet_5 ++ dktX7_planet_6
def dkwX7_planet_4 : List UInt8 := [4, 96, 16, 60, 182, 0, 161, 54, 6, 42, 18, 172, 182, 0, 72, 42, 42, 180, 0, 21, 43, 182, 0, 174]
abbrev dktX7_planet_4 : List UInt8 := dkwX7_planet_4 ++ dktX7_planet_5
def dkwX7_planet_3 : List UInt8 := [182, 0, 58, 153, 0, 30, 42, 3, 16, 29, 182, 0, 161, 54, 5, 42, 18, 170, 182, 0, 72, 42, 21, 5]
abbrev dktX7_planet_3 : List UInt8 := dkwX7_planet_3 ++ dktX7_planet_4
def dkwX7_planet_2 : List UInt8 := [42, 3, 17, 1, 103, 182, 0, 161, 167, 0, 4, 3, 54, 4, 3, 54, 5, 4, 54, 6, 42, 18, 168]
abbrev dktX7_planet_2 : List UInt8 := dkwX7_planet_2 ++ dktX7_planet_3
def dkwX7_planet_1 : List UInt8 := [61, 42, 18, 164, 182, 0, 72, 42, 4, 16, 60, 182, 0, 161, 62, 42, 18, 166, 182, 0, 58, 153, 0, 14]
abbrev dktX7_planet_1 : List UInt8 := dkwX7_planet_1 ++ dktX7_planet_2
def dkwX7_planet_0 : List UInt8 := [42, 42, 180, 0, 21, 16, 8, 182, 0, 155, 76, 42, 18, 159, 182, 0, 72, 42, 4, 16, 20, 182, 0, 161]
abbrev dktX7_planet_0 : List UInt8 := dkwX7_planet_0 ++ dktX7_planet_1
theorem dksX7_planet_0 : cX7_planet.data.toList.drop 0 = dktX7_planet_0 := by decide +kernel
theorem dksX7_planet_1 : cX7_planet.data.toList.drop 24 = dktX7_planet_1 := dk_seg dksX7_planet_0 24 rfl rfl
theorem dksX7_planet_2 : cX7_planet.data.toList.drop 48 = dktX7_planet_2 := dk_seg dksX7_planet_1 24 rfl rfl
theorem dksX7_planet_3 : cX7_planet.data.toList.drop 71 = dktX7_planet_3 := dk_seg dksX7_planet_2 23 rfl rfl
theorem dksX7_planet_4 : cX7_planet.data.toList.drop 95 = dktX7_planet_4 := dk_seg dksX7_planet_3 24 rfl rfl
theorem dksX7_planet_5 : cX7_planet.data.toList.drop 119 = dktX7_planet_5 := dk_seg dksX7_planet_4 24 rfl rfl
theorem dksX7_planet_6 : cX7_planet.data.toList.drop 141 = dktX7_planet_6 := dk_seg dksX7_planet_5 22 rfl rfl
theorem dX7_planet_0 : decode cX7_planet 0 = .ok (.aload_n 0, 1) := dk_42 (dk_at dksX7_planet_0 0 rfl rfl)
theorem dX7_planet_1 : decode cX7_planet 1 = .ok (.aload_n 0, 1) := dk_42 (dk_at dksX7_planet_0 1 rfl rfl)
theorem dX7_planet_2 : decode cX7_planet 2 = .ok (.getfield 21, 3) := dk_180 0 21 (dk_at dksX7_planet_0 2 rfl rfl)
theorem dX7_planet_5 : decode cX7_planet 5 = .ok (.bipush 8, 2) := dk_16 8 (dk_at dksX7_planet_0 5 rfl rfl)
theorem dX7_planet_7 : decode cX7_planet 7 = .ok (.invokevirtual 155, 3) := dk_182 0 155 (dk_at dksX7_planet_0 7 rfl rfl)
theorem dX7_planet_10 : decode cX7_planet 10 = .ok (.astore_n 1, 1) := dk_76 (dk_at dksX7_planet_0 10 rfl rfl)
theorem dX7_planet_11 : decode cX7_planet 11 = .ok (.aload_n 0, 1) := dk_42 (dk_at dksX7_planet_0 11 rfl rfl)
theorem dX7_planet_12 : decode cX7_planet 12 = .ok (.ldc 159, 2) := dk_18 159 (dk_at dksX7_planet_0 12 rfl rfl)
theorem dX7_planet_14 : decode cX7_planet 14 = .ok (.invokevirtual 72, 3) := dk_182 0 72 (dk_at dksX7_planet_0 14 rfl rfl)
theorem dX7_planet_17 : decode cX7_planet 17 = .ok (.aload_n 0, 1) := dk_42 (dk_at dksX7_planet_0 17 rfl rfl)
theorem dX7_planet_18 : decode cX7_planet 18 = .ok (.iconst 1, 1) := dk_4 (dk_at dksX7_planet_0 18 rfl rfl)
theorem dX7_planet_19 : decode cX7_planet 19 = .ok (.bipush 20, 2) := dk_16 20 (dk_at dksX7_planet_0 19 rfl rfl)
theorem dX7_planet_21 : decode cX7_planet 21 = .ok (.invokevirtual 161, 3) := dk_182 0 161 (dk_at dksX7_planet_0 21 rfl rfl)
theorem dX7_planet_24 : decode cX7_planet 24 = .ok (.istore_n 2, 1) := dk_61 (dk_at dksX7_planet_1 0 rfl rfl)
theorem dX7_planet_25 : decode cX7_planet 25 = .ok (.aload_n 0, 1) := dk_42 (dk_at dksX7_planet_1 1 rfl rfl)
theorem dX7_planet_26 : decode cX7_planet 26 = .ok (.ldc 164, 2) := dk_18 164 (dk_at dksX7_planet_1 2 rfl rfl)
theorem dX7_planet_28 : decode cX7_planet 28 = .ok (.invokevirtual 72, 3) := dk_182 0 72 (dk_at dksX7_planet_1 4 rfl rfl)
theorem dX7_planet_31 : decode cX7_planet 31 = .ok (.aload_n 0, 1) := dk_42 (dk_at dksX7_planet_1 7 rfl rfl)
theorem dX7_planet_32 : decode cX7_planet 32 = .ok (.iconst 1, 1) := dk_4 (dk_at dksX7_planet_1 8 rfl rfl)
theorem dX7_planet_33 : decode cX7_planet 33 = .ok (.bipush 60, 2) := dk_16 60 (dk_at dksX7_planet_1 9 rfl rfl)
theorem dX7_planet_35 : decode cX7_planet 35 = .ok (.invokevirtual 161, 3) := dk_182 0 161 (dk_at dksX7_planet_1 11 rfl rfl)
theorem dX7_planet_38 : decode cX7_planet 38 = .ok (.istore_n 3, 1) := dk_62 (dk_at dksX7_planet_1 14 rfl rfl)
theorem dX7_planet_39 : decode cX7_planet 39 = .ok (.aload_n 0, 1) := dk_42 (dk_at dksX7_planet_1 15 rfl rfl)
theorem dX7_planet_40 : decode cX7_planet 40 = .ok (.ldc 166, 2) := dk_18 166 (dk_at dksX7_planet_1 16 rfl rfl)
theorem dX7_planet_42 : decode cX7_planet 42 = .ok (.invokevirtual 58, 3) := dk_182 0 58 (dk_at dksX7_planet_1 18 rfl rfl)
theorem dX7_planet_45 : decode cX7_planet 45 = .ok (.ifCond .eq 14, 3) := dk_153 0 14 (dk_at dksX7_planet_1 21 rfl rfl)
theorem dX7_planet_48 : decode cX7_planet 48 = .ok (.aload_n 0, 1) := dk_42 (dk_at dksX7_planet_2 0 rfl rfl)
theorem dX7_planet_49 : decode cX7_planet 49 = .ok (.iconst 0, 1) := dk_3 (dk_at dksX7_planet_2 1 rfl rfl)
theorem dX7_planet_50 : decode cX7_planet 50 = .ok (.sipush 359, 3) := dk_17 1 103 (dk_at dksX7_planet_2 2 rfl rfl)
theorem dX7_planet_53 : decode cX7_planet 53 = .ok (.invokevirtual 161, 3) := dk_182 0 161 (dk_at dksX7_planet_2 5 rfl rfl)
theorem dX7_planet_56 : decode cX7_planet 56 = .ok (.goto 4, 3) := dk_167 0 4 (dk_at dksX7_planet_2 8 rfl rfl)
theorem dX7_planet_59 : decode cX7_planet 59 = .ok (.iconst 0, 1) := dk_3 (dk_at dksX7_planet_2 11 rfl rfl)
theorem dX7_planet_60 : decode cX7_planet 60 = .ok (.istore 4, 2) := dk_54 4 (dk_at dksX7_planet_2 12 rfl rfl)
theorem dX7_planet_62 : decode cX7_planet 62 = .ok (.iconst 0, 1) := dk_3 (dk_at dksX7_planet_2 14 rfl rfl)
theorem dX7_planet_63 : decode cX7_planet 63 = .ok (.istore 5, 2) := dk_54 5 (dk_at dksX7_planet_2 15 rfl rfl)
theorem dX7_planet_65 : decode cX7_planet 65 = .ok (.iconst 1, 1) := dk_4 (dk_at dksX7_planet_2 17 rfl rfl)
theorem dX7_planet_66 : decode cX7_planet 66 = .ok (.istore 6, 2) := dk_54 6 (dk_at dksX7_planet_2 18 rfl rfl)
theorem dX7_planet_68 : decode cX7_planet 68 = .ok (.aload_n 0, 1) := dk_42 (dk_at dksX7_planet_2 20 rfl rfl)
theorem dX7_planet_69 : decode cX7_planet 69 = .ok (.ldc 168, 2) := dk_18 168 (dk_at dksX7_planet_2 21 rfl rfl)
theorem dX7_planet_71 : decode cX7_planet 71 = .ok (.invokevirtual 58, 3) := dk_182 0 58 (dk_at dksX7_planet_3 0 rfl rfl)
theorem dX7_planet_74 : decode cX7_planet 74 = .ok (.ifCond .eq 30, 3) := dk_153 0 30 (dk_at dksX7_planet_3 3 rfl rfl)
theorem dX7_planet_77 : decode cX7_planet 77 = .ok (.aload_n 0, 1) := dk_42 (dk_at dksX7_planet_3 6 rfl rfl)
theorem dX7_planet_78 : decode cX7_planet 78 = .ok (.iconst 0, 1) := dk_3 (dk_at dksX7_planet_3 7 rfl rfl)
theorem dX7_planet_79 : decode cX7_planet 79 = .ok (.bipush 29, 2) := dk_16 29 (dk_at dksX7_planet_3 8 rfl rfl)
theorem dX7_planet_81 : decode cX7_planet 81 = .ok (.invokevirtual 161, 3) := dk_182 0 161 (dk_at dksX7_planet_3 10 rfl rfl)
theorem dX7_planet_84 : decode cX7_planet 84 = .ok (.istore 5, 2) := dk_54 5 (dk_at dksX7_planet_3 13 rfl rfl)
theorem dX7_planet_86 : decode cX7_planet 86 = .ok (.aload_n 0, 1) := dk_42 (dk_at dksX7_planet_3 15 rfl rfl)
theorem dX7_planet_87 : decode cX7_planet 87 = .ok (.ldc 170, 2) := dk_18 170 (dk_at dksX7_planet_3 16 rfl rfl)
theorem dX7_planet_89 : decode cX7_planet 89 = .ok (.invokevirtual 72, 3) := dk_182 0 72 (dk_at dksX7_planet_3 18 rfl rfl)
theorem dX7_planet_92 : decode cX7_planet 92 = .ok (.aload_n 0, 1) := dk_42 (dk_at dksX7_planet_3 21 rfl rfl)
theorem dX7_planet_93 : decode cX7_planet 93 = .ok (.iload 5, 2) := dk_21 5 (dk_at dksX7_planet_3 22 rfl rfl)
theorem dX7_planet_95 : decode cX7_planet 95 = .ok (.iconst 1, 1) := dk_4 (dk_at dksX7_planet_4 0 rfl rfl)
theorem dX7_planet_96 : decode cX7_planet 96 = .ok (.iadd, 1) := dk_96 (dk_at dksX7_planet_4 1 rfl rfl)
theorem dX7_planet_97 : decode cX7_planet 97 = .ok (.bipush 60, 2) := dk_16 60 (dk_at dksX7_planet_4 2 rfl rfl)
theorem dX7_planet_99 : decode cX7_planet 99 = .ok (.invokevirtual 161, 3) := dk_182 0 161 (dk_at dksX7_planet_4 4 rfl rfl)
theorem dX7_planet_102 : decode cX7_planet 102 = .ok (.istore 6, 2) := dk_54 6 (dk_at dksX7_planet_4 7 rfl rfl)
theorem dX7_planet_104 : decode cX7_planet 104 = .ok (.aload_n 0, 1) := dk_42 (dk_at dksX7_planet_4 9 rfl rfl)
theorem dX7_planet_105 : decode cX7_planet 105 = .ok (.ldc 172, 2) := dk_18 172 (dk_at dksX7_planet_4 10 rfl rfl)
theorem dX7_planet_107 : decode cX7_planet 107 = .ok (.invokevirtual 72, 3) := dk_182 0 72 (dk_at dksX7_planet_4 12 rfl rfl)
theorem dX7_planet_110 : decode cX7_planet 110 = .ok (.aload_n 0, 1) := dk_42 (dk_at dksX7_planet_4 15 rfl rfl)
theorem dX7_planet_111 : decode cX7_planet 111 = .ok (.aload_n 0, 1) := dk_42 (dk_at dksX7_planet_4 16 rfl rfl)
theorem dX7_planet_112 : decode cX7_planet 112 = .ok (.getfield 21, 3) := dk_180 0 21 (dk_at dksX7_planet_4 17 rfl rfl)
theorem dX7_planet_115 : decode cX7_planet 115 = .ok (.aload_n 1, 1) := dk_43 (dk_at dksX7_planet_4 20 rfl rfl)
theorem dX7_planet_116 : decode cX7_planet 116 = .ok (.invokevirtual 174, 3) := dk_182 0 174 (dk_at dksX7_planet_4 21 rfl rfl)
theorem dX7_planet_119 : decode cX7_planet 119 = .ok (.aload_n 0, 1) := dk_42 (dk_at dksX7_planet_5 0 rfl rfl)
theorem dX7_planet_120 : decode cX7_planet 120 = .ok (.getfield 79, 3) := dk_180 0 79 (dk_at dksX7_planet_5 1 rfl rfl)
theorem dX7_planet_123 : decode cX7_planet 123 = .ok (.ifCond .eq 39, 3) := dk_153 0 39 (dk_at dksX7_planet_5 4 rfl rfl)
theorem dX7_planet_126 : decode cX7_planet 126 = .ok (.aload_n 0, 1) := dk_42 (dk_at dksX7_planet_5 7 rfl rfl)
theorem dX7_planet_127 : decode cX7_planet 127 = .ok (.getfield 12, 3) := dk_180 0 12 (dk_at dksX7_planet_5 8 rfl rfl)
theorem dX7_planet_130 : decode cX7_planet 130 = .ok (.getfield 177, 3) := dk_180 0 177 (dk_at dksX7_planet_5 11 rfl rfl)
theorem dX7_planet_133 : decode cX7_planet 133 = .ok (.new 180, 3) := dk_187 0 180 (dk_at dksX7_planet_5 14 rfl rfl)
theorem dX7_planet_136 : decode cX7_planet 136 = .ok (.dup, 1) := dk_89 (dk_at dksX7_planet_5 17 rfl rfl)
theorem dX7_planet_137 : decode cX7_planet 137 = .ok (.aload_n 0, 1) := dk_42 (dk_at dksX7_planet_5 18 rfl rfl)
theorem dX7_planet_138 : decode cX7_planet 138 = .ok (.getfield 12, 3) := dk_180 0 12 (dk_at dksX7_planet_5 19 rfl rfl)
theorem dX7_planet_141 : decode cX7_planet 141 = .ok (.getfield 177, 3) := dk_180 0 177 (dk_at dksX7_planet_6 0 rfl rfl)
theorem dX7_planet_144 : decode cX7_planet 144 = .ok (.invokevirtual 182, 3) := dk_182 0 182 (dk_at dksX7_planet_6 3 rfl rfl)
theorem dX7_planet_147 : decode cX7_planet 147 = .ok (.iload_n 2, 1) := dk_28 (dk_at dksX7_planet_6 6 rfl rfl)
theorem dX7_planet_148 : decode cX7_planet 148 = .ok (.iload_n 3, 1) := dk_29 (dk_at dksX7_planet_6 7 rfl rfl)
theorem dX7_planet_149 : decode cX7_planet 149 = .ok (.iload 5, 2) := dk_21 5 (dk_at dksX7_planet_6 8 rfl rfl)
theorem dX7_planet_151 : decode cX7_planet 151 = .ok (.iload 6, 2) := dk_21 6 (dk_at dksX7_planet_6 10 rfl rfl)
theorem dX7_planet_153 : decode cX7_planet 153 = .ok (.iload 4, 2) := dk_21 4 (dk_at dksX7_planet_6 12 rfl rfl)
theorem dX7_planet_155 : decode cX7_planet 155 = .ok (.invokespecial 185, 3) := dk_183 0 185 (dk_at dksX7_planet_6 14 rfl rfl)
theorem dX7_planet_158 : decode cX7_planet 158 = .ok (.invokevirtual 188, 3) := dk_182 0 188 (dk_at dksX7_planet_6 17 rfl rfl)
theorem dX7_planet_161 : decode cX7_planet 161 = .ok (.pop, 1) := dk_87 (dk_at dksX7_planet_6 20 rfl rfl)
theorem dX7_planet_162 : decode cX7_planet 162 = .ok (.return_, 1) := dk_177 (dk_at dksX7_planet_6 21 rfl rfl)
abbrev cX7_name : ByteArray := prog_14_method_11_code
def yX7_name : MethodName := ⟨RX7, "name", "(Ljava/util/HashMap;I)LShadowSpell$Token;"⟩
def dkwX7_name_2 : List UInt8 := [182, 0, 98, 45, 176]
abbrev dktX7_name_2 : List UInt8 := dkwX7_name_2 ++ []
def dkwX7_name_1 : List UInt8 := [167, 0, 4, 3, 45, 182, 0, 98, 42, 7, 43, 182, 0, 102, 28, 162, 0, 7, 4, 167, 0, 4, 3, 45]
abbrev dktX7_name_1 : List UInt8 := dkwX7_name_1 ++ dktX7_name_2
def dkwX7_name_0 : List UInt8 := [42, 178, 0, 83, 182, 0, 88, 78, 42, 5, 43, 45, 180, 0, 91, 182, 0, 94, 154, 0, 7, 4]
abbrev dktX7_name_0 : List UInt8 := dkwX7_name_0 ++ dktX7_name_1
theorem dksX7_name_0 : cX7_name.data.toList.drop 0 = dktX7_name_0 := by decide +kernel
theorem dksX7_name_1 : cX7_name.data.toList.drop 22 = dktX7_name_1 := dk_seg dksX7_name_0 22 rfl rfl
theorem dksX7_name_2 : cX7_name.data.toList.drop 46 = dktX7_name_2 := dk_seg dksX7_name_1 24 rfl rfl
theorem dX7_name_0 : decode cX7_name 0 = .ok (.aload_n 0, 1) := dk_42 (dk_at dksX7_name_0 0 rfl rfl)
theorem dX7_name_1 : decode cX7_name 1 = .ok (.getstatic 83, 3) := dk_178 0 83 (dk_at dksX7_name_0 1 rfl rfl)
theorem dX7_name_4 : decode cX7_name 4 = .ok (.invokevirtual 88, 3) := dk_182 0 88 (dk_at dksX7_name_0 4 rfl rfl)
theorem dX7_name_7 : decode cX7_name 7 = .ok (.astore_n 3, 1) := dk_78 (dk_at dksX7_name_0 7 rfl rfl)
theorem dX7_name_8 : decode cX7_name 8 = .ok (.aload_n 0, 1) := dk_42 (dk_at dksX7_name_0 8 rfl rfl)
theorem dX7_name_9 : decode cX7_name 9 = .ok (.iconst 2, 1) := dk_5 (dk_at dksX7_name_0 9 rfl rfl)
theorem dX7_name_10 : decode cX7_name 10 = .ok (.aload_n 1, 1) := dk_43 (dk_at dksX7_name_0 10 rfl rfl)
theorem dX7_name_11 : decode cX7_name 11 = .ok (.aload_n 3, 1) := dk_45 (dk_at dksX7_name_0 11 rfl rfl)
theorem dX7_name_12 : decode cX7_name 12 = .ok (.getfield 91, 3) := dk_180 0 91 (dk_at dksX7_name_0 12 rfl rfl)
theorem dX7_name_15 : decode cX7_name 15 = .ok (.invokevirtual 94, 3) := dk_182 0 94 (dk_at dksX7_name_0 15 rfl rfl)
theorem dX7_name_18 : decode cX7_name 18 = .ok (.ifCond .ne 7, 3) := dk_154 0 7 (dk_at dksX7_name_0 18 rfl rfl)
theorem dX7_name_21 : decode cX7_name 21 = .ok (.iconst 1, 1) := dk_4 (dk_at dksX7_name_0 21 rfl rfl)
theorem dX7_name_22 : decode cX7_name 22 = .ok (.goto 4, 3) := dk_167 0 4 (dk_at dksX7_name_1 0 rfl rfl)
theorem dX7_name_25 : decode cX7_name 25 = .ok (.iconst 0, 1) := dk_3 (dk_at dksX7_name_1 3 rfl rfl)
theorem dX7_name_26 : decode cX7_name 26 = .ok (.aload_n 3, 1) := dk_45 (dk_at dksX7_name_1 4 rfl rfl)
theorem dX7_name_27 : decode cX7_name 27 = .ok (.invokevirtual 98, 3) := dk_182 0 98 (dk_at dksX7_name_1 5 rfl rfl)
theorem dX7_name_30 : decode cX7_name 30 = .ok (.aload_n 0, 1) := dk_42 (dk_at dksX7_name_1 8 rfl rfl)
theorem dX7_name_31 : decode cX7_name 31 = .ok (.iconst 4, 1) := dk_7 (dk_at dksX7_name_1 9 rfl rfl)
theorem dX7_name_32 : decode cX7_name 32 = .ok (.aload_n 1, 1) := dk_43 (dk_at dksX7_name_1 10 rfl rfl)
theorem dX7_name_33 : decode cX7_name 33 = .ok (.invokevirtual 102, 3) := dk_182 0 102 (dk_at dksX7_name_1 11 rfl rfl)
theorem dX7_name_36 : decode cX7_name 36 = .ok (.iload_n 2, 1) := dk_28 (dk_at dksX7_name_1 14 rfl rfl)
theorem dX7_name_37 : decode cX7_name 37 = .ok (.if_icmp .ge 7, 3) := dk_162 0 7 (dk_at dksX7_name_1 15 rfl rfl)
theorem dX7_name_40 : decode cX7_name 40 = .ok (.iconst 1, 1) := dk_4 (dk_at dksX7_name_1 18 rfl rfl)
theorem dX7_name_41 : decode cX7_name 41 = .ok (.goto 4, 3) := dk_167 0 4 (dk_at dksX7_name_1 19 rfl rfl)
theorem dX7_name_44 : decode cX7_name 44 = .ok (.iconst 0, 1) := dk_3 (dk_at dksX7_name_1 22 rfl rfl)
theorem dX7_name_45 : decode cX7_name 45 = .ok (.aload_n 3, 1) := dk_45 (dk_at dksX7_name_1 23 rfl rfl)
theorem dX7_name_46 : decode cX7_name 46 = .ok (.invokevirtual 98, 3) := dk_182 0 98 (dk_at dksX7_name_2 0 rfl rfl)
theorem dX7_name_49 : decode cX7_name 49 = .ok (.aload_n 3, 1) := dk_45 (dk_at dksX7_name_2 3 rfl rfl)
theorem dX7_name_50 : decode cX7_name 50 = .ok (.areturn, 1) := dk_176 (dk_at dksX7_name_2 4 rfl rfl)
abbrev cX7_take : ByteArray := prog_14_method_6_code
def yX7_take : MethodName := ⟨RX7, "take", "(LShadowSpell$Sort;)LShadowSpell$Token;"⟩
def dkwX7_take_1 : List UInt8 := [96, 181, 0, 32, 44, 176]
abbrev dktX7_take_1 : List UInt8 := dkwX7_take_1 ++ []
def dkwX7_take_0 : List UInt8 := [42, 182, 0, 46, 77, 44, 180, 0, 65, 43, 165, 0, 8, 42, 182, 0, 61, 191, 42, 89, 180, 0, 32, 4]
abbrev dktX7_take_0 : List UInt8 := dkwX7_take_0 ++ dktX7_take_1
theorem dksX7_take_0 : cX7_take.data.toList.drop 0 = dktX7_take_0 := by decide +kernel
theorem dksX7_take_1 : cX7_take.data.toList.drop 24 = dktX7_take_1 := dk_seg dksX7_take_0 24 rfl rfl
theorem dX7_take_0 : decode cX7_take 0 = .ok (.aload_n 0, 1) := dk_42 (dk_at dksX7_take_0 0 rfl rfl)
theorem dX7_take_1 : decode cX7_take 1 = .ok (.invokevirtual 46, 3) := dk_182 0 46 (dk_at dksX7_take_0 1 rfl rfl)
theorem dX7_take_4 : decode cX7_take 4 = .ok (.astore_n 2, 1) := dk_77 (dk_at dksX7_take_0 4 rfl rfl)
theorem dX7_take_5 : decode cX7_take 5 = .ok (.aload_n 2, 1) := dk_44 (dk_at dksX7_take_0 5 rfl rfl)
theorem dX7_take_6 : decode cX7_take 6 = .ok (.getfield 65, 3) := dk_180 0 65 (dk_at dksX7_take_0 6 rfl rfl)
theorem dX7_take_9 : decode cX7_take 9 = .ok (.aload_n 1, 1) := dk_43 (dk_at dksX7_take_0 9 rfl rfl)
theorem dX7_take_10 : decode cX7_take 10 = .ok (.if_acmp .eq 8, 3) := dk_165 0 8 (dk_at dksX7_take_0 10 rfl rfl)
theorem dX7_take_13 : decode cX7_take 13 = .ok (.aload_n 0, 1) := dk_42 (dk_at dksX7_take_0 13 rfl rfl)
theorem dX7_take_14 : decode cX7_take 14 = .ok (.invokevirtual 61, 3) := dk_182 0 61 (dk_at dksX7_take_0 14 rfl rfl)
theorem dX7_take_17 : decode cX7_take 17 = .ok (.athrow, 1) := dk_191 (dk_at dksX7_take_0 17 rfl rfl)
theorem dX7_take_18 : decode cX7_take 18 = .ok (.aload_n 0, 1) := dk_42 (dk_at dksX7_take_0 18 rfl rfl)
theorem dX7_take_19 : decode cX7_take 19 = .ok (.dup, 1) := dk_89 (dk_at dksX7_take_0 19 rfl rfl)
theorem dX7_take_20 : decode cX7_take 20 = .ok (.getfield 32, 3) := dk_180 0 32 (dk_at dksX7_take_0 20 rfl rfl)
theorem dX7_take_23 : decode cX7_take 23 = .ok (.iconst 1, 1) := dk_4 (dk_at dksX7_take_0 23 rfl rfl)
theorem dX7_take_24 : decode cX7_take 24 = .ok (.iadd, 1) := dk_96 (dk_at dksX7_take_1 0 rfl rfl)
theorem dX7_take_25 : decode cX7_take 25 = .ok (.putfield 32, 3) := dk_181 0 32 (dk_at dksX7_take_1 1 rfl rfl)
theorem dX7_take_28 : decode cX7_take 28 = .ok (.aload_n 2, 1) := dk_44 (dk_at dksX7_take_1 4 rfl rfl)
theorem dX7_take_29 : decode cX7_take 29 = .ok (.areturn, 1) := dk_176 (dk_at dksX7_take_1 5 rfl rfl)
abbrev cX7_wrong : ByteArray := prog_14_method_3_code
def yX7_wrong : MethodName := ⟨RX7, "wrong", "()LShadowSpell$Fault;"⟩
def dkwX7_wrong_0 : List UInt8 := [187, 0, 44, 89, 4, 42, 182, 0, 46, 180, 0, 50, 183, 0, 51, 176]
abbrev dktX7_wrong_0 : List UInt8 := dkwX7_wrong_0 ++ []
theorem dksX7_wrong_0 : cX7_wrong.data.toList.drop 0 = dktX7_wrong_0 := by decide +kernel
theorem dX7_wrong_0 : decode cX7_wrong 0 = .ok (.new 44, 3) := dk_187 0 44 (dk_at dksX7_wrong_0 0 rfl rfl)
theorem dX7_wrong_3 : decode cX7_wrong 3 = .ok (.dup, 1) := dk_89 (dk_at dksX7_wrong_0 3 rfl rfl)
theorem dX7_wrong_4 : decode cX7_wrong 4 = .ok (.iconst 1, 1) := dk_4 (dk_at dksX7_wrong_0 4 rfl rfl)
theorem dX7_wrong_5 : decode cX7_wrong 5 = .ok (.aload_n 0, 1) := dk_42 (dk_at dksX7_wrong_0 5 rfl rfl)
theorem dX7_wrong_6 : decode cX7_wrong 6 = .ok (.invokevirtual 46, 3) := dk_182 0 46 (dk_at dksX7_wrong_0 6 rfl rfl)
theorem dX7_wrong_9 : decode cX7_wrong 9 = .ok (.getfield 50, 3) := dk_180 0 50 (dk_at dksX7_wrong_0 9 rfl rfl)
theorem dX7_wrong_12 : decode cX7_wrong 12 = .ok (.invokespecial 51, 3) := dk_183 0 51 (dk_at dksX7_wrong_0 12 rfl rfl)
theorem dX7_wrong_15 : decode cX7_wrong 15 = .ok (.areturn, 1) := dk_176 (dk_at dksX7_wrong_0 15 rfl rfl)
abbrev cX7_check : ByteArray := prog_14_method_10_code
def yX7_check : MethodName := ⟨RX7, "check", "(IZLShadowSpell$Token;)V"⟩
def dkwX7_check_1 : List UInt8 := [177]
abbrev dktX7_check_1 : List UInt8 := dkwX7_check_1 ++ []
def dkwX7_check_0 : List UInt8 := [42, 180, 0, 79, 153, 0, 20, 28, 154, 0, 16, 187, 0, 44, 89, 27, 45, 180, 0, 50, 183, 0, 51, 191]
abbrev dktX7_check_0 : List UInt8 := dkwX7_check_0 ++ dktX7_check_1
theorem dksX7_check_0 : cX7_check.data.toList.drop 0 = dktX7_check_0 := by decide +kernel
theorem dksX7_check_1 : cX7_check.data.toList.drop 24 = dktX7_check_1 := dk_seg dksX7_check_0 24 rfl rfl
theorem dX7_check_0 : decode cX7_check 0 = .ok (.aload_n 0, 1) := dk_42 (dk_at dksX7_check_0 0 rfl rfl)
theorem dX7_check_1 : decode cX7_check 1 = .ok (.getfield 79, 3) := dk_180 0 79 (dk_at dksX7_check_0 1 rfl rfl)
theorem dX7_check_4 : decode cX7_check 4 = .ok (.ifCond .eq 20, 3) := dk_153 0 20 (dk_at dksX7_check_0 4 rfl rfl)
theorem dX7_check_7 : decode cX7_check 7 = .ok (.iload_n 2, 1) := dk_28 (dk_at dksX7_check_0 7 rfl rfl)
theorem dX7_check_8 : decode cX7_check 8 = .ok (.ifCond .ne 16, 3) := dk_154 0 16 (dk_at dksX7_check_0 8 rfl rfl)
theorem dX7_check_11 : decode cX7_check 11 = .ok (.new 44, 3) := dk_187 0 44 (dk_at dksX7_check_0 11 rfl rfl)
theorem dX7_check_14 : decode cX7_check 14 = .ok (.dup, 1) := dk_89 (dk_at dksX7_check_0 14 rfl rfl)
theorem dX7_check_15 : decode cX7_check 15 = .ok (.iload_n 1, 1) := dk_27 (dk_at dksX7_check_0 15 rfl rfl)
theorem dX7_check_16 : decode cX7_check 16 = .ok (.aload_n 3, 1) := dk_45 (dk_at dksX7_check_0 16 rfl rfl)
theorem dX7_check_17 : decode cX7_check 17 = .ok (.getfield 50, 3) := dk_180 0 50 (dk_at dksX7_check_0 17 rfl rfl)
theorem dX7_check_20 : decode cX7_check 20 = .ok (.invokespecial 51, 3) := dk_183 0 51 (dk_at dksX7_check_0 20 rfl rfl)
theorem dX7_check_23 : decode cX7_check 23 = .ok (.athrow, 1) := dk_191 (dk_at dksX7_check_0 23 rfl rfl)
theorem dX7_check_24 : decode cX7_check 24 = .ok (.return_, 1) := dk_177 (dk_at dksX7_check_1 0 rfl rfl)
abbrev cX7_take_2 : ByteArray := prog_14_method_5_code
def yX7_take_2 : MethodName := ⟨RX7, "take", "(Ljava/lang/String;)V"⟩
def dkwX7_take_2_0 : List UInt8 := [42, 43, 182, 0, 58, 154, 0, 8, 42, 182, 0, 61, 191, 177]
abbrev dktX7_take_2_0 : List UInt8 := dkwX7_take_2_0 ++ []
theorem dksX7_take_2_0 : cX7_take_2.data.toList.drop 0 = dktX7_take_2_0 := by decide +kernel
theorem dX7_take_2_0 : decode cX7_take_2 0 = .ok (.aload_n 0, 1) := dk_42 (dk_at dksX7_take_2_0 0 rfl rfl)
theorem dX7_take_2_1 : decode cX7_take_2 1 = .ok (.aload_n 1, 1) := dk_43 (dk_at dksX7_take_2_0 1 rfl rfl)
theorem dX7_take_2_2 : decode cX7_take_2 2 = .ok (.invokevirtual 58, 3) := dk_182 0 58 (dk_at dksX7_take_2_0 2 rfl rfl)
theorem dX7_take_2_5 : decode cX7_take_2 5 = .ok (.ifCond .ne 8, 3) := dk_154 0 8 (dk_at dksX7_take_2_0 5 rfl rfl)
theorem dX7_take_2_8 : decode cX7_take_2 8 = .ok (.aload_n 0, 1) := dk_42 (dk_at dksX7_take_2_0 8 rfl rfl)
theorem dX7_take_2_9 : decode cX7_take_2 9 = .ok (.invokevirtual 61, 3) := dk_182 0 61 (dk_at dksX7_take_2_0 9 rfl rfl)
theorem dX7_take_2_12 : decode cX7_take_2 12 = .ok (.athrow, 1) := dk_191 (dk_at dksX7_take_2_0 12 rfl rfl)
theorem dX7_take_2_13 : decode cX7_take_2 13 = .ok (.return_, 1) := dk_177 (dk_at dksX7_take_2_0 13 rfl rfl)
abbrev cX7_number : ByteArray := prog_14_method_15_code
def yX7_number : MethodName := ⟨RX7, "number", "(II)I"⟩
def dkwX7_number_1 : List UInt8 := [163, 0, 7, 4, 167, 0, 4, 3, 45, 182, 0, 98, 45, 182, 0, 138, 172]
abbrev dktX7_number_1 : List UInt8 := dkwX7_number_1 ++ []
def dkwX7_number_0 : List UInt8 := [42, 178, 0, 135, 182, 0, 88, 78, 42, 8, 45, 182, 0, 138, 27, 161, 0, 15, 45, 182, 0, 138, 28]
abbrev dktX7_number_0 : List UInt8 := dkwX7_number_0 ++ dktX7_number_1
theorem dksX7_number_0 : cX7_number.data.toList.drop 0 = dktX7_number_0 := by decide +kernel
theorem dksX7_number_1 : cX7_number.data.toList.drop 23 = dktX7_number_1 := dk_seg dksX7_number_0 23 rfl rfl
theorem dX7_number_0 : decode cX7_number 0 = .ok (.aload_n 0, 1) := dk_42 (dk_at dksX7_number_0 0 rfl rfl)
theorem dX7_number_1 : decode cX7_number 1 = .ok (.getstatic 135, 3) := dk_178 0 135 (dk_at dksX7_number_0 1 rfl rfl)
theorem dX7_number_4 : decode cX7_number 4 = .ok (.invokevirtual 88, 3) := dk_182 0 88 (dk_at dksX7_number_0 4 rfl rfl)
theorem dX7_number_7 : decode cX7_number 7 = .ok (.astore_n 3, 1) := dk_78 (dk_at dksX7_number_0 7 rfl rfl)
theorem dX7_number_8 : decode cX7_number 8 = .ok (.aload_n 0, 1) := dk_42 (dk_at dksX7_number_0 8 rfl rfl)
theorem dX7_number_9 : decode cX7_number 9 = .ok (.iconst 5, 1) := dk_8 (dk_at dksX7_number_0 9 rfl rfl)
theorem dX7_number_10 : decode cX7_number 10 = .ok (.aload_n 3, 1) := dk_45 (dk_at dksX7_number_0 10 rfl rfl)
theorem dX7_number_11 : decode cX7_number 11 = .ok (.invokevirtual 138, 3) := dk_182 0 138 (dk_at dksX7_number_0 11 rfl rfl)
theorem dX7_number_14 : decode cX7_number 14 = .ok (.iload_n 1, 1) := dk_27 (dk_at dksX7_number_0 14 rfl rfl)
theorem dX7_number_15 : decode cX7_number 15 = .ok (.if_icmp .lt 15, 3) := dk_161 0 15 (dk_at dksX7_number_0 15 rfl rfl)
theorem dX7_number_18 : decode cX7_number 18 = .ok (.aload_n 3, 1) := dk_45 (dk_at dksX7_number_0 18 rfl rfl)
theorem dX7_number_19 : decode cX7_number 19 = .ok (.invokevirtual 138, 3) := dk_182 0 138 (dk_at dksX7_number_0 19 rfl rfl)
theorem dX7_number_22 : decode cX7_number 22 = .ok (.iload_n 2, 1) := dk_28 (dk_at dksX7_number_0 22 rfl rfl)
theorem dX7_number_23 : decode cX7_number 23 = .ok (.if_icmp .gt 7, 3) := dk_163 0 7 (dk_at dksX7_number_1 0 rfl rfl)
theorem dX7_number_26 : decode cX7_number 26 = .ok (.iconst 1, 1) := dk_4 (dk_at dksX7_number_1 3 rfl rfl)
theorem dX7_number_27 : decode cX7_number 27 = .ok (.goto 4, 3) := dk_167 0 4 (dk_at dksX7_number_1 4 rfl rfl)
theorem dX7_number_30 : decode cX7_number 30 = .ok (.iconst 0, 1) := dk_3 (dk_at dksX7_number_1 7 rfl rfl)
theorem dX7_number_31 : decode cX7_number 31 = .ok (.aload_n 3, 1) := dk_45 (dk_at dksX7_number_1 8 rfl rfl)
theorem dX7_number_32 : decode cX7_number 32 = .ok (.invokevirtual 98, 3) := dk_182 0 98 (dk_at dksX7_number_1 9 rfl rfl)
theorem dX7_number_35 : decode cX7_number 35 = .ok (.aload_n 3, 1) := dk_45 (dk_at dksX7_number_1 12 rfl rfl)
theorem dX7_number_36 : decode cX7_number 36 = .ok (.invokevirtual 138, 3) := dk_182 0 138 (dk_at dksX7_number_1 13 rfl rfl)
theorem dX7_number_39 : decode cX7_number 39 = .ok (.ireturn, 1) := dk_172 (dk_at dksX7_number_1 16 rfl rfl)
abbrev cX7_put : ByteArray := prog_14_method_12_code
def yX7_put : MethodName := ⟨RX7, "put", "(Ljava/util/HashMap;LShadowSpell$Token;)V"⟩
def dkwX7_put_0 : List UInt8 := [42, 180, 0, 79, 153, 0, 19, 43, 44, 180, 0, 91, 43, 182, 0, 102, 184, 0, 106, 182, 0, 112, 87, 177]
abbrev dktX7_put_0 : List UInt8 := dkwX7_put_0 ++ []
theorem dksX7_put_0 : cX7_put.data.toList.drop 0 = dktX7_put_0 := by decide +kernel
theorem dX7_put_0 : decode cX7_put 0 = .ok (.aload_n 0, 1) := dk_42 (dk_at dksX7_put_0 0 rfl rfl)
theorem dX7_put_1 : decode cX7_put 1 = .ok (.getfield 79, 3) := dk_180 0 79 (dk_at dksX7_put_0 1 rfl rfl)
theorem dX7_put_4 : decode cX7_put 4 = .ok (.ifCond .eq 19, 3) := dk_153 0 19 (dk_at dksX7_put_0 4 rfl rfl)
theorem dX7_put_7 : decode cX7_put 7 = .ok (.aload_n 1, 1) := dk_43 (dk_at dksX7_put_0 7 rfl rfl)
theorem dX7_put_8 : decode cX7_put 8 = .ok (.aload_n 2, 1) := dk_44 (dk_at dksX7_put_0 8 rfl rfl)
theorem dX7_put_9 : decode cX7_put 9 = .ok (.getfield 91, 3) := dk_180 0 91 (dk_at dksX7_put_0 9 rfl rfl)
theorem dX7_put_12 : decode cX7_put 12 = .ok (.aload_n 1, 1) := dk_43 (dk_at dksX7_put_0 12 rfl rfl)
theorem dX7_put_13 : decode cX7_put 13 = .ok (.invokevirtual 102, 3) := dk_182 0 102 (dk_at dksX7_put_0 13 rfl rfl)
theorem dX7_put_16 : decode cX7_put 16 = .ok (.invokestatic 106, 3) := dk_184 0 106 (dk_at dksX7_put_0 16 rfl rfl)
theorem dX7_put_19 : decode cX7_put 19 = .ok (.invokevirtual 112, 3) := dk_182 0 112 (dk_at dksX7_put_0 19 rfl rfl)
theorem dX7_put_22 : decode cX7_put 22 = .ok (.pop, 1) := dk_87 (dk_at dksX7_put_0 22 rfl rfl)
theorem dX7_put_23 : decode cX7_put 23 = .ok (.return_, 1) := dk_177 (dk_at dksX7_put_0 23 rfl rfl)
abbrev cX7_alphabet : ByteArray := prog_14_method_19_code
def yX7_alphabet : MethodName := ⟨RX7, "alphabet", "()V"⟩
def dkwX7_alphabet_3 : List UInt8 := [87, 177]
abbrev dktX7_alphabet_3 : List UInt8 := dkwX7_alphabet_3 ++ []
def dkwX7_alphabet_2 : List UInt8 := [182, 0, 174, 42, 180, 0, 12, 180, 0, 207, 187, 0, 209, 89, 44, 180, 0, 91, 183, 0, 211, 182, 0, 188]
abbrev dktX7_alphabet_2 : List UInt8 := dkwX7_alphabet_2 ++ dktX7_alphabet_3
def dkwX7_alphabet_1 : List UInt8 := [180, 0, 91, 184, 0, 204, 44, 182, 0, 98, 42, 18, 172, 182, 0, 72, 42, 42, 180, 0, 25, 43]
abbrev dktX7_alphabet_1 : List UInt8 := dkwX7_alphabet_1 ++ dktX7_alphabet_2
def dkwX7_alphabet_0 : List UInt8 := [42, 42, 180, 0, 25, 16, 6, 182, 0, 155, 76, 42, 178, 0, 83, 182, 0, 88, 77, 42, 16, 7, 44]
abbrev dktX7_alphabet_0 : List UInt8 := dkwX7_alphabet_0 ++ dktX7_alphabet_1
theorem dksX7_alphabet_0 : cX7_alphabet.data.toList.drop 0 = dktX7_alphabet_0 := by decide +kernel
theorem dksX7_alphabet_1 : cX7_alphabet.data.toList.drop 23 = dktX7_alphabet_1 := dk_seg dksX7_alphabet_0 23 rfl rfl
theorem dksX7_alphabet_2 : cX7_alphabet.data.toList.drop 45 = dktX7_alphabet_2 := dk_seg dksX7_alphabet_1 22 rfl rfl
theorem dksX7_alphabet_3 : cX7_alphabet.data.toList.drop 69 = dktX7_alphabet_3 := dk_seg dksX7_alphabet_2 24 rfl rfl
theorem dX7_alphabet_0 : decode cX7_alphabet 0 = .ok (.aload_n 0, 1) := dk_42 (dk_at dksX7_alphabet_0 0 rfl rfl)
theorem dX7_alphabet_1 : decode cX7_alphabet 1 = .ok (.aload_n 0, 1) := dk_42 (dk_at dksX7_alphabet_0 1 rfl rfl)
theorem dX7_alphabet_2 : decode cX7_alphabet 2 = .ok (.getfield 25, 3) := dk_180 0 25 (dk_at dksX7_alphabet_0 2 rfl rfl)
theorem dX7_alphabet_5 : decode cX7_alphabet 5 = .ok (.bipush 6, 2) := dk_16 6 (dk_at dksX7_alphabet_0 5 rfl rfl)
theorem dX7_alphabet_7 : decode cX7_alphabet 7 = .ok (.invokevirtual 155, 3) := dk_182 0 155 (dk_at dksX7_alphabet_0 7 rfl rfl)
theorem dX7_alphabet_10 : decode cX7_alphabet 10 = .ok (.astore_n 1, 1) := dk_76 (dk_at dksX7_alphabet_0 10 rfl rfl)
theorem dX7_alphabet_11 : decode cX7_alphabet 11 = .ok (.aload_n 0, 1) := dk_42 (dk_at dksX7_alphabet_0 11 rfl rfl)
theorem dX7_alphabet_12 : decode cX7_alphabet 12 = .ok (.getstatic 83, 3) := dk_178 0 83 (dk_at dksX7_alphabet_0 12 rfl rfl)
theorem dX7_alphabet_15 : decode cX7_alphabet 15 = .ok (.invokevirtual 88, 3) := dk_182 0 88 (dk_at dksX7_alphabet_0 15 rfl rfl)
theorem dX7_alphabet_18 : decode cX7_alphabet 18 = .ok (.astore_n 2, 1) := dk_77 (dk_at dksX7_alphabet_0 18 rfl rfl)
theorem dX7_alphabet_19 : decode cX7_alphabet 19 = .ok (.aload_n 0, 1) := dk_42 (dk_at dksX7_alphabet_0 19 rfl rfl)
theorem dX7_alphabet_20 : decode cX7_alphabet 20 = .ok (.bipush 7, 2) := dk_16 7 (dk_at dksX7_alphabet_0 20 rfl rfl)
theorem dX7_alphabet_22 : decode cX7_alphabet 22 = .ok (.aload_n 2, 1) := dk_44 (dk_at dksX7_alphabet_0 22 rfl rfl)
theorem dX7_alphabet_23 : decode cX7_alphabet 23 = .ok (.getfield 91, 3) := dk_180 0 91 (dk_at dksX7_alphabet_1 0 rfl rfl)
theorem dX7_alphabet_26 : decode cX7_alphabet 26 = .ok (.invokestatic 204, 3) := dk_184 0 204 (dk_at dksX7_alphabet_1 3 rfl rfl)
theorem dX7_alphabet_29 : decode cX7_alphabet 29 = .ok (.aload_n 2, 1) := dk_44 (dk_at dksX7_alphabet_1 6 rfl rfl)
theorem dX7_alphabet_30 : decode cX7_alphabet 30 = .ok (.invokevirtual 98, 3) := dk_182 0 98 (dk_at dksX7_alphabet_1 7 rfl rfl)
theorem dX7_alphabet_33 : decode cX7_alphabet 33 = .ok (.aload_n 0, 1) := dk_42 (dk_at dksX7_alphabet_1 10 rfl rfl)
theorem dX7_alphabet_34 : decode cX7_alphabet 34 = .ok (.ldc 172, 2) := dk_18 172 (dk_at dksX7_alphabet_1 11 rfl rfl)
theorem dX7_alphabet_36 : decode cX7_alphabet 36 = .ok (.invokevirtual 72, 3) := dk_182 0 72 (dk_at dksX7_alphabet_1 13 rfl rfl)
theorem dX7_alphabet_39 : decode cX7_alphabet 39 = .ok (.aload_n 0, 1) := dk_42 (dk_at dksX7_alphabet_1 16 rfl rfl)
theorem dX7_alphabet_40 : decode cX7_alphabet 40 = .ok (.aload_n 0, 1) := dk_42 (dk_at dksX7_alphabet_1 17 rfl rfl)
theorem dX7_alphabet_41 : decode cX7_alphabet 41 = .ok (.getfield 25, 3) := dk_180 0 25 (dk_at dksX7_alphabet_1 18 rfl rfl)
theorem dX7_alphabet_44 : decode cX7_alphabet 44 = .ok (.aload_n 1, 1) := dk_43 (dk_at dksX7_alphabet_1 21 rfl rfl)
theorem dX7_alphabet_45 : decode cX7_alphabet 45 = .ok (.invokevirtual 174, 3) := dk_182 0 174 (dk_at dksX7_alphabet_2 0 rfl rfl)
theorem dX7_alphabet_48 : decode cX7_alphabet 48 = .ok (.aload_n 0, 1) := dk_42 (dk_at dksX7_alphabet_2 3 rfl rfl)
theorem dX7_alphabet_49 : decode cX7_alphabet 49 = .ok (.getfield 12, 3) := dk_180 0 12 (dk_at dksX7_alphabet_2 4 rfl rfl)
theorem dX7_alphabet_52 : decode cX7_alphabet 52 = .ok (.getfield 207, 3) := dk_180 0 207 (dk_at dksX7_alphabet_2 7 rfl rfl)
theorem dX7_alphabet_55 : decode cX7_alphabet 55 = .ok (.new 209, 3) := dk_187 0 209 (dk_at dksX7_alphabet_2 10 rfl rfl)
theorem dX7_alphabet_58 : decode cX7_alphabet 58 = .ok (.dup, 1) := dk_89 (dk_at dksX7_alphabet_2 13 rfl rfl)
theorem dX7_alphabet_59 : decode cX7_alphabet 59 = .ok (.aload_n 2, 1) := dk_44 (dk_at dksX7_alphabet_2 14 rfl rfl)
theorem dX7_alphabet_60 : decode cX7_alphabet 60 = .ok (.getfield 91, 3) := dk_180 0 91 (dk_at dksX7_alphabet_2 15 rfl rfl)
theorem dX7_alphabet_63 : decode cX7_alphabet 63 = .ok (.invokespecial 211, 3) := dk_183 0 211 (dk_at dksX7_alphabet_2 18 rfl rfl)
theorem dX7_alphabet_66 : decode cX7_alphabet 66 = .ok (.invokevirtual 188, 3) := dk_182 0 188 (dk_at dksX7_alphabet_2 21 rfl rfl)
theorem dX7_alphabet_69 : decode cX7_alphabet 69 = .ok (.pop, 1) := dk_87 (dk_at dksX7_alphabet_3 0 rfl rfl)
theorem dX7_alphabet_70 : decode cX7_alphabet 70 = .ok (.return_, 1) := dk_177 (dk_at dksX7_alphabet_3 1 rfl rfl)
abbrev cX7_isRow : ByteArray := prog_14_method_18_code
def yX7_isRow : MethodName := ⟨RX7, "isRow", "(Ljava/lang/String;)Z"⟩
def dkwX7_isRow_1 : List UInt8 := [182, 0, 196, 182, 0, 200, 27, 162, 0, 5, 3, 172, 132, 1, 1, 167, 255, 220, 4, 172]
abbrev dktX7_isRow_1 : List UInt8 := dkwX7_isRow_1 ++ []
def dkwX7_isRow_0 : List UInt8 := [3, 60, 27, 42, 182, 0, 191, 162, 0, 34, 42, 27, 182, 0, 196, 16, 97, 161, 0, 16, 42, 42, 27]
abbrev dktX7_isRow_0 : List UInt8 := dkwX7_isRow_0 ++ dktX7_isRow_1
theorem dksX7_isRow_0 : cX7_isRow.data.toList.drop 0 = dktX7_isRow_0 := by decide +kernel
theorem dksX7_isRow_1 : cX7_isRow.data.toList.drop 23 = dktX7_isRow_1 := dk_seg dksX7_isRow_0 23 rfl rfl
theorem dX7_isRow_0 : decode cX7_isRow 0 = .ok (.iconst 0, 1) := dk_3 (dk_at dksX7_isRow_0 0 rfl rfl)
theorem dX7_isRow_1 : decode cX7_isRow 1 = .ok (.istore_n 1, 1) := dk_60 (dk_at dksX7_isRow_0 1 rfl rfl)
theorem dX7_isRow_2 : decode cX7_isRow 2 = .ok (.iload_n 1, 1) := dk_27 (dk_at dksX7_isRow_0 2 rfl rfl)
theorem dX7_isRow_3 : decode cX7_isRow 3 = .ok (.aload_n 0, 1) := dk_42 (dk_at dksX7_isRow_0 3 rfl rfl)
theorem dX7_isRow_4 : decode cX7_isRow 4 = .ok (.invokevirtual 191, 3) := dk_182 0 191 (dk_at dksX7_isRow_0 4 rfl rfl)
theorem dX7_isRow_7 : decode cX7_isRow 7 = .ok (.if_icmp .ge 34, 3) := dk_162 0 34 (dk_at dksX7_isRow_0 7 rfl rfl)
theorem dX7_isRow_10 : decode cX7_isRow 10 = .ok (.aload_n 0, 1) := dk_42 (dk_at dksX7_isRow_0 10 rfl rfl)
theorem dX7_isRow_11 : decode cX7_isRow 11 = .ok (.iload_n 1, 1) := dk_27 (dk_at dksX7_isRow_0 11 rfl rfl)
theorem dX7_isRow_12 : decode cX7_isRow 12 = .ok (.invokevirtual 196, 3) := dk_182 0 196 (dk_at dksX7_isRow_0 12 rfl rfl)
theorem dX7_isRow_15 : decode cX7_isRow 15 = .ok (.bipush 97, 2) := dk_16 97 (dk_at dksX7_isRow_0 15 rfl rfl)
theorem dX7_isRow_17 : decode cX7_isRow 17 = .ok (.if_icmp .lt 16, 3) := dk_161 0 16 (dk_at dksX7_isRow_0 17 rfl rfl)
theorem dX7_isRow_20 : decode cX7_isRow 20 = .ok (.aload_n 0, 1) := dk_42 (dk_at dksX7_isRow_0 20 rfl rfl)
theorem dX7_isRow_21 : decode cX7_isRow 21 = .ok (.aload_n 0, 1) := dk_42 (dk_at dksX7_isRow_0 21 rfl rfl)
theorem dX7_isRow_22 : decode cX7_isRow 22 = .ok (.iload_n 1, 1) := dk_27 (dk_at dksX7_isRow_0 22 rfl rfl)
theorem dX7_isRow_23 : decode cX7_isRow 23 = .ok (.invokevirtual 196, 3) := dk_182 0 196 (dk_at dksX7_isRow_1 0 rfl rfl)
theorem dX7_isRow_26 : decode cX7_isRow 26 = .ok (.invokevirtual 200, 3) := dk_182 0 200 (dk_at dksX7_isRow_1 3 rfl rfl)
theorem dX7_isRow_29 : decode cX7_isRow 29 = .ok (.iload_n 1, 1) := dk_27 (dk_at dksX7_isRow_1 6 rfl rfl)
theorem dX7_isRow_30 : decode cX7_isRow 30 = .ok (.if_icmp .ge 5, 3) := dk_162 0 5 (dk_at dksX7_isRow_1 7 rfl rfl)
theorem dX7_isRow_33 : decode cX7_isRow 33 = .ok (.iconst 0, 1) := dk_3 (dk_at dksX7_isRow_1 10 rfl rfl)
theorem dX7_isRow_34 : decode cX7_isRow 34 = .ok (.ireturn, 1) := dk_172 (dk_at dksX7_isRow_1 11 rfl rfl)
theorem dX7_isRow_35 : decode cX7_isRow 35 = .ok (.iinc 1 1, 3) := dk_132 1 1 (dk_at dksX7_isRow_1 12 rfl rfl)
theorem dX7_isRow_38 : decode cX7_isRow 38 = .ok (.goto (-36), 3) := dk_167 255 220 (dk_at dksX7_isRow_1 15 rfl rfl)
theorem dX7_isRow_41 : decode cX7_isRow 41 = .ok (.iconst 1, 1) := dk_4 (dk_at dksX7_isRow_1 18 rfl rfl)
theorem dX7_isRow_42 : decode cX7_isRow 42 = .ok (.ireturn, 1) := dk_172 (dk_at dksX7_isRow_1 19 rfl rfl)
abbrev cX7_rule : ByteArray := prog_14_method_20_code
def yX7_rule : MethodName := ⟨RX7, "rule", "()V"⟩
def dkwX7_rule_5 : List UInt8 := [177]
abbrev dktX7_rule_5 : List UInt8 := dkwX7_rule_5 ++ []
def dkwX7_rule_4 : List UInt8 := [44, 45, 42, 180, 0, 12, 180, 0, 207, 21, 4, 182, 0, 232, 192, 0, 209, 183, 0, 233, 182, 0, 188, 87]
abbrev dktX7_rule_4 : List UInt8 := dkwX7_rule_4 ++ dktX7_rule_5
def dkwX7_rule_3 : List UInt8 := [42, 18, 172, 182, 0, 72, 42, 180, 0, 79, 153, 0, 38, 42, 180, 0, 12, 180, 0, 215, 187, 0, 230, 89]
abbrev dktX7_rule_3 : List UInt8 := dkwX7_rule_3 ++ dktX7_rule_4
def dkwX7_rule_2 : List UInt8 := [182, 0, 72, 42, 182, 0, 224, 78, 42, 18, 228, 182, 0, 72, 42, 42, 180, 0, 25, 182, 0, 131, 54, 4]
abbrev dktX7_rule_2 : List UInt8 := dkwX7_rule_2 ++ dktX7_rule_3
def dkwX7_rule_1 : List UInt8 := [16, 12, 162, 0, 7, 4, 167, 0, 4, 3, 43, 182, 0, 98, 42, 182, 0, 218, 77, 42, 18, 222]
abbrev dktX7_rule_1 : List UInt8 := dkwX7_rule_1 ++ dktX7_rule_2
def dkwX7_rule_0 : List UInt8 := [42, 182, 0, 46, 76, 42, 18, 213, 182, 0, 72, 42, 7, 42, 180, 0, 12, 180, 0, 215, 182, 0, 182]
abbrev dktX7_rule_0 : List UInt8 := dkwX7_rule_0 ++ dktX7_rule_1
theorem dksX7_rule_0 : cX7_rule.data.toList.drop 0 = dktX7_rule_0 := by decide +kernel
theorem dksX7_rule_1 : cX7_rule.data.toList.drop 23 = dktX7_rule_1 := dk_seg dksX7_rule_0 23 rfl rfl
theorem dksX7_rule_2 : cX7_rule.data.toList.drop 45 = dktX7_rule_2 := dk_seg dksX7_rule_1 22 rfl rfl
theorem dksX7_rule_3 : cX7_rule.data.toList.drop 69 = dktX7_rule_3 := dk_seg dksX7_rule_2 24 rfl rfl
theorem dksX7_rule_4 : cX7_rule.data.toList.drop 93 = dktX7_rule_4 := dk_seg dksX7_rule_3 24 rfl rfl
theorem dksX7_rule_5 : cX7_rule.data.toList.drop 117 = dktX7_rule_5 := dk_seg dksX7_rule_4 24 rfl rfl
theorem dX7_rule_0 : decode cX7_rule 0 = .ok (.aload_n 0, 1) := dk_42 (dk_at dksX7_rule_0 0 rfl rfl)
theorem dX7_rule_1 : decode cX7_rule 1 = .ok (.invokevirtual 46, 3) := dk_182 0 46 (dk_at dksX7_rule_0 1 rfl rfl)
theorem dX7_rule_4 : decode cX7_rule 4 = .ok (.astore_n 1, 1) := dk_76 (dk_at dksX7_rule_0 4 rfl rfl)
theorem dX7_rule_5 : decode cX7_rule 5 = .ok (.aload_n 0, 1) := dk_42 (dk_at dksX7_rule_0 5 rfl rfl)
theorem dX7_rule_6 : decode cX7_rule 6 = .ok (.ldc 213, 2) := dk_18 213 (dk_at dksX7_rule_0 6 rfl rfl)
theorem dX7_rule_8 : decode cX7_rule 8 = .ok (.invokevirtual 72, 3) := dk_182 0 72 (dk_at dksX7_rule_0 8 rfl rfl)
theorem dX7_rule_11 : decode cX7_rule 11 = .ok (.aload_n 0, 1) := dk_42 (dk_at dksX7_rule_0 11 rfl rfl)
theorem dX7_rule_12 : decode cX7_rule 12 = .ok (.iconst 4, 1) := dk_7 (dk_at dksX7_rule_0 12 rfl rfl)
theorem dX7_rule_13 : decode cX7_rule 13 = .ok (.aload_n 0, 1) := dk_42 (dk_at dksX7_rule_0 13 rfl rfl)
theorem dX7_rule_14 : decode cX7_rule 14 = .ok (.getfield 12, 3) := dk_180 0 12 (dk_at dksX7_rule_0 14 rfl rfl)
theorem dX7_rule_17 : decode cX7_rule 17 = .ok (.getfield 215, 3) := dk_180 0 215 (dk_at dksX7_rule_0 17 rfl rfl)
theorem dX7_rule_20 : decode cX7_rule 20 = .ok (.invokevirtual 182, 3) := dk_182 0 182 (dk_at dksX7_rule_0 20 rfl rfl)
theorem dX7_rule_23 : decode cX7_rule 23 = .ok (.bipush 12, 2) := dk_16 12 (dk_at dksX7_rule_1 0 rfl rfl)
theorem dX7_rule_25 : decode cX7_rule 25 = .ok (.if_icmp .ge 7, 3) := dk_162 0 7 (dk_at dksX7_rule_1 2 rfl rfl)
theorem dX7_rule_28 : decode cX7_rule 28 = .ok (.iconst 1, 1) := dk_4 (dk_at dksX7_rule_1 5 rfl rfl)
theorem dX7_rule_29 : decode cX7_rule 29 = .ok (.goto 4, 3) := dk_167 0 4 (dk_at dksX7_rule_1 6 rfl rfl)
theorem dX7_rule_32 : decode cX7_rule 32 = .ok (.iconst 0, 1) := dk_3 (dk_at dksX7_rule_1 9 rfl rfl)
theorem dX7_rule_33 : decode cX7_rule 33 = .ok (.aload_n 1, 1) := dk_43 (dk_at dksX7_rule_1 10 rfl rfl)
theorem dX7_rule_34 : decode cX7_rule 34 = .ok (.invokevirtual 98, 3) := dk_182 0 98 (dk_at dksX7_rule_1 11 rfl rfl)
theorem dX7_rule_37 : decode cX7_rule 37 = .ok (.aload_n 0, 1) := dk_42 (dk_at dksX7_rule_1 14 rfl rfl)
theorem dX7_rule_38 : decode cX7_rule 38 = .ok (.invokevirtual 218, 3) := dk_182 0 218 (dk_at dksX7_rule_1 15 rfl rfl)
theorem dX7_rule_41 : decode cX7_rule 41 = .ok (.astore_n 2, 1) := dk_77 (dk_at dksX7_rule_1 18 rfl rfl)
theorem dX7_rule_42 : decode cX7_rule 42 = .ok (.aload_n 0, 1) := dk_42 (dk_at dksX7_rule_1 19 rfl rfl)
theorem dX7_rule_43 : decode cX7_rule 43 = .ok (.ldc 222, 2) := dk_18 222 (dk_at dksX7_rule_1 20 rfl rfl)
theorem dX7_rule_45 : decode cX7_rule 45 = .ok (.invokevirtual 72, 3) := dk_182 0 72 (dk_at dksX7_rule_2 0 rfl rfl)
theorem dX7_rule_48 : decode cX7_rule 48 = .ok (.aload_n 0, 1) := dk_42 (dk_at dksX7_rule_2 3 rfl rfl)
theorem dX7_rule_49 : decode cX7_rule 49 = .ok (.invokevirtual 224, 3) := dk_182 0 224 (dk_at dksX7_rule_2 4 rfl rfl)
theorem dX7_rule_52 : decode cX7_rule 52 = .ok (.astore_n 3, 1) := dk_78 (dk_at dksX7_rule_2 7 rfl rfl)
theorem dX7_rule_53 : decode cX7_rule 53 = .ok (.aload_n 0, 1) := dk_42 (dk_at dksX7_rule_2 8 rfl rfl)
theorem dX7_rule_54 : decode cX7_rule 54 = .ok (.ldc 228, 2) := dk_18 228 (dk_at dksX7_rule_2 9 rfl rfl)
theorem dX7_rule_56 : decode cX7_rule 56 = .ok (.invokevirtual 72, 3) := dk_182 0 72 (dk_at dksX7_rule_2 11 rfl rfl)
theorem dX7_rule_59 : decode cX7_rule 59 = .ok (.aload_n 0, 1) := dk_42 (dk_at dksX7_rule_2 14 rfl rfl)
theorem dX7_rule_60 : decode cX7_rule 60 = .ok (.aload_n 0, 1) := dk_42 (dk_at dksX7_rule_2 15 rfl rfl)
theorem dX7_rule_61 : decode cX7_rule 61 = .ok (.getfield 25, 3) := dk_180 0 25 (dk_at dksX7_rule_2 16 rfl rfl)
theorem dX7_rule_64 : decode cX7_rule 64 = .ok (.invokevirtual 131, 3) := dk_182 0 131 (dk_at dksX7_rule_2 19 rfl rfl)
theorem dX7_rule_67 : decode cX7_rule 67 = .ok (.istore 4, 2) := dk_54 4 (dk_at dksX7_rule_2 22 rfl rfl)
theorem dX7_rule_69 : decode cX7_rule 69 = .ok (.aload_n 0, 1) := dk_42 (dk_at dksX7_rule_3 0 rfl rfl)
theorem dX7_rule_70 : decode cX7_rule 70 = .ok (.ldc 172, 2) := dk_18 172 (dk_at dksX7_rule_3 1 rfl rfl)
theorem dX7_rule_72 : decode cX7_rule 72 = .ok (.invokevirtual 72, 3) := dk_182 0 72 (dk_at dksX7_rule_3 3 rfl rfl)
theorem dX7_rule_75 : decode cX7_rule 75 = .ok (.aload_n 0, 1) := dk_42 (dk_at dksX7_rule_3 6 rfl rfl)
theorem dX7_rule_76 : decode cX7_rule 76 = .ok (.getfield 79, 3) := dk_180 0 79 (dk_at dksX7_rule_3 7 rfl rfl)
theorem dX7_rule_79 : decode cX7_rule 79 = .ok (.ifCond .eq 38, 3) := dk_153 0 38 (dk_at dksX7_rule_3 10 rfl rfl)
theorem dX7_rule_82 : decode cX7_rule 82 = .ok (.aload_n 0, 1) := dk_42 (dk_at dksX7_rule_3 13 rfl rfl)
theorem dX7_rule_83 : decode cX7_rule 83 = .ok (.getfield 12, 3) := dk_180 0 12 (dk_at dksX7_rule_3 14 rfl rfl)
theorem dX7_rule_86 : decode cX7_rule 86 = .ok (.getfield 215, 3) := dk_180 0 215 (dk_at dksX7_rule_3 17 rfl rfl)
theorem dX7_rule_89 : decode cX7_rule 89 = .ok (.new 230, 3) := dk_187 0 230 (dk_at dksX7_rule_3 20 rfl rfl)
theorem dX7_rule_92 : decode cX7_rule 92 = .ok (.dup, 1) := dk_89 (dk_at dksX7_rule_3 23 rfl rfl)
theorem dX7_rule_93 : decode cX7_rule 93 = .ok (.aload_n 2, 1) := dk_44 (dk_at dksX7_rule_4 0 rfl rfl)
theorem dX7_rule_94 : decode cX7_rule 94 = .ok (.aload_n 3, 1) := dk_45 (dk_at dksX7_rule_4 1 rfl rfl)
theorem dX7_rule_95 : decode cX7_rule 95 = .ok (.aload_n 0, 1) := dk_42 (dk_at dksX7_rule_4 2 rfl rfl)
theorem dX7_rule_96 : decode cX7_rule 96 = .ok (.getfield 12, 3) := dk_180 0 12 (dk_at dksX7_rule_4 3 rfl rfl)
theorem dX7_rule_99 : decode cX7_rule 99 = .ok (.getfield 207, 3) := dk_180 0 207 (dk_at dksX7_rule_4 6 rfl rfl)
theorem dX7_rule_102 : decode cX7_rule 102 = .ok (.iload 4, 2) := dk_21 4 (dk_at dksX7_rule_4 9 rfl rfl)
theorem dX7_rule_104 : decode cX7_rule 104 = .ok (.invokevirtual 232, 3) := dk_182 0 232 (dk_at dksX7_rule_4 11 rfl rfl)
theorem dX7_rule_107 : decode cX7_rule 107 = .ok (.checkcast 209, 3) := dk_192 0 209 (dk_at dksX7_rule_4 14 rfl rfl)
theorem dX7_rule_110 : decode cX7_rule 110 = .ok (.invokespecial 233, 3) := dk_183 0 233 (dk_at dksX7_rule_4 17 rfl rfl)
theorem dX7_rule_113 : decode cX7_rule 113 = .ok (.invokevirtual 188, 3) := dk_182 0 188 (dk_at dksX7_rule_4 20 rfl rfl)
theorem dX7_rule_116 : decode cX7_rule 116 = .ok (.pop, 1) := dk_87 (dk_at dksX7_rule_4 23 rfl rfl)
theorem dX7_rule_117 : decode cX7_rule 117 = .ok (.return_, 1) := dk_177 (dk_at dksX7_rule_5 0 rfl rfl)
abbrev cX7_test : ByteArray := prog_14_method_21_code
def yX7_test : MethodName := ⟨RX7, "test", "()LShadowSpell$Test;"⟩
def dkwX7_test_1 : List UInt8 := [182, 0, 58, 154, 255, 238, 43, 176]
abbrev dktX7_test_1 : List UInt8 := dkwX7_test_1 ++ []
def dkwX7_test_0 : List UInt8 := [187, 0, 236, 89, 3, 183, 0, 238, 76, 43, 180, 0, 241, 42, 182, 0, 244, 182, 0, 188, 87, 42, 18, 247]
abbrev dktX7_test_0 : List UInt8 := dkwX7_test_0 ++ dktX7_test_1
theorem dksX7_test_0 : cX7_test.data.toList.drop 0 = dktX7_test_0 := by decide +kernel
theorem dksX7_test_1 : cX7_test.data.toList.drop 24 = dktX7_test_1 := dk_seg dksX7_test_0 24 rfl rfl
theorem dX7_test_0 : decode cX7_test 0 = .ok (.new 236, 3) := dk_187 0 236 (dk_at dksX7_test_0 0 rfl rfl)
theorem dX7_test_3 : decode cX7_test 3 = .ok (.dup, 1) := dk_89 (dk_at dksX7_test_0 3 rfl rfl)
theorem dX7_test_4 : decode cX7_test 4 = .ok (.iconst 0, 1) := dk_3 (dk_at dksX7_test_0 4 rfl rfl)
theorem dX7_test_5 : decode cX7_test 5 = .ok (.invokespecial 238, 3) := dk_183 0 238 (dk_at dksX7_test_0 5 rfl rfl)
theorem dX7_test_8 : decode cX7_test 8 = .ok (.astore_n 1, 1) := dk_76 (dk_at dksX7_test_0 8 rfl rfl)
theorem dX7_test_9 : decode cX7_test 9 = .ok (.aload_n 1, 1) := dk_43 (dk_at dksX7_test_0 9 rfl rfl)
theorem dX7_test_10 : decode cX7_test 10 = .ok (.getfield 241, 3) := dk_180 0 241 (dk_at dksX7_test_0 10 rfl rfl)
theorem dX7_test_13 : decode cX7_test 13 = .ok (.aload_n 0, 1) := dk_42 (dk_at dksX7_test_0 13 rfl rfl)
theorem dX7_test_14 : decode cX7_test 14 = .ok (.invokevirtual 244, 3) := dk_182 0 244 (dk_at dksX7_test_0 14 rfl rfl)
theorem dX7_test_17 : decode cX7_test 17 = .ok (.invokevirtual 188, 3) := dk_182 0 188 (dk_at dksX7_test_0 17 rfl rfl)
theorem dX7_test_20 : decode cX7_test 20 = .ok (.pop, 1) := dk_87 (dk_at dksX7_test_0 20 rfl rfl)
theorem dX7_test_21 : decode cX7_test 21 = .ok (.aload_n 0, 1) := dk_42 (dk_at dksX7_test_0 21 rfl rfl)
theorem dX7_test_22 : decode cX7_test 22 = .ok (.ldc 247, 2) := dk_18 247 (dk_at dksX7_test_0 22 rfl rfl)
theorem dX7_test_24 : decode cX7_test 24 = .ok (.invokevirtual 58, 3) := dk_182 0 58 (dk_at dksX7_test_1 0 rfl rfl)
theorem dX7_test_27 : decode cX7_test 27 = .ok (.ifCond .ne (-18), 3) := dk_154 255 238 (dk_at dksX7_test_1 3 rfl rfl)
theorem dX7_test_30 : decode cX7_test 30 = .ok (.aload_n 1, 1) := dk_43 (dk_at dksX7_test_1 6 rfl rfl)
theorem dX7_test_31 : decode cX7_test 31 = .ok (.areturn, 1) := dk_176 (dk_at dksX7_test_1 7 rfl rfl)
abbrev cX7_both : ByteArray := prog_14_method_22_code
def yX7_both : MethodName := ⟨RX7, "both", "()LShadowSpell$Test;"⟩
def dkwX7_both_1 : List UInt8 := [182, 0, 58, 154, 255, 238, 43, 176]
abbrev dktX7_both_1 : List UInt8 := dkwX7_both_1 ++ []
def dkwX7_both_0 : List UInt8 := [187, 0, 236, 89, 4, 183, 0, 238, 76, 43, 180, 0, 241, 42, 182, 0, 249, 182, 0, 188, 87, 42, 18, 252]
abbrev dktX7_both_0 : List UInt8 := dkwX7_both_0 ++ dktX7_both_1
theorem dksX7_both_0 : cX7_both.data.toList.drop 0 = dktX7_both_0 := by decide +kernel
theorem dksX7_both_1 : cX7_both.data.toList.drop 24 = dktX7_both_1 := dk_seg dksX7_both_0 24 rfl rfl
theorem dX7_both_0 : decode cX7_both 0 = .ok (.new 236, 3) := dk_187 0 236 (dk_at dksX7_both_0 0 rfl rfl)
theorem dX7_both_3 : decode cX7_both 3 = .ok (.dup, 1) := dk_89 (dk_at dksX7_both_0 3 rfl rfl)
theorem dX7_both_4 : decode cX7_both 4 = .ok (.iconst 1, 1) := dk_4 (dk_at dksX7_both_0 4 rfl rfl)
theorem dX7_both_5 : decode cX7_both 5 = .ok (.invokespecial 238, 3) := dk_183 0 238 (dk_at dksX7_both_0 5 rfl rfl)
theorem dX7_both_8 : decode cX7_both 8 = .ok (.astore_n 1, 1) := dk_76 (dk_at dksX7_both_0 8 rfl rfl)
theorem dX7_both_9 : decode cX7_both 9 = .ok (.aload_n 1, 1) := dk_43 (dk_at dksX7_both_0 9 rfl rfl)
theorem dX7_both_10 : decode cX7_both 10 = .ok (.getfield 241, 3) := dk_180 0 241 (dk_at dksX7_both_0 10 rfl rfl)
theorem dX7_both_13 : decode cX7_both 13 = .ok (.aload_n 0, 1) := dk_42 (dk_at dksX7_both_0 13 rfl rfl)
theorem dX7_both_14 : decode cX7_both 14 = .ok (.invokevirtual 249, 3) := dk_182 0 249 (dk_at dksX7_both_0 14 rfl rfl)
theorem dX7_both_17 : decode cX7_both 17 = .ok (.invokevirtual 188, 3) := dk_182 0 188 (dk_at dksX7_both_0 17 rfl rfl)
theorem dX7_both_20 : decode cX7_both 20 = .ok (.pop, 1) := dk_87 (dk_at dksX7_both_0 20 rfl rfl)
theorem dX7_both_21 : decode cX7_both 21 = .ok (.aload_n 0, 1) := dk_42 (dk_at dksX7_both_0 21 rfl rfl)
theorem dX7_both_22 : decode cX7_both 22 = .ok (.ldc 252, 2) := dk_18 252 (dk_at dksX7_both_0 22 rfl rfl)
theorem dX7_both_24 : decode cX7_both 24 = .ok (.invokevirtual 58, 3) := dk_182 0 58 (dk_at dksX7_both_1 0 rfl rfl)
theorem dX7_both_27 : decode cX7_both 27 = .ok (.ifCond .ne (-18), 3) := dk_154 255 238 (dk_at dksX7_both_1 3 rfl rfl)
theorem dX7_both_30 : decode cX7_both 30 = .ok (.aload_n 1, 1) := dk_43 (dk_at dksX7_both_1 6 rfl rfl)
theorem dX7_both_31 : decode cX7_both 31 = .ok (.areturn, 1) := dk_176 (dk_at dksX7_both_1 7 rfl rfl)
abbrev cX7_single : ByteArray := prog_14_method_23_code
def yX7_single : MethodName := ⟨RX7, "single", "()LShadowSpell$Test;"⟩
def dkwX7_single_10 : List UInt8 := [89, 44, 180, 0, 91, 43, 42, 182, 0, 224, 183, 1, 48, 176]
abbrev dktX7_single_10 : List UInt8 := dkwX7_single_10 ++ []
def dkwX7_single_9 : List UInt8 := [182, 0, 200, 156, 0, 8, 42, 182, 0, 61, 191, 42, 89, 180, 0, 32, 4, 96, 181, 0, 32, 187, 1, 46]
abbrev dktX7_single_9 : List UInt8 := dkwX7_single_9 ++ dktX7_single_10
def dkwX7_single_8 : List UInt8 := [77, 44, 180, 0, 65, 178, 1, 41, 166, 0, 20, 19, 1, 44, 44, 180, 0, 91, 3, 182, 0, 196]
abbrev dktX7_single_8 : List UInt8 := dkwX7_single_8 ++ dktX7_single_9
def dkwX7_single_7 : List UInt8 := [187, 1, 33, 89, 43, 28, 42, 28, 182, 1, 35, 183, 1, 38, 176, 42, 182, 0, 224, 76, 42, 182, 0, 46]
abbrev dktX7_single_7 : List UInt8 := dkwX7_single_7 ++ dktX7_single_8
def dkwX7_single_6 : List UInt8 := [178, 1, 29, 166, 0, 10, 42, 19, 1, 20, 182, 0, 72, 42, 42, 180, 0, 21, 182, 0, 131, 61]
abbrev dktX7_single_6 : List UInt8 := dkwX7_single_6 ++ dktX7_single_7
def dkwX7_single_5 : List UInt8 := [182, 0, 46, 19, 1, 22, 182, 0, 54, 153, 0, 52, 42, 19, 1, 22, 182, 0, 58, 184, 1, 24, 76, 43]
abbrev dktX7_single_5 : List UInt8 := dkwX7_single_5 ++ dktX7_single_6
def dkwX7_single_4 : List UInt8 := [180, 0, 21, 182, 0, 131, 183, 1, 17, 176, 42, 182, 0, 46, 19, 1, 20, 182, 0, 54, 154, 0, 16, 42]
abbrev dktX7_single_4 : List UInt8 := dkwX7_single_4 ++ dktX7_single_5
def dkwX7_single_3 : List UInt8 := [19, 1, 10, 182, 1, 12, 43, 176, 42, 18, 168, 182, 0, 58, 153, 0, 19, 187, 1, 15, 89, 42, 42]
abbrev dktX7_single_3 : List UInt8 := dkwX7_single_3 ++ dktX7_single_4
def dkwX7_single_2 : List UInt8 := [19, 1, 8, 182, 0, 54, 153, 0, 24, 42, 19, 1, 8, 182, 1, 0, 42, 182, 0, 218, 76, 42]
abbrev dktX7_single_2 : List UInt8 := dkwX7_single_2 ++ dktX7_single_3
def dkwX7_single_1 : List UInt8 := [182, 0, 249, 183, 1, 5, 76, 42, 89, 180, 0, 69, 4, 100, 181, 0, 69, 43, 176, 42, 182, 0, 46]
abbrev dktX7_single_1 : List UInt8 := dkwX7_single_1 ++ dktX7_single_2
def dkwX7_single_0 : List UInt8 := [42, 182, 0, 46, 18, 254, 182, 0, 54, 153, 0, 33, 42, 18, 254, 182, 1, 0, 187, 1, 3, 89, 42]
abbrev dktX7_single_0 : List UInt8 := dkwX7_single_0 ++ dktX7_single_1
theorem dksX7_single_0 : cX7_single.data.toList.drop 0 = dktX7_single_0 := by decide +kernel
theorem dksX7_single_1 : cX7_single.data.toList.drop 23 = dktX7_single_1 := dk_seg dksX7_single_0 23 rfl rfl
theorem dksX7_single_2 : cX7_single.data.toList.drop 46 = dktX7_single_2 := dk_seg dksX7_single_1 23 rfl rfl
theorem dksX7_single_3 : cX7_single.data.toList.drop 68 = dktX7_single_3 := dk_seg dksX7_single_2 22 rfl rfl
theorem dksX7_single_4 : cX7_single.data.toList.drop 91 = dktX7_single_4 := dk_seg dksX7_single_3 23 rfl rfl
theorem dksX7_single_5 : cX7_single.data.toList.drop 115 = dktX7_single_5 := dk_seg dksX7_single_4 24 rfl rfl
theorem dksX7_single_6 : cX7_single.data.toList.drop 139 = dktX7_single_6 := dk_seg dksX7_single_5 24 rfl rfl
theorem dksX7_single_7 : cX7_single.data.toList.drop 161 = dktX7_single_7 := dk_seg dksX7_single_6 22 rfl rfl
theorem dksX7_single_8 : cX7_single.data.toList.drop 185 = dktX7_single_8 := dk_seg dksX7_single_7 24 rfl rfl
theorem dksX7_single_9 : cX7_single.data.toList.drop 207 = dktX7_single_9 := dk_seg dksX7_single_8 22 rfl rfl
theorem dksX7_single_10 : cX7_single.data.toList.drop 231 = dktX7_single_10 := dk_seg dksX7_single_9 24 rfl rfl
theorem dX7_single_0 : decode cX7_single 0 = .ok (.aload_n 0, 1) := dk_42 (dk_at dksX7_single_0 0 rfl rfl)
theorem dX7_single_1 : decode cX7_single 1 = .ok (.invokevirtual 46, 3) := dk_182 0 46 (dk_at dksX7_single_0 1 rfl rfl)
theorem dX7_single_4 : decode cX7_single 4 = .ok (.ldc 254, 2) := dk_18 254 (dk_at dksX7_single_0 4 rfl rfl)
theorem dX7_single_6 : decode cX7_single 6 = .ok (.invokevirtual 54, 3) := dk_182 0 54 (dk_at dksX7_single_0 6 rfl rfl)
theorem dX7_single_9 : decode cX7_single 9 = .ok (.ifCond .eq 33, 3) := dk_153 0 33 (dk_at dksX7_single_0 9 rfl rfl)
theorem dX7_single_12 : decode cX7_single 12 = .ok (.aload_n 0, 1) := dk_42 (dk_at dksX7_single_0 12 rfl rfl)
theorem dX7_single_13 : decode cX7_single 13 = .ok (.ldc 254, 2) := dk_18 254 (dk_at dksX7_single_0 13 rfl rfl)
theorem dX7_single_15 : decode cX7_single 15 = .ok (.invokevirtual 256, 3) := dk_182 1 0 (dk_at dksX7_single_0 15 rfl rfl)
theorem dX7_single_18 : decode cX7_single 18 = .ok (.new 259, 3) := dk_187 1 3 (dk_at dksX7_single_0 18 rfl rfl)
theorem dX7_single_21 : decode cX7_single 21 = .ok (.dup, 1) := dk_89 (dk_at dksX7_single_0 21 rfl rfl)
theorem dX7_single_22 : decode cX7_single 22 = .ok (.aload_n 0, 1) := dk_42 (dk_at dksX7_single_0 22 rfl rfl)
theorem dX7_single_23 : decode cX7_single 23 = .ok (.invokevirtual 249, 3) := dk_182 0 249 (dk_at dksX7_single_1 0 rfl rfl)
theorem dX7_single_26 : decode cX7_single 26 = .ok (.invokespecial 261, 3) := dk_183 1 5 (dk_at dksX7_single_1 3 rfl rfl)
theorem dX7_single_29 : decode cX7_single 29 = .ok (.astore_n 1, 1) := dk_76 (dk_at dksX7_single_1 6 rfl rfl)
theorem dX7_single_30 : decode cX7_single 30 = .ok (.aload_n 0, 1) := dk_42 (dk_at dksX7_single_1 7 rfl rfl)
theorem dX7_single_31 : decode cX7_single 31 = .ok (.dup, 1) := dk_89 (dk_at dksX7_single_1 8 rfl rfl)
theorem dX7_single_32 : decode cX7_single 32 = .ok (.getfield 69, 3) := dk_180 0 69 (dk_at dksX7_single_1 9 rfl rfl)
theorem dX7_single_35 : decode cX7_single 35 = .ok (.iconst 1, 1) := dk_4 (dk_at dksX7_single_1 12 rfl rfl)
theorem dX7_single_36 : decode cX7_single 36 = .ok (.isub, 1) := dk_100 (dk_at dksX7_single_1 13 rfl rfl)
theorem dX7_single_37 : decode cX7_single 37 = .ok (.putfield 69, 3) := dk_181 0 69 (dk_at dksX7_single_1 14 rfl rfl)
theorem dX7_single_40 : decode cX7_single 40 = .ok (.aload_n 1, 1) := dk_43 (dk_at dksX7_single_1 17 rfl rfl)
theorem dX7_single_41 : decode cX7_single 41 = .ok (.areturn, 1) := dk_176 (dk_at dksX7_single_1 18 rfl rfl)
theorem dX7_single_42 : decode cX7_single 42 = .ok (.aload_n 0, 1) := dk_42 (dk_at dksX7_single_1 19 rfl rfl)
theorem dX7_single_43 : decode cX7_single 43 = .ok (.invokevirtual 46, 3) := dk_182 0 46 (dk_at dksX7_single_1 20 rfl rfl)
theorem dX7_single_46 : decode cX7_single 46 = .ok (.ldc_w 264, 3) := dk_19 1 8 (dk_at dksX7_single_2 0 rfl rfl)
theorem dX7_single_49 : decode cX7_single 49 = .ok (.invokevirtual 54, 3) := dk_182 0 54 (dk_at dksX7_single_2 3 rfl rfl)
theorem dX7_single_52 : decode cX7_single 52 = .ok (.ifCond .eq 24, 3) := dk_153 0 24 (dk_at dksX7_single_2 6 rfl rfl)
theorem dX7_single_55 : decode cX7_single 55 = .ok (.aload_n 0, 1) := dk_42 (dk_at dksX7_single_2 9 rfl rfl)
theorem dX7_single_56 : decode cX7_single 56 = .ok (.ldc_w 264, 3) := dk_19 1 8 (dk_at dksX7_single_2 10 rfl rfl)
theorem dX7_single_59 : decode cX7_single 59 = .ok (.invokevirtual 256, 3) := dk_182 1 0 (dk_at dksX7_single_2 13 rfl rfl)
theorem dX7_single_62 : decode cX7_single 62 = .ok (.aload_n 0, 1) := dk_42 (dk_at dksX7_single_2 16 rfl rfl)
theorem dX7_single_63 : decode cX7_single 63 = .ok (.invokevirtual 218, 3) := dk_182 0 218 (dk_at dksX7_single_2 17 rfl rfl)
theorem dX7_single_66 : decode cX7_single 66 = .ok (.astore_n 1, 1) := dk_76 (dk_at dksX7_single_2 20 rfl rfl)
theorem dX7_single_67 : decode cX7_single 67 = .ok (.aload_n 0, 1) := dk_42 (dk_at dksX7_single_2 21 rfl rfl)
theorem dX7_single_68 : decode cX7_single 68 = .ok (.ldc_w 266, 3) := dk_19 1 10 (dk_at dksX7_single_3 0 rfl rfl)
theorem dX7_single_71 : decode cX7_single 71 = .ok (.invokevirtual 268, 3) := dk_182 1 12 (dk_at dksX7_single_3 3 rfl rfl)
theorem dX7_single_74 : decode cX7_single 74 = .ok (.aload_n 1, 1) := dk_43 (dk_at dksX7_single_3 6 rfl rfl)
theorem dX7_single_75 : decode cX7_single 75 = .ok (.areturn, 1) := dk_176 (dk_at dksX7_single_3 7 rfl rfl)
theorem dX7_single_76 : decode cX7_single 76 = .ok (.aload_n 0, 1) := dk_42 (dk_at dksX7_single_3 8 rfl rfl)
theorem dX7_single_77 : decode cX7_single 77 = .ok (.ldc 168, 2) := dk_18 168 (dk_at dksX7_single_3 9 rfl rfl)
theorem dX7_single_79 : decode cX7_single 79 = .ok (.invokevirtual 58, 3) := dk_182 0 58 (dk_at dksX7_single_3 11 rfl rfl)
theorem dX7_single_82 : decode cX7_single 82 = .ok (.ifCond .eq 19, 3) := dk_153 0 19 (dk_at dksX7_single_3 14 rfl rfl)
theorem dX7_single_85 : decode cX7_single 85 = .ok (.new 271, 3) := dk_187 1 15 (dk_at dksX7_single_3 17 rfl rfl)
theorem dX7_single_88 : decode cX7_single 88 = .ok (.dup, 1) := dk_89 (dk_at dksX7_single_3 20 rfl rfl)
theorem dX7_single_89 : decode cX7_single 89 = .ok (.aload_n 0, 1) := dk_42 (dk_at dksX7_single_3 21 rfl rfl)
theorem dX7_single_90 : decode cX7_single 90 = .ok (.aload_n 0, 1) := dk_42 (dk_at dksX7_single_3 22 rfl rfl)
theorem dX7_single_91 : decode cX7_single 91 = .ok (.getfield 21, 3) := dk_180 0 21 (dk_at dksX7_single_4 0 rfl rfl)
theorem dX7_single_94 : decode cX7_single 94 = .ok (.invokevirtual 131, 3) := dk_182 0 131 (dk_at dksX7_single_4 3 rfl rfl)
theorem dX7_single_97 : decode cX7_single 97 = .ok (.invokespecial 273, 3) := dk_183 1 17 (dk_at dksX7_single_4 6 rfl rfl)
theorem dX7_single_100 : decode cX7_single 100 = .ok (.areturn, 1) := dk_176 (dk_at dksX7_single_4 9 rfl rfl)
theorem dX7_single_101 : decode cX7_single 101 = .ok (.aload_n 0, 1) := dk_42 (dk_at dksX7_single_4 10 rfl rfl)
theorem dX7_single_102 : decode cX7_single 102 = .ok (.invokevirtual 46, 3) := dk_182 0 46 (dk_at dksX7_single_4 11 rfl rfl)
theorem dX7_single_105 : decode cX7_single 105 = .ok (.ldc_w 276, 3) := dk_19 1 20 (dk_at dksX7_single_4 14 rfl rfl)
theorem dX7_single_108 : decode cX7_single 108 = .ok (.invokevirtual 54, 3) := dk_182 0 54 (dk_at dksX7_single_4 17 rfl rfl)
theorem dX7_single_111 : decode cX7_single 111 = .ok (.ifCond .ne 16, 3) := dk_154 0 16 (dk_at dksX7_single_4 20 rfl rfl)
theorem dX7_single_114 : decode cX7_single 114 = .ok (.aload_n 0, 1) := dk_42 (dk_at dksX7_single_4 23 rfl rfl)
theorem dX7_single_115 : decode cX7_single 115 = .ok (.invokevirtual 46, 3) := dk_182 0 46 (dk_at dksX7_single_5 0 rfl rfl)
theorem dX7_single_118 : decode cX7_single 118 = .ok (.ldc_w 278, 3) := dk_19 1 22 (dk_at dksX7_single_5 3 rfl rfl)
theorem dX7_single_121 : decode cX7_single 121 = .ok (.invokevirtual 54, 3) := dk_182 0 54 (dk_at dksX7_single_5 6 rfl rfl)
theorem dX7_single_124 : decode cX7_single 124 = .ok (.ifCond .eq 52, 3) := dk_153 0 52 (dk_at dksX7_single_5 9 rfl rfl)
theorem dX7_single_127 : decode cX7_single 127 = .ok (.aload_n 0, 1) := dk_42 (dk_at dksX7_single_5 12 rfl rfl)
theorem dX7_single_128 : decode cX7_single 128 = .ok (.ldc_w 278, 3) := dk_19 1 22 (dk_at dksX7_single_5 13 rfl rfl)
theorem dX7_single_131 : decode cX7_single 131 = .ok (.invokevirtual 58, 3) := dk_182 0 58 (dk_at dksX7_single_5 16 rfl rfl)
theorem dX7_single_134 : decode cX7_single 134 = .ok (.invokestatic 280, 3) := dk_184 1 24 (dk_at dksX7_single_5 19 rfl rfl)
theorem dX7_single_137 : decode cX7_single 137 = .ok (.astore_n 1, 1) := dk_76 (dk_at dksX7_single_5 22 rfl rfl)
theorem dX7_single_138 : decode cX7_single 138 = .ok (.aload_n 1, 1) := dk_43 (dk_at dksX7_single_5 23 rfl rfl)
theorem dX7_single_139 : decode cX7_single 139 = .ok (.getstatic 285, 3) := dk_178 1 29 (dk_at dksX7_single_6 0 rfl rfl)
theorem dX7_single_142 : decode cX7_single 142 = .ok (.if_acmp .ne 10, 3) := dk_166 0 10 (dk_at dksX7_single_6 3 rfl rfl)
theorem dX7_single_145 : decode cX7_single 145 = .ok (.aload_n 0, 1) := dk_42 (dk_at dksX7_single_6 6 rfl rfl)
theorem dX7_single_146 : decode cX7_single 146 = .ok (.ldc_w 276, 3) := dk_19 1 20 (dk_at dksX7_single_6 7 rfl rfl)
theorem dX7_single_149 : decode cX7_single 149 = .ok (.invokevirtual 72, 3) := dk_182 0 72 (dk_at dksX7_single_6 10 rfl rfl)
theorem dX7_single_152 : decode cX7_single 152 = .ok (.aload_n 0, 1) := dk_42 (dk_at dksX7_single_6 13 rfl rfl)
theorem dX7_single_153 : decode cX7_single 153 = .ok (.aload_n 0, 1) := dk_42 (dk_at dksX7_single_6 14 rfl rfl)
theorem dX7_single_154 : decode cX7_single 154 = .ok (.getfield 21, 3) := dk_180 0 21 (dk_at dksX7_single_6 15 rfl rfl)
theorem dX7_single_157 : decode cX7_single 157 = .ok (.invokevirtual 131, 3) := dk_182 0 131 (dk_at dksX7_single_6 18 rfl rfl)
theorem dX7_single_160 : decode cX7_single 160 = .ok (.istore_n 2, 1) := dk_61 (dk_at dksX7_single_6 21 rfl rfl)
theorem dX7_single_161 : decode cX7_single 161 = .ok (.new 289, 3) := dk_187 1 33 (dk_at dksX7_single_7 0 rfl rfl)
theorem dX7_single_164 : decode cX7_single 164 = .ok (.dup, 1) := dk_89 (dk_at dksX7_single_7 3 rfl rfl)
theorem dX7_single_165 : decode cX7_single 165 = .ok (.aload_n 1, 1) := dk_43 (dk_at dksX7_single_7 4 rfl rfl)
theorem dX7_single_166 : decode cX7_single 166 = .ok (.iload_n 2, 1) := dk_28 (dk_at dksX7_single_7 5 rfl rfl)
theorem dX7_single_167 : decode cX7_single 167 = .ok (.aload_n 0, 1) := dk_42 (dk_at dksX7_single_7 6 rfl rfl)
theorem dX7_single_168 : decode cX7_single 168 = .ok (.iload_n 2, 1) := dk_28 (dk_at dksX7_single_7 7 rfl rfl)
theorem dX7_single_169 : decode cX7_single 169 = .ok (.invokevirtual 291, 3) := dk_182 1 35 (dk_at dksX7_single_7 8 rfl rfl)
theorem dX7_single_172 : decode cX7_single 172 = .ok (.invokespecial 294, 3) := dk_183 1 38 (dk_at dksX7_single_7 11 rfl rfl)
theorem dX7_single_175 : decode cX7_single 175 = .ok (.areturn, 1) := dk_176 (dk_at dksX7_single_7 14 rfl rfl)
theorem dX7_single_176 : decode cX7_single 176 = .ok (.aload_n 0, 1) := dk_42 (dk_at dksX7_single_7 15 rfl rfl)
theorem dX7_single_177 : decode cX7_single 177 = .ok (.invokevirtual 224, 3) := dk_182 0 224 (dk_at dksX7_single_7 16 rfl rfl)
theorem dX7_single_180 : decode cX7_single 180 = .ok (.astore_n 1, 1) := dk_76 (dk_at dksX7_single_7 19 rfl rfl)
theorem dX7_single_181 : decode cX7_single 181 = .ok (.aload_n 0, 1) := dk_42 (dk_at dksX7_single_7 20 rfl rfl)
theorem dX7_single_182 : decode cX7_single 182 = .ok (.invokevirtual 46, 3) := dk_182 0 46 (dk_at dksX7_single_7 21 rfl rfl)
theorem dX7_single_185 : decode cX7_single 185 = .ok (.astore_n 2, 1) := dk_77 (dk_at dksX7_single_8 0 rfl rfl)
theorem dX7_single_186 : decode cX7_single 186 = .ok (.aload_n 2, 1) := dk_44 (dk_at dksX7_single_8 1 rfl rfl)
theorem dX7_single_187 : decode cX7_single 187 = .ok (.getfield 65, 3) := dk_180 0 65 (dk_at dksX7_single_8 2 rfl rfl)
theorem dX7_single_190 : decode cX7_single 190 = .ok (.getstatic 297, 3) := dk_178 1 41 (dk_at dksX7_single_8 5 rfl rfl)
theorem dX7_single_193 : decode cX7_single 193 = .ok (.if_acmp .ne 20, 3) := dk_166 0 20 (dk_at dksX7_single_8 8 rfl rfl)
theorem dX7_single_196 : decode cX7_single 196 = .ok (.ldc_w 300, 3) := dk_19 1 44 (dk_at dksX7_single_8 11 rfl rfl)
theorem dX7_single_199 : decode cX7_single 199 = .ok (.aload_n 2, 1) := dk_44 (dk_at dksX7_single_8 14 rfl rfl)
theorem dX7_single_200 : decode cX7_single 200 = .ok (.getfield 91, 3) := dk_180 0 91 (dk_at dksX7_single_8 15 rfl rfl)
theorem dX7_single_203 : decode cX7_single 203 = .ok (.iconst 0, 1) := dk_3 (dk_at dksX7_single_8 18 rfl rfl)
theorem dX7_single_204 : decode cX7_single 204 = .ok (.invokevirtual 196, 3) := dk_182 0 196 (dk_at dksX7_single_8 19 rfl rfl)
theorem dX7_single_207 : decode cX7_single 207 = .ok (.invokevirtual 200, 3) := dk_182 0 200 (dk_at dksX7_single_9 0 rfl rfl)
theorem dX7_single_210 : decode cX7_single 210 = .ok (.ifCond .ge 8, 3) := dk_156 0 8 (dk_at dksX7_single_9 3 rfl rfl)
theorem dX7_single_213 : decode cX7_single 213 = .ok (.aload_n 0, 1) := dk_42 (dk_at dksX7_single_9 6 rfl rfl)
theorem dX7_single_214 : decode cX7_single 214 = .ok (.invokevirtual 61, 3) := dk_182 0 61 (dk_at dksX7_single_9 7 rfl rfl)
theorem dX7_single_217 : decode cX7_single 217 = .ok (.athrow, 1) := dk_191 (dk_at dksX7_single_9 10 rfl rfl)
theorem dX7_single_218 : decode cX7_single 218 = .ok (.aload_n 0, 1) := dk_42 (dk_at dksX7_single_9 11 rfl rfl)
theorem dX7_single_219 : decode cX7_single 219 = .ok (.dup, 1) := dk_89 (dk_at dksX7_single_9 12 rfl rfl)
theorem dX7_single_220 : decode cX7_single 220 = .ok (.getfield 32, 3) := dk_180 0 32 (dk_at dksX7_single_9 13 rfl rfl)
theorem dX7_single_223 : decode cX7_single 223 = .ok (.iconst 1, 1) := dk_4 (dk_at dksX7_single_9 16 rfl rfl)
theorem dX7_single_224 : decode cX7_single 224 = .ok (.iadd, 1) := dk_96 (dk_at dksX7_single_9 17 rfl rfl)
theorem dX7_single_225 : decode cX7_single 225 = .ok (.putfield 32, 3) := dk_181 0 32 (dk_at dksX7_single_9 18 rfl rfl)
theorem dX7_single_228 : decode cX7_single 228 = .ok (.new 302, 3) := dk_187 1 46 (dk_at dksX7_single_9 21 rfl rfl)
theorem dX7_single_231 : decode cX7_single 231 = .ok (.dup, 1) := dk_89 (dk_at dksX7_single_10 0 rfl rfl)
theorem dX7_single_232 : decode cX7_single 232 = .ok (.aload_n 2, 1) := dk_44 (dk_at dksX7_single_10 1 rfl rfl)
theorem dX7_single_233 : decode cX7_single 233 = .ok (.getfield 91, 3) := dk_180 0 91 (dk_at dksX7_single_10 2 rfl rfl)
theorem dX7_single_236 : decode cX7_single 236 = .ok (.aload_n 1, 1) := dk_43 (dk_at dksX7_single_10 5 rfl rfl)
theorem dX7_single_237 : decode cX7_single 237 = .ok (.aload_n 0, 1) := dk_42 (dk_at dksX7_single_10 6 rfl rfl)
theorem dX7_single_238 : decode cX7_single 238 = .ok (.invokevirtual 224, 3) := dk_182 0 224 (dk_at dksX7_single_10 7 rfl rfl)
theorem dX7_single_241 : decode cX7_single 241 = .ok (.invokespecial 304, 3) := dk_183 1 48 (dk_at dksX7_single_10 10 rfl rfl)
theorem dX7_single_244 : decode cX7_single 244 = .ok (.areturn, 1) := dk_176 (dk_at dksX7_single_10 13 rfl rfl)
abbrev cX7_deeper : ByteArray := prog_14_method_7_code
def yX7_deeper : MethodName := ⟨RX7, "deeper", "(Ljava/lang/String;)V"⟩
def dkwX7_deeper_1 : List UInt8 := [191, 42, 89, 180, 0, 69, 4, 96, 181, 0, 69, 42, 89, 180, 0, 32, 4, 96, 181, 0, 32, 177]
abbrev dktX7_deeper_1 : List UInt8 := dkwX7_deeper_1 ++ []
def dkwX7_deeper_0 : List UInt8 := [42, 182, 0, 46, 43, 182, 0, 54, 153, 0, 12, 42, 180, 0, 69, 16, 8, 160, 0, 8, 42, 182, 0, 61]
abbrev dktX7_deeper_0 : List UInt8 := dkwX7_deeper_0 ++ dktX7_deeper_1
theorem dksX7_deeper_0 : cX7_deeper.data.toList.drop 0 = dktX7_deeper_0 := by decide +kernel
theorem dksX7_deeper_1 : cX7_deeper.data.toList.drop 24 = dktX7_deeper_1 := dk_seg dksX7_deeper_0 24 rfl rfl
theorem dX7_deeper_0 : decode cX7_deeper 0 = .ok (.aload_n 0, 1) := dk_42 (dk_at dksX7_deeper_0 0 rfl rfl)
theorem dX7_deeper_1 : decode cX7_deeper 1 = .ok (.invokevirtual 46, 3) := dk_182 0 46 (dk_at dksX7_deeper_0 1 rfl rfl)
theorem dX7_deeper_4 : decode cX7_deeper 4 = .ok (.aload_n 1, 1) := dk_43 (dk_at dksX7_deeper_0 4 rfl rfl)
theorem dX7_deeper_5 : decode cX7_deeper 5 = .ok (.invokevirtual 54, 3) := dk_182 0 54 (dk_at dksX7_deeper_0 5 rfl rfl)
theorem dX7_deeper_8 : decode cX7_deeper 8 = .ok (.ifCond .eq 12, 3) := dk_153 0 12 (dk_at dksX7_deeper_0 8 rfl rfl)
theorem dX7_deeper_11 : decode cX7_deeper 11 = .ok (.aload_n 0, 1) := dk_42 (dk_at dksX7_deeper_0 11 rfl rfl)
theorem dX7_deeper_12 : decode cX7_deeper 12 = .ok (.getfield 69, 3) := dk_180 0 69 (dk_at dksX7_deeper_0 12 rfl rfl)
theorem dX7_deeper_15 : decode cX7_deeper 15 = .ok (.bipush 8, 2) := dk_16 8 (dk_at dksX7_deeper_0 15 rfl rfl)
theorem dX7_deeper_17 : decode cX7_deeper 17 = .ok (.if_icmp .ne 8, 3) := dk_160 0 8 (dk_at dksX7_deeper_0 17 rfl rfl)
theorem dX7_deeper_20 : decode cX7_deeper 20 = .ok (.aload_n 0, 1) := dk_42 (dk_at dksX7_deeper_0 20 rfl rfl)
theorem dX7_deeper_21 : decode cX7_deeper 21 = .ok (.invokevirtual 61, 3) := dk_182 0 61 (dk_at dksX7_deeper_0 21 rfl rfl)
theorem dX7_deeper_24 : decode cX7_deeper 24 = .ok (.athrow, 1) := dk_191 (dk_at dksX7_deeper_1 0 rfl rfl)
theorem dX7_deeper_25 : decode cX7_deeper 25 = .ok (.aload_n 0, 1) := dk_42 (dk_at dksX7_deeper_1 1 rfl rfl)
theorem dX7_deeper_26 : decode cX7_deeper 26 = .ok (.dup, 1) := dk_89 (dk_at dksX7_deeper_1 2 rfl rfl)
theorem dX7_deeper_27 : decode cX7_deeper 27 = .ok (.getfield 69, 3) := dk_180 0 69 (dk_at dksX7_deeper_1 3 rfl rfl)
theorem dX7_deeper_30 : decode cX7_deeper 30 = .ok (.iconst 1, 1) := dk_4 (dk_at dksX7_deeper_1 6 rfl rfl)
theorem dX7_deeper_31 : decode cX7_deeper 31 = .ok (.iadd, 1) := dk_96 (dk_at dksX7_deeper_1 7 rfl rfl)
theorem dX7_deeper_32 : decode cX7_deeper 32 = .ok (.putfield 69, 3) := dk_181 0 69 (dk_at dksX7_deeper_1 8 rfl rfl)
theorem dX7_deeper_35 : decode cX7_deeper 35 = .ok (.aload_n 0, 1) := dk_42 (dk_at dksX7_deeper_1 11 rfl rfl)
theorem dX7_deeper_36 : decode cX7_deeper 36 = .ok (.dup, 1) := dk_89 (dk_at dksX7_deeper_1 12 rfl rfl)
theorem dX7_deeper_37 : decode cX7_deeper 37 = .ok (.getfield 32, 3) := dk_180 0 32 (dk_at dksX7_deeper_1 13 rfl rfl)
theorem dX7_deeper_40 : decode cX7_deeper 40 = .ok (.iconst 1, 1) := dk_4 (dk_at dksX7_deeper_1 16 rfl rfl)
theorem dX7_deeper_41 : decode cX7_deeper 41 = .ok (.iadd, 1) := dk_96 (dk_at dksX7_deeper_1 17 rfl rfl)
theorem dX7_deeper_42 : decode cX7_deeper 42 = .ok (.putfield 32, 3) := dk_181 0 32 (dk_at dksX7_deeper_1 18 rfl rfl)
theorem dX7_deeper_45 : decode cX7_deeper 45 = .ok (.return_, 1) := dk_177 (dk_at dksX7_deeper_1 21 rfl rfl)
abbrev cX7_close : ByteArray := prog_14_method_8_code
def yX7_close : MethodName := ⟨RX7, "close", "(Ljava/lang/String;)V"⟩
def dkwX7_close_0 : List UInt8 := [42, 43, 182, 0, 72, 42, 89, 180, 0, 69, 4, 100, 181, 0, 69, 177]
abbrev dktX7_close_0 : List UInt8 := dkwX7_close_0 ++ []
theorem dksX7_close_0 : cX7_close.data.toList.drop 0 = dktX7_close_0 := by decide +kernel
theorem dX7_close_0 : decode cX7_close 0 = .ok (.aload_n 0, 1) := dk_42 (dk_at dksX7_close_0 0 rfl rfl)
theorem dX7_close_1 : decode cX7_close 1 = .ok (.aload_n 1, 1) := dk_43 (dk_at dksX7_close_0 1 rfl rfl)
theorem dX7_close_2 : decode cX7_close 2 = .ok (.invokevirtual 72, 3) := dk_182 0 72 (dk_at dksX7_close_0 2 rfl rfl)
theorem dX7_close_5 : decode cX7_close 5 = .ok (.aload_n 0, 1) := dk_42 (dk_at dksX7_close_0 5 rfl rfl)
theorem dX7_close_6 : decode cX7_close 6 = .ok (.dup, 1) := dk_89 (dk_at dksX7_close_0 6 rfl rfl)
theorem dX7_close_7 : decode cX7_close 7 = .ok (.getfield 69, 3) := dk_180 0 69 (dk_at dksX7_close_0 7 rfl rfl)
theorem dX7_close_10 : decode cX7_close 10 = .ok (.iconst 1, 1) := dk_4 (dk_at dksX7_close_0 10 rfl rfl)
theorem dX7_close_11 : decode cX7_close 11 = .ok (.isub, 1) := dk_100 (dk_at dksX7_close_0 11 rfl rfl)
theorem dX7_close_12 : decode cX7_close 12 = .ok (.putfield 69, 3) := dk_181 0 69 (dk_at dksX7_close_0 12 rfl rfl)
theorem dX7_close_15 : decode cX7_close 15 = .ok (.return_, 1) := dk_177 (dk_at dksX7_close_0 15 rfl rfl)
abbrev cX7_known : ByteArray := prog_14_method_13_code
def yX7_known : MethodName := ⟨RX7, "known", "(Ljava/util/HashMap;)I"⟩
def dkwX7_known_2 : List UInt8 := [182, 0, 128, 172]
abbrev dktX7_known_2 : List UInt8 := dkwX7_known_2 ++ []
def dkwX7_known_1 : List UInt8 := [180, 0, 91, 182, 0, 116, 192, 0, 107, 184, 0, 119, 3, 184, 0, 106, 182, 0, 125, 192, 0, 107]
abbrev dktX7_known_1 : List UInt8 := dkwX7_known_1 ++ dktX7_known_2
def dkwX7_known_0 : List UInt8 := [42, 178, 0, 83, 182, 0, 88, 77, 42, 6, 43, 44, 180, 0, 91, 182, 0, 94, 44, 182, 0, 98, 43, 44]
abbrev dktX7_known_0 : List UInt8 := dkwX7_known_0 ++ dktX7_known_1
theorem dksX7_known_0 : cX7_known.data.toList.drop 0 = dktX7_known_0 := by decide +kernel
theorem dksX7_known_1 : cX7_known.data.toList.drop 24 = dktX7_known_1 := dk_seg dksX7_known_0 24 rfl rfl
theorem dksX7_known_2 : cX7_known.data.toList.drop 46 = dktX7_known_2 := dk_seg dksX7_known_1 22 rfl rfl
theorem dX7_known_0 : decode cX7_known 0 = .ok (.aload_n 0, 1) := dk_42 (dk_at dksX7_known_0 0 rfl rfl)
theorem dX7_known_1 : decode cX7_known 1 = .ok (.getstatic 83, 3) := dk_178 0 83 (dk_at dksX7_known_0 1 rfl rfl)
theorem dX7_known_4 : decode cX7_known 4 = .ok (.invokevirtual 88, 3) := dk_182 0 88 (dk_at dksX7_known_0 4 rfl rfl)
theorem dX7_known_7 : decode cX7_known 7 = .ok (.astore_n 2, 1) := dk_77 (dk_at dksX7_known_0 7 rfl rfl)
theorem dX7_known_8 : decode cX7_known 8 = .ok (.aload_n 0, 1) := dk_42 (dk_at dksX7_known_0 8 rfl rfl)
theorem dX7_known_9 : decode cX7_known 9 = .ok (.iconst 3, 1) := dk_6 (dk_at dksX7_known_0 9 rfl rfl)
theorem dX7_known_10 : decode cX7_known 10 = .ok (.aload_n 1, 1) := dk_43 (dk_at dksX7_known_0 10 rfl rfl)
theorem dX7_known_11 : decode cX7_known 11 = .ok (.aload_n 2, 1) := dk_44 (dk_at dksX7_known_0 11 rfl rfl)
theorem dX7_known_12 : decode cX7_known 12 = .ok (.getfield 91, 3) := dk_180 0 91 (dk_at dksX7_known_0 12 rfl rfl)
theorem dX7_known_15 : decode cX7_known 15 = .ok (.invokevirtual 94, 3) := dk_182 0 94 (dk_at dksX7_known_0 15 rfl rfl)
theorem dX7_known_18 : decode cX7_known 18 = .ok (.aload_n 2, 1) := dk_44 (dk_at dksX7_known_0 18 rfl rfl)
theorem dX7_known_19 : decode cX7_known 19 = .ok (.invokevirtual 98, 3) := dk_182 0 98 (dk_at dksX7_known_0 19 rfl rfl)
theorem dX7_known_22 : decode cX7_known 22 = .ok (.aload_n 1, 1) := dk_43 (dk_at dksX7_known_0 22 rfl rfl)
theorem dX7_known_23 : decode cX7_known 23 = .ok (.aload_n 2, 1) := dk_44 (dk_at dksX7_known_0 23 rfl rfl)
theorem dX7_known_24 : decode cX7_known 24 = .ok (.getfield 91, 3) := dk_180 0 91 (dk_at dksX7_known_1 0 rfl rfl)
theorem dX7_known_27 : decode cX7_known 27 = .ok (.invokevirtual 116, 3) := dk_182 0 116 (dk_at dksX7_known_1 3 rfl rfl)
theorem dX7_known_30 : decode cX7_known 30 = .ok (.checkcast 107, 3) := dk_192 0 107 (dk_at dksX7_known_1 6 rfl rfl)
theorem dX7_known_33 : decode cX7_known 33 = .ok (.invokestatic 119, 3) := dk_184 0 119 (dk_at dksX7_known_1 9 rfl rfl)
theorem dX7_known_36 : decode cX7_known 36 = .ok (.iconst 0, 1) := dk_3 (dk_at dksX7_known_1 12 rfl rfl)
theorem dX7_known_37 : decode cX7_known 37 = .ok (.invokestatic 106, 3) := dk_184 0 106 (dk_at dksX7_known_1 13 rfl rfl)
theorem dX7_known_40 : decode cX7_known 40 = .ok (.invokevirtual 125, 3) := dk_182 0 125 (dk_at dksX7_known_1 16 rfl rfl)
theorem dX7_known_43 : decode cX7_known 43 = .ok (.checkcast 107, 3) := dk_192 0 107 (dk_at dksX7_known_1 19 rfl rfl)
theorem dX7_known_46 : decode cX7_known 46 = .ok (.invokevirtual 128, 3) := dk_182 0 128 (dk_at dksX7_known_2 0 rfl rfl)
theorem dX7_known_49 : decode cX7_known 49 = .ok (.ireturn, 1) := dk_172 (dk_at dksX7_known_2 3 rfl rfl)
abbrev cX7_other : ByteArray := prog_14_method_14_code
def yX7_other : MethodName := ⟨RX7, "other", "(I)I"⟩
def dkwX7_other_1 : List UInt8 := [167, 0, 4, 3, 44, 182, 0, 98, 29, 172]
abbrev dktX7_other_1 : List UInt8 := dkwX7_other_1 ++ []
def dkwX7_other_0 : List UInt8 := [42, 182, 0, 46, 77, 42, 42, 180, 0, 21, 182, 0, 131, 62, 42, 16, 6, 29, 27, 159, 0, 7, 4]
abbrev dktX7_other_0 : List UInt8 := dkwX7_other_0 ++ dktX7_other_1
theorem dksX7_other_0 : cX7_other.data.toList.drop 0 = dktX7_other_0 := by decide +kernel
theorem dksX7_other_1 : cX7_other.data.toList.drop 23 = dktX7_other_1 := dk_seg dksX7_other_0 23 rfl rfl
theorem dX7_other_0 : decode cX7_other 0 = .ok (.aload_n 0, 1) := dk_42 (dk_at dksX7_other_0 0 rfl rfl)
theorem dX7_other_1 : decode cX7_other 1 = .ok (.invokevirtual 46, 3) := dk_182 0 46 (dk_at dksX7_other_0 1 rfl rfl)
theorem dX7_other_4 : decode cX7_other 4 = .ok (.astore_n 2, 1) := dk_77 (dk_at dksX7_other_0 4 rfl rfl)
theorem dX7_other_5 : decode cX7_other 5 = .ok (.aload_n 0, 1) := dk_42 (dk_at dksX7_other_0 5 rfl rfl)
theorem dX7_other_6 : decode cX7_other 6 = .ok (.aload_n 0, 1) := dk_42 (dk_at dksX7_other_0 6 rfl rfl)
theorem dX7_other_7 : decode cX7_other 7 = .ok (.getfield 21, 3) := dk_180 0 21 (dk_at dksX7_other_0 7 rfl rfl)
theorem dX7_other_10 : decode cX7_other 10 = .ok (.invokevirtual 131, 3) := dk_182 0 131 (dk_at dksX7_other_0 10 rfl rfl)
theorem dX7_other_13 : decode cX7_other 13 = .ok (.istore_n 3, 1) := dk_62 (dk_at dksX7_other_0 13 rfl rfl)
theorem dX7_other_14 : decode cX7_other 14 = .ok (.aload_n 0, 1) := dk_42 (dk_at dksX7_other_0 14 rfl rfl)
theorem dX7_other_15 : decode cX7_other 15 = .ok (.bipush 6, 2) := dk_16 6 (dk_at dksX7_other_0 15 rfl rfl)
theorem dX7_other_17 : decode cX7_other 17 = .ok (.iload_n 3, 1) := dk_29 (dk_at dksX7_other_0 17 rfl rfl)
theorem dX7_other_18 : decode cX7_other 18 = .ok (.iload_n 1, 1) := dk_27 (dk_at dksX7_other_0 18 rfl rfl)
theorem dX7_other_19 : decode cX7_other 19 = .ok (.if_icmp .eq 7, 3) := dk_159 0 7 (dk_at dksX7_other_0 19 rfl rfl)
theorem dX7_other_22 : decode cX7_other 22 = .ok (.iconst 1, 1) := dk_4 (dk_at dksX7_other_0 22 rfl rfl)
theorem dX7_other_23 : decode cX7_other 23 = .ok (.goto 4, 3) := dk_167 0 4 (dk_at dksX7_other_1 0 rfl rfl)
theorem dX7_other_26 : decode cX7_other 26 = .ok (.iconst 0, 1) := dk_3 (dk_at dksX7_other_1 3 rfl rfl)
theorem dX7_other_27 : decode cX7_other 27 = .ok (.aload_n 2, 1) := dk_44 (dk_at dksX7_other_1 4 rfl rfl)
theorem dX7_other_28 : decode cX7_other 28 = .ok (.invokevirtual 98, 3) := dk_182 0 98 (dk_at dksX7_other_1 5 rfl rfl)
theorem dX7_other_31 : decode cX7_other 31 = .ok (.iload_n 3, 1) := dk_29 (dk_at dksX7_other_1 8 rfl rfl)
theorem dX7_other_32 : decode cX7_other 32 = .ok (.ireturn, 1) := dk_172 (dk_at dksX7_other_1 9 rfl rfl)
abbrev cX7_sum : ByteArray := prog_14_method_24_code
def yX7_sum : MethodName := ⟨RX7, "sum", "()LShadowSpell$Sum;"⟩
def dkwX7_sum_3 : List UInt8 := [89, 44, 43, 42, 182, 1, 51, 183, 1, 69, 76, 167, 255, 182, 43, 176]
abbrev dktX7_sum_3 : List UInt8 := dkwX7_sum_3 ++ []
def dkwX7_sum_2 : List UInt8 := [167, 0, 6, 178, 1, 64, 77, 44, 178, 1, 64, 166, 0, 10, 42, 19, 1, 56, 182, 0, 72, 187, 1, 67]
abbrev dktX7_sum_2 : List UInt8 := dkwX7_sum_2 ++ dktX7_sum_3
def dkwX7_sum_1 : List UInt8 := [19, 1, 56, 182, 0, 54, 153, 0, 54, 42, 19, 1, 54, 182, 0, 58, 153, 0, 9, 178, 1, 58]
abbrev dktX7_sum_1 : List UInt8 := dkwX7_sum_1 ++ dktX7_sum_2
def dkwX7_sum_0 : List UInt8 := [42, 182, 1, 51, 76, 42, 182, 0, 46, 19, 1, 54, 182, 0, 54, 154, 0, 16, 42, 182, 0, 46]
abbrev dktX7_sum_0 : List UInt8 := dkwX7_sum_0 ++ dktX7_sum_1
theorem dksX7_sum_0 : cX7_sum.data.toList.drop 0 = dktX7_sum_0 := by decide +kernel
theorem dksX7_sum_1 : cX7_sum.data.toList.drop 22 = dktX7_sum_1 := dk_seg dksX7_sum_0 22 rfl rfl
theorem dksX7_sum_2 : cX7_sum.data.toList.drop 44 = dktX7_sum_2 := dk_seg dksX7_sum_1 22 rfl rfl
theorem dksX7_sum_3 : cX7_sum.data.toList.drop 68 = dktX7_sum_3 := dk_seg dksX7_sum_2 24 rfl rfl
theorem dX7_sum_0 : decode cX7_sum 0 = .ok (.aload_n 0, 1) := dk_42 (dk_at dksX7_sum_0 0 rfl rfl)
theorem dX7_sum_1 : decode cX7_sum 1 = .ok (.invokevirtual 307, 3) := dk_182 1 51 (dk_at dksX7_sum_0 1 rfl rfl)
theorem dX7_sum_4 : decode cX7_sum 4 = .ok (.astore_n 1, 1) := dk_76 (dk_at dksX7_sum_0 4 rfl rfl)
theorem dX7_sum_5 : decode cX7_sum 5 = .ok (.aload_n 0, 1) := dk_42 (dk_at dksX7_sum_0 5 rfl rfl)
theorem dX7_sum_6 : decode cX7_sum 6 = .ok (.invokevirtual 46, 3) := dk_182 0 46 (dk_at dksX7_sum_0 6 rfl rfl)
theorem dX7_sum_9 : decode cX7_sum 9 = .ok (.ldc_w 310, 3) := dk_19 1 54 (dk_at dksX7_sum_0 9 rfl rfl)
theorem dX7_sum_12 : decode cX7_sum 12 = .ok (.invokevirtual 54, 3) := dk_182 0 54 (dk_at dksX7_sum_0 12 rfl rfl)
theorem dX7_sum_15 : decode cX7_sum 15 = .ok (.ifCond .ne 16, 3) := dk_154 0 16 (dk_at dksX7_sum_0 15 rfl rfl)
theorem dX7_sum_18 : decode cX7_sum 18 = .ok (.aload_n 0, 1) := dk_42 (dk_at dksX7_sum_0 18 rfl rfl)
theorem dX7_sum_19 : decode cX7_sum 19 = .ok (.invokevirtual 46, 3) := dk_182 0 46 (dk_at dksX7_sum_0 19 rfl rfl)
theorem dX7_sum_22 : decode cX7_sum 22 = .ok (.ldc_w 312, 3) := dk_19 1 56 (dk_at dksX7_sum_1 0 rfl rfl)
theorem dX7_sum_25 : decode cX7_sum 25 = .ok (.invokevirtual 54, 3) := dk_182 0 54 (dk_at dksX7_sum_1 3 rfl rfl)
theorem dX7_sum_28 : decode cX7_sum 28 = .ok (.ifCond .eq 54, 3) := dk_153 0 54 (dk_at dksX7_sum_1 6 rfl rfl)
theorem dX7_sum_31 : decode cX7_sum 31 = .ok (.aload_n 0, 1) := dk_42 (dk_at dksX7_sum_1 9 rfl rfl)
theorem dX7_sum_32 : decode cX7_sum 32 = .ok (.ldc_w 310, 3) := dk_19 1 54 (dk_at dksX7_sum_1 10 rfl rfl)
theorem dX7_sum_35 : decode cX7_sum 35 = .ok (.invokevirtual 58, 3) := dk_182 0 58 (dk_at dksX7_sum_1 13 rfl rfl)
theorem dX7_sum_38 : decode cX7_sum 38 = .ok (.ifCond .eq 9, 3) := dk_153 0 9 (dk_at dksX7_sum_1 16 rfl rfl)
theorem dX7_sum_41 : decode cX7_sum 41 = .ok (.getstatic 314, 3) := dk_178 1 58 (dk_at dksX7_sum_1 19 rfl rfl)
theorem dX7_sum_44 : decode cX7_sum 44 = .ok (.goto 6, 3) := dk_167 0 6 (dk_at dksX7_sum_2 0 rfl rfl)
theorem dX7_sum_47 : decode cX7_sum 47 = .ok (.getstatic 320, 3) := dk_178 1 64 (dk_at dksX7_sum_2 3 rfl rfl)
theorem dX7_sum_50 : decode cX7_sum 50 = .ok (.astore_n 2, 1) := dk_77 (dk_at dksX7_sum_2 6 rfl rfl)
theorem dX7_sum_51 : decode cX7_sum 51 = .ok (.aload_n 2, 1) := dk_44 (dk_at dksX7_sum_2 7 rfl rfl)
theorem dX7_sum_52 : decode cX7_sum 52 = .ok (.getstatic 320, 3) := dk_178 1 64 (dk_at dksX7_sum_2 8 rfl rfl)
theorem dX7_sum_55 : decode cX7_sum 55 = .ok (.if_acmp .ne 10, 3) := dk_166 0 10 (dk_at dksX7_sum_2 11 rfl rfl)
theorem dX7_sum_58 : decode cX7_sum 58 = .ok (.aload_n 0, 1) := dk_42 (dk_at dksX7_sum_2 14 rfl rfl)
theorem dX7_sum_59 : decode cX7_sum 59 = .ok (.ldc_w 312, 3) := dk_19 1 56 (dk_at dksX7_sum_2 15 rfl rfl)
theorem dX7_sum_62 : decode cX7_sum 62 = .ok (.invokevirtual 72, 3) := dk_182 0 72 (dk_at dksX7_sum_2 18 rfl rfl)
theorem dX7_sum_65 : decode cX7_sum 65 = .ok (.new 323, 3) := dk_187 1 67 (dk_at dksX7_sum_2 21 rfl rfl)
theorem dX7_sum_68 : decode cX7_sum 68 = .ok (.dup, 1) := dk_89 (dk_at dksX7_sum_3 0 rfl rfl)
theorem dX7_sum_69 : decode cX7_sum 69 = .ok (.aload_n 2, 1) := dk_44 (dk_at dksX7_sum_3 1 rfl rfl)
theorem dX7_sum_70 : decode cX7_sum 70 = .ok (.aload_n 1, 1) := dk_43 (dk_at dksX7_sum_3 2 rfl rfl)
theorem dX7_sum_71 : decode cX7_sum 71 = .ok (.aload_n 0, 1) := dk_42 (dk_at dksX7_sum_3 3 rfl rfl)
theorem dX7_sum_72 : decode cX7_sum 72 = .ok (.invokevirtual 307, 3) := dk_182 1 51 (dk_at dksX7_sum_3 4 rfl rfl)
theorem dX7_sum_75 : decode cX7_sum 75 = .ok (.invokespecial 325, 3) := dk_183 1 69 (dk_at dksX7_sum_3 7 rfl rfl)
theorem dX7_sum_78 : decode cX7_sum 78 = .ok (.astore_n 1, 1) := dk_76 (dk_at dksX7_sum_3 10 rfl rfl)
theorem dX7_sum_79 : decode cX7_sum 79 = .ok (.goto (-74), 3) := dk_167 255 182 (dk_at dksX7_sum_3 11 rfl rfl)
theorem dX7_sum_82 : decode cX7_sum 82 = .ok (.aload_n 1, 1) := dk_43 (dk_at dksX7_sum_3 14 rfl rfl)
theorem dX7_sum_83 : decode cX7_sum 83 = .ok (.areturn, 1) := dk_176 (dk_at dksX7_sum_3 15 rfl rfl)
abbrev cX7_product : ByteArray := prog_14_method_25_code
def yX7_product : MethodName := ⟨RX7, "product", "()LShadowSpell$Sum;"⟩
def dkwX7_product_4 : List UInt8 := [4, 96, 181, 0, 32, 187, 1, 67, 89, 44, 43, 42, 182, 1, 72, 183, 1, 69, 76, 167, 255, 151, 43, 176]
abbrev dktX7_product_4 : List UInt8 := dkwX7_product_4 ++ []
def dkwX7_product_3 : List UInt8 := [19, 1, 77, 182, 0, 54, 153, 0, 9, 178, 1, 84, 167, 0, 6, 178, 1, 87, 77, 42, 89, 180, 0, 32]
abbrev dktX7_product_3 : List UInt8 := dkwX7_product_3 ++ dktX7_product_4
def dkwX7_product_2 : List UInt8 := [182, 0, 46, 19, 1, 75, 182, 0, 54, 153, 0, 9, 178, 1, 81, 167, 0, 25, 42, 182, 0, 46]
abbrev dktX7_product_2 : List UInt8 := dkwX7_product_2 ++ dktX7_product_3
def dkwX7_product_1 : List UInt8 := [19, 1, 77, 182, 0, 54, 154, 0, 16, 42, 182, 0, 46, 19, 1, 79, 182, 0, 54, 153, 0, 72, 42]
abbrev dktX7_product_1 : List UInt8 := dkwX7_product_1 ++ dktX7_product_2
def dkwX7_product_0 : List UInt8 := [42, 182, 1, 72, 76, 42, 182, 0, 46, 19, 1, 75, 182, 0, 54, 154, 0, 29, 42, 182, 0, 46]
abbrev dktX7_product_0 : List UInt8 := dkwX7_product_0 ++ dktX7_product_1
theorem dksX7_product_0 : cX7_product.data.toList.drop 0 = dktX7_product_0 := by decide +kernel
theorem dksX7_product_1 : cX7_product.data.toList.drop 22 = dktX7_product_1 := dk_seg dksX7_product_0 22 rfl rfl
theorem dksX7_product_2 : cX7_product.data.toList.drop 45 = dktX7_product_2 := dk_seg dksX7_product_1 23 rfl rfl
theorem dksX7_product_3 : cX7_product.data.toList.drop 67 = dktX7_product_3 := dk_seg dksX7_product_2 22 rfl rfl
theorem dksX7_product_4 : cX7_product.data.toList.drop 91 = dktX7_product_4 := dk_seg dksX7_product_3 24 rfl rfl
theorem dX7_product_0 : decode cX7_product 0 = .ok (.aload_n 0, 1) := dk_42 (dk_at dksX7_product_0 0 rfl rfl)
theorem dX7_product_1 : decode cX7_product 1 = .ok (.invokevirtual 328, 3) := dk_182 1 72 (dk_at dksX7_product_0 1 rfl rfl)
theorem dX7_product_4 : decode cX7_product 4 = .ok (.astore_n 1, 1) := dk_76 (dk_at dksX7_product_0 4 rfl rfl)
theorem dX7_product_5 : decode cX7_product 5 = .ok (.aload_n 0, 1) := dk_42 (dk_at dksX7_product_0 5 rfl rfl)
theorem dX7_product_6 : decode cX7_product 6 = .ok (.invokevirtual 46, 3) := dk_182 0 46 (dk_at dksX7_product_0 6 rfl rfl)
theorem dX7_product_9 : decode cX7_product 9 = .ok (.ldc_w 331, 3) := dk_19 1 75 (dk_at dksX7_product_0 9 rfl rfl)
theorem dX7_product_12 : decode cX7_product 12 = .ok (.invokevirtual 54, 3) := dk_182 0 54 (dk_at dksX7_product_0 12 rfl rfl)
theorem dX7_product_15 : decode cX7_product 15 = .ok (.ifCond .ne 29, 3) := dk_154 0 29 (dk_at dksX7_product_0 15 rfl rfl)
theorem dX7_product_18 : decode cX7_product 18 = .ok (.aload_n 0, 1) := dk_42 (dk_at dksX7_product_0 18 rfl rfl)
theorem dX7_product_19 : decode cX7_product 19 = .ok (.invokevirtual 46, 3) := dk_182 0 46 (dk_at dksX7_product_0 19 rfl rfl)
theorem dX7_product_22 : decode cX7_product 22 = .ok (.ldc_w 333, 3) := dk_19 1 77 (dk_at dksX7_product_1 0 rfl rfl)
theorem dX7_product_25 : decode cX7_product 25 = .ok (.invokevirtual 54, 3) := dk_182 0 54 (dk_at dksX7_product_1 3 rfl rfl)
theorem dX7_product_28 : decode cX7_product 28 = .ok (.ifCond .ne 16, 3) := dk_154 0 16 (dk_at dksX7_product_1 6 rfl rfl)
theorem dX7_product_31 : decode cX7_product 31 = .ok (.aload_n 0, 1) := dk_42 (dk_at dksX7_product_1 9 rfl rfl)
theorem dX7_product_32 : decode cX7_product 32 = .ok (.invokevirtual 46, 3) := dk_182 0 46 (dk_at dksX7_product_1 10 rfl rfl)
theorem dX7_product_35 : decode cX7_product 35 = .ok (.ldc_w 335, 3) := dk_19 1 79 (dk_at dksX7_product_1 13 rfl rfl)
theorem dX7_product_38 : decode cX7_product 38 = .ok (.invokevirtual 54, 3) := dk_182 0 54 (dk_at dksX7_product_1 16 rfl rfl)
theorem dX7_product_41 : decode cX7_product 41 = .ok (.ifCond .eq 72, 3) := dk_153 0 72 (dk_at dksX7_product_1 19 rfl rfl)
theorem dX7_product_44 : decode cX7_product 44 = .ok (.aload_n 0, 1) := dk_42 (dk_at dksX7_product_1 22 rfl rfl)
theorem dX7_product_45 : decode cX7_product 45 = .ok (.invokevirtual 46, 3) := dk_182 0 46 (dk_at dksX7_product_2 0 rfl rfl)
theorem dX7_product_48 : decode cX7_product 48 = .ok (.ldc_w 331, 3) := dk_19 1 75 (dk_at dksX7_product_2 3 rfl rfl)
theorem dX7_product_51 : decode cX7_product 51 = .ok (.invokevirtual 54, 3) := dk_182 0 54 (dk_at dksX7_product_2 6 rfl rfl)
theorem dX7_product_54 : decode cX7_product 54 = .ok (.ifCond .eq 9, 3) := dk_153 0 9 (dk_at dksX7_product_2 9 rfl rfl)
theorem dX7_product_57 : decode cX7_product 57 = .ok (.getstatic 337, 3) := dk_178 1 81 (dk_at dksX7_product_2 12 rfl rfl)
theorem dX7_product_60 : decode cX7_product 60 = .ok (.goto 25, 3) := dk_167 0 25 (dk_at dksX7_product_2 15 rfl rfl)
theorem dX7_product_63 : decode cX7_product 63 = .ok (.aload_n 0, 1) := dk_42 (dk_at dksX7_product_2 18 rfl rfl)
theorem dX7_product_64 : decode cX7_product 64 = .ok (.invokevirtual 46, 3) := dk_182 0 46 (dk_at dksX7_product_2 19 rfl rfl)
theorem dX7_product_67 : decode cX7_product 67 = .ok (.ldc_w 333, 3) := dk_19 1 77 (dk_at dksX7_product_3 0 rfl rfl)
theorem dX7_product_70 : decode cX7_product 70 = .ok (.invokevirtual 54, 3) := dk_182 0 54 (dk_at dksX7_product_3 3 rfl rfl)
theorem dX7_product_73 : decode cX7_product 73 = .ok (.ifCond .eq 9, 3) := dk_153 0 9 (dk_at dksX7_product_3 6 rfl rfl)
theorem dX7_product_76 : decode cX7_product 76 = .ok (.getstatic 340, 3) := dk_178 1 84 (dk_at dksX7_product_3 9 rfl rfl)
theorem dX7_product_79 : decode cX7_product 79 = .ok (.goto 6, 3) := dk_167 0 6 (dk_at dksX7_product_3 12 rfl rfl)
theorem dX7_product_82 : decode cX7_product 82 = .ok (.getstatic 343, 3) := dk_178 1 87 (dk_at dksX7_product_3 15 rfl rfl)
theorem dX7_product_85 : decode cX7_product 85 = .ok (.astore_n 2, 1) := dk_77 (dk_at dksX7_product_3 18 rfl rfl)
theorem dX7_product_86 : decode cX7_product 86 = .ok (.aload_n 0, 1) := dk_42 (dk_at dksX7_product_3 19 rfl rfl)
theorem dX7_product_87 : decode cX7_product 87 = .ok (.dup, 1) := dk_89 (dk_at dksX7_product_3 20 rfl rfl)
theorem dX7_product_88 : decode cX7_product 88 = .ok (.getfield 32, 3) := dk_180 0 32 (dk_at dksX7_product_3 21 rfl rfl)
theorem dX7_product_91 : decode cX7_product 91 = .ok (.iconst 1, 1) := dk_4 (dk_at dksX7_product_4 0 rfl rfl)
theorem dX7_product_92 : decode cX7_product 92 = .ok (.iadd, 1) := dk_96 (dk_at dksX7_product_4 1 rfl rfl)
theorem dX7_product_93 : decode cX7_product 93 = .ok (.putfield 32, 3) := dk_181 0 32 (dk_at dksX7_product_4 2 rfl rfl)
theorem dX7_product_96 : decode cX7_product 96 = .ok (.new 323, 3) := dk_187 1 67 (dk_at dksX7_product_4 5 rfl rfl)
theorem dX7_product_99 : decode cX7_product 99 = .ok (.dup, 1) := dk_89 (dk_at dksX7_product_4 8 rfl rfl)
theorem dX7_product_100 : decode cX7_product 100 = .ok (.aload_n 2, 1) := dk_44 (dk_at dksX7_product_4 9 rfl rfl)
theorem dX7_product_101 : decode cX7_product 101 = .ok (.aload_n 1, 1) := dk_43 (dk_at dksX7_product_4 10 rfl rfl)
theorem dX7_product_102 : decode cX7_product 102 = .ok (.aload_n 0, 1) := dk_42 (dk_at dksX7_product_4 11 rfl rfl)
theorem dX7_product_103 : decode cX7_product 103 = .ok (.invokevirtual 328, 3) := dk_182 1 72 (dk_at dksX7_product_4 12 rfl rfl)
theorem dX7_product_106 : decode cX7_product 106 = .ok (.invokespecial 325, 3) := dk_183 1 69 (dk_at dksX7_product_4 15 rfl rfl)
theorem dX7_product_109 : decode cX7_product 109 = .ok (.astore_n 1, 1) := dk_76 (dk_at dksX7_product_4 18 rfl rfl)
theorem dX7_product_110 : decode cX7_product 110 = .ok (.goto (-105), 3) := dk_167 255 151 (dk_at dksX7_product_4 19 rfl rfl)
theorem dX7_product_113 : decode cX7_product 113 = .ok (.aload_n 1, 1) := dk_43 (dk_at dksX7_product_4 22 rfl rfl)
theorem dX7_product_114 : decode cX7_product 114 = .ok (.areturn, 1) := dk_176 (dk_at dksX7_product_4 23 rfl rfl)
abbrev cX7_value : ByteArray := prog_14_method_26_code
def yX7_value : MethodName := ⟨RX7, "value", "()LShadowSpell$Sum;"⟩
def dkwX7_value_10 : List UInt8 := [187, 1, 67, 89, 43, 44, 42, 182, 0, 224, 183, 1, 69, 77, 42, 19, 1, 126, 182, 1, 12, 44, 176]
abbrev dktX7_value_10 : List UInt8 := dkwX7_value_10 ++ []
def dkwX7_value_9 : List UInt8 := [19, 1, 122, 182, 1, 0, 42, 182, 0, 224, 77, 43, 198, 0, 24, 42, 19, 1, 124, 182, 0, 72]
abbrev dktX7_value_9 : List UInt8 := dkwX7_value_9 ++ dktX7_value_10
def dkwX7_value_8 : List UInt8 := [42, 178, 1, 119, 180, 1, 118, 182, 0, 58, 153, 0, 9, 178, 1, 119, 167, 0, 4, 1, 76, 42]
abbrev dktX7_value_8 : List UInt8 := dkwX7_value_8 ++ dktX7_value_9
def dkwX7_value_7 : List UInt8 := [181, 0, 69, 43, 176, 42, 178, 1, 115, 180, 1, 118, 182, 0, 58, 153, 0, 9, 178, 1, 115, 167, 0, 23]
abbrev dktX7_value_7 : List UInt8 := dkwX7_value_7 ++ dktX7_value_8
def dkwX7_value_6 : List UInt8 := [182, 1, 0, 187, 1, 110, 89, 42, 182, 1, 72, 183, 1, 112, 76, 42, 89, 180, 0, 69, 4, 100]
abbrev dktX7_value_6 : List UInt8 := dkwX7_value_6 ++ dktX7_value_7
def dkwX7_value_5 : List UInt8 := [176, 132, 3, 1, 167, 255, 175, 42, 182, 0, 46, 19, 1, 56, 182, 0, 54, 153, 0, 34, 42, 19, 1, 56]
abbrev dktX7_value_5 : List UInt8 := dkwX7_value_5 ++ dktX7_value_6
def dkwX7_value_4 : List UInt8 := [21, 5, 25, 4, 180, 1, 102, 4, 164, 0, 12, 42, 21, 5, 182, 1, 35, 167, 0, 4, 2, 183, 1, 107]
abbrev dktX7_value_4 : List UInt8 := dkwX7_value_4 ++ dktX7_value_5
def dkwX7_value_3 : List UInt8 := [158, 0, 14, 42, 42, 180, 0, 21, 182, 0, 131, 167, 0, 4, 2, 54, 5, 187, 1, 105, 89, 25, 4]
abbrev dktX7_value_3 : List UInt8 := dkwX7_value_3 ++ dktX7_value_4
def dkwX7_value_2 : List UInt8 := [58, 4, 42, 25, 4, 180, 1, 99, 182, 0, 58, 154, 0, 6, 167, 0, 56, 25, 4, 180, 1, 102]
abbrev dktX7_value_2 : List UInt8 := dkwX7_value_2 ++ dktX7_value_3
def dkwX7_value_1 : List UInt8 := [182, 0, 138, 183, 1, 92, 176, 178, 1, 93, 76, 43, 190, 61, 3, 62, 29, 28, 162, 0, 82, 43, 29, 50]
abbrev dktX7_value_1 : List UInt8 := dkwX7_value_1 ++ dktX7_value_2
def dkwX7_value_0 : List UInt8 := [42, 182, 0, 46, 180, 0, 65, 178, 0, 135, 166, 0, 21, 187, 1, 90, 89, 42, 178, 0, 135, 182, 0, 88]
abbrev dktX7_value_0 : List UInt8 := dkwX7_value_0 ++ dktX7_value_1
theorem dksX7_value_0 : cX7_value.data.toList.drop 0 = dktX7_value_0 := by decide +kernel
theorem dksX7_value_1 : cX7_value.data.toList.drop 24 = dktX7_value_1 := dk_seg dksX7_value_0 24 rfl rfl
theorem dksX7_value_2 : cX7_value.data.toList.drop 48 = dktX7_value_2 := dk_seg dksX7_value_1 24 rfl rfl
theorem dksX7_value_3 : cX7_value.data.toList.drop 70 = dktX7_value_3 := dk_seg dksX7_value_2 22 rfl rfl
theorem dksX7_value_4 : cX7_value.data.toList.drop 93 = dktX7_value_4 := dk_seg dksX7_value_3 23 rfl rfl
theorem dksX7_value_5 : cX7_value.data.toList.drop 117 = dktX7_value_5 := dk_seg dksX7_value_4 24 rfl rfl
theorem dksX7_value_6 : cX7_value.data.toList.drop 141 = dktX7_value_6 := dk_seg dksX7_value_5 24 rfl rfl
theorem dksX7_value_7 : cX7_value.data.toList.drop 163 = dktX7_value_7 := dk_seg dksX7_value_6 22 rfl rfl
theorem dksX7_value_8 : cX7_value.data.toList.drop 187 = dktX7_value_8 := dk_seg dksX7_value_7 24 rfl rfl
theorem dksX7_value_9 : cX7_value.data.toList.drop 209 = dktX7_value_9 := dk_seg dksX7_value_8 22 rfl rfl
theorem dksX7_value_10 : cX7_value.data.toList.drop 231 = dktX7_value_10 := dk_seg dksX7_value_9 22 rfl rfl
theorem dX7_value_0 : decode cX7_value 0 = .ok (.aload_n 0, 1) := dk_42 (dk_at dksX7_value_0 0 rfl rfl)
theorem dX7_value_1 : decode cX7_value 1 = .ok (.invokevirtual 46, 3) := dk_182 0 46 (dk_at dksX7_value_0 1 rfl rfl)
theorem dX7_value_4 : decode cX7_value 4 = .ok (.getfield 65, 3) := dk_180 0 65 (dk_at dksX7_value_0 4 rfl rfl)
theorem dX7_value_7 : decode cX7_value 7 = .ok (.getstatic 135, 3) := dk_178 0 135 (dk_at dksX7_value_0 7 rfl rfl)
theorem dX7_value_10 : decode cX7_value 10 = .ok (.if_acmp .ne 21, 3) := dk_166 0 21 (dk_at dksX7_value_0 10 rfl rfl)
theorem dX7_value_13 : decode cX7_value 13 = .ok (.new 346, 3) := dk_187 1 90 (dk_at dksX7_value_0 13 rfl rfl)
theorem dX7_value_16 : decode cX7_value 16 = .ok (.dup, 1) := dk_89 (dk_at dksX7_value_0 16 rfl rfl)
theorem dX7_value_17 : decode cX7_value 17 = .ok (.aload_n 0, 1) := dk_42 (dk_at dksX7_value_0 17 rfl rfl)
theorem dX7_value_18 : decode cX7_value 18 = .ok (.getstatic 135, 3) := dk_178 0 135 (dk_at dksX7_value_0 18 rfl rfl)
theorem dX7_value_21 : decode cX7_value 21 = .ok (.invokevirtual 88, 3) := dk_182 0 88 (dk_at dksX7_value_0 21 rfl rfl)
theorem dX7_value_24 : decode cX7_value 24 = .ok (.invokevirtual 138, 3) := dk_182 0 138 (dk_at dksX7_value_1 0 rfl rfl)
theorem dX7_value_27 : decode cX7_value 27 = .ok (.invokespecial 348, 3) := dk_183 1 92 (dk_at dksX7_value_1 3 rfl rfl)
theorem dX7_value_30 : decode cX7_value 30 = .ok (.areturn, 1) := dk_176 (dk_at dksX7_value_1 6 rfl rfl)
theorem dX7_value_31 : decode cX7_value 31 = .ok (.getstatic 349, 3) := dk_178 1 93 (dk_at dksX7_value_1 7 rfl rfl)
theorem dX7_value_34 : decode cX7_value 34 = .ok (.astore_n 1, 1) := dk_76 (dk_at dksX7_value_1 10 rfl rfl)
theorem dX7_value_35 : decode cX7_value 35 = .ok (.aload_n 1, 1) := dk_43 (dk_at dksX7_value_1 11 rfl rfl)
theorem dX7_value_36 : decode cX7_value 36 = .ok (.arraylength, 1) := dk_190 (dk_at dksX7_value_1 12 rfl rfl)
theorem dX7_value_37 : decode cX7_value 37 = .ok (.istore_n 2, 1) := dk_61 (dk_at dksX7_value_1 13 rfl rfl)
theorem dX7_value_38 : decode cX7_value 38 = .ok (.iconst 0, 1) := dk_3 (dk_at dksX7_value_1 14 rfl rfl)
theorem dX7_value_39 : decode cX7_value 39 = .ok (.istore_n 3, 1) := dk_62 (dk_at dksX7_value_1 15 rfl rfl)
theorem dX7_value_40 : decode cX7_value 40 = .ok (.iload_n 3, 1) := dk_29 (dk_at dksX7_value_1 16 rfl rfl)
theorem dX7_value_41 : decode cX7_value 41 = .ok (.iload_n 2, 1) := dk_28 (dk_at dksX7_value_1 17 rfl rfl)
theorem dX7_value_42 : decode cX7_value 42 = .ok (.if_icmp .ge 82, 3) := dk_162 0 82 (dk_at dksX7_value_1 18 rfl rfl)
theorem dX7_value_45 : decode cX7_value 45 = .ok (.aload_n 1, 1) := dk_43 (dk_at dksX7_value_1 21 rfl rfl)
theorem dX7_value_46 : decode cX7_value 46 = .ok (.iload_n 3, 1) := dk_29 (dk_at dksX7_value_1 22 rfl rfl)
theorem dX7_value_47 : decode cX7_value 47 = .ok (.aaload, 1) := dk_50 (dk_at dksX7_value_1 23 rfl rfl)
theorem dX7_value_48 : decode cX7_value 48 = .ok (.astore 4, 2) := dk_58 4 (dk_at dksX7_value_2 0 rfl rfl)
theorem dX7_value_50 : decode cX7_value 50 = .ok (.aload_n 0, 1) := dk_42 (dk_at dksX7_value_2 2 rfl rfl)
theorem dX7_value_51 : decode cX7_value 51 = .ok (.aload 4, 2) := dk_25 4 (dk_at dksX7_value_2 3 rfl rfl)
theorem dX7_value_53 : decode cX7_value 53 = .ok (.getfield 355, 3) := dk_180 1 99 (dk_at dksX7_value_2 5 rfl rfl)
theorem dX7_value_56 : decode cX7_value 56 = .ok (.invokevirtual 58, 3) := dk_182 0 58 (dk_at dksX7_value_2 8 rfl rfl)
theorem dX7_value_59 : decode cX7_value 59 = .ok (.ifCond .ne 6, 3) := dk_154 0 6 (dk_at dksX7_value_2 11 rfl rfl)
theorem dX7_value_62 : decode cX7_value 62 = .ok (.goto 56, 3) := dk_167 0 56 (dk_at dksX7_value_2 14 rfl rfl)
theorem dX7_value_65 : decode cX7_value 65 = .ok (.aload 4, 2) := dk_25 4 (dk_at dksX7_value_2 17 rfl rfl)
theorem dX7_value_67 : decode cX7_value 67 = .ok (.getfield 358, 3) := dk_180 1 102 (dk_at dksX7_value_2 19 rfl rfl)
theorem dX7_value_70 : decode cX7_value 70 = .ok (.ifCond .le 14, 3) := dk_158 0 14 (dk_at dksX7_value_3 0 rfl rfl)
theorem dX7_value_73 : decode cX7_value 73 = .ok (.aload_n 0, 1) := dk_42 (dk_at dksX7_value_3 3 rfl rfl)
theorem dX7_value_74 : decode cX7_value 74 = .ok (.aload_n 0, 1) := dk_42 (dk_at dksX7_value_3 4 rfl rfl)
theorem dX7_value_75 : decode cX7_value 75 = .ok (.getfield 21, 3) := dk_180 0 21 (dk_at dksX7_value_3 5 rfl rfl)
theorem dX7_value_78 : decode cX7_value 78 = .ok (.invokevirtual 131, 3) := dk_182 0 131 (dk_at dksX7_value_3 8 rfl rfl)
theorem dX7_value_81 : decode cX7_value 81 = .ok (.goto 4, 3) := dk_167 0 4 (dk_at dksX7_value_3 11 rfl rfl)
theorem dX7_value_84 : decode cX7_value 84 = .ok (.iconst (-1), 1) := dk_2 (dk_at dksX7_value_3 14 rfl rfl)
theorem dX7_value_85 : decode cX7_value 85 = .ok (.istore 5, 2) := dk_54 5 (dk_at dksX7_value_3 15 rfl rfl)
theorem dX7_value_87 : decode cX7_value 87 = .ok (.new 361, 3) := dk_187 1 105 (dk_at dksX7_value_3 17 rfl rfl)
theorem dX7_value_90 : decode cX7_value 90 = .ok (.dup, 1) := dk_89 (dk_at dksX7_value_3 20 rfl rfl)
theorem dX7_value_91 : decode cX7_value 91 = .ok (.aload 4, 2) := dk_25 4 (dk_at dksX7_value_3 21 rfl rfl)
theorem dX7_value_93 : decode cX7_value 93 = .ok (.iload 5, 2) := dk_21 5 (dk_at dksX7_value_4 0 rfl rfl)
theorem dX7_value_95 : decode cX7_value 95 = .ok (.aload 4, 2) := dk_25 4 (dk_at dksX7_value_4 2 rfl rfl)
theorem dX7_value_97 : decode cX7_value 97 = .ok (.getfield 358, 3) := dk_180 1 102 (dk_at dksX7_value_4 4 rfl rfl)
theorem dX7_value_100 : decode cX7_value 100 = .ok (.iconst 1, 1) := dk_4 (dk_at dksX7_value_4 7 rfl rfl)
theorem dX7_value_101 : decode cX7_value 101 = .ok (.if_icmp .le 12, 3) := dk_164 0 12 (dk_at dksX7_value_4 8 rfl rfl)
theorem dX7_value_104 : decode cX7_value 104 = .ok (.aload_n 0, 1) := dk_42 (dk_at dksX7_value_4 11 rfl rfl)
theorem dX7_value_105 : decode cX7_value 105 = .ok (.iload 5, 2) := dk_21 5 (dk_at dksX7_value_4 12 rfl rfl)
theorem dX7_value_107 : decode cX7_value 107 = .ok (.invokevirtual 291, 3) := dk_182 1 35 (dk_at dksX7_value_4 14 rfl rfl)
theorem dX7_value_110 : decode cX7_value 110 = .ok (.goto 4, 3) := dk_167 0 4 (dk_at dksX7_value_4 17 rfl rfl)
theorem dX7_value_113 : decode cX7_value 113 = .ok (.iconst (-1), 1) := dk_2 (dk_at dksX7_value_4 20 rfl rfl)
theorem dX7_value_114 : decode cX7_value 114 = .ok (.invokespecial 363, 3) := dk_183 1 107 (dk_at dksX7_value_4 21 rfl rfl)
theorem dX7_value_117 : decode cX7_value 117 = .ok (.areturn, 1) := dk_176 (dk_at dksX7_value_5 0 rfl rfl)
theorem dX7_value_118 : decode cX7_value 118 = .ok (.iinc 3 1, 3) := dk_132 3 1 (dk_at dksX7_value_5 1 rfl rfl)
theorem dX7_value_121 : decode cX7_value 121 = .ok (.goto (-81), 3) := dk_167 255 175 (dk_at dksX7_value_5 4 rfl rfl)
theorem dX7_value_124 : decode cX7_value 124 = .ok (.aload_n 0, 1) := dk_42 (dk_at dksX7_value_5 7 rfl rfl)
theorem dX7_value_125 : decode cX7_value 125 = .ok (.invokevirtual 46, 3) := dk_182 0 46 (dk_at dksX7_value_5 8 rfl rfl)
theorem dX7_value_128 : decode cX7_value 128 = .ok (.ldc_w 312, 3) := dk_19 1 56 (dk_at dksX7_value_5 11 rfl rfl)
theorem dX7_value_131 : decode cX7_value 131 = .ok (.invokevirtual 54, 3) := dk_182 0 54 (dk_at dksX7_value_5 14 rfl rfl)
theorem dX7_value_134 : decode cX7_value 134 = .ok (.ifCond .eq 34, 3) := dk_153 0 34 (dk_at dksX7_value_5 17 rfl rfl)
theorem dX7_value_137 : decode cX7_value 137 = .ok (.aload_n 0, 1) := dk_42 (dk_at dksX7_value_5 20 rfl rfl)
theorem dX7_value_138 : decode cX7_value 138 = .ok (.ldc_w 312, 3) := dk_19 1 56 (dk_at dksX7_value_5 21 rfl rfl)
theorem dX7_value_141 : decode cX7_value 141 = .ok (.invokevirtual 256, 3) := dk_182 1 0 (dk_at dksX7_value_6 0 rfl rfl)
theorem dX7_value_144 : decode cX7_value 144 = .ok (.new 366, 3) := dk_187 1 110 (dk_at dksX7_value_6 3 rfl rfl)
theorem dX7_value_147 : decode cX7_value 147 = .ok (.dup, 1) := dk_89 (dk_at dksX7_value_6 6 rfl rfl)
theorem dX7_value_148 : decode cX7_value 148 = .ok (.aload_n 0, 1) := dk_42 (dk_at dksX7_value_6 7 rfl rfl)
theorem dX7_value_149 : decode cX7_value 149 = .ok (.invokevirtual 328, 3) := dk_182 1 72 (dk_at dksX7_value_6 8 rfl rfl)
theorem dX7_value_152 : decode cX7_value 152 = .ok (.invokespecial 368, 3) := dk_183 1 112 (dk_at dksX7_value_6 11 rfl rfl)
theorem dX7_value_155 : decode cX7_value 155 = .ok (.astore_n 1, 1) := dk_76 (dk_at dksX7_value_6 14 rfl rfl)
theorem dX7_value_156 : decode cX7_value 156 = .ok (.aload_n 0, 1) := dk_42 (dk_at dksX7_value_6 15 rfl rfl)
theorem dX7_value_157 : decode cX7_value 157 = .ok (.dup, 1) := dk_89 (dk_at dksX7_value_6 16 rfl rfl)
theorem dX7_value_158 : decode cX7_value 158 = .ok (.getfield 69, 3) := dk_180 0 69 (dk_at dksX7_value_6 17 rfl rfl)
theorem dX7_value_161 : decode cX7_value 161 = .ok (.iconst 1, 1) := dk_4 (dk_at dksX7_value_6 20 rfl rfl)
theorem dX7_value_162 : decode cX7_value 162 = .ok (.isub, 1) := dk_100 (dk_at dksX7_value_6 21 rfl rfl)
theorem dX7_value_163 : decode cX7_value 163 = .ok (.putfield 69, 3) := dk_181 0 69 (dk_at dksX7_value_7 0 rfl rfl)
theorem dX7_value_166 : decode cX7_value 166 = .ok (.aload_n 1, 1) := dk_43 (dk_at dksX7_value_7 3 rfl rfl)
theorem dX7_value_167 : decode cX7_value 167 = .ok (.areturn, 1) := dk_176 (dk_at dksX7_value_7 4 rfl rfl)
theorem dX7_value_168 : decode cX7_value 168 = .ok (.aload_n 0, 1) := dk_42 (dk_at dksX7_value_7 5 rfl rfl)
theorem dX7_value_169 : decode cX7_value 169 = .ok (.getstatic 371, 3) := dk_178 1 115 (dk_at dksX7_value_7 6 rfl rfl)
theorem dX7_value_172 : decode cX7_value 172 = .ok (.getfield 374, 3) := dk_180 1 118 (dk_at dksX7_value_7 9 rfl rfl)
theorem dX7_value_175 : decode cX7_value 175 = .ok (.invokevirtual 58, 3) := dk_182 0 58 (dk_at dksX7_value_7 12 rfl rfl)
theorem dX7_value_178 : decode cX7_value 178 = .ok (.ifCond .eq 9, 3) := dk_153 0 9 (dk_at dksX7_value_7 15 rfl rfl)
theorem dX7_value_181 : decode cX7_value 181 = .ok (.getstatic 371, 3) := dk_178 1 115 (dk_at dksX7_value_7 18 rfl rfl)
theorem dX7_value_184 : decode cX7_value 184 = .ok (.goto 23, 3) := dk_167 0 23 (dk_at dksX7_value_7 21 rfl rfl)
theorem dX7_value_187 : decode cX7_value 187 = .ok (.aload_n 0, 1) := dk_42 (dk_at dksX7_value_8 0 rfl rfl)
theorem dX7_value_188 : decode cX7_value 188 = .ok (.getstatic 375, 3) := dk_178 1 119 (dk_at dksX7_value_8 1 rfl rfl)
theorem dX7_value_191 : decode cX7_value 191 = .ok (.getfield 374, 3) := dk_180 1 118 (dk_at dksX7_value_8 4 rfl rfl)
theorem dX7_value_194 : decode cX7_value 194 = .ok (.invokevirtual 58, 3) := dk_182 0 58 (dk_at dksX7_value_8 7 rfl rfl)
theorem dX7_value_197 : decode cX7_value 197 = .ok (.ifCond .eq 9, 3) := dk_153 0 9 (dk_at dksX7_value_8 10 rfl rfl)
theorem dX7_value_200 : decode cX7_value 200 = .ok (.getstatic 375, 3) := dk_178 1 119 (dk_at dksX7_value_8 13 rfl rfl)
theorem dX7_value_203 : decode cX7_value 203 = .ok (.goto 4, 3) := dk_167 0 4 (dk_at dksX7_value_8 16 rfl rfl)
theorem dX7_value_206 : decode cX7_value 206 = .ok (.aconst_null, 1) := dk_1 (dk_at dksX7_value_8 19 rfl rfl)
theorem dX7_value_207 : decode cX7_value 207 = .ok (.astore_n 1, 1) := dk_76 (dk_at dksX7_value_8 20 rfl rfl)
theorem dX7_value_208 : decode cX7_value 208 = .ok (.aload_n 0, 1) := dk_42 (dk_at dksX7_value_8 21 rfl rfl)
theorem dX7_value_209 : decode cX7_value 209 = .ok (.ldc_w 378, 3) := dk_19 1 122 (dk_at dksX7_value_9 0 rfl rfl)
theorem dX7_value_212 : decode cX7_value 212 = .ok (.invokevirtual 256, 3) := dk_182 1 0 (dk_at dksX7_value_9 3 rfl rfl)
theorem dX7_value_215 : decode cX7_value 215 = .ok (.aload_n 0, 1) := dk_42 (dk_at dksX7_value_9 6 rfl rfl)
theorem dX7_value_216 : decode cX7_value 216 = .ok (.invokevirtual 224, 3) := dk_182 0 224 (dk_at dksX7_value_9 7 rfl rfl)
theorem dX7_value_219 : decode cX7_value 219 = .ok (.astore_n 2, 1) := dk_77 (dk_at dksX7_value_9 10 rfl rfl)
theorem dX7_value_220 : decode cX7_value 220 = .ok (.aload_n 1, 1) := dk_43 (dk_at dksX7_value_9 11 rfl rfl)
theorem dX7_value_221 : decode cX7_value 221 = .ok (.ifnull 24, 3) := dk_198 0 24 (dk_at dksX7_value_9 12 rfl rfl)
theorem dX7_value_224 : decode cX7_value 224 = .ok (.aload_n 0, 1) := dk_42 (dk_at dksX7_value_9 15 rfl rfl)
theorem dX7_value_225 : decode cX7_value 225 = .ok (.ldc_w 380, 3) := dk_19 1 124 (dk_at dksX7_value_9 16 rfl rfl)
theorem dX7_value_228 : decode cX7_value 228 = .ok (.invokevirtual 72, 3) := dk_182 0 72 (dk_at dksX7_value_9 19 rfl rfl)
theorem dX7_value_231 : decode cX7_value 231 = .ok (.new 323, 3) := dk_187 1 67 (dk_at dksX7_value_10 0 rfl rfl)
theorem dX7_value_234 : decode cX7_value 234 = .ok (.dup, 1) := dk_89 (dk_at dksX7_value_10 3 rfl rfl)
theorem dX7_value_235 : decode cX7_value 235 = .ok (.aload_n 1, 1) := dk_43 (dk_at dksX7_value_10 4 rfl rfl)
theorem dX7_value_236 : decode cX7_value 236 = .ok (.aload_n 2, 1) := dk_44 (dk_at dksX7_value_10 5 rfl rfl)
theorem dX7_value_237 : decode cX7_value 237 = .ok (.aload_n 0, 1) := dk_42 (dk_at dksX7_value_10 6 rfl rfl)
theorem dX7_value_238 : decode cX7_value 238 = .ok (.invokevirtual 224, 3) := dk_182 0 224 (dk_at dksX7_value_10 7 rfl rfl)
theorem dX7_value_241 : decode cX7_value 241 = .ok (.invokespecial 325, 3) := dk_183 1 69 (dk_at dksX7_value_10 10 rfl rfl)
theorem dX7_value_244 : decode cX7_value 244 = .ok (.astore_n 2, 1) := dk_77 (dk_at dksX7_value_10 13 rfl rfl)
theorem dX7_value_245 : decode cX7_value 245 = .ok (.aload_n 0, 1) := dk_42 (dk_at dksX7_value_10 14 rfl rfl)
theorem dX7_value_246 : decode cX7_value 246 = .ok (.ldc_w 382, 3) := dk_19 1 126 (dk_at dksX7_value_10 15 rfl rfl)
theorem dX7_value_249 : decode cX7_value 249 = .ok (.invokevirtual 268, 3) := dk_182 1 12 (dk_at dksX7_value_10 18 rfl rfl)
theorem dX7_value_252 : decode cX7_value 252 = .ok (.aload_n 2, 1) := dk_44 (dk_at dksX7_value_10 21 rfl rfl)
theorem dX7_value_253 : decode cX7_value 253 = .ok (.areturn, 1) := dk_176 (dk_at dksX7_value_10 22 rfl rfl)
theorem q90 : (Jvm.Cond.initialized "ShadowSpell$Reader") ∈ lw_all := lw_g (lw_at lw_m1 19 rfl) rfl
theorem q234 : (Jvm.Cond.fieldLinkNest "ShadowSpell$Reader" (177 : Nat) "ShadowSpell$Sky" "planets" "Ljava/util/ArrayList;" "ShadowSpell") ∈ lw_tbl := lw_at lw_m1 163 rfl
theorem q237 : (Jvm.Cond.fieldLinkNest "ShadowSpell$Reader" (207 : Nat) "ShadowSpell$Sky" "alphabets" "Ljava/util/ArrayList;" "ShadowSpell") ∈ lw_tbl := lw_at lw_m1 166 rfl
theorem q240 : (Jvm.Cond.fieldLinkNest "ShadowSpell$Reader" (215 : Nat) "ShadowSpell$Sky" "rules" "Ljava/util/ArrayList;" "ShadowSpell") ∈ lw_tbl := lw_at lw_m1 169 rfl
theorem q278 : (Jvm.Cond.instantiable "ShadowSpell$Reader" (7 : Nat)) ∈ lw_all := lw_g (lw_at lw_m1 207 rfl) rfl
theorem q323 : (Jvm.Cond.fieldLinkNest "ShadowSpell$Reader" (65 : Nat) "ShadowSpell$Token" "sort" "LShadowSpell$Sort;" "ShadowSpell") ∈ lw_tbl := lw_at lw_m2 12 rfl
theorem q327 : (Jvm.Cond.fieldLinkNest "ShadowSpell$Reader" (91 : Nat) "ShadowSpell$Token" "text" "Ljava/lang/String;" "ShadowSpell") ∈ lw_tbl := lw_at lw_m2 16 rfl
theorem q329 : (Jvm.Cond.fieldLinkNest "ShadowSpell$Reader" (50 : Nat) "ShadowSpell$Token" "at" "I" "ShadowSpell") ∈ lw_tbl := lw_at lw_m2 18 rfl
theorem q760 : (Jvm.Cond.selects "ShadowSpell$Reader" ({ cls := "java/lang/Object", name := "getClass", desc := "()Ljava/lang/Class;" } : Jvm.MethodName) ({ cls := "java/lang/Object", name := "getClass", desc := "()Ljava/lang/Class;" } : Jvm.MethodName)) ∈ lw_all := lw_g (lw_at lw_m3 209 rfl) rfl
theorem q813 : (Jvm.Cond.instanceMethod ({ cls := "ShadowSpell$Reader", name := "<init>", desc := "(Ljava/util/List;)V" } : Jvm.MethodName)) ∈ lw_all := lw_g (lw_at lw_m4 22 rfl) rfl
theorem q814 : (Jvm.Cond.code ({ cls := "ShadowSpell$Reader", name := "<init>", desc := "(Ljava/util/List;)V" } : Jvm.MethodName) prog_14_method_1_code (2 : Nat) (Option.none : Option Jvm.ClassFile.FieldType)) ∈ lw_all := lw_g (lw_at lw_m4 23 rfl) rfl
theorem q815 : (Jvm.Cond.methodLink "ShadowSpell$Reader" (3 : Nat) ({ cls := "java/lang/Object", name := "<init>", desc := "()V" } : Jvm.MethodName)) ∈ lw_all := lw_g (lw_at lw_m4 24 rfl) rfl
theorem q816 : (Jvm.Cond.classLink "ShadowSpell$Reader" (9 : Nat) "ShadowSpell$Sky") ∈ lw_all := lw_g (lw_at lw_m4 25 rfl) rfl
theorem q817 : (Jvm.Cond.methodLinkNest "ShadowSpell$Reader" (11 : Nat) ({ cls := "ShadowSpell$Sky", name := "<init>", desc := "()V" } : Jvm.MethodName) "ShadowSpell") ∈ lw_tbl := lw_at lw_m4 26 rfl
theorem q818 : (Jvm.Cond.classLink "ShadowSpell$Reader" (18 : Nat) "java/util/HashMap") ∈ lw_all := lw_g (lw_at lw_m4 27 rfl) rfl
theorem q820 : (Jvm.Cond.methodLink "ShadowSpell$Reader" (20 : Nat) ({ cls := "java/util/HashMap", name := "<init>", desc := "()V" } : Jvm.MethodName)) ∈ lw_all := lw_g (lw_at lw_m4 29 rfl) rfl
theorem q850 : (Jvm.Cond.fieldLink "ShadowSpell$Reader" (28 : Nat) "ShadowSpell$Reader" "tokens" "Ljava/util/List;") ∈ lw_all := lw_g (lw_at lw_m4 59 rfl) rfl
theorem q851 : (Jvm.Cond.fieldLink "ShadowSpell$Reader" (32 : Nat) "ShadowSpell$Reader" "at" "I") ∈ lw_all := lw_g (lw_at lw_m4 60 rfl) rfl
theorem q852 : (Jvm.Cond.fieldLink "ShadowSpell$Reader" (69 : Nat) "ShadowSpell$Reader" "depth" "I") ∈ lw_all := lw_g (lw_at lw_m4 61 rfl) rfl
theorem q853 : (Jvm.Cond.fieldLink "ShadowSpell$Reader" (79 : Nat) "ShadowSpell$Reader" "isSecond" "Z") ∈ lw_all := lw_g (lw_at lw_m4 62 rfl) rfl
theorem q854 : (Jvm.Cond.fieldLink "ShadowSpell$Reader" (12 : Nat) "ShadowSpell$Reader" "sky" "LShadowSpell$Sky;") ∈ lw_all := lw_g (lw_at lw_m4 63 rfl) rfl
theorem q855 : (Jvm.Cond.fieldLink "ShadowSpell$Reader" (21 : Nat) "ShadowSpell$Reader" "planets" "Ljava/util/HashMap;") ∈ lw_all := lw_g (lw_at lw_m4 64 rfl) rfl
theorem q856 : (Jvm.Cond.fieldLink "ShadowSpell$Reader" (25 : Nat) "ShadowSpell$Reader" "alphabets" "Ljava/util/HashMap;") ∈ lw_all := lw_g (lw_at lw_m4 65 rfl) rfl
theorem q857 : (Jvm.Cond.laysFinal "ShadowSpell$Reader" "ShadowSpell$Reader" "tokens" "Ljava/util/List;") ∈ lw_all := lw_g (lw_at lw_m4 66 rfl) rfl
theorem q858 : (Jvm.Cond.soleField "ShadowSpell$Reader" "tokens") ∈ lw_all := lw_g (lw_at lw_m4 67 rfl) rfl
theorem q859 : (Jvm.Cond.lays "ShadowSpell$Reader" "ShadowSpell$Reader" "at" "I") ∈ lw_all := lw_g (lw_at lw_m4 68 rfl) rfl
theorem q860 : (Jvm.Cond.soleField "ShadowSpell$Reader" "at") ∈ lw_all := lw_g (lw_at lw_m4 69 rfl) rfl
theorem q861 : (Jvm.Cond.lays "ShadowSpell$Reader" "ShadowSpell$Reader" "depth" "I") ∈ lw_all := lw_g (lw_at lw_m4 70 rfl) rfl
theorem q862 : (Jvm.Cond.soleField "ShadowSpell$Reader" "depth") ∈ lw_all := lw_g (lw_at lw_m4 71 rfl) rfl
theorem q863 : (Jvm.Cond.lays "ShadowSpell$Reader" "ShadowSpell$Reader" "isSecond" "Z") ∈ lw_all := lw_g (lw_at lw_m4 72 rfl) rfl
theorem q864 : (Jvm.Cond.soleField "ShadowSpell$Reader" "isSecond") ∈ lw_all := lw_g (lw_at lw_m4 73 rfl) rfl
theorem q865 : (Jvm.Cond.lays "ShadowSpell$Reader" "ShadowSpell$Reader" "sky" "LShadowSpell$Sky;") ∈ lw_all := lw_g (lw_at lw_m4 74 rfl) rfl
theorem q866 : (Jvm.Cond.soleField "ShadowSpell$Reader" "sky") ∈ lw_all := lw_g (lw_at lw_m4 75 rfl) rfl
theorem q867 : (Jvm.Cond.laysFinal "ShadowSpell$Reader" "ShadowSpell$Reader" "planets" "Ljava/util/HashMap;") ∈ lw_all := lw_g (lw_at lw_m4 76 rfl) rfl
theorem q868 : (Jvm.Cond.soleField "ShadowSpell$Reader" "planets") ∈ lw_all := lw_g (lw_at lw_m4 77 rfl) rfl
theorem q869 : (Jvm.Cond.laysFinal "ShadowSpell$Reader" "ShadowSpell$Reader" "alphabets" "Ljava/util/HashMap;") ∈ lw_all := lw_g (lw_at lw_m4 78 rfl) rfl
theorem q870 : (Jvm.Cond.soleField "ShadowSpell$Reader" "alphabets") ∈ lw_all := lw_g (lw_at lw_m4 79 rfl) rfl
theorem q871 : (Jvm.Cond.superclass "ShadowSpell$Reader" "java/lang/Object") ∈ lw_all := lw_g (lw_at lw_m4 80 rfl) rfl
theorem q873 : (Jvm.Cond.instanceMethod ({ cls := "ShadowSpell$Reader", name := "read", desc := "()LShadowSpell$Sky;" } : Jvm.MethodName)) ∈ lw_all := lw_g (lw_at lw_m4 82 rfl) rfl
theorem q874 : (Jvm.Cond.selects "ShadowSpell$Reader" ({ cls := "ShadowSpell$Reader", name := "read", desc := "()LShadowSpell$Sky;" } : Jvm.MethodName) ({ cls := "ShadowSpell$Reader", name := "read", desc := "()LShadowSpell$Sky;" } : Jvm.MethodName)) ∈ lw_all := lw_g (lw_at lw_m4 83 rfl) rfl
theorem q875 : (Jvm.Cond.code ({ cls := "ShadowSpell$Reader", name := "read", desc := "()LShadowSpell$Sky;" } : Jvm.MethodName) prog_14_method_9_code (1 : Nat) (Option.some (Jvm.ClassFile.FieldType.object "ShadowSpell$Sky"))) ∈ lw_all := lw_g (lw_at lw_m4 84 rfl) rfl
theorem q876 : (Jvm.Cond.methodLink "ShadowSpell$Reader" (76 : Nat) ({ cls := "ShadowSpell$Reader", name := "text", desc := "()V" } : Jvm.MethodName)) ∈ lw_all := lw_g (lw_at lw_m4 85 rfl) rfl
theorem q877 : (Jvm.Cond.privateMethod ({ cls := "ShadowSpell$Reader", name := "text", desc := "()V" } : Jvm.MethodName)) ∈ lw_tbl := lw_at lw_m4 86 rfl
theorem q878 : (Jvm.Cond.instanceMethod ({ cls := "ShadowSpell$Reader", name := "text", desc := "()V" } : Jvm.MethodName)) ∈ lw_all := lw_g (lw_at lw_m4 87 rfl) rfl
theorem q879 : (Jvm.Cond.code ({ cls := "ShadowSpell$Reader", name := "text", desc := "()V" } : Jvm.MethodName) prog_14_method_16_code (1 : Nat) (Option.none : Option Jvm.ClassFile.FieldType)) ∈ lw_all := lw_g (lw_at lw_m4 88 rfl) rfl
theorem q880 : (Jvm.Cond.methodLink "ShadowSpell$Reader" (46 : Nat) ({ cls := "ShadowSpell$Reader", name := "now", desc := "()LShadowSpell$Token;" } : Jvm.MethodName)) ∈ lw_all := lw_g (lw_at lw_m4 89 rfl) rfl
theorem q881 : (Jvm.Cond.privateMethod ({ cls := "ShadowSpell$Reader", name := "now", desc := "()LShadowSpell$Token;" } : Jvm.MethodName)) ∈ lw_tbl := lw_at lw_m4 90 rfl
theorem q882 : (Jvm.Cond.instanceMethod ({ cls := "ShadowSpell$Reader", name := "now", desc := "()LShadowSpell$Token;" } : Jvm.MethodName)) ∈ lw_all := lw_g (lw_at lw_m4 91 rfl) rfl
theorem q883 : (Jvm.Cond.code ({ cls := "ShadowSpell$Reader", name := "now", desc := "()LShadowSpell$Token;" } : Jvm.MethodName) prog_14_method_2_code (1 : Nat) (Option.some (Jvm.ClassFile.FieldType.object "ShadowSpell$Token"))) ∈ lw_all := lw_g (lw_at lw_m4 92 rfl) rfl
theorem q884 : (Jvm.Cond.interfaceEntry "ShadowSpell$Reader" (36 : Nat)) ∈ lw_tbl := lw_at lw_m4 93 rfl
theorem q885 : (Jvm.Cond.methodLink "ShadowSpell$Reader" (36 : Nat) ({ cls := "java/util/List", name := "get", desc := "(I)Ljava/lang/Object;" } : Jvm.MethodName)) ∈ lw_all := lw_g (lw_at lw_m4 94 rfl) rfl
theorem q902 : (Jvm.Cond.classLink "ShadowSpell$Reader" (42 : Nat) "ShadowSpell$Token") ∈ lw_all := lw_g (lw_at lw_m4 111 rfl) rfl
theorem q903 : (Jvm.Cond.fieldLink "ShadowSpell$Reader" (141 : Nat) "ShadowSpell$Sort" "END" "LShadowSpell$Sort;") ∈ lw_all := lw_g (lw_at lw_m4 112 rfl) rfl
theorem q904 : (Jvm.Cond.stringRef "ShadowSpell$Reader" (144 : Nat) "planet") ∈ lw_tbl := lw_at lw_m4 113 rfl
theorem q905 : (Jvm.Cond.methodLink "ShadowSpell$Reader" (58 : Nat) ({ cls := "ShadowSpell$Reader", name := "takeIf", desc := "(Ljava/lang/String;)Z" } : Jvm.MethodName)) ∈ lw_all := lw_g (lw_at lw_m4 114 rfl) rfl
theorem q906 : (Jvm.Cond.privateMethod ({ cls := "ShadowSpell$Reader", name := "takeIf", desc := "(Ljava/lang/String;)Z" } : Jvm.MethodName)) ∈ lw_tbl := lw_at lw_m4 115 rfl
theorem q907 : (Jvm.Cond.instanceMethod ({ cls := "ShadowSpell$Reader", name := "takeIf", desc := "(Ljava/lang/String;)Z" } : Jvm.MethodName)) ∈ lw_all := lw_g (lw_at lw_m4 116 rfl) rfl
theorem q908 : (Jvm.Cond.code ({ cls := "ShadowSpell$Reader", name := "takeIf", desc := "(Ljava/lang/String;)Z" } : Jvm.MethodName) prog_14_method_4_code (3 : Nat) (Option.some Jvm.ClassFile.FieldType.boolean)) ∈ lw_all := lw_g (lw_at lw_m4 117 rfl) rfl
theorem q909 : (Jvm.Cond.methodLink "ShadowSpell$Reader" (54 : Nat) ({ cls := "ShadowSpell$Token", name := "is", desc := "(Ljava/lang/String;)Z" } : Jvm.MethodName)) ∈ lw_all := lw_g (lw_at lw_m4 118 rfl) rfl
theorem q916 : (Jvm.Cond.methodLink "ShadowSpell$Reader" (146 : Nat) ({ cls := "ShadowSpell$Reader", name := "planet", desc := "()V" } : Jvm.MethodName)) ∈ lw_all := lw_g (lw_at lw_m4 125 rfl) rfl
theorem q917 : (Jvm.Cond.privateMethod ({ cls := "ShadowSpell$Reader", name := "planet", desc := "()V" } : Jvm.MethodName)) ∈ lw_tbl := lw_at lw_m4 126 rfl
theorem q918 : (Jvm.Cond.instanceMethod ({ cls := "ShadowSpell$Reader", name := "planet", desc := "()V" } : Jvm.MethodName)) ∈ lw_all := lw_g (lw_at lw_m4 127 rfl) rfl
theorem q919 : (Jvm.Cond.code ({ cls := "ShadowSpell$Reader", name := "planet", desc := "()V" } : Jvm.MethodName) prog_14_method_17_code (7 : Nat) (Option.none : Option Jvm.ClassFile.FieldType)) ∈ lw_all := lw_g (lw_at lw_m4 128 rfl) rfl
theorem q920 : (Jvm.Cond.methodLink "ShadowSpell$Reader" (155 : Nat) ({ cls := "ShadowSpell$Reader", name := "name", desc := "(Ljava/util/HashMap;I)LShadowSpell$Token;" } : Jvm.MethodName)) ∈ lw_all := lw_g (lw_at lw_m4 129 rfl) rfl
theorem q921 : (Jvm.Cond.privateMethod ({ cls := "ShadowSpell$Reader", name := "name", desc := "(Ljava/util/HashMap;I)LShadowSpell$Token;" } : Jvm.MethodName)) ∈ lw_tbl := lw_at lw_m4 130 rfl
theorem q922 : (Jvm.Cond.instanceMethod ({ cls := "ShadowSpell$Reader", name := "name", desc := "(Ljava/util/HashMap;I)LShadowSpell$Token;" } : Jvm.MethodName)) ∈ lw_all := lw_g (lw_at lw_m4 131 rfl) rfl
theorem q923 : (Jvm.Cond.code ({ cls := "ShadowSpell$Reader", name := "name", desc := "(Ljava/util/HashMap;I)LShadowSpell$Token;" } : Jvm.MethodName) prog_14_method_11_code (4 : Nat) (Option.some (Jvm.ClassFile.FieldType.object "ShadowSpell$Token"))) ∈ lw_all := lw_g (lw_at lw_m4 132 rfl) rfl
theorem q924 : (Jvm.Cond.fieldLink "ShadowSpell$Reader" (83 : Nat) "ShadowSpell$Sort" "NAME" "LShadowSpell$Sort;") ∈ lw_all := lw_g (lw_at lw_m4 133 rfl) rfl
theorem q925 : (Jvm.Cond.methodLink "ShadowSpell$Reader" (88 : Nat) ({ cls := "ShadowSpell$Reader", name := "take", desc := "(LShadowSpell$Sort;)LShadowSpell$Token;" } : Jvm.MethodName)) ∈ lw_all := lw_g (lw_at lw_m4 134 rfl) rfl
theorem q926 : (Jvm.Cond.privateMethod ({ cls := "ShadowSpell$Reader", name := "take", desc := "(LShadowSpell$Sort;)LShadowSpell$Token;" } : Jvm.MethodName)) ∈ lw_tbl := lw_at lw_m4 135 rfl
theorem q927 : (Jvm.Cond.instanceMethod ({ cls := "ShadowSpell$Reader", name := "take", desc := "(LShadowSpell$Sort;)LShadowSpell$Token;" } : Jvm.MethodName)) ∈ lw_all := lw_g (lw_at lw_m4 136 rfl) rfl
theorem q928 : (Jvm.Cond.code ({ cls := "ShadowSpell$Reader", name := "take", desc := "(LShadowSpell$Sort;)LShadowSpell$Token;" } : Jvm.MethodName) prog_14_method_6_code (3 : Nat) (Option.some (Jvm.ClassFile.FieldType.object "ShadowSpell$Token"))) ∈ lw_all := lw_g (lw_at lw_m4 137 rfl) rfl
theorem q929 : (Jvm.Cond.methodLink "ShadowSpell$Reader" (61 : Nat) ({ cls := "ShadowSpell$Reader", name := "wrong", desc := "()LShadowSpell$Fault;" } : Jvm.MethodName)) ∈ lw_all := lw_g (lw_at lw_m4 138 rfl) rfl
theorem q930 : (Jvm.Cond.privateMethod ({ cls := "ShadowSpell$Reader", name := "wrong", desc := "()LShadowSpell$Fault;" } : Jvm.MethodName)) ∈ lw_tbl := lw_at lw_m4 139 rfl
theorem q931 : (Jvm.Cond.instanceMethod ({ cls := "ShadowSpell$Reader", name := "wrong", desc := "()LShadowSpell$Fault;" } : Jvm.MethodName)) ∈ lw_all := lw_g (lw_at lw_m4 140 rfl) rfl
theorem q932 : (Jvm.Cond.code ({ cls := "ShadowSpell$Reader", name := "wrong", desc := "()LShadowSpell$Fault;" } : Jvm.MethodName) prog_14_method_3_code (1 : Nat) (Option.some (Jvm.ClassFile.FieldType.object "ShadowSpell$Fault"))) ∈ lw_all := lw_g (lw_at lw_m4 141 rfl) rfl
theorem q933 : (Jvm.Cond.classLink "ShadowSpell$Reader" (44 : Nat) "ShadowSpell$Fault") ∈ lw_all := lw_g (lw_at lw_m4 142 rfl) rfl
theorem q942 : (Jvm.Cond.methodLink "ShadowSpell$Reader" (51 : Nat) ({ cls := "ShadowSpell$Fault", name := "<init>", desc := "(II)V" } : Jvm.MethodName)) ∈ lw_all := lw_g (lw_at lw_m4 151 rfl) rfl
theorem q959 : (Jvm.Cond.methodLink "ShadowSpell$Reader" (94 : Nat) ({ cls := "java/util/HashMap", name := "containsKey", desc := "(Ljava/lang/Object;)Z" } : Jvm.MethodName)) ∈ lw_all := lw_g (lw_at lw_m4 168 rfl) rfl
theorem q991 : (Jvm.Cond.selects "ShadowSpell$Reader" ({ cls := "java/lang/Object", name := "hashCode", desc := "()I" } : Jvm.MethodName) ({ cls := "java/lang/Object", name := "hashCode", desc := "()I" } : Jvm.MethodName)) ∈ lw_all := lw_g (lw_at lw_m4 200 rfl) rfl
theorem q1105 : (Jvm.Cond.selects "ShadowSpell$Reader" ({ cls := "java/lang/Object", name := "equals", desc := "(Ljava/lang/Object;)Z" } : Jvm.MethodName) ({ cls := "java/lang/Object", name := "equals", desc := "(Ljava/lang/Object;)Z" } : Jvm.MethodName)) ∈ lw_all := lw_g (lw_at lw_m5 74 rfl) rfl
theorem q1452 : (Jvm.Cond.methodLink "ShadowSpell$Reader" (98 : Nat) ({ cls := "ShadowSpell$Reader", name := "check", desc := "(IZLShadowSpell$Token;)V" } : Jvm.MethodName)) ∈ lw_all := lw_g (lw_at lw_m6 181 rfl) rfl
theorem q1453 : (Jvm.Cond.privateMethod ({ cls := "ShadowSpell$Reader", name := "check", desc := "(IZLShadowSpell$Token;)V" } : Jvm.MethodName)) ∈ lw_tbl := lw_at lw_m6 182 rfl
theorem q1454 : (Jvm.Cond.instanceMethod ({ cls := "ShadowSpell$Reader", name := "check", desc := "(IZLShadowSpell$Token;)V" } : Jvm.MethodName)) ∈ lw_all := lw_g (lw_at lw_m6 183 rfl) rfl
theorem q1455 : (Jvm.Cond.code ({ cls := "ShadowSpell$Reader", name := "check", desc := "(IZLShadowSpell$Token;)V" } : Jvm.MethodName) prog_14_method_10_code (4 : Nat) (Option.none : Option Jvm.ClassFile.FieldType)) ∈ lw_all := lw_g (lw_at lw_m6 184 rfl) rfl
theorem q1456 : (Jvm.Cond.methodLink "ShadowSpell$Reader" (102 : Nat) ({ cls := "java/util/HashMap", name := "size", desc := "()I" } : Jvm.MethodName)) ∈ lw_all := lw_g (lw_at lw_m6 185 rfl) rfl
theorem q1460 : (Jvm.Cond.stringRef "ShadowSpell$Reader" (159 : Nat) "rail") ∈ lw_tbl := lw_at lw_m6 189 rfl
theorem q1461 : (Jvm.Cond.methodLink "ShadowSpell$Reader" (72 : Nat) ({ cls := "ShadowSpell$Reader", name := "take", desc := "(Ljava/lang/String;)V" } : Jvm.MethodName)) ∈ lw_all := lw_g (lw_at lw_m6 190 rfl) rfl
theorem q1462 : (Jvm.Cond.privateMethod ({ cls := "ShadowSpell$Reader", name := "take", desc := "(Ljava/lang/String;)V" } : Jvm.MethodName)) ∈ lw_tbl := lw_at lw_m6 191 rfl
theorem q1463 : (Jvm.Cond.instanceMethod ({ cls := "ShadowSpell$Reader", name := "take", desc := "(Ljava/lang/String;)V" } : Jvm.MethodName)) ∈ lw_all := lw_g (lw_at lw_m6 192 rfl) rfl
theorem q1464 : (Jvm.Cond.code ({ cls := "ShadowSpell$Reader", name := "take", desc := "(Ljava/lang/String;)V" } : Jvm.MethodName) prog_14_method_5_code (2 : Nat) (Option.none : Option Jvm.ClassFile.FieldType)) ∈ lw_all := lw_g (lw_at lw_m6 193 rfl) rfl
theorem q1465 : (Jvm.Cond.methodLink "ShadowSpell$Reader" (161 : Nat) ({ cls := "ShadowSpell$Reader", name := "number", desc := "(II)I" } : Jvm.MethodName)) ∈ lw_all := lw_g (lw_at lw_m6 194 rfl) rfl
theorem q1466 : (Jvm.Cond.privateMethod ({ cls := "ShadowSpell$Reader", name := "number", desc := "(II)I" } : Jvm.MethodName)) ∈ lw_tbl := lw_at lw_m6 195 rfl
theorem q1467 : (Jvm.Cond.instanceMethod ({ cls := "ShadowSpell$Reader", name := "number", desc := "(II)I" } : Jvm.MethodName)) ∈ lw_all := lw_g (lw_at lw_m6 196 rfl) rfl
theorem q1468 : (Jvm.Cond.code ({ cls := "ShadowSpell$Reader", name := "number", desc := "(II)I" } : Jvm.MethodName) prog_14_method_15_code (4 : Nat) (Option.some Jvm.ClassFile.FieldType.int)) ∈ lw_all := lw_g (lw_at lw_m6 197 rfl) rfl
theorem q1469 : (Jvm.Cond.fieldLink "ShadowSpell$Reader" (135 : Nat) "ShadowSpell$Sort" "NUMBER" "LShadowSpell$Sort;") ∈ lw_all := lw_g (lw_at lw_m6 198 rfl) rfl
theorem q1470 : (Jvm.Cond.methodLink "ShadowSpell$Reader" (138 : Nat) ({ cls := "ShadowSpell$Token", name := "number", desc := "()I" } : Jvm.MethodName)) ∈ lw_all := lw_g (lw_at lw_m6 199 rfl) rfl
theorem q1486 : (Jvm.Cond.stringRef "ShadowSpell$Reader" (164 : Nat) "speed") ∈ lw_tbl := lw_at lw_m6 215 rfl
theorem q1487 : (Jvm.Cond.stringRef "ShadowSpell$Reader" (166 : Nat) "from") ∈ lw_tbl := lw_at lw_m6 216 rfl
theorem q1488 : (Jvm.Cond.stringRef "ShadowSpell$Reader" (168 : Nat) "retro") ∈ lw_tbl := lw_at lw_m6 217 rfl
theorem q1489 : (Jvm.Cond.stringRef "ShadowSpell$Reader" (170 : Nat) "every") ∈ lw_tbl := lw_at lw_m6 218 rfl
theorem q1490 : (Jvm.Cond.stringRef "ShadowSpell$Reader" (172 : Nat) ";") ∈ lw_tbl := lw_at lw_m6 219 rfl
theorem q1491 : (Jvm.Cond.methodLink "ShadowSpell$Reader" (174 : Nat) ({ cls := "ShadowSpell$Reader", name := "put", desc := "(Ljava/util/HashMap;LShadowSpell$Token;)V" } : Jvm.MethodName)) ∈ lw_all := lw_g (lw_at lw_m6 220 rfl) rfl
theorem q1492 : (Jvm.Cond.privateMethod ({ cls := "ShadowSpell$Reader", name := "put", desc := "(Ljava/util/HashMap;LShadowSpell$Token;)V" } : Jvm.MethodName)) ∈ lw_tbl := lw_at lw_m6 221 rfl
theorem q1493 : (Jvm.Cond.instanceMethod ({ cls := "ShadowSpell$Reader", name := "put", desc := "(Ljava/util/HashMap;LShadowSpell$Token;)V" } : Jvm.MethodName)) ∈ lw_all := lw_g (lw_at lw_m6 222 rfl) rfl
theorem q1494 : (Jvm.Cond.code ({ cls := "ShadowSpell$Reader", name := "put", desc := "(Ljava/util/HashMap;LShadowSpell$Token;)V" } : Jvm.MethodName) prog_14_method_12_code (3 : Nat) (Option.none : Option Jvm.ClassFile.FieldType)) ∈ lw_all := lw_g (lw_at lw_m6 223 rfl) rfl
theorem q1495 : (Jvm.Cond.methodLink "ShadowSpell$Reader" (106 : Nat) ({ cls := "java/lang/Integer", name := "valueOf", desc := "(I)Ljava/lang/Integer;" } : Jvm.MethodName)) ∈ lw_all := lw_g (lw_at lw_m6 224 rfl) rfl
theorem q1514 : (Jvm.Cond.methodLink "ShadowSpell$Reader" (112 : Nat) ({ cls := "java/util/HashMap", name := "put", desc := "(Ljava/lang/Object;Ljava/lang/Object;)Ljava/lang/Object;" } : Jvm.MethodName)) ∈ lw_all := lw_g (lw_at lw_m7 3 rfl) rfl
theorem q1654 : (Jvm.Cond.classLink "ShadowSpell$Reader" (180 : Nat) "ShadowSpell$Planet") ∈ lw_all := lw_g (lw_at lw_m7 143 rfl) rfl
theorem q1656 : (Jvm.Cond.methodLink "ShadowSpell$Reader" (182 : Nat) ({ cls := "java/util/ArrayList", name := "size", desc := "()I" } : Jvm.MethodName)) ∈ lw_all := lw_g (lw_at lw_m7 145 rfl) rfl
theorem q1657 : (Jvm.Cond.methodLink "ShadowSpell$Reader" (185 : Nat) ({ cls := "ShadowSpell$Planet", name := "<init>", desc := "(IIIIII)V" } : Jvm.MethodName)) ∈ lw_all := lw_g (lw_at lw_m7 146 rfl) rfl
theorem q1698 : (Jvm.Cond.methodLink "ShadowSpell$Reader" (188 : Nat) ({ cls := "java/util/ArrayList", name := "add", desc := "(Ljava/lang/Object;)Z" } : Jvm.MethodName)) ∈ lw_all := lw_g (lw_at lw_m7 187 rfl) rfl
theorem q1699 : (Jvm.Cond.stringRef "ShadowSpell$Reader" (148 : Nat) "alphabet") ∈ lw_tbl := lw_at lw_m7 188 rfl
theorem q1700 : (Jvm.Cond.methodLink "ShadowSpell$Reader" (150 : Nat) ({ cls := "ShadowSpell$Reader", name := "alphabet", desc := "()V" } : Jvm.MethodName)) ∈ lw_all := lw_g (lw_at lw_m7 189 rfl) rfl
theorem q1701 : (Jvm.Cond.privateMethod ({ cls := "ShadowSpell$Reader", name := "alphabet", desc := "()V" } : Jvm.MethodName)) ∈ lw_tbl := lw_at lw_m7 190 rfl
theorem q1702 : (Jvm.Cond.instanceMethod ({ cls := "ShadowSpell$Reader", name := "alphabet", desc := "()V" } : Jvm.MethodName)) ∈ lw_all := lw_g (lw_at lw_m7 191 rfl) rfl
theorem q1703 : (Jvm.Cond.code ({ cls := "ShadowSpell$Reader", name := "alphabet", desc := "()V" } : Jvm.MethodName) prog_14_method_19_code (3 : Nat) (Option.none : Option Jvm.ClassFile.FieldType)) ∈ lw_all := lw_g (lw_at lw_m7 192 rfl) rfl
theorem q1704 : (Jvm.Cond.methodLink "ShadowSpell$Reader" (204 : Nat) ({ cls := "ShadowSpell$Reader", name := "isRow", desc := "(Ljava/lang/String;)Z" } : Jvm.MethodName)) ∈ lw_all := lw_g (lw_at lw_m7 193 rfl) rfl
theorem q1705 : (Jvm.Cond.static ({ cls := "ShadowSpell$Reader", name := "isRow", desc := "(Ljava/lang/String;)Z" } : Jvm.MethodName)) ∈ lw_all := lw_g (lw_at lw_m7 194 rfl) rfl
theorem q1706 : (Jvm.Cond.code ({ cls := "ShadowSpell$Reader", name := "isRow", desc := "(Ljava/lang/String;)Z" } : Jvm.MethodName) prog_14_method_18_code (2 : Nat) (Option.some Jvm.ClassFile.FieldType.boolean)) ∈ lw_all := lw_g (lw_at lw_m7 195 rfl) rfl
theorem q1707 : (Jvm.Cond.methodLink "ShadowSpell$Reader" (191 : Nat) ({ cls := "java/lang/String", name := "length", desc := "()I" } : Jvm.MethodName)) ∈ lw_all := lw_g (lw_at lw_m7 196 rfl) rfl
theorem q1708 : (Jvm.Cond.methodLink "ShadowSpell$Reader" (196 : Nat) ({ cls := "java/lang/String", name := "charAt", desc := "(I)C" } : Jvm.MethodName)) ∈ lw_all := lw_g (lw_at lw_m7 197 rfl) rfl
theorem q1709 : (Jvm.Cond.methodLink "ShadowSpell$Reader" (200 : Nat) ({ cls := "java/lang/String", name := "indexOf", desc := "(I)I" } : Jvm.MethodName)) ∈ lw_all := lw_g (lw_at lw_m7 198 rfl) rfl
theorem q1710 : (Jvm.Cond.classLink "ShadowSpell$Reader" (209 : Nat) "ShadowSpell$Alphabet") ∈ lw_all := lw_g (lw_at lw_m7 199 rfl) rfl
theorem q1712 : (Jvm.Cond.methodLink "ShadowSpell$Reader" (211 : Nat) ({ cls := "ShadowSpell$Alphabet", name := "<init>", desc := "(Ljava/lang/String;)V" } : Jvm.MethodName)) ∈ lw_all := lw_g (lw_at lw_m7 201 rfl) rfl
theorem q1721 : (Jvm.Cond.methodLink "ShadowSpell$Reader" (152 : Nat) ({ cls := "ShadowSpell$Reader", name := "rule", desc := "()V" } : Jvm.MethodName)) ∈ lw_all := lw_g (lw_at lw_m7 210 rfl) rfl
theorem q1722 : (Jvm.Cond.privateMethod ({ cls := "ShadowSpell$Reader", name := "rule", desc := "()V" } : Jvm.MethodName)) ∈ lw_tbl := lw_at lw_m7 211 rfl
theorem q1723 : (Jvm.Cond.instanceMethod ({ cls := "ShadowSpell$Reader", name := "rule", desc := "()V" } : Jvm.MethodName)) ∈ lw_all := lw_g (lw_at lw_m7 212 rfl) rfl
theorem q1724 : (Jvm.Cond.code ({ cls := "ShadowSpell$Reader", name := "rule", desc := "()V" } : Jvm.MethodName) prog_14_method_20_code (5 : Nat) (Option.none : Option Jvm.ClassFile.FieldType)) ∈ lw_all := lw_g (lw_at lw_m7 213 rfl) rfl
theorem q1725 : (Jvm.Cond.stringRef "ShadowSpell$Reader" (213 : Nat) "when") ∈ lw_tbl := lw_at lw_m7 214 rfl
theorem q1726 : (Jvm.Cond.methodLink "ShadowSpell$Reader" (218 : Nat) ({ cls := "ShadowSpell$Reader", name := "test", desc := "()LShadowSpell$Test;" } : Jvm.MethodName)) ∈ lw_all := lw_g (lw_at lw_m7 215 rfl) rfl
theorem q1727 : (Jvm.Cond.privateMethod ({ cls := "ShadowSpell$Reader", name := "test", desc := "()LShadowSpell$Test;" } : Jvm.MethodName)) ∈ lw_tbl := lw_at lw_m7 216 rfl
theorem q1728 : (Jvm.Cond.instanceMethod ({ cls := "ShadowSpell$Reader", name := "test", desc := "()LShadowSpell$Test;" } : Jvm.MethodName)) ∈ lw_all := lw_g (lw_at lw_m7 217 rfl) rfl
theorem q1729 : (Jvm.Cond.code ({ cls := "ShadowSpell$Reader", name := "test", desc := "()LShadowSpell$Test;" } : Jvm.MethodName) prog_14_method_21_code (2 : Nat) (Option.some (Jvm.ClassFile.FieldType.object "ShadowSpell$Test"))) ∈ lw_all := lw_g (lw_at lw_m7 218 rfl) rfl
theorem q1730 : (Jvm.Cond.classLink "ShadowSpell$Reader" (236 : Nat) "ShadowSpell$Several") ∈ lw_all := lw_g (lw_at lw_m7 219 rfl) rfl
theorem q1732 : (Jvm.Cond.methodLink "ShadowSpell$Reader" (238 : Nat) ({ cls := "ShadowSpell$Several", name := "<init>", desc := "(Z)V" } : Jvm.MethodName)) ∈ lw_all := lw_g (lw_at lw_m7 221 rfl) rfl
theorem q1740 : (Jvm.Cond.fieldLinkNest "ShadowSpell$Reader" (241 : Nat) "ShadowSpell$Several" "tests" "Ljava/util/ArrayList;" "ShadowSpell") ∈ lw_tbl := lw_at lw_m7 229 rfl
theorem q1746 : (Jvm.Cond.methodLink "ShadowSpell$Reader" (244 : Nat) ({ cls := "ShadowSpell$Reader", name := "both", desc := "()LShadowSpell$Test;" } : Jvm.MethodName)) ∈ lw_all := lw_g (lw_at lw_m7 235 rfl) rfl
theorem q1747 : (Jvm.Cond.privateMethod ({ cls := "ShadowSpell$Reader", name := "both", desc := "()LShadowSpell$Test;" } : Jvm.MethodName)) ∈ lw_tbl := lw_at lw_m7 236 rfl
theorem q1748 : (Jvm.Cond.instanceMethod ({ cls := "ShadowSpell$Reader", name := "both", desc := "()LShadowSpell$Test;" } : Jvm.MethodName)) ∈ lw_all := lw_g (lw_at lw_m7 237 rfl) rfl
theorem q1749 : (Jvm.Cond.code ({ cls := "ShadowSpell$Reader", name := "both", desc := "()LShadowSpell$Test;" } : Jvm.MethodName) prog_14_method_22_code (2 : Nat) (Option.some (Jvm.ClassFile.FieldType.object "ShadowSpell$Test"))) ∈ lw_all := lw_g (lw_at lw_m7 238 rfl) rfl
theorem q1750 : (Jvm.Cond.methodLink "ShadowSpell$Reader" (249 : Nat) ({ cls := "ShadowSpell$Reader", name := "single", desc := "()LShadowSpell$Test;" } : Jvm.MethodName)) ∈ lw_all := lw_g (lw_at lw_m7 239 rfl) rfl
theorem q1751 : (Jvm.Cond.privateMethod ({ cls := "ShadowSpell$Reader", name := "single", desc := "()LShadowSpell$Test;" } : Jvm.MethodName)) ∈ lw_tbl := lw_at lw_m8 0 rfl
theorem q1752 : (Jvm.Cond.instanceMethod ({ cls := "ShadowSpell$Reader", name := "single", desc := "()LShadowSpell$Test;" } : Jvm.MethodName)) ∈ lw_all := lw_g (lw_at lw_m8 1 rfl) rfl
theorem q1753 : (Jvm.Cond.code ({ cls := "ShadowSpell$Reader", name := "single", desc := "()LShadowSpell$Test;" } : Jvm.MethodName) prog_14_method_23_code (3 : Nat) (Option.some (Jvm.ClassFile.FieldType.object "ShadowSpell$Test"))) ∈ lw_all := lw_g (lw_at lw_m8 2 rfl) rfl
theorem q1754 : (Jvm.Cond.stringRef "ShadowSpell$Reader" (254 : Nat) "not") ∈ lw_tbl := lw_at lw_m8 3 rfl
theorem q1755 : (Jvm.Cond.methodLink "ShadowSpell$Reader" (256 : Nat) ({ cls := "ShadowSpell$Reader", name := "deeper", desc := "(Ljava/lang/String;)V" } : Jvm.MethodName)) ∈ lw_all := lw_g (lw_at lw_m8 4 rfl) rfl
theorem q1756 : (Jvm.Cond.privateMethod ({ cls := "ShadowSpell$Reader", name := "deeper", desc := "(Ljava/lang/String;)V" } : Jvm.MethodName)) ∈ lw_tbl := lw_at lw_m8 5 rfl
theorem q1757 : (Jvm.Cond.instanceMethod ({ cls := "ShadowSpell$Reader", name := "deeper", desc := "(Ljava/lang/String;)V" } : Jvm.MethodName)) ∈ lw_all := lw_g (lw_at lw_m8 6 rfl) rfl
theorem q1758 : (Jvm.Cond.code ({ cls := "ShadowSpell$Reader", name := "deeper", desc := "(Ljava/lang/String;)V" } : Jvm.MethodName) prog_14_method_7_code (2 : Nat) (Option.none : Option Jvm.ClassFile.FieldType)) ∈ lw_all := lw_g (lw_at lw_m8 7 rfl) rfl
theorem q1759 : (Jvm.Cond.classLink "ShadowSpell$Reader" (259 : Nat) "ShadowSpell$Denied") ∈ lw_all := lw_g (lw_at lw_m8 8 rfl) rfl
theorem q1761 : (Jvm.Cond.methodLink "ShadowSpell$Reader" (261 : Nat) ({ cls := "ShadowSpell$Denied", name := "<init>", desc := "(LShadowSpell$Test;)V" } : Jvm.MethodName)) ∈ lw_all := lw_g (lw_at lw_m8 10 rfl) rfl
theorem q1769 : (Jvm.Cond.stringRef "ShadowSpell$Reader" (264 : Nat) "[") ∈ lw_tbl := lw_at lw_m8 18 rfl
theorem q1770 : (Jvm.Cond.stringRef "ShadowSpell$Reader" (266 : Nat) "]") ∈ lw_tbl := lw_at lw_m8 19 rfl
theorem q1771 : (Jvm.Cond.methodLink "ShadowSpell$Reader" (268 : Nat) ({ cls := "ShadowSpell$Reader", name := "close", desc := "(Ljava/lang/String;)V" } : Jvm.MethodName)) ∈ lw_all := lw_g (lw_at lw_m8 20 rfl) rfl
theorem q1772 : (Jvm.Cond.privateMethod ({ cls := "ShadowSpell$Reader", name := "close", desc := "(Ljava/lang/String;)V" } : Jvm.MethodName)) ∈ lw_tbl := lw_at lw_m8 21 rfl
theorem q1773 : (Jvm.Cond.instanceMethod ({ cls := "ShadowSpell$Reader", name := "close", desc := "(Ljava/lang/String;)V" } : Jvm.MethodName)) ∈ lw_all := lw_g (lw_at lw_m8 22 rfl) rfl
theorem q1774 : (Jvm.Cond.code ({ cls := "ShadowSpell$Reader", name := "close", desc := "(Ljava/lang/String;)V" } : Jvm.MethodName) prog_14_method_8_code (2 : Nat) (Option.none : Option Jvm.ClassFile.FieldType)) ∈ lw_all := lw_g (lw_at lw_m8 23 rfl) rfl
theorem q1775 : (Jvm.Cond.classLink "ShadowSpell$Reader" (271 : Nat) "ShadowSpell$Back") ∈ lw_all := lw_g (lw_at lw_m8 24 rfl) rfl
theorem q1777 : (Jvm.Cond.methodLink "ShadowSpell$Reader" (131 : Nat) ({ cls := "ShadowSpell$Reader", name := "known", desc := "(Ljava/util/HashMap;)I" } : Jvm.MethodName)) ∈ lw_all := lw_g (lw_at lw_m8 26 rfl) rfl
theorem q1778 : (Jvm.Cond.privateMethod ({ cls := "ShadowSpell$Reader", name := "known", desc := "(Ljava/util/HashMap;)I" } : Jvm.MethodName)) ∈ lw_tbl := lw_at lw_m8 27 rfl
theorem q1779 : (Jvm.Cond.instanceMethod ({ cls := "ShadowSpell$Reader", name := "known", desc := "(Ljava/util/HashMap;)I" } : Jvm.MethodName)) ∈ lw_all := lw_g (lw_at lw_m8 28 rfl) rfl
theorem q1780 : (Jvm.Cond.code ({ cls := "ShadowSpell$Reader", name := "known", desc := "(Ljava/util/HashMap;)I" } : Jvm.MethodName) prog_14_method_13_code (3 : Nat) (Option.some Jvm.ClassFile.FieldType.int)) ∈ lw_all := lw_g (lw_at lw_m8 29 rfl) rfl
theorem q1781 : (Jvm.Cond.methodLink "ShadowSpell$Reader" (116 : Nat) ({ cls := "java/util/HashMap", name := "get", desc := "(Ljava/lang/Object;)Ljava/lang/Object;" } : Jvm.MethodName)) ∈ lw_all := lw_g (lw_at lw_m8 30 rfl) rfl
theorem q1785 : (Jvm.Cond.classLink "ShadowSpell$Reader" (107 : Nat) "java/lang/Integer") ∈ lw_all := lw_g (lw_at lw_m8 34 rfl) rfl
theorem q1786 : (Jvm.Cond.methodLink "ShadowSpell$Reader" (119 : Nat) ({ cls := "java/util/Optional", name := "ofNullable", desc := "(Ljava/lang/Object;)Ljava/util/Optional;" } : Jvm.MethodName)) ∈ lw_all := lw_g (lw_at lw_m8 35 rfl) rfl
theorem q1801 : (Jvm.Cond.methodLink "ShadowSpell$Reader" (125 : Nat) ({ cls := "java/util/Optional", name := "orElse", desc := "(Ljava/lang/Object;)Ljava/lang/Object;" } : Jvm.MethodName)) ∈ lw_all := lw_g (lw_at lw_m8 50 rfl) rfl
theorem q1805 : (Jvm.Cond.methodLink "ShadowSpell$Reader" (128 : Nat) ({ cls := "java/lang/Integer", name := "intValue", desc := "()I" } : Jvm.MethodName)) ∈ lw_all := lw_g (lw_at lw_m8 54 rfl) rfl
theorem q1806 : (Jvm.Cond.methodLink "ShadowSpell$Reader" (273 : Nat) ({ cls := "ShadowSpell$Back", name := "<init>", desc := "(I)V" } : Jvm.MethodName)) ∈ lw_all := lw_g (lw_at lw_m8 55 rfl) rfl
theorem q1814 : (Jvm.Cond.stringRef "ShadowSpell$Reader" (276 : Nat) "transit") ∈ lw_tbl := lw_at lw_m8 63 rfl
theorem q1815 : (Jvm.Cond.stringRef "ShadowSpell$Reader" (278 : Nat) "opposite") ∈ lw_tbl := lw_at lw_m8 64 rfl
theorem q1816 : (Jvm.Cond.methodLink "ShadowSpell$Reader" (280 : Nat) ({ cls := "ShadowSpell$Aspect", name := "of", desc := "(Z)LShadowSpell$Aspect;" } : Jvm.MethodName)) ∈ lw_all := lw_g (lw_at lw_m8 65 rfl) rfl
theorem q1823 : (Jvm.Cond.fieldLink "ShadowSpell$Reader" (285 : Nat) "ShadowSpell$Aspect" "TRANSIT" "LShadowSpell$Aspect;") ∈ lw_all := lw_g (lw_at lw_m8 72 rfl) rfl
theorem q1824 : (Jvm.Cond.classLink "ShadowSpell$Reader" (289 : Nat) "ShadowSpell$Seen") ∈ lw_all := lw_g (lw_at lw_m8 73 rfl) rfl
theorem q1826 : (Jvm.Cond.methodLink "ShadowSpell$Reader" (291 : Nat) ({ cls := "ShadowSpell$Reader", name := "other", desc := "(I)I" } : Jvm.MethodName)) ∈ lw_all := lw_g (lw_at lw_m8 75 rfl) rfl
theorem q1827 : (Jvm.Cond.privateMethod ({ cls := "ShadowSpell$Reader", name := "other", desc := "(I)I" } : Jvm.MethodName)) ∈ lw_tbl := lw_at lw_m8 76 rfl
theorem q1828 : (Jvm.Cond.instanceMethod ({ cls := "ShadowSpell$Reader", name := "other", desc := "(I)I" } : Jvm.MethodName)) ∈ lw_all := lw_g (lw_at lw_m8 77 rfl) rfl
theorem q1829 : (Jvm.Cond.code ({ cls := "ShadowSpell$Reader", name := "other", desc := "(I)I" } : Jvm.MethodName) prog_14_method_14_code (4 : Nat) (Option.some Jvm.ClassFile.FieldType.int)) ∈ lw_all := lw_g (lw_at lw_m8 78 rfl) rfl
theorem q1830 : (Jvm.Cond.methodLink "ShadowSpell$Reader" (294 : Nat) ({ cls := "ShadowSpell$Seen", name := "<init>", desc := "(LShadowSpell$Aspect;II)V" } : Jvm.MethodName)) ∈ lw_all := lw_g (lw_at lw_m8 79 rfl) rfl
theorem q1844 : (Jvm.Cond.methodLink "ShadowSpell$Reader" (224 : Nat) ({ cls := "ShadowSpell$Reader", name := "sum", desc := "()LShadowSpell$Sum;" } : Jvm.MethodName)) ∈ lw_all := lw_g (lw_at lw_m8 93 rfl) rfl
theorem q1845 : (Jvm.Cond.privateMethod ({ cls := "ShadowSpell$Reader", name := "sum", desc := "()LShadowSpell$Sum;" } : Jvm.MethodName)) ∈ lw_tbl := lw_at lw_m8 94 rfl
theorem q1846 : (Jvm.Cond.instanceMethod ({ cls := "ShadowSpell$Reader", name := "sum", desc := "()LShadowSpell$Sum;" } : Jvm.MethodName)) ∈ lw_all := lw_g (lw_at lw_m8 95 rfl) rfl
theorem q1847 : (Jvm.Cond.code ({ cls := "ShadowSpell$Reader", name := "sum", desc := "()LShadowSpell$Sum;" } : Jvm.MethodName) prog_14_method_24_code (3 : Nat) (Option.some (Jvm.ClassFile.FieldType.object "ShadowSpell$Sum"))) ∈ lw_all := lw_g (lw_at lw_m8 96 rfl) rfl
theorem q1848 : (Jvm.Cond.methodLink "ShadowSpell$Reader" (307 : Nat) ({ cls := "ShadowSpell$Reader", name := "product", desc := "()LShadowSpell$Sum;" } : Jvm.MethodName)) ∈ lw_all := lw_g (lw_at lw_m8 97 rfl) rfl
theorem q1849 : (Jvm.Cond.privateMethod ({ cls := "ShadowSpell$Reader", name := "product", desc := "()LShadowSpell$Sum;" } : Jvm.MethodName)) ∈ lw_tbl := lw_at lw_m8 98 rfl
theorem q1850 : (Jvm.Cond.instanceMethod ({ cls := "ShadowSpell$Reader", name := "product", desc := "()LShadowSpell$Sum;" } : Jvm.MethodName)) ∈ lw_all := lw_g (lw_at lw_m8 99 rfl) rfl
theorem q1851 : (Jvm.Cond.code ({ cls := "ShadowSpell$Reader", name := "product", desc := "()LShadowSpell$Sum;" } : Jvm.MethodName) prog_14_method_25_code (3 : Nat) (Option.some (Jvm.ClassFile.FieldType.object "ShadowSpell$Sum"))) ∈ lw_all := lw_g (lw_at lw_m8 100 rfl) rfl
theorem q1852 : (Jvm.Cond.methodLink "ShadowSpell$Reader" (328 : Nat) ({ cls := "ShadowSpell$Reader", name := "value", desc := "()LShadowSpell$Sum;" } : Jvm.MethodName)) ∈ lw_all := lw_g (lw_at lw_m8 101 rfl) rfl
theorem q1853 : (Jvm.Cond.privateMethod ({ cls := "ShadowSpell$Reader", name := "value", desc := "()LShadowSpell$Sum;" } : Jvm.MethodName)) ∈ lw_tbl := lw_at lw_m8 102 rfl
theorem q1854 : (Jvm.Cond.instanceMethod ({ cls := "ShadowSpell$Reader", name := "value", desc := "()LShadowSpell$Sum;" } : Jvm.MethodName)) ∈ lw_all := lw_g (lw_at lw_m8 103 rfl) rfl
theorem q1855 : (Jvm.Cond.code ({ cls := "ShadowSpell$Reader", name := "value", desc := "()LShadowSpell$Sum;" } : Jvm.MethodName) prog_14_method_26_code (6 : Nat) (Option.some (Jvm.ClassFile.FieldType.object "ShadowSpell$Sum"))) ∈ lw_all := lw_g (lw_at lw_m8 104 rfl) rfl
theorem q1856 : (Jvm.Cond.classLink "ShadowSpell$Reader" (346 : Nat) "ShadowSpell$Plain") ∈ lw_all := lw_g (lw_at lw_m8 105 rfl) rfl
theorem q1858 : (Jvm.Cond.methodLink "ShadowSpell$Reader" (348 : Nat) ({ cls := "ShadowSpell$Plain", name := "<init>", desc := "(I)V" } : Jvm.MethodName)) ∈ lw_all := lw_g (lw_at lw_m8 107 rfl) rfl
theorem q1869 : (Jvm.Cond.fieldLinkNest "ShadowSpell$Reader" (349 : Nat) "ShadowSpell$What" "ALL" "[LShadowSpell$What;" "ShadowSpell") ∈ lw_tbl := lw_at lw_m8 118 rfl
theorem q1871 : (Jvm.Cond.classLink "ShadowSpell$Reader" (361 : Nat) "ShadowSpell$Asked") ∈ lw_all := lw_g (lw_at lw_m8 120 rfl) rfl
theorem q1873 : (Jvm.Cond.methodLink "ShadowSpell$Reader" (363 : Nat) ({ cls := "ShadowSpell$Asked", name := "<init>", desc := "(LShadowSpell$What;II)V" } : Jvm.MethodName)) ∈ lw_all := lw_g (lw_at lw_m8 122 rfl) rfl
theorem q1887 : (Jvm.Cond.stringRef "ShadowSpell$Reader" (312 : Nat) "-") ∈ lw_tbl := lw_at lw_m8 136 rfl
theorem q1888 : (Jvm.Cond.classLink "ShadowSpell$Reader" (366 : Nat) "ShadowSpell$Turned") ∈ lw_all := lw_g (lw_at lw_m8 137 rfl) rfl
theorem q1890 : (Jvm.Cond.methodLink "ShadowSpell$Reader" (368 : Nat) ({ cls := "ShadowSpell$Turned", name := "<init>", desc := "(LShadowSpell$Sum;)V" } : Jvm.MethodName)) ∈ lw_all := lw_g (lw_at lw_m8 139 rfl) rfl
theorem q1898 : (Jvm.Cond.fieldLink "ShadowSpell$Reader" (371 : Nat) "ShadowSpell$Sign" "LEAST" "LShadowSpell$Sign;") ∈ lw_all := lw_g (lw_at lw_m8 147 rfl) rfl
theorem q1900 : (Jvm.Cond.fieldLink "ShadowSpell$Reader" (375 : Nat) "ShadowSpell$Sign" "MOST_OF" "LShadowSpell$Sign;") ∈ lw_all := lw_g (lw_at lw_m8 149 rfl) rfl
theorem q1902 : (Jvm.Cond.stringRef "ShadowSpell$Reader" (378 : Nat) "(") ∈ lw_tbl := lw_at lw_m8 151 rfl
theorem q1903 : (Jvm.Cond.stringRef "ShadowSpell$Reader" (380 : Nat) ",") ∈ lw_tbl := lw_at lw_m8 152 rfl
theorem q1904 : (Jvm.Cond.classLink "ShadowSpell$Reader" (323 : Nat) "ShadowSpell$Joined") ∈ lw_all := lw_g (lw_at lw_m8 153 rfl) rfl
theorem q1906 : (Jvm.Cond.methodLink "ShadowSpell$Reader" (325 : Nat) ({ cls := "ShadowSpell$Joined", name := "<init>", desc := "(LShadowSpell$Sign;LShadowSpell$Sum;LShadowSpell$Sum;)V" } : Jvm.MethodName)) ∈ lw_all := lw_g (lw_at lw_m8 155 rfl) rfl
theorem q1920 : (Jvm.Cond.stringRef "ShadowSpell$Reader" (382 : Nat) ")") ∈ lw_tbl := lw_at lw_m8 169 rfl
theorem q1921 : (Jvm.Cond.stringRef "ShadowSpell$Reader" (331 : Nat) "*") ∈ lw_tbl := lw_at lw_m8 170 rfl
theorem q1922 : (Jvm.Cond.stringRef "ShadowSpell$Reader" (333 : Nat) "/") ∈ lw_tbl := lw_at lw_m8 171 rfl
theorem q1923 : (Jvm.Cond.stringRef "ShadowSpell$Reader" (335 : Nat) "%") ∈ lw_tbl := lw_at lw_m8 172 rfl
theorem q1924 : (Jvm.Cond.fieldLink "ShadowSpell$Reader" (337 : Nat) "ShadowSpell$Sign" "TIMES" "LShadowSpell$Sign;") ∈ lw_all := lw_g (lw_at lw_m8 173 rfl) rfl
theorem q1926 : (Jvm.Cond.fieldLink "ShadowSpell$Reader" (340 : Nat) "ShadowSpell$Sign" "PARTED" "LShadowSpell$Sign;") ∈ lw_all := lw_g (lw_at lw_m8 175 rfl) rfl
theorem q1928 : (Jvm.Cond.fieldLink "ShadowSpell$Reader" (343 : Nat) "ShadowSpell$Sign" "REST" "LShadowSpell$Sign;") ∈ lw_all := lw_g (lw_at lw_m8 177 rfl) rfl
theorem q1930 : (Jvm.Cond.stringRef "ShadowSpell$Reader" (310 : Nat) "+") ∈ lw_tbl := lw_at lw_m8 179 rfl
theorem q1931 : (Jvm.Cond.fieldLink "ShadowSpell$Reader" (314 : Nat) "ShadowSpell$Sign" "PLUS" "LShadowSpell$Sign;") ∈ lw_all := lw_g (lw_at lw_m8 180 rfl) rfl
theorem q1933 : (Jvm.Cond.fieldLink "ShadowSpell$Reader" (320 : Nat) "ShadowSpell$Sign" "MINUS" "LShadowSpell$Sign;") ∈ lw_all := lw_g (lw_at lw_m8 182 rfl) rfl
theorem q1935 : (Jvm.Cond.fieldLink "ShadowSpell$Reader" (297 : Nat) "ShadowSpell$Sort" "SYMBOL" "LShadowSpell$Sort;") ∈ lw_all := lw_g (lw_at lw_m8 184 rfl) rfl
theorem q1936 : (Jvm.Cond.stringRef "ShadowSpell$Reader" (300 : Nat) "<>=") ∈ lw_tbl := lw_at lw_m8 185 rfl
theorem q1937 : (Jvm.Cond.classLink "ShadowSpell$Reader" (302 : Nat) "ShadowSpell$Compared") ∈ lw_all := lw_g (lw_at lw_m8 186 rfl) rfl
theorem q1939 : (Jvm.Cond.methodLink "ShadowSpell$Reader" (304 : Nat) ({ cls := "ShadowSpell$Compared", name := "<init>", desc := "(Ljava/lang/String;LShadowSpell$Sum;LShadowSpell$Sum;)V" } : Jvm.MethodName)) ∈ lw_all := lw_g (lw_at lw_m8 188 rfl) rfl
theorem q1953 : (Jvm.Cond.stringRef "ShadowSpell$Reader" (252 : Nat) "and") ∈ lw_tbl := lw_at lw_m8 202 rfl
theorem q1954 : (Jvm.Cond.stringRef "ShadowSpell$Reader" (247 : Nat) "or") ∈ lw_tbl := lw_at lw_m8 203 rfl
theorem q1955 : (Jvm.Cond.stringRef "ShadowSpell$Reader" (222 : Nat) "write") ∈ lw_tbl := lw_at lw_m8 204 rfl
theorem q1956 : (Jvm.Cond.stringRef "ShadowSpell$Reader" (228 : Nat) "of") ∈ lw_tbl := lw_at lw_m8 205 rfl
theorem q1957 : (Jvm.Cond.classLink "ShadowSpell$Reader" (230 : Nat) "ShadowSpell$Rule") ∈ lw_all := lw_g (lw_at lw_m8 206 rfl) rfl
theorem q1959 : (Jvm.Cond.methodLink "ShadowSpell$Reader" (232 : Nat) ({ cls := "java/util/ArrayList", name := "get", desc := "(I)Ljava/lang/Object;" } : Jvm.MethodName)) ∈ lw_all := lw_g (lw_at lw_m8 208 rfl) rfl
theorem q1960 : (Jvm.Cond.methodLink "ShadowSpell$Reader" (233 : Nat) ({ cls := "ShadowSpell$Rule", name := "<init>", desc := "(LShadowSpell$Test;LShadowSpell$Sum;LShadowSpell$Alphabet;)V" } : Jvm.MethodName)) ∈ lw_all := lw_g (lw_at lw_m8 209 rfl) rfl
theorem q3227 : (Jvm.Cond.castable "ShadowSpell$Reader" "java/lang/Object") ∈ lw_tbl := lw_at lw_m14 36 rfl
theorem q3286 : (Jvm.Cond.fieldLinkNest "ShadowSpell$Reader" (355 : Nat) "ShadowSpell$What" "word" "Ljava/lang/String;" "ShadowSpell") ∈ lw_tbl := lw_at lw_m14 95 rfl
theorem q3287 : (Jvm.Cond.fieldLinkNest "ShadowSpell$Reader" (358 : Nat) "ShadowSpell$What" "names" "I" "ShadowSpell") ∈ lw_tbl := lw_at lw_m14 96 rfl
theorem q3288 : (Jvm.Cond.fieldLinkNest "ShadowSpell$Reader" (374 : Nat) "ShadowSpell$Sign" "word" "Ljava/lang/String;" "ShadowSpell") ∈ lw_tbl := lw_at lw_m14 97 rfl
theorem in_X7 : ∀ w ∈ wsX70, w ∈ lw_all := lw_in wsX70 [857, 859, 861, 863, 865, 867, 869] (by decide +kernel) (by decide +kernel)

/-! ShadowSpell$Scanner -/
set_option maxRecDepth 100000
def RX8 : String := "ShadowSpell$Scanner"
def TX8 : u_T := fun k => match k with
  | 0 => ("ShadowSpell$Scanner", "tape", "LShadowSpell$Tape;", true)
  | _ => ("ShadowSpell$Scanner", "tokens", "Ljava/util/ArrayList;", true)
def tyX8 : Nat → FieldType := fun k => match k with
  | 0 => .object "ShadowSpell$Tape"
  | _ => .object "java/util/ArrayList"
abbrev wsX80 : List Cond := u_ws RX8 TX8 2
theorem nmX8 : ∀ a, a < 2 → ∀ b, b < 2 → a ≠ b → (TX8 a).2.1 ≠ (TX8 b).2.1 := by decide +kernel
theorem tyX8_ok : ∀ k, k < 2 → parseFieldDescriptor (TX8 k).2.2.1 = some (tyX8 k) := by decide +kernel
abbrev cX8_init : ByteArray := prog_16_method_1_code
def yX8_init : MethodName := ⟨RX8, "<init>", "(LShadowSpell$Tape;)V"⟩
def dkwX8_init_0 : List UInt8 := [42, 183, 0, 3, 42, 187, 0, 9, 89, 183, 0, 11, 181, 0, 12, 42, 43, 181, 0, 18, 177]
abbrev dktX8_init_0 : List UInt8 := dkwX8_init_0 ++ []
theorem dksX8_init_0 : cX8_init.data.toList.drop 0 = dktX8_init_0 := by decide +kernel
theorem dX8_init_0 : decode cX8_init 0 = .ok (.aload_n 0, 1) := dk_42 (dk_at dksX8_init_0 0 rfl rfl)
theorem dX8_init_1 : decode cX8_init 1 = .ok (.invokespecial 3, 3) := dk_183 0 3 (dk_at dksX8_init_0 1 rfl rfl)
theorem dX8_init_4 : decode cX8_init 4 = .ok (.aload_n 0, 1) := dk_42 (dk_at dksX8_init_0 4 rfl rfl)
theorem dX8_init_5 : decode cX8_init 5 = .ok (.new 9, 3) := dk_187 0 9 (dk_at dksX8_init_0 5 rfl rfl)
theorem dX8_init_8 : decode cX8_init 8 = .ok (.dup, 1) := dk_89 (dk_at dksX8_init_0 8 rfl rfl)
theorem dX8_init_9 : decode cX8_init 9 = .ok (.invokespecial 11, 3) := dk_183 0 11 (dk_at dksX8_init_0 9 rfl rfl)
theorem dX8_init_12 : decode cX8_init 12 = .ok (.putfield 12, 3) := dk_181 0 12 (dk_at dksX8_init_0 12 rfl rfl)
theorem dX8_init_15 : decode cX8_init 15 = .ok (.aload_n 0, 1) := dk_42 (dk_at dksX8_init_0 15 rfl rfl)
theorem dX8_init_16 : decode cX8_init 16 = .ok (.aload_n 1, 1) := dk_43 (dk_at dksX8_init_0 16 rfl rfl)
theorem dX8_init_17 : decode cX8_init 17 = .ok (.putfield 18, 3) := dk_181 0 18 (dk_at dksX8_init_0 17 rfl rfl)
theorem dX8_init_20 : decode cX8_init 20 = .ok (.return_, 1) := dk_177 (dk_at dksX8_init_0 20 rfl rfl)
abbrev cX8_all : ByteArray := prog_16_method_6_code
def yX8_all : MethodName := ⟨RX8, "all", "()Ljava/util/List;"⟩
def dkwX8_all_4 : List UInt8 := [183, 0, 77, 182, 0, 50, 87, 42, 180, 0, 12, 176]
abbrev dktX8_all_4 : List UInt8 := dkwX8_all_4 ++ []
def dkwX8_all_3 : List UInt8 := [60, 167, 255, 185, 42, 180, 0, 12, 187, 0, 54, 89, 178, 0, 72, 18, 75, 42, 180, 0, 18, 180, 0, 32]
abbrev dktX8_all_3 : List UInt8 := dkwX8_all_3 ++ dktX8_all_4
def dkwX8_all_2 : List UInt8 := [44, 180, 0, 53, 178, 0, 59, 166, 0, 8, 42, 180, 0, 12, 176, 27, 44, 180, 0, 64, 182, 0, 68, 96]
abbrev dktX8_all_2 : List UInt8 := dkwX8_all_2 ++ dktX8_all_3
def dkwX8_all_1 : List UInt8 := [153, 0, 9, 132, 1, 1, 167, 255, 228, 42, 27, 182, 0, 46, 77, 42, 180, 0, 12, 44, 182, 0, 50, 87]
abbrev dktX8_all_1 : List UInt8 := dkwX8_all_1 ++ dktX8_all_2
def dkwX8_all_0 : List UInt8 := [3, 60, 27, 42, 180, 0, 18, 180, 0, 32, 162, 0, 66, 42, 180, 0, 18, 27, 182, 0, 38, 184, 0, 42]
abbrev dktX8_all_0 : List UInt8 := dkwX8_all_0 ++ dktX8_all_1
theorem dksX8_all_0 : cX8_all.data.toList.drop 0 = dktX8_all_0 := by decide +kernel
theorem dksX8_all_1 : cX8_all.data.toList.drop 24 = dktX8_all_1 := dk_seg dksX8_all_0 24 rfl rfl
theorem dksX8_all_2 : cX8_all.data.toList.drop 48 = dktX8_all_2 := dk_seg dksX8_all_1 24 rfl rfl
theorem dksX8_all_3 : cX8_all.data.toList.drop 72 = dktX8_all_3 := dk_seg dksX8_all_2 24 rfl rfl
theorem dksX8_all_4 : cX8_all.data.toList.drop 96 = dktX8_all_4 := dk_seg dksX8_all_3 24 rfl rfl
theorem dX8_all_0 : decode cX8_all 0 = .ok (.iconst 0, 1) := dk_3 (dk_at dksX8_all_0 0 rfl rfl)
theorem dX8_all_1 : decode cX8_all 1 = .ok (.istore_n 1, 1) := dk_60 (dk_at dksX8_all_0 1 rfl rfl)
theorem dX8_all_2 : decode cX8_all 2 = .ok (.iload_n 1, 1) := dk_27 (dk_at dksX8_all_0 2 rfl rfl)
theorem dX8_all_3 : decode cX8_all 3 = .ok (.aload_n 0, 1) := dk_42 (dk_at dksX8_all_0 3 rfl rfl)
theorem dX8_all_4 : decode cX8_all 4 = .ok (.getfield 18, 3) := dk_180 0 18 (dk_at dksX8_all_0 4 rfl rfl)
theorem dX8_all_7 : decode cX8_all 7 = .ok (.getfield 32, 3) := dk_180 0 32 (dk_at dksX8_all_0 7 rfl rfl)
theorem dX8_all_10 : decode cX8_all 10 = .ok (.if_icmp .ge 66, 3) := dk_162 0 66 (dk_at dksX8_all_0 10 rfl rfl)
theorem dX8_all_13 : decode cX8_all 13 = .ok (.aload_n 0, 1) := dk_42 (dk_at dksX8_all_0 13 rfl rfl)
theorem dX8_all_14 : decode cX8_all 14 = .ok (.getfield 18, 3) := dk_180 0 18 (dk_at dksX8_all_0 14 rfl rfl)
theorem dX8_all_17 : decode cX8_all 17 = .ok (.iload_n 1, 1) := dk_27 (dk_at dksX8_all_0 17 rfl rfl)
theorem dX8_all_18 : decode cX8_all 18 = .ok (.invokevirtual 38, 3) := dk_182 0 38 (dk_at dksX8_all_0 18 rfl rfl)
theorem dX8_all_21 : decode cX8_all 21 = .ok (.invokestatic 42, 3) := dk_184 0 42 (dk_at dksX8_all_0 21 rfl rfl)
theorem dX8_all_24 : decode cX8_all 24 = .ok (.ifCond .eq 9, 3) := dk_153 0 9 (dk_at dksX8_all_1 0 rfl rfl)
theorem dX8_all_27 : decode cX8_all 27 = .ok (.iinc 1 1, 3) := dk_132 1 1 (dk_at dksX8_all_1 3 rfl rfl)
theorem dX8_all_30 : decode cX8_all 30 = .ok (.goto (-28), 3) := dk_167 255 228 (dk_at dksX8_all_1 6 rfl rfl)
theorem dX8_all_33 : decode cX8_all 33 = .ok (.aload_n 0, 1) := dk_42 (dk_at dksX8_all_1 9 rfl rfl)
theorem dX8_all_34 : decode cX8_all 34 = .ok (.iload_n 1, 1) := dk_27 (dk_at dksX8_all_1 10 rfl rfl)
theorem dX8_all_35 : decode cX8_all 35 = .ok (.invokevirtual 46, 3) := dk_182 0 46 (dk_at dksX8_all_1 11 rfl rfl)
theorem dX8_all_38 : decode cX8_all 38 = .ok (.astore_n 2, 1) := dk_77 (dk_at dksX8_all_1 14 rfl rfl)
theorem dX8_all_39 : decode cX8_all 39 = .ok (.aload_n 0, 1) := dk_42 (dk_at dksX8_all_1 15 rfl rfl)
theorem dX8_all_40 : decode cX8_all 40 = .ok (.getfield 12, 3) := dk_180 0 12 (dk_at dksX8_all_1 16 rfl rfl)
theorem dX8_all_43 : decode cX8_all 43 = .ok (.aload_n 2, 1) := dk_44 (dk_at dksX8_all_1 19 rfl rfl)
theorem dX8_all_44 : decode cX8_all 44 = .ok (.invokevirtual 50, 3) := dk_182 0 50 (dk_at dksX8_all_1 20 rfl rfl)
theorem dX8_all_47 : decode cX8_all 47 = .ok (.pop, 1) := dk_87 (dk_at dksX8_all_1 23 rfl rfl)
theorem dX8_all_48 : decode cX8_all 48 = .ok (.aload_n 2, 1) := dk_44 (dk_at dksX8_all_2 0 rfl rfl)
theorem dX8_all_49 : decode cX8_all 49 = .ok (.getfield 53, 3) := dk_180 0 53 (dk_at dksX8_all_2 1 rfl rfl)
theorem dX8_all_52 : decode cX8_all 52 = .ok (.getstatic 59, 3) := dk_178 0 59 (dk_at dksX8_all_2 4 rfl rfl)
theorem dX8_all_55 : decode cX8_all 55 = .ok (.if_acmp .ne 8, 3) := dk_166 0 8 (dk_at dksX8_all_2 7 rfl rfl)
theorem dX8_all_58 : decode cX8_all 58 = .ok (.aload_n 0, 1) := dk_42 (dk_at dksX8_all_2 10 rfl rfl)
theorem dX8_all_59 : decode cX8_all 59 = .ok (.getfield 12, 3) := dk_180 0 12 (dk_at dksX8_all_2 11 rfl rfl)
theorem dX8_all_62 : decode cX8_all 62 = .ok (.areturn, 1) := dk_176 (dk_at dksX8_all_2 14 rfl rfl)
theorem dX8_all_63 : decode cX8_all 63 = .ok (.iload_n 1, 1) := dk_27 (dk_at dksX8_all_2 15 rfl rfl)
theorem dX8_all_64 : decode cX8_all 64 = .ok (.aload_n 2, 1) := dk_44 (dk_at dksX8_all_2 16 rfl rfl)
theorem dX8_all_65 : decode cX8_all 65 = .ok (.getfield 64, 3) := dk_180 0 64 (dk_at dksX8_all_2 17 rfl rfl)
theorem dX8_all_68 : decode cX8_all 68 = .ok (.invokevirtual 68, 3) := dk_182 0 68 (dk_at dksX8_all_2 20 rfl rfl)
theorem dX8_all_71 : decode cX8_all 71 = .ok (.iadd, 1) := dk_96 (dk_at dksX8_all_2 23 rfl rfl)
theorem dX8_all_72 : decode cX8_all 72 = .ok (.istore_n 1, 1) := dk_60 (dk_at dksX8_all_3 0 rfl rfl)
theorem dX8_all_73 : decode cX8_all 73 = .ok (.goto (-71), 3) := dk_167 255 185 (dk_at dksX8_all_3 1 rfl rfl)
theorem dX8_all_76 : decode cX8_all 76 = .ok (.aload_n 0, 1) := dk_42 (dk_at dksX8_all_3 4 rfl rfl)
theorem dX8_all_77 : decode cX8_all 77 = .ok (.getfield 12, 3) := dk_180 0 12 (dk_at dksX8_all_3 5 rfl rfl)
theorem dX8_all_80 : decode cX8_all 80 = .ok (.new 54, 3) := dk_187 0 54 (dk_at dksX8_all_3 8 rfl rfl)
theorem dX8_all_83 : decode cX8_all 83 = .ok (.dup, 1) := dk_89 (dk_at dksX8_all_3 11 rfl rfl)
theorem dX8_all_84 : decode cX8_all 84 = .ok (.getstatic 72, 3) := dk_178 0 72 (dk_at dksX8_all_3 12 rfl rfl)
theorem dX8_all_87 : decode cX8_all 87 = .ok (.ldc 75, 2) := dk_18 75 (dk_at dksX8_all_3 15 rfl rfl)
theorem dX8_all_89 : decode cX8_all 89 = .ok (.aload_n 0, 1) := dk_42 (dk_at dksX8_all_3 17 rfl rfl)
theorem dX8_all_90 : decode cX8_all 90 = .ok (.getfield 18, 3) := dk_180 0 18 (dk_at dksX8_all_3 18 rfl rfl)
theorem dX8_all_93 : decode cX8_all 93 = .ok (.getfield 32, 3) := dk_180 0 32 (dk_at dksX8_all_3 21 rfl rfl)
theorem dX8_all_96 : decode cX8_all 96 = .ok (.invokespecial 77, 3) := dk_183 0 77 (dk_at dksX8_all_4 0 rfl rfl)
theorem dX8_all_99 : decode cX8_all 99 = .ok (.invokevirtual 50, 3) := dk_182 0 50 (dk_at dksX8_all_4 3 rfl rfl)
theorem dX8_all_102 : decode cX8_all 102 = .ok (.pop, 1) := dk_87 (dk_at dksX8_all_4 6 rfl rfl)
theorem dX8_all_103 : decode cX8_all 103 = .ok (.aload_n 0, 1) := dk_42 (dk_at dksX8_all_4 7 rfl rfl)
theorem dX8_all_104 : decode cX8_all 104 = .ok (.getfield 12, 3) := dk_180 0 12 (dk_at dksX8_all_4 8 rfl rfl)
theorem dX8_all_107 : decode cX8_all 107 = .ok (.areturn, 1) := dk_176 (dk_at dksX8_all_4 11 rfl rfl)
abbrev cX8_isBlank : ByteArray := prog_16_method_4_code
def yX8_isBlank : MethodName := ⟨RX8, "isBlank", "(I)Z"⟩
def dkwX8_isBlank_0 : List UInt8 := [26, 16, 32, 159, 0, 9, 26, 16, 10, 160, 0, 7, 4, 167, 0, 4, 3, 172]
abbrev dktX8_isBlank_0 : List UInt8 := dkwX8_isBlank_0 ++ []
theorem dksX8_isBlank_0 : cX8_isBlank.data.toList.drop 0 = dktX8_isBlank_0 := by decide +kernel
theorem dX8_isBlank_0 : decode cX8_isBlank 0 = .ok (.iload_n 0, 1) := dk_26 (dk_at dksX8_isBlank_0 0 rfl rfl)
theorem dX8_isBlank_1 : decode cX8_isBlank 1 = .ok (.bipush 32, 2) := dk_16 32 (dk_at dksX8_isBlank_0 1 rfl rfl)
theorem dX8_isBlank_3 : decode cX8_isBlank 3 = .ok (.if_icmp .eq 9, 3) := dk_159 0 9 (dk_at dksX8_isBlank_0 3 rfl rfl)
theorem dX8_isBlank_6 : decode cX8_isBlank 6 = .ok (.iload_n 0, 1) := dk_26 (dk_at dksX8_isBlank_0 6 rfl rfl)
theorem dX8_isBlank_7 : decode cX8_isBlank 7 = .ok (.bipush 10, 2) := dk_16 10 (dk_at dksX8_isBlank_0 7 rfl rfl)
theorem dX8_isBlank_9 : decode cX8_isBlank 9 = .ok (.if_icmp .ne 7, 3) := dk_160 0 7 (dk_at dksX8_isBlank_0 9 rfl rfl)
theorem dX8_isBlank_12 : decode cX8_isBlank 12 = .ok (.iconst 1, 1) := dk_4 (dk_at dksX8_isBlank_0 12 rfl rfl)
theorem dX8_isBlank_13 : decode cX8_isBlank 13 = .ok (.goto 4, 3) := dk_167 0 4 (dk_at dksX8_isBlank_0 13 rfl rfl)
theorem dX8_isBlank_16 : decode cX8_isBlank 16 = .ok (.iconst 0, 1) := dk_3 (dk_at dksX8_isBlank_0 16 rfl rfl)
theorem dX8_isBlank_17 : decode cX8_isBlank 17 = .ok (.ireturn, 1) := dk_172 (dk_at dksX8_isBlank_0 17 rfl rfl)
abbrev cX8_next : ByteArray := prog_16_method_7_code
def yX8_next : MethodName := ⟨RX8, "next", "(I)LShadowSpell$Token;"⟩
def dkwX8_next_11 : List UInt8 := [180, 0, 18, 27, 29, 182, 0, 88, 27, 183, 0, 77, 176]
abbrev dktX8_next_11 : List UInt8 := dkwX8_next_11 ++ []
def dkwX8_next_10 : List UInt8 := [158, 0, 18, 18, 104, 28, 182, 0, 106, 155, 0, 9, 178, 0, 109, 167, 0, 6, 178, 0, 59, 42]
abbrev dktX8_next_10 : List UInt8 := dkwX8_next_10 ++ dktX8_next_11
def dkwX8_next_9 : List UInt8 := [160, 0, 19, 42, 180, 0, 18, 29, 182, 0, 38, 16, 61, 160, 0, 6, 132, 3, 1, 187, 0, 54, 89, 28]
abbrev dktX8_next_9 : List UInt8 := dkwX8_next_9 ++ dktX8_next_10
def dkwX8_next_8 : List UInt8 := [42, 180, 0, 18, 27, 29, 182, 0, 88, 27, 183, 0, 77, 176, 28, 16, 60, 159, 0, 9, 28, 16, 62]
abbrev dktX8_next_8 : List UInt8 := dkwX8_next_8 ++ dktX8_next_9
def dkwX8_next_7 : List UInt8 := [167, 255, 239, 187, 0, 54, 89, 29, 27, 100, 16, 6, 164, 0, 9, 178, 0, 59, 167, 0, 6, 178, 0, 101]
abbrev dktX8_next_7 : List UInt8 := dkwX8_next_7 ++ dktX8_next_8
def dkwX8_next_6 : List UInt8 := [184, 0, 85, 153, 0, 58, 42, 180, 0, 18, 29, 182, 0, 38, 184, 0, 85, 153, 0, 9, 132, 3, 1]
abbrev dktX8_next_6 : List UInt8 := dkwX8_next_6 ++ dktX8_next_7
def dkwX8_next_5 : List UInt8 := [184, 0, 91, 153, 0, 9, 178, 0, 95, 167, 0, 6, 178, 0, 98, 25, 4, 27, 183, 0, 77, 176, 28]
abbrev dktX8_next_5 : List UInt8 := dkwX8_next_5 ++ dktX8_next_6
def dkwX8_next_4 : List UInt8 := [187, 0, 54, 89, 25, 4, 182, 0, 68, 16, 12, 164, 0, 9, 178, 0, 59, 167, 0, 20, 25, 4]
abbrev dktX8_next_4 : List UInt8 := dkwX8_next_4 ++ dktX8_next_5
def dkwX8_next_3 : List UInt8 := [184, 0, 85, 153, 0, 9, 132, 3, 1, 167, 255, 225, 42, 180, 0, 18, 27, 29, 182, 0, 88, 58, 4]
abbrev dktX8_next_3 : List UInt8 := dkwX8_next_3 ++ dktX8_next_4
def dkwX8_next_2 : List UInt8 := [42, 180, 0, 18, 29, 182, 0, 38, 184, 0, 82, 154, 0, 17, 42, 180, 0, 18, 29, 182, 0, 38]
abbrev dktX8_next_2 : List UInt8 := dkwX8_next_2 ++ dktX8_next_3
def dkwX8_next_1 : List UInt8 := [183, 0, 77, 176, 42, 180, 0, 18, 27, 182, 0, 38, 61, 27, 4, 96, 62, 28, 184, 0, 82, 153, 0, 92]
abbrev dktX8_next_1 : List UInt8 := dkwX8_next_1 ++ dktX8_next_2
def dkwX8_next_0 : List UInt8 := [42, 180, 0, 12, 182, 0, 80, 17, 1, 144, 160, 0, 17, 187, 0, 54, 89, 178, 0, 59, 18, 75, 27]
abbrev dktX8_next_0 : List UInt8 := dkwX8_next_0 ++ dktX8_next_1
theorem dksX8_next_0 : cX8_next.data.toList.drop 0 = dktX8_next_0 := by decide +kernel
theorem dksX8_next_1 : cX8_next.data.toList.drop 23 = dktX8_next_1 := dk_seg dksX8_next_0 23 rfl rfl
theorem dksX8_next_2 : cX8_next.data.toList.drop 47 = dktX8_next_2 := dk_seg dksX8_next_1 24 rfl rfl
theorem dksX8_next_3 : cX8_next.data.toList.drop 69 = dktX8_next_3 := dk_seg dksX8_next_2 22 rfl rfl
theorem dksX8_next_4 : cX8_next.data.toList.drop 92 = dktX8_next_4 := dk_seg dksX8_next_3 23 rfl rfl
theorem dksX8_next_5 : cX8_next.data.toList.drop 114 = dktX8_next_5 := dk_seg dksX8_next_4 22 rfl rfl
theorem dksX8_next_6 : cX8_next.data.toList.drop 137 = dktX8_next_6 := dk_seg dksX8_next_5 23 rfl rfl
theorem dksX8_next_7 : cX8_next.data.toList.drop 160 = dktX8_next_7 := dk_seg dksX8_next_6 23 rfl rfl
theorem dksX8_next_8 : cX8_next.data.toList.drop 184 = dktX8_next_8 := dk_seg dksX8_next_7 24 rfl rfl
theorem dksX8_next_9 : cX8_next.data.toList.drop 207 = dktX8_next_9 := dk_seg dksX8_next_8 23 rfl rfl
theorem dksX8_next_10 : cX8_next.data.toList.drop 231 = dktX8_next_10 := dk_seg dksX8_next_9 24 rfl rfl
theorem dksX8_next_11 : cX8_next.data.toList.drop 253 = dktX8_next_11 := dk_seg dksX8_next_10 22 rfl rfl
theorem dX8_next_0 : decode cX8_next 0 = .ok (.aload_n 0, 1) := dk_42 (dk_at dksX8_next_0 0 rfl rfl)
theorem dX8_next_1 : decode cX8_next 1 = .ok (.getfield 12, 3) := dk_180 0 12 (dk_at dksX8_next_0 1 rfl rfl)
theorem dX8_next_4 : decode cX8_next 4 = .ok (.invokevirtual 80, 3) := dk_182 0 80 (dk_at dksX8_next_0 4 rfl rfl)
theorem dX8_next_7 : decode cX8_next 7 = .ok (.sipush 400, 3) := dk_17 1 144 (dk_at dksX8_next_0 7 rfl rfl)
theorem dX8_next_10 : decode cX8_next 10 = .ok (.if_icmp .ne 17, 3) := dk_160 0 17 (dk_at dksX8_next_0 10 rfl rfl)
theorem dX8_next_13 : decode cX8_next 13 = .ok (.new 54, 3) := dk_187 0 54 (dk_at dksX8_next_0 13 rfl rfl)
theorem dX8_next_16 : decode cX8_next 16 = .ok (.dup, 1) := dk_89 (dk_at dksX8_next_0 16 rfl rfl)
theorem dX8_next_17 : decode cX8_next 17 = .ok (.getstatic 59, 3) := dk_178 0 59 (dk_at dksX8_next_0 17 rfl rfl)
theorem dX8_next_20 : decode cX8_next 20 = .ok (.ldc 75, 2) := dk_18 75 (dk_at dksX8_next_0 20 rfl rfl)
theorem dX8_next_22 : decode cX8_next 22 = .ok (.iload_n 1, 1) := dk_27 (dk_at dksX8_next_0 22 rfl rfl)
theorem dX8_next_23 : decode cX8_next 23 = .ok (.invokespecial 77, 3) := dk_183 0 77 (dk_at dksX8_next_1 0 rfl rfl)
theorem dX8_next_26 : decode cX8_next 26 = .ok (.areturn, 1) := dk_176 (dk_at dksX8_next_1 3 rfl rfl)
theorem dX8_next_27 : decode cX8_next 27 = .ok (.aload_n 0, 1) := dk_42 (dk_at dksX8_next_1 4 rfl rfl)
theorem dX8_next_28 : decode cX8_next 28 = .ok (.getfield 18, 3) := dk_180 0 18 (dk_at dksX8_next_1 5 rfl rfl)
theorem dX8_next_31 : decode cX8_next 31 = .ok (.iload_n 1, 1) := dk_27 (dk_at dksX8_next_1 8 rfl rfl)
theorem dX8_next_32 : decode cX8_next 32 = .ok (.invokevirtual 38, 3) := dk_182 0 38 (dk_at dksX8_next_1 9 rfl rfl)
theorem dX8_next_35 : decode cX8_next 35 = .ok (.istore_n 2, 1) := dk_61 (dk_at dksX8_next_1 12 rfl rfl)
theorem dX8_next_36 : decode cX8_next 36 = .ok (.iload_n 1, 1) := dk_27 (dk_at dksX8_next_1 13 rfl rfl)
theorem dX8_next_37 : decode cX8_next 37 = .ok (.iconst 1, 1) := dk_4 (dk_at dksX8_next_1 14 rfl rfl)
theorem dX8_next_38 : decode cX8_next 38 = .ok (.iadd, 1) := dk_96 (dk_at dksX8_next_1 15 rfl rfl)
theorem dX8_next_39 : decode cX8_next 39 = .ok (.istore_n 3, 1) := dk_62 (dk_at dksX8_next_1 16 rfl rfl)
theorem dX8_next_40 : decode cX8_next 40 = .ok (.iload_n 2, 1) := dk_28 (dk_at dksX8_next_1 17 rfl rfl)
theorem dX8_next_41 : decode cX8_next 41 = .ok (.invokestatic 82, 3) := dk_184 0 82 (dk_at dksX8_next_1 18 rfl rfl)
theorem dX8_next_44 : decode cX8_next 44 = .ok (.ifCond .eq 92, 3) := dk_153 0 92 (dk_at dksX8_next_1 21 rfl rfl)
theorem dX8_next_47 : decode cX8_next 47 = .ok (.aload_n 0, 1) := dk_42 (dk_at dksX8_next_2 0 rfl rfl)
theorem dX8_next_48 : decode cX8_next 48 = .ok (.getfield 18, 3) := dk_180 0 18 (dk_at dksX8_next_2 1 rfl rfl)
theorem dX8_next_51 : decode cX8_next 51 = .ok (.iload_n 3, 1) := dk_29 (dk_at dksX8_next_2 4 rfl rfl)
theorem dX8_next_52 : decode cX8_next 52 = .ok (.invokevirtual 38, 3) := dk_182 0 38 (dk_at dksX8_next_2 5 rfl rfl)
theorem dX8_next_55 : decode cX8_next 55 = .ok (.invokestatic 82, 3) := dk_184 0 82 (dk_at dksX8_next_2 8 rfl rfl)
theorem dX8_next_58 : decode cX8_next 58 = .ok (.ifCond .ne 17, 3) := dk_154 0 17 (dk_at dksX8_next_2 11 rfl rfl)
theorem dX8_next_61 : decode cX8_next 61 = .ok (.aload_n 0, 1) := dk_42 (dk_at dksX8_next_2 14 rfl rfl)
theorem dX8_next_62 : decode cX8_next 62 = .ok (.getfield 18, 3) := dk_180 0 18 (dk_at dksX8_next_2 15 rfl rfl)
theorem dX8_next_65 : decode cX8_next 65 = .ok (.iload_n 3, 1) := dk_29 (dk_at dksX8_next_2 18 rfl rfl)
theorem dX8_next_66 : decode cX8_next 66 = .ok (.invokevirtual 38, 3) := dk_182 0 38 (dk_at dksX8_next_2 19 rfl rfl)
theorem dX8_next_69 : decode cX8_next 69 = .ok (.invokestatic 85, 3) := dk_184 0 85 (dk_at dksX8_next_3 0 rfl rfl)
theorem dX8_next_72 : decode cX8_next 72 = .ok (.ifCond .eq 9, 3) := dk_153 0 9 (dk_at dksX8_next_3 3 rfl rfl)
theorem dX8_next_75 : decode cX8_next 75 = .ok (.iinc 3 1, 3) := dk_132 3 1 (dk_at dksX8_next_3 6 rfl rfl)
theorem dX8_next_78 : decode cX8_next 78 = .ok (.goto (-31), 3) := dk_167 255 225 (dk_at dksX8_next_3 9 rfl rfl)
theorem dX8_next_81 : decode cX8_next 81 = .ok (.aload_n 0, 1) := dk_42 (dk_at dksX8_next_3 12 rfl rfl)
theorem dX8_next_82 : decode cX8_next 82 = .ok (.getfield 18, 3) := dk_180 0 18 (dk_at dksX8_next_3 13 rfl rfl)
theorem dX8_next_85 : decode cX8_next 85 = .ok (.iload_n 1, 1) := dk_27 (dk_at dksX8_next_3 16 rfl rfl)
theorem dX8_next_86 : decode cX8_next 86 = .ok (.iload_n 3, 1) := dk_29 (dk_at dksX8_next_3 17 rfl rfl)
theorem dX8_next_87 : decode cX8_next 87 = .ok (.invokevirtual 88, 3) := dk_182 0 88 (dk_at dksX8_next_3 18 rfl rfl)
theorem dX8_next_90 : decode cX8_next 90 = .ok (.astore 4, 2) := dk_58 4 (dk_at dksX8_next_3 21 rfl rfl)
theorem dX8_next_92 : decode cX8_next 92 = .ok (.new 54, 3) := dk_187 0 54 (dk_at dksX8_next_4 0 rfl rfl)
theorem dX8_next_95 : decode cX8_next 95 = .ok (.dup, 1) := dk_89 (dk_at dksX8_next_4 3 rfl rfl)
theorem dX8_next_96 : decode cX8_next 96 = .ok (.aload 4, 2) := dk_25 4 (dk_at dksX8_next_4 4 rfl rfl)
theorem dX8_next_98 : decode cX8_next 98 = .ok (.invokevirtual 68, 3) := dk_182 0 68 (dk_at dksX8_next_4 6 rfl rfl)
theorem dX8_next_101 : decode cX8_next 101 = .ok (.bipush 12, 2) := dk_16 12 (dk_at dksX8_next_4 9 rfl rfl)
theorem dX8_next_103 : decode cX8_next 103 = .ok (.if_icmp .le 9, 3) := dk_164 0 9 (dk_at dksX8_next_4 11 rfl rfl)
theorem dX8_next_106 : decode cX8_next 106 = .ok (.getstatic 59, 3) := dk_178 0 59 (dk_at dksX8_next_4 14 rfl rfl)
theorem dX8_next_109 : decode cX8_next 109 = .ok (.goto 20, 3) := dk_167 0 20 (dk_at dksX8_next_4 17 rfl rfl)
theorem dX8_next_112 : decode cX8_next 112 = .ok (.aload 4, 2) := dk_25 4 (dk_at dksX8_next_4 20 rfl rfl)
theorem dX8_next_114 : decode cX8_next 114 = .ok (.invokestatic 91, 3) := dk_184 0 91 (dk_at dksX8_next_5 0 rfl rfl)
theorem dX8_next_117 : decode cX8_next 117 = .ok (.ifCond .eq 9, 3) := dk_153 0 9 (dk_at dksX8_next_5 3 rfl rfl)
theorem dX8_next_120 : decode cX8_next 120 = .ok (.getstatic 95, 3) := dk_178 0 95 (dk_at dksX8_next_5 6 rfl rfl)
theorem dX8_next_123 : decode cX8_next 123 = .ok (.goto 6, 3) := dk_167 0 6 (dk_at dksX8_next_5 9 rfl rfl)
theorem dX8_next_126 : decode cX8_next 126 = .ok (.getstatic 98, 3) := dk_178 0 98 (dk_at dksX8_next_5 12 rfl rfl)
theorem dX8_next_129 : decode cX8_next 129 = .ok (.aload 4, 2) := dk_25 4 (dk_at dksX8_next_5 15 rfl rfl)
theorem dX8_next_131 : decode cX8_next 131 = .ok (.iload_n 1, 1) := dk_27 (dk_at dksX8_next_5 17 rfl rfl)
theorem dX8_next_132 : decode cX8_next 132 = .ok (.invokespecial 77, 3) := dk_183 0 77 (dk_at dksX8_next_5 18 rfl rfl)
theorem dX8_next_135 : decode cX8_next 135 = .ok (.areturn, 1) := dk_176 (dk_at dksX8_next_5 21 rfl rfl)
theorem dX8_next_136 : decode cX8_next 136 = .ok (.iload_n 2, 1) := dk_28 (dk_at dksX8_next_5 22 rfl rfl)
theorem dX8_next_137 : decode cX8_next 137 = .ok (.invokestatic 85, 3) := dk_184 0 85 (dk_at dksX8_next_6 0 rfl rfl)
theorem dX8_next_140 : decode cX8_next 140 = .ok (.ifCond .eq 58, 3) := dk_153 0 58 (dk_at dksX8_next_6 3 rfl rfl)
theorem dX8_next_143 : decode cX8_next 143 = .ok (.aload_n 0, 1) := dk_42 (dk_at dksX8_next_6 6 rfl rfl)
theorem dX8_next_144 : decode cX8_next 144 = .ok (.getfield 18, 3) := dk_180 0 18 (dk_at dksX8_next_6 7 rfl rfl)
theorem dX8_next_147 : decode cX8_next 147 = .ok (.iload_n 3, 1) := dk_29 (dk_at dksX8_next_6 10 rfl rfl)
theorem dX8_next_148 : decode cX8_next 148 = .ok (.invokevirtual 38, 3) := dk_182 0 38 (dk_at dksX8_next_6 11 rfl rfl)
theorem dX8_next_151 : decode cX8_next 151 = .ok (.invokestatic 85, 3) := dk_184 0 85 (dk_at dksX8_next_6 14 rfl rfl)
theorem dX8_next_154 : decode cX8_next 154 = .ok (.ifCond .eq 9, 3) := dk_153 0 9 (dk_at dksX8_next_6 17 rfl rfl)
theorem dX8_next_157 : decode cX8_next 157 = .ok (.iinc 3 1, 3) := dk_132 3 1 (dk_at dksX8_next_6 20 rfl rfl)
theorem dX8_next_160 : decode cX8_next 160 = .ok (.goto (-17), 3) := dk_167 255 239 (dk_at dksX8_next_7 0 rfl rfl)
theorem dX8_next_163 : decode cX8_next 163 = .ok (.new 54, 3) := dk_187 0 54 (dk_at dksX8_next_7 3 rfl rfl)
theorem dX8_next_166 : decode cX8_next 166 = .ok (.dup, 1) := dk_89 (dk_at dksX8_next_7 6 rfl rfl)
theorem dX8_next_167 : decode cX8_next 167 = .ok (.iload_n 3, 1) := dk_29 (dk_at dksX8_next_7 7 rfl rfl)
theorem dX8_next_168 : decode cX8_next 168 = .ok (.iload_n 1, 1) := dk_27 (dk_at dksX8_next_7 8 rfl rfl)
theorem dX8_next_169 : decode cX8_next 169 = .ok (.isub, 1) := dk_100 (dk_at dksX8_next_7 9 rfl rfl)
theorem dX8_next_170 : decode cX8_next 170 = .ok (.bipush 6, 2) := dk_16 6 (dk_at dksX8_next_7 10 rfl rfl)
theorem dX8_next_172 : decode cX8_next 172 = .ok (.if_icmp .le 9, 3) := dk_164 0 9 (dk_at dksX8_next_7 12 rfl rfl)
theorem dX8_next_175 : decode cX8_next 175 = .ok (.getstatic 59, 3) := dk_178 0 59 (dk_at dksX8_next_7 15 rfl rfl)
theorem dX8_next_178 : decode cX8_next 178 = .ok (.goto 6, 3) := dk_167 0 6 (dk_at dksX8_next_7 18 rfl rfl)
theorem dX8_next_181 : decode cX8_next 181 = .ok (.getstatic 101, 3) := dk_178 0 101 (dk_at dksX8_next_7 21 rfl rfl)
theorem dX8_next_184 : decode cX8_next 184 = .ok (.aload_n 0, 1) := dk_42 (dk_at dksX8_next_8 0 rfl rfl)
theorem dX8_next_185 : decode cX8_next 185 = .ok (.getfield 18, 3) := dk_180 0 18 (dk_at dksX8_next_8 1 rfl rfl)
theorem dX8_next_188 : decode cX8_next 188 = .ok (.iload_n 1, 1) := dk_27 (dk_at dksX8_next_8 4 rfl rfl)
theorem dX8_next_189 : decode cX8_next 189 = .ok (.iload_n 3, 1) := dk_29 (dk_at dksX8_next_8 5 rfl rfl)
theorem dX8_next_190 : decode cX8_next 190 = .ok (.invokevirtual 88, 3) := dk_182 0 88 (dk_at dksX8_next_8 6 rfl rfl)
theorem dX8_next_193 : decode cX8_next 193 = .ok (.iload_n 1, 1) := dk_27 (dk_at dksX8_next_8 9 rfl rfl)
theorem dX8_next_194 : decode cX8_next 194 = .ok (.invokespecial 77, 3) := dk_183 0 77 (dk_at dksX8_next_8 10 rfl rfl)
theorem dX8_next_197 : decode cX8_next 197 = .ok (.areturn, 1) := dk_176 (dk_at dksX8_next_8 13 rfl rfl)
theorem dX8_next_198 : decode cX8_next 198 = .ok (.iload_n 2, 1) := dk_28 (dk_at dksX8_next_8 14 rfl rfl)
theorem dX8_next_199 : decode cX8_next 199 = .ok (.bipush 60, 2) := dk_16 60 (dk_at dksX8_next_8 15 rfl rfl)
theorem dX8_next_201 : decode cX8_next 201 = .ok (.if_icmp .eq 9, 3) := dk_159 0 9 (dk_at dksX8_next_8 17 rfl rfl)
theorem dX8_next_204 : decode cX8_next 204 = .ok (.iload_n 2, 1) := dk_28 (dk_at dksX8_next_8 20 rfl rfl)
theorem dX8_next_205 : decode cX8_next 205 = .ok (.bipush 62, 2) := dk_16 62 (dk_at dksX8_next_8 21 rfl rfl)
theorem dX8_next_207 : decode cX8_next 207 = .ok (.if_icmp .ne 19, 3) := dk_160 0 19 (dk_at dksX8_next_9 0 rfl rfl)
theorem dX8_next_210 : decode cX8_next 210 = .ok (.aload_n 0, 1) := dk_42 (dk_at dksX8_next_9 3 rfl rfl)
theorem dX8_next_211 : decode cX8_next 211 = .ok (.getfield 18, 3) := dk_180 0 18 (dk_at dksX8_next_9 4 rfl rfl)
theorem dX8_next_214 : decode cX8_next 214 = .ok (.iload_n 3, 1) := dk_29 (dk_at dksX8_next_9 7 rfl rfl)
theorem dX8_next_215 : decode cX8_next 215 = .ok (.invokevirtual 38, 3) := dk_182 0 38 (dk_at dksX8_next_9 8 rfl rfl)
theorem dX8_next_218 : decode cX8_next 218 = .ok (.bipush 61, 2) := dk_16 61 (dk_at dksX8_next_9 11 rfl rfl)
theorem dX8_next_220 : decode cX8_next 220 = .ok (.if_icmp .ne 6, 3) := dk_160 0 6 (dk_at dksX8_next_9 13 rfl rfl)
theorem dX8_next_223 : decode cX8_next 223 = .ok (.iinc 3 1, 3) := dk_132 3 1 (dk_at dksX8_next_9 16 rfl rfl)
theorem dX8_next_226 : decode cX8_next 226 = .ok (.new 54, 3) := dk_187 0 54 (dk_at dksX8_next_9 19 rfl rfl)
theorem dX8_next_229 : decode cX8_next 229 = .ok (.dup, 1) := dk_89 (dk_at dksX8_next_9 22 rfl rfl)
theorem dX8_next_230 : decode cX8_next 230 = .ok (.iload_n 2, 1) := dk_28 (dk_at dksX8_next_9 23 rfl rfl)
theorem dX8_next_231 : decode cX8_next 231 = .ok (.ifCond .le 18, 3) := dk_158 0 18 (dk_at dksX8_next_10 0 rfl rfl)
theorem dX8_next_234 : decode cX8_next 234 = .ok (.ldc 104, 2) := dk_18 104 (dk_at dksX8_next_10 3 rfl rfl)
theorem dX8_next_236 : decode cX8_next 236 = .ok (.iload_n 2, 1) := dk_28 (dk_at dksX8_next_10 5 rfl rfl)
theorem dX8_next_237 : decode cX8_next 237 = .ok (.invokevirtual 106, 3) := dk_182 0 106 (dk_at dksX8_next_10 6 rfl rfl)
theorem dX8_next_240 : decode cX8_next 240 = .ok (.ifCond .lt 9, 3) := dk_155 0 9 (dk_at dksX8_next_10 9 rfl rfl)
theorem dX8_next_243 : decode cX8_next 243 = .ok (.getstatic 109, 3) := dk_178 0 109 (dk_at dksX8_next_10 12 rfl rfl)
theorem dX8_next_246 : decode cX8_next 246 = .ok (.goto 6, 3) := dk_167 0 6 (dk_at dksX8_next_10 15 rfl rfl)
theorem dX8_next_249 : decode cX8_next 249 = .ok (.getstatic 59, 3) := dk_178 0 59 (dk_at dksX8_next_10 18 rfl rfl)
theorem dX8_next_252 : decode cX8_next 252 = .ok (.aload_n 0, 1) := dk_42 (dk_at dksX8_next_10 21 rfl rfl)
theorem dX8_next_253 : decode cX8_next 253 = .ok (.getfield 18, 3) := dk_180 0 18 (dk_at dksX8_next_11 0 rfl rfl)
theorem dX8_next_256 : decode cX8_next 256 = .ok (.iload_n 1, 1) := dk_27 (dk_at dksX8_next_11 3 rfl rfl)
theorem dX8_next_257 : decode cX8_next 257 = .ok (.iload_n 3, 1) := dk_29 (dk_at dksX8_next_11 4 rfl rfl)
theorem dX8_next_258 : decode cX8_next 258 = .ok (.invokevirtual 88, 3) := dk_182 0 88 (dk_at dksX8_next_11 5 rfl rfl)
theorem dX8_next_261 : decode cX8_next 261 = .ok (.iload_n 1, 1) := dk_27 (dk_at dksX8_next_11 8 rfl rfl)
theorem dX8_next_262 : decode cX8_next 262 = .ok (.invokespecial 77, 3) := dk_183 0 77 (dk_at dksX8_next_11 9 rfl rfl)
theorem dX8_next_265 : decode cX8_next 265 = .ok (.areturn, 1) := dk_176 (dk_at dksX8_next_11 12 rfl rfl)
abbrev cX8_isLetter : ByteArray := prog_16_method_2_code
def yX8_isLetter : MethodName := ⟨RX8, "isLetter", "(I)Z"⟩
def dkwX8_isLetter_0 : List UInt8 := [26, 16, 97, 161, 0, 13, 26, 16, 122, 163, 0, 7, 4, 167, 0, 4, 3, 172]
abbrev dktX8_isLetter_0 : List UInt8 := dkwX8_isLetter_0 ++ []
theorem dksX8_isLetter_0 : cX8_isLetter.data.toList.drop 0 = dktX8_isLetter_0 := by decide +kernel
theorem dX8_isLetter_0 : decode cX8_isLetter 0 = .ok (.iload_n 0, 1) := dk_26 (dk_at dksX8_isLetter_0 0 rfl rfl)
theorem dX8_isLetter_1 : decode cX8_isLetter 1 = .ok (.bipush 97, 2) := dk_16 97 (dk_at dksX8_isLetter_0 1 rfl rfl)
theorem dX8_isLetter_3 : decode cX8_isLetter 3 = .ok (.if_icmp .lt 13, 3) := dk_161 0 13 (dk_at dksX8_isLetter_0 3 rfl rfl)
theorem dX8_isLetter_6 : decode cX8_isLetter 6 = .ok (.iload_n 0, 1) := dk_26 (dk_at dksX8_isLetter_0 6 rfl rfl)
theorem dX8_isLetter_7 : decode cX8_isLetter 7 = .ok (.bipush 122, 2) := dk_16 122 (dk_at dksX8_isLetter_0 7 rfl rfl)
theorem dX8_isLetter_9 : decode cX8_isLetter 9 = .ok (.if_icmp .gt 7, 3) := dk_163 0 7 (dk_at dksX8_isLetter_0 9 rfl rfl)
theorem dX8_isLetter_12 : decode cX8_isLetter 12 = .ok (.iconst 1, 1) := dk_4 (dk_at dksX8_isLetter_0 12 rfl rfl)
theorem dX8_isLetter_13 : decode cX8_isLetter 13 = .ok (.goto 4, 3) := dk_167 0 4 (dk_at dksX8_isLetter_0 13 rfl rfl)
theorem dX8_isLetter_16 : decode cX8_isLetter 16 = .ok (.iconst 0, 1) := dk_3 (dk_at dksX8_isLetter_0 16 rfl rfl)
theorem dX8_isLetter_17 : decode cX8_isLetter 17 = .ok (.ireturn, 1) := dk_172 (dk_at dksX8_isLetter_0 17 rfl rfl)
abbrev cX8_isDigit : ByteArray := prog_16_method_3_code
def yX8_isDigit : MethodName := ⟨RX8, "isDigit", "(I)Z"⟩
def dkwX8_isDigit_0 : List UInt8 := [26, 16, 48, 161, 0, 13, 26, 16, 57, 163, 0, 7, 4, 167, 0, 4, 3, 172]
abbrev dktX8_isDigit_0 : List UInt8 := dkwX8_isDigit_0 ++ []
theorem dksX8_isDigit_0 : cX8_isDigit.data.toList.drop 0 = dktX8_isDigit_0 := by decide +kernel
theorem dX8_isDigit_0 : decode cX8_isDigit 0 = .ok (.iload_n 0, 1) := dk_26 (dk_at dksX8_isDigit_0 0 rfl rfl)
theorem dX8_isDigit_1 : decode cX8_isDigit 1 = .ok (.bipush 48, 2) := dk_16 48 (dk_at dksX8_isDigit_0 1 rfl rfl)
theorem dX8_isDigit_3 : decode cX8_isDigit 3 = .ok (.if_icmp .lt 13, 3) := dk_161 0 13 (dk_at dksX8_isDigit_0 3 rfl rfl)
theorem dX8_isDigit_6 : decode cX8_isDigit 6 = .ok (.iload_n 0, 1) := dk_26 (dk_at dksX8_isDigit_0 6 rfl rfl)
theorem dX8_isDigit_7 : decode cX8_isDigit 7 = .ok (.bipush 57, 2) := dk_16 57 (dk_at dksX8_isDigit_0 7 rfl rfl)
theorem dX8_isDigit_9 : decode cX8_isDigit 9 = .ok (.if_icmp .gt 7, 3) := dk_163 0 7 (dk_at dksX8_isDigit_0 9 rfl rfl)
theorem dX8_isDigit_12 : decode cX8_isDigit 12 = .ok (.iconst 1, 1) := dk_4 (dk_at dksX8_isDigit_0 12 rfl rfl)
theorem dX8_isDigit_13 : decode cX8_isDigit 13 = .ok (.goto 4, 3) := dk_167 0 4 (dk_at dksX8_isDigit_0 13 rfl rfl)
theorem dX8_isDigit_16 : decode cX8_isDigit 16 = .ok (.iconst 0, 1) := dk_3 (dk_at dksX8_isDigit_0 16 rfl rfl)
theorem dX8_isDigit_17 : decode cX8_isDigit 17 = .ok (.ireturn, 1) := dk_172 (dk_at dksX8_isDigit_0 17 rfl rfl)
abbrev cX8_isKey : ByteArray := prog_16_method_5_code
def yX8_isKey : MethodName := ⟨RX8, "isKey", "(Ljava/lang/String;)Z"⟩
def dkwX8_isKey_1 : List UInt8 := [182, 0, 26, 153, 0, 5, 4, 172, 132, 3, 1, 167, 255, 232, 3, 172]
abbrev dktX8_isKey_1 : List UInt8 := dkwX8_isKey_1 ++ []
def dkwX8_isKey_0 : List UInt8 := [178, 0, 22, 76, 43, 190, 61, 3, 62, 29, 28, 162, 0, 25, 43, 29, 50, 58, 4, 25, 4, 42]
abbrev dktX8_isKey_0 : List UInt8 := dkwX8_isKey_0 ++ dktX8_isKey_1
theorem dksX8_isKey_0 : cX8_isKey.data.toList.drop 0 = dktX8_isKey_0 := by decide +kernel
theorem dksX8_isKey_1 : cX8_isKey.data.toList.drop 22 = dktX8_isKey_1 := dk_seg dksX8_isKey_0 22 rfl rfl
theorem dX8_isKey_0 : decode cX8_isKey 0 = .ok (.getstatic 22, 3) := dk_178 0 22 (dk_at dksX8_isKey_0 0 rfl rfl)
theorem dX8_isKey_3 : decode cX8_isKey 3 = .ok (.astore_n 1, 1) := dk_76 (dk_at dksX8_isKey_0 3 rfl rfl)
theorem dX8_isKey_4 : decode cX8_isKey 4 = .ok (.aload_n 1, 1) := dk_43 (dk_at dksX8_isKey_0 4 rfl rfl)
theorem dX8_isKey_5 : decode cX8_isKey 5 = .ok (.arraylength, 1) := dk_190 (dk_at dksX8_isKey_0 5 rfl rfl)
theorem dX8_isKey_6 : decode cX8_isKey 6 = .ok (.istore_n 2, 1) := dk_61 (dk_at dksX8_isKey_0 6 rfl rfl)
theorem dX8_isKey_7 : decode cX8_isKey 7 = .ok (.iconst 0, 1) := dk_3 (dk_at dksX8_isKey_0 7 rfl rfl)
theorem dX8_isKey_8 : decode cX8_isKey 8 = .ok (.istore_n 3, 1) := dk_62 (dk_at dksX8_isKey_0 8 rfl rfl)
theorem dX8_isKey_9 : decode cX8_isKey 9 = .ok (.iload_n 3, 1) := dk_29 (dk_at dksX8_isKey_0 9 rfl rfl)
theorem dX8_isKey_10 : decode cX8_isKey 10 = .ok (.iload_n 2, 1) := dk_28 (dk_at dksX8_isKey_0 10 rfl rfl)
theorem dX8_isKey_11 : decode cX8_isKey 11 = .ok (.if_icmp .ge 25, 3) := dk_162 0 25 (dk_at dksX8_isKey_0 11 rfl rfl)
theorem dX8_isKey_14 : decode cX8_isKey 14 = .ok (.aload_n 1, 1) := dk_43 (dk_at dksX8_isKey_0 14 rfl rfl)
theorem dX8_isKey_15 : decode cX8_isKey 15 = .ok (.iload_n 3, 1) := dk_29 (dk_at dksX8_isKey_0 15 rfl rfl)
theorem dX8_isKey_16 : decode cX8_isKey 16 = .ok (.aaload, 1) := dk_50 (dk_at dksX8_isKey_0 16 rfl rfl)
theorem dX8_isKey_17 : decode cX8_isKey 17 = .ok (.astore 4, 2) := dk_58 4 (dk_at dksX8_isKey_0 17 rfl rfl)
theorem dX8_isKey_19 : decode cX8_isKey 19 = .ok (.aload 4, 2) := dk_25 4 (dk_at dksX8_isKey_0 19 rfl rfl)
theorem dX8_isKey_21 : decode cX8_isKey 21 = .ok (.aload_n 0, 1) := dk_42 (dk_at dksX8_isKey_0 21 rfl rfl)
theorem dX8_isKey_22 : decode cX8_isKey 22 = .ok (.invokevirtual 26, 3) := dk_182 0 26 (dk_at dksX8_isKey_1 0 rfl rfl)
theorem dX8_isKey_25 : decode cX8_isKey 25 = .ok (.ifCond .eq 5, 3) := dk_153 0 5 (dk_at dksX8_isKey_1 3 rfl rfl)
theorem dX8_isKey_28 : decode cX8_isKey 28 = .ok (.iconst 1, 1) := dk_4 (dk_at dksX8_isKey_1 6 rfl rfl)
theorem dX8_isKey_29 : decode cX8_isKey 29 = .ok (.ireturn, 1) := dk_172 (dk_at dksX8_isKey_1 7 rfl rfl)
theorem dX8_isKey_30 : decode cX8_isKey 30 = .ok (.iinc 3 1, 3) := dk_132 3 1 (dk_at dksX8_isKey_1 8 rfl rfl)
theorem dX8_isKey_33 : decode cX8_isKey 33 = .ok (.goto (-24), 3) := dk_167 255 232 (dk_at dksX8_isKey_1 11 rfl rfl)
theorem dX8_isKey_36 : decode cX8_isKey 36 = .ok (.iconst 0, 1) := dk_3 (dk_at dksX8_isKey_1 14 rfl rfl)
theorem dX8_isKey_37 : decode cX8_isKey 37 = .ok (.ireturn, 1) := dk_172 (dk_at dksX8_isKey_1 15 rfl rfl)
theorem q91 : (Jvm.Cond.initialized "ShadowSpell$Scanner") ∈ lw_all := lw_g (lw_at lw_m1 20 rfl) rfl
theorem q152 : (Jvm.Cond.fieldLinkNest "ShadowSpell$Scanner" (32 : Nat) "ShadowSpell$Tape" "size" "I" "ShadowSpell") ∈ lw_tbl := lw_at lw_m1 81 rfl
theorem q280 : (Jvm.Cond.instantiable "ShadowSpell$Scanner" (2 : Nat)) ∈ lw_all := lw_g (lw_at lw_m1 209 rfl) rfl
theorem q282 : (Jvm.Cond.instanceMethod ({ cls := "ShadowSpell$Scanner", name := "<init>", desc := "(LShadowSpell$Tape;)V" } : Jvm.MethodName)) ∈ lw_all := lw_g (lw_at lw_m1 211 rfl) rfl
theorem q283 : (Jvm.Cond.code ({ cls := "ShadowSpell$Scanner", name := "<init>", desc := "(LShadowSpell$Tape;)V" } : Jvm.MethodName) prog_16_method_1_code (2 : Nat) (Option.none : Option Jvm.ClassFile.FieldType)) ∈ lw_all := lw_g (lw_at lw_m1 212 rfl) rfl
theorem q284 : (Jvm.Cond.methodLink "ShadowSpell$Scanner" (3 : Nat) ({ cls := "java/lang/Object", name := "<init>", desc := "()V" } : Jvm.MethodName)) ∈ lw_all := lw_g (lw_at lw_m1 213 rfl) rfl
theorem q285 : (Jvm.Cond.classLink "ShadowSpell$Scanner" (9 : Nat) "java/util/ArrayList") ∈ lw_all := lw_g (lw_at lw_m1 214 rfl) rfl
theorem q286 : (Jvm.Cond.methodLink "ShadowSpell$Scanner" (11 : Nat) ({ cls := "java/util/ArrayList", name := "<init>", desc := "()V" } : Jvm.MethodName)) ∈ lw_all := lw_g (lw_at lw_m1 215 rfl) rfl
theorem q287 : (Jvm.Cond.fieldLink "ShadowSpell$Scanner" (18 : Nat) "ShadowSpell$Scanner" "tape" "LShadowSpell$Tape;") ∈ lw_all := lw_g (lw_at lw_m1 216 rfl) rfl
theorem q288 : (Jvm.Cond.fieldLink "ShadowSpell$Scanner" (12 : Nat) "ShadowSpell$Scanner" "tokens" "Ljava/util/ArrayList;") ∈ lw_all := lw_g (lw_at lw_m1 217 rfl) rfl
theorem q289 : (Jvm.Cond.laysFinal "ShadowSpell$Scanner" "ShadowSpell$Scanner" "tape" "LShadowSpell$Tape;") ∈ lw_all := lw_g (lw_at lw_m1 218 rfl) rfl
theorem q290 : (Jvm.Cond.soleField "ShadowSpell$Scanner" "tape") ∈ lw_all := lw_g (lw_at lw_m1 219 rfl) rfl
theorem q291 : (Jvm.Cond.laysFinal "ShadowSpell$Scanner" "ShadowSpell$Scanner" "tokens" "Ljava/util/ArrayList;") ∈ lw_all := lw_g (lw_at lw_m1 220 rfl) rfl
theorem q292 : (Jvm.Cond.soleField "ShadowSpell$Scanner" "tokens") ∈ lw_all := lw_g (lw_at lw_m1 221 rfl) rfl
theorem q293 : (Jvm.Cond.superclass "ShadowSpell$Scanner" "java/lang/Object") ∈ lw_all := lw_g (lw_at lw_m1 222 rfl) rfl
theorem q295 : (Jvm.Cond.instanceMethod ({ cls := "ShadowSpell$Scanner", name := "all", desc := "()Ljava/util/List;" } : Jvm.MethodName)) ∈ lw_all := lw_g (lw_at lw_m1 224 rfl) rfl
theorem q296 : (Jvm.Cond.selects "ShadowSpell$Scanner" ({ cls := "ShadowSpell$Scanner", name := "all", desc := "()Ljava/util/List;" } : Jvm.MethodName) ({ cls := "ShadowSpell$Scanner", name := "all", desc := "()Ljava/util/List;" } : Jvm.MethodName)) ∈ lw_all := lw_g (lw_at lw_m1 225 rfl) rfl
theorem q297 : (Jvm.Cond.code ({ cls := "ShadowSpell$Scanner", name := "all", desc := "()Ljava/util/List;" } : Jvm.MethodName) prog_16_method_6_code (3 : Nat) (Option.some (Jvm.ClassFile.FieldType.object "java/util/List"))) ∈ lw_all := lw_g (lw_at lw_m1 226 rfl) rfl
theorem q298 : (Jvm.Cond.methodLink "ShadowSpell$Scanner" (38 : Nat) ({ cls := "ShadowSpell$Tape", name := "at", desc := "(I)I" } : Jvm.MethodName)) ∈ lw_all := lw_g (lw_at lw_m1 227 rfl) rfl
theorem q302 : (Jvm.Cond.methodLink "ShadowSpell$Scanner" (42 : Nat) ({ cls := "ShadowSpell$Scanner", name := "isBlank", desc := "(I)Z" } : Jvm.MethodName)) ∈ lw_all := lw_g (lw_at lw_m1 231 rfl) rfl
theorem q303 : (Jvm.Cond.static ({ cls := "ShadowSpell$Scanner", name := "isBlank", desc := "(I)Z" } : Jvm.MethodName)) ∈ lw_all := lw_g (lw_at lw_m1 232 rfl) rfl
theorem q304 : (Jvm.Cond.code ({ cls := "ShadowSpell$Scanner", name := "isBlank", desc := "(I)Z" } : Jvm.MethodName) prog_16_method_4_code (1 : Nat) (Option.some Jvm.ClassFile.FieldType.boolean)) ∈ lw_all := lw_g (lw_at lw_m1 233 rfl) rfl
theorem q305 : (Jvm.Cond.methodLink "ShadowSpell$Scanner" (46 : Nat) ({ cls := "ShadowSpell$Scanner", name := "next", desc := "(I)LShadowSpell$Token;" } : Jvm.MethodName)) ∈ lw_all := lw_g (lw_at lw_m1 234 rfl) rfl
theorem q306 : (Jvm.Cond.privateMethod ({ cls := "ShadowSpell$Scanner", name := "next", desc := "(I)LShadowSpell$Token;" } : Jvm.MethodName)) ∈ lw_tbl := lw_at lw_m1 235 rfl
theorem q307 : (Jvm.Cond.instanceMethod ({ cls := "ShadowSpell$Scanner", name := "next", desc := "(I)LShadowSpell$Token;" } : Jvm.MethodName)) ∈ lw_all := lw_g (lw_at lw_m1 236 rfl) rfl
theorem q308 : (Jvm.Cond.code ({ cls := "ShadowSpell$Scanner", name := "next", desc := "(I)LShadowSpell$Token;" } : Jvm.MethodName) prog_16_method_7_code (5 : Nat) (Option.some (Jvm.ClassFile.FieldType.object "ShadowSpell$Token"))) ∈ lw_all := lw_g (lw_at lw_m1 237 rfl) rfl
theorem q309 : (Jvm.Cond.methodLink "ShadowSpell$Scanner" (80 : Nat) ({ cls := "java/util/ArrayList", name := "size", desc := "()I" } : Jvm.MethodName)) ∈ lw_all := lw_g (lw_at lw_m1 238 rfl) rfl
theorem q313 : (Jvm.Cond.classLink "ShadowSpell$Scanner" (54 : Nat) "ShadowSpell$Token") ∈ lw_all := lw_g (lw_at lw_m2 2 rfl) rfl
theorem q315 : (Jvm.Cond.fieldLink "ShadowSpell$Scanner" (59 : Nat) "ShadowSpell$Sort" "BAD" "LShadowSpell$Sort;") ∈ lw_all := lw_g (lw_at lw_m2 4 rfl) rfl
theorem q317 : (Jvm.Cond.stringRef "ShadowSpell$Scanner" (75 : Nat) "") ∈ lw_tbl := lw_at lw_m2 6 rfl
theorem q318 : (Jvm.Cond.methodLink "ShadowSpell$Scanner" (77 : Nat) ({ cls := "ShadowSpell$Token", name := "<init>", desc := "(LShadowSpell$Sort;Ljava/lang/String;I)V" } : Jvm.MethodName)) ∈ lw_all := lw_g (lw_at lw_m2 7 rfl) rfl
theorem q324 : (Jvm.Cond.fieldLinkNest "ShadowSpell$Scanner" (53 : Nat) "ShadowSpell$Token" "sort" "LShadowSpell$Sort;" "ShadowSpell") ∈ lw_tbl := lw_at lw_m2 13 rfl
theorem q326 : (Jvm.Cond.fieldLinkNest "ShadowSpell$Scanner" (64 : Nat) "ShadowSpell$Token" "text" "Ljava/lang/String;" "ShadowSpell") ∈ lw_tbl := lw_at lw_m2 15 rfl
theorem q337 : (Jvm.Cond.methodLink "ShadowSpell$Scanner" (82 : Nat) ({ cls := "ShadowSpell$Scanner", name := "isLetter", desc := "(I)Z" } : Jvm.MethodName)) ∈ lw_all := lw_g (lw_at lw_m2 26 rfl) rfl
theorem q338 : (Jvm.Cond.static ({ cls := "ShadowSpell$Scanner", name := "isLetter", desc := "(I)Z" } : Jvm.MethodName)) ∈ lw_all := lw_g (lw_at lw_m2 27 rfl) rfl
theorem q339 : (Jvm.Cond.code ({ cls := "ShadowSpell$Scanner", name := "isLetter", desc := "(I)Z" } : Jvm.MethodName) prog_16_method_2_code (1 : Nat) (Option.some Jvm.ClassFile.FieldType.boolean)) ∈ lw_all := lw_g (lw_at lw_m2 28 rfl) rfl
theorem q340 : (Jvm.Cond.methodLink "ShadowSpell$Scanner" (85 : Nat) ({ cls := "ShadowSpell$Scanner", name := "isDigit", desc := "(I)Z" } : Jvm.MethodName)) ∈ lw_all := lw_g (lw_at lw_m2 29 rfl) rfl
theorem q341 : (Jvm.Cond.static ({ cls := "ShadowSpell$Scanner", name := "isDigit", desc := "(I)Z" } : Jvm.MethodName)) ∈ lw_all := lw_g (lw_at lw_m2 30 rfl) rfl
theorem q342 : (Jvm.Cond.code ({ cls := "ShadowSpell$Scanner", name := "isDigit", desc := "(I)Z" } : Jvm.MethodName) prog_16_method_3_code (1 : Nat) (Option.some Jvm.ClassFile.FieldType.boolean)) ∈ lw_all := lw_g (lw_at lw_m2 31 rfl) rfl
theorem q343 : (Jvm.Cond.methodLink "ShadowSpell$Scanner" (88 : Nat) ({ cls := "ShadowSpell$Tape", name := "text", desc := "(II)Ljava/lang/String;" } : Jvm.MethodName)) ∈ lw_all := lw_g (lw_at lw_m2 32 rfl) rfl
theorem q652 : (Jvm.Cond.methodLink "ShadowSpell$Scanner" (68 : Nat) ({ cls := "java/lang/String", name := "length", desc := "()I" } : Jvm.MethodName)) ∈ lw_all := lw_g (lw_at lw_m3 101 rfl) rfl
theorem q653 : (Jvm.Cond.methodLink "ShadowSpell$Scanner" (91 : Nat) ({ cls := "ShadowSpell$Scanner", name := "isKey", desc := "(Ljava/lang/String;)Z" } : Jvm.MethodName)) ∈ lw_all := lw_g (lw_at lw_m3 102 rfl) rfl
theorem q654 : (Jvm.Cond.static ({ cls := "ShadowSpell$Scanner", name := "isKey", desc := "(Ljava/lang/String;)Z" } : Jvm.MethodName)) ∈ lw_all := lw_g (lw_at lw_m3 103 rfl) rfl
theorem q655 : (Jvm.Cond.code ({ cls := "ShadowSpell$Scanner", name := "isKey", desc := "(Ljava/lang/String;)Z" } : Jvm.MethodName) prog_16_method_5_code (5 : Nat) (Option.some Jvm.ClassFile.FieldType.boolean)) ∈ lw_all := lw_g (lw_at lw_m3 104 rfl) rfl
theorem q656 : (Jvm.Cond.fieldLink "ShadowSpell$Scanner" (22 : Nat) "ShadowSpell$Scanner" "KEYS" "[Ljava/lang/String;") ∈ lw_all := lw_g (lw_at lw_m3 105 rfl) rfl
theorem q657 : (Jvm.Cond.laysStatic "ShadowSpell$Scanner" "KEYS" "[Ljava/lang/String;") ∈ lw_tbl := lw_at lw_m3 106 rfl
theorem q658 : (Jvm.Cond.methodLink "ShadowSpell$Scanner" (26 : Nat) ({ cls := "java/lang/String", name := "equals", desc := "(Ljava/lang/Object;)Z" } : Jvm.MethodName)) ∈ lw_all := lw_g (lw_at lw_m3 107 rfl) rfl
theorem q666 : (Jvm.Cond.fieldLink "ShadowSpell$Scanner" (95 : Nat) "ShadowSpell$Sort" "KEY" "LShadowSpell$Sort;") ∈ lw_all := lw_g (lw_at lw_m3 115 rfl) rfl
theorem q668 : (Jvm.Cond.fieldLink "ShadowSpell$Scanner" (98 : Nat) "ShadowSpell$Sort" "NAME" "LShadowSpell$Sort;") ∈ lw_all := lw_g (lw_at lw_m3 117 rfl) rfl
theorem q670 : (Jvm.Cond.fieldLink "ShadowSpell$Scanner" (101 : Nat) "ShadowSpell$Sort" "NUMBER" "LShadowSpell$Sort;") ∈ lw_all := lw_g (lw_at lw_m3 119 rfl) rfl
theorem q672 : (Jvm.Cond.stringRef "ShadowSpell$Scanner" (104 : Nat) "()[];,+-*/%<>=") ∈ lw_tbl := lw_at lw_m3 121 rfl
theorem q673 : (Jvm.Cond.methodLink "ShadowSpell$Scanner" (106 : Nat) ({ cls := "java/lang/String", name := "indexOf", desc := "(I)I" } : Jvm.MethodName)) ∈ lw_all := lw_g (lw_at lw_m3 122 rfl) rfl
theorem q723 : (Jvm.Cond.fieldLink "ShadowSpell$Scanner" (109 : Nat) "ShadowSpell$Sort" "SYMBOL" "LShadowSpell$Sort;") ∈ lw_all := lw_g (lw_at lw_m3 172 rfl) rfl
theorem q725 : (Jvm.Cond.methodLink "ShadowSpell$Scanner" (50 : Nat) ({ cls := "java/util/ArrayList", name := "add", desc := "(Ljava/lang/Object;)Z" } : Jvm.MethodName)) ∈ lw_all := lw_g (lw_at lw_m3 174 rfl) rfl
theorem q762 : (Jvm.Cond.selects "ShadowSpell$Scanner" ({ cls := "java/lang/Object", name := "getClass", desc := "()Ljava/lang/Class;" } : Jvm.MethodName) ({ cls := "java/lang/Object", name := "getClass", desc := "()Ljava/lang/Class;" } : Jvm.MethodName)) ∈ lw_all := lw_g (lw_at lw_m3 211 rfl) rfl
theorem q810 : (Jvm.Cond.fieldLink "ShadowSpell$Scanner" (72 : Nat) "ShadowSpell$Sort" "END" "LShadowSpell$Sort;") ∈ lw_all := lw_g (lw_at lw_m4 19 rfl) rfl
theorem q993 : (Jvm.Cond.selects "ShadowSpell$Scanner" ({ cls := "java/lang/Object", name := "hashCode", desc := "()I" } : Jvm.MethodName) ({ cls := "java/lang/Object", name := "hashCode", desc := "()I" } : Jvm.MethodName)) ∈ lw_all := lw_g (lw_at lw_m4 202 rfl) rfl
theorem q1107 : (Jvm.Cond.selects "ShadowSpell$Scanner" ({ cls := "java/lang/Object", name := "equals", desc := "(Ljava/lang/Object;)Z" } : Jvm.MethodName) ({ cls := "java/lang/Object", name := "equals", desc := "(Ljava/lang/Object;)Z" } : Jvm.MethodName)) ∈ lw_all := lw_g (lw_at lw_m5 76 rfl) rfl
theorem q3228 : (Jvm.Cond.castable "ShadowSpell$Scanner" "java/lang/Object") ∈ lw_tbl := lw_at lw_m14 37 rfl
theorem q3289 : (Jvm.Cond.stringRef "ShadowSpell$Scanner" (112 : Nat) "planet") ∈ lw_tbl := lw_at lw_m14 98 rfl
theorem q3290 : (Jvm.Cond.stringRef "ShadowSpell$Scanner" (114 : Nat) "rail") ∈ lw_tbl := lw_at lw_m14 99 rfl
theorem q3291 : (Jvm.Cond.stringRef "ShadowSpell$Scanner" (116 : Nat) "speed") ∈ lw_tbl := lw_at lw_m14 100 rfl
theorem q3292 : (Jvm.Cond.stringRef "ShadowSpell$Scanner" (118 : Nat) "from") ∈ lw_tbl := lw_at lw_m14 101 rfl
theorem q3293 : (Jvm.Cond.stringRef "ShadowSpell$Scanner" (120 : Nat) "retro") ∈ lw_tbl := lw_at lw_m14 102 rfl
theorem q3294 : (Jvm.Cond.stringRef "ShadowSpell$Scanner" (122 : Nat) "every") ∈ lw_tbl := lw_at lw_m14 103 rfl
theorem q3295 : (Jvm.Cond.stringRef "ShadowSpell$Scanner" (124 : Nat) "alphabet") ∈ lw_tbl := lw_at lw_m14 104 rfl
theorem q3296 : (Jvm.Cond.stringRef "ShadowSpell$Scanner" (126 : Nat) "when") ∈ lw_tbl := lw_at lw_m14 105 rfl
theorem q3297 : (Jvm.Cond.stringRef "ShadowSpell$Scanner" (128 : Nat) "write") ∈ lw_tbl := lw_at lw_m14 106 rfl
theorem q3298 : (Jvm.Cond.stringRef "ShadowSpell$Scanner" (130 : Nat) "of") ∈ lw_tbl := lw_at lw_m14 107 rfl
theorem q3299 : (Jvm.Cond.stringRef "ShadowSpell$Scanner" (132 : Nat) "transit") ∈ lw_tbl := lw_at lw_m14 108 rfl
theorem q3300 : (Jvm.Cond.stringRef "ShadowSpell$Scanner" (134 : Nat) "opposite") ∈ lw_tbl := lw_at lw_m14 109 rfl
theorem q3301 : (Jvm.Cond.stringRef "ShadowSpell$Scanner" (136 : Nat) "at") ∈ lw_tbl := lw_at lw_m14 110 rfl
theorem q3302 : (Jvm.Cond.stringRef "ShadowSpell$Scanner" (137 : Nat) "lap") ∈ lw_tbl := lw_at lw_m14 111 rfl
theorem q3303 : (Jvm.Cond.stringRef "ShadowSpell$Scanner" (139 : Nat) "gap") ∈ lw_tbl := lw_at lw_m14 112 rfl
theorem q3304 : (Jvm.Cond.stringRef "ShadowSpell$Scanner" (141 : Nat) "day") ∈ lw_tbl := lw_at lw_m14 113 rfl
theorem q3305 : (Jvm.Cond.stringRef "ShadowSpell$Scanner" (143 : Nat) "length") ∈ lw_tbl := lw_at lw_m14 114 rfl
theorem q3306 : (Jvm.Cond.stringRef "ShadowSpell$Scanner" (144 : Nat) "not") ∈ lw_tbl := lw_at lw_m14 115 rfl
theorem q3307 : (Jvm.Cond.stringRef "ShadowSpell$Scanner" (146 : Nat) "and") ∈ lw_tbl := lw_at lw_m14 116 rfl
theorem q3308 : (Jvm.Cond.stringRef "ShadowSpell$Scanner" (148 : Nat) "or") ∈ lw_tbl := lw_at lw_m14 117 rfl
theorem q3309 : (Jvm.Cond.stringRef "ShadowSpell$Scanner" (150 : Nat) "min") ∈ lw_tbl := lw_at lw_m14 118 rfl
theorem q3310 : (Jvm.Cond.stringRef "ShadowSpell$Scanner" (152 : Nat) "max") ∈ lw_tbl := lw_at lw_m14 119 rfl
theorem in_X8 : ∀ w ∈ wsX80, w ∈ lw_all := lw_in wsX80 [289, 291] (by decide +kernel) (by decide +kernel)

