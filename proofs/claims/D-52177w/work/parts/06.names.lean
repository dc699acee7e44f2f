/-! ShadowSpellModel -/
set_option maxRecDepth 100000
def RX4 : String := "ShadowSpellModel"
def TX4 : u_T := fun k => match k with
  | 0 => ("ShadowSpellModel", "thrown", "I", false)
  | 1 => ("ShadowSpellModel", "tape", "[I", true)
  | 2 => ("ShadowSpellModel", "size", "I", false)
  | 3 => ("ShadowSpellModel", "errorAt", "I", false)
  | 4 => ("ShadowSpellModel", "kind", "[I", true)
  | 5 => ("ShadowSpellModel", "from", "[I", true)
  | 6 => ("ShadowSpellModel", "many", "[I", true)
  | 7 => ("ShadowSpellModel", "role", "[I", true)
  | 8 => ("ShadowSpellModel", "meant", "[I", true)
  | 9 => ("ShadowSpellModel", "token", "I", false)
  | 10 => ("ShadowSpellModel", "depth", "I", false)
  | 11 => ("ShadowSpellModel", "told", "LShadowSpellModel$Told;", false)
  | 12 => ("ShadowSpellModel", "reading", "LShadowSpellModel$Told;", false)
  | 13 => ("ShadowSpellModel", "s", "LShadowSpellModel$State;", true)
  | _ => ("ShadowSpellModel", "ahead", "LShadowSpellModel$State;", true)
def tyX4 : Nat → FieldType := fun k => match k with
  | 0 => .int
  | 1 => .array .int
  | 2 => .int
  | 3 => .int
  | 4 => .array .int
  | 5 => .array .int
  | 6 => .array .int
  | 7 => .array .int
  | 8 => .array .int
  | 9 => .int
  | 10 => .int
  | 11 => .object "ShadowSpellModel$Told"
  | 12 => .object "ShadowSpellModel$Told"
  | 13 => .object "ShadowSpellModel$State"
  | _ => .object "ShadowSpellModel$State"
abbrev wsX40 : List Cond := u_ws RX4 TX4 15
set_option maxRecDepth 100000 in
theorem nmX4 : ∀ a, a < 15 → ∀ b, b < 15 → a ≠ b → (TX4 a).2.1 ≠ (TX4 b).2.1 := by decide +kernel
set_option maxRecDepth 100000 in
theorem tyX4_ok : ∀ k, k < 15 → parseFieldDescriptor (TX4 k).2.2.1 = some (tyX4 k) := by decide +kernel
abbrev cX4_init : ByteArray := prog_41_method_1_code
def yX4_init : MethodName := ⟨RX4, "<init>", "()V"⟩
def dkwX4_init_4 : List UInt8 := [181, 0, 47, 42, 187, 0, 42, 89, 42, 183, 0, 44, 181, 0, 51, 177]
abbrev dktX4_init_4 : List UInt8 := dkwX4_init_4 ++ []
def dkwX4_init_3 : List UInt8 := [183, 0, 34, 181, 0, 35, 42, 42, 180, 0, 35, 181, 0, 39, 42, 187, 0, 42, 89, 42, 183, 0, 44]
abbrev dktX4_init_3 : List UInt8 := dkwX4_init_3 ++ dktX4_init_4
def dkwX4_init_2 : List UInt8 := [17, 1, 145, 188, 10, 181, 0, 26, 42, 17, 1, 145, 188, 10, 181, 0, 29, 42, 187, 0, 32, 89]
abbrev dktX4_init_2 : List UInt8 := dkwX4_init_2 ++ dktX4_init_3
def dkwX4_init_1 : List UInt8 := [181, 0, 17, 42, 17, 1, 145, 188, 10, 181, 0, 20, 42, 17, 1, 145, 188, 10, 181, 0, 23, 42]
abbrev dktX4_init_1 : List UInt8 := dkwX4_init_1 ++ dktX4_init_2
def dkwX4_init_0 : List UInt8 := [42, 183, 0, 1, 42, 17, 7, 208, 188, 10, 181, 0, 9, 42, 2, 181, 0, 13, 42, 17, 1, 145, 188, 10]
abbrev dktX4_init_0 : List UInt8 := dkwX4_init_0 ++ dktX4_init_1
theorem dksX4_init_0 : cX4_init.data.toList.drop 0 = dktX4_init_0 := by decide +kernel
theorem dksX4_init_1 : cX4_init.data.toList.drop 24 = dktX4_init_1 := dk_seg dksX4_init_0 24 rfl rfl
theorem dksX4_init_2 : cX4_init.data.toList.drop 46 = dktX4_init_2 := dk_seg dksX4_init_1 22 rfl rfl
theorem dksX4_init_3 : cX4_init.data.toList.drop 68 = dktX4_init_3 := dk_seg dksX4_init_2 22 rfl rfl
theorem dksX4_init_4 : cX4_init.data.toList.drop 91 = dktX4_init_4 := dk_seg dksX4_init_3 23 rfl rfl
theorem dX4_init_0 : decode cX4_init 0 = .ok (.aload_n 0, 1) := dk_42 (dk_at dksX4_init_0 0 rfl rfl)
theorem dX4_init_1 : decode cX4_init 1 = .ok (.invokespecial 1, 3) := dk_183 0 1 (dk_at dksX4_init_0 1 rfl rfl)
theorem dX4_init_4 : decode cX4_init 4 = .ok (.aload_n 0, 1) := dk_42 (dk_at dksX4_init_0 4 rfl rfl)
theorem dX4_init_5 : decode cX4_init 5 = .ok (.sipush 2000, 3) := dk_17 7 208 (dk_at dksX4_init_0 5 rfl rfl)
theorem dX4_init_8 : decode cX4_init 8 = .ok (.newarray .int, 2) := dk_188_10 (dk_at dksX4_init_0 8 rfl rfl)
theorem dX4_init_10 : decode cX4_init 10 = .ok (.putfield 9, 3) := dk_181 0 9 (dk_at dksX4_init_0 10 rfl rfl)
theorem dX4_init_13 : decode cX4_init 13 = .ok (.aload_n 0, 1) := dk_42 (dk_at dksX4_init_0 13 rfl rfl)
theorem dX4_init_14 : decode cX4_init 14 = .ok (.iconst (-1), 1) := dk_2 (dk_at dksX4_init_0 14 rfl rfl)
theorem dX4_init_15 : decode cX4_init 15 = .ok (.putfield 13, 3) := dk_181 0 13 (dk_at dksX4_init_0 15 rfl rfl)
theorem dX4_init_18 : decode cX4_init 18 = .ok (.aload_n 0, 1) := dk_42 (dk_at dksX4_init_0 18 rfl rfl)
theorem dX4_init_19 : decode cX4_init 19 = .ok (.sipush 401, 3) := dk_17 1 145 (dk_at dksX4_init_0 19 rfl rfl)
theorem dX4_init_22 : decode cX4_init 22 = .ok (.newarray .int, 2) := dk_188_10 (dk_at dksX4_init_0 22 rfl rfl)
theorem dX4_init_24 : decode cX4_init 24 = .ok (.putfield 17, 3) := dk_181 0 17 (dk_at dksX4_init_1 0 rfl rfl)
theorem dX4_init_27 : decode cX4_init 27 = .ok (.aload_n 0, 1) := dk_42 (dk_at dksX4_init_1 3 rfl rfl)
theorem dX4_init_28 : decode cX4_init 28 = .ok (.sipush 401, 3) := dk_17 1 145 (dk_at dksX4_init_1 4 rfl rfl)
theorem dX4_init_31 : decode cX4_init 31 = .ok (.newarray .int, 2) := dk_188_10 (dk_at dksX4_init_1 7 rfl rfl)
theorem dX4_init_33 : decode cX4_init 33 = .ok (.putfield 20, 3) := dk_181 0 20 (dk_at dksX4_init_1 9 rfl rfl)
theorem dX4_init_36 : decode cX4_init 36 = .ok (.aload_n 0, 1) := dk_42 (dk_at dksX4_init_1 12 rfl rfl)
theorem dX4_init_37 : decode cX4_init 37 = .ok (.sipush 401, 3) := dk_17 1 145 (dk_at dksX4_init_1 13 rfl rfl)
theorem dX4_init_40 : decode cX4_init 40 = .ok (.newarray .int, 2) := dk_188_10 (dk_at dksX4_init_1 16 rfl rfl)
theorem dX4_init_42 : decode cX4_init 42 = .ok (.putfield 23, 3) := dk_181 0 23 (dk_at dksX4_init_1 18 rfl rfl)
theorem dX4_init_45 : decode cX4_init 45 = .ok (.aload_n 0, 1) := dk_42 (dk_at dksX4_init_1 21 rfl rfl)
theorem dX4_init_46 : decode cX4_init 46 = .ok (.sipush 401, 3) := dk_17 1 145 (dk_at dksX4_init_2 0 rfl rfl)
theorem dX4_init_49 : decode cX4_init 49 = .ok (.newarray .int, 2) := dk_188_10 (dk_at dksX4_init_2 3 rfl rfl)
theorem dX4_init_51 : decode cX4_init 51 = .ok (.putfield 26, 3) := dk_181 0 26 (dk_at dksX4_init_2 5 rfl rfl)
theorem dX4_init_54 : decode cX4_init 54 = .ok (.aload_n 0, 1) := dk_42 (dk_at dksX4_init_2 8 rfl rfl)
theorem dX4_init_55 : decode cX4_init 55 = .ok (.sipush 401, 3) := dk_17 1 145 (dk_at dksX4_init_2 9 rfl rfl)
theorem dX4_init_58 : decode cX4_init 58 = .ok (.newarray .int, 2) := dk_188_10 (dk_at dksX4_init_2 12 rfl rfl)
theorem dX4_init_60 : decode cX4_init 60 = .ok (.putfield 29, 3) := dk_181 0 29 (dk_at dksX4_init_2 14 rfl rfl)
theorem dX4_init_63 : decode cX4_init 63 = .ok (.aload_n 0, 1) := dk_42 (dk_at dksX4_init_2 17 rfl rfl)
theorem dX4_init_64 : decode cX4_init 64 = .ok (.new 32, 3) := dk_187 0 32 (dk_at dksX4_init_2 18 rfl rfl)
theorem dX4_init_67 : decode cX4_init 67 = .ok (.dup, 1) := dk_89 (dk_at dksX4_init_2 21 rfl rfl)
theorem dX4_init_68 : decode cX4_init 68 = .ok (.invokespecial 34, 3) := dk_183 0 34 (dk_at dksX4_init_3 0 rfl rfl)
theorem dX4_init_71 : decode cX4_init 71 = .ok (.putfield 35, 3) := dk_181 0 35 (dk_at dksX4_init_3 3 rfl rfl)
theorem dX4_init_74 : decode cX4_init 74 = .ok (.aload_n 0, 1) := dk_42 (dk_at dksX4_init_3 6 rfl rfl)
theorem dX4_init_75 : decode cX4_init 75 = .ok (.aload_n 0, 1) := dk_42 (dk_at dksX4_init_3 7 rfl rfl)
theorem dX4_init_76 : decode cX4_init 76 = .ok (.getfield 35, 3) := dk_180 0 35 (dk_at dksX4_init_3 8 rfl rfl)
theorem dX4_init_79 : decode cX4_init 79 = .ok (.putfield 39, 3) := dk_181 0 39 (dk_at dksX4_init_3 11 rfl rfl)
theorem dX4_init_82 : decode cX4_init 82 = .ok (.aload_n 0, 1) := dk_42 (dk_at dksX4_init_3 14 rfl rfl)
theorem dX4_init_83 : decode cX4_init 83 = .ok (.new 42, 3) := dk_187 0 42 (dk_at dksX4_init_3 15 rfl rfl)
theorem dX4_init_86 : decode cX4_init 86 = .ok (.dup, 1) := dk_89 (dk_at dksX4_init_3 18 rfl rfl)
theorem dX4_init_87 : decode cX4_init 87 = .ok (.aload_n 0, 1) := dk_42 (dk_at dksX4_init_3 19 rfl rfl)
theorem dX4_init_88 : decode cX4_init 88 = .ok (.invokespecial 44, 3) := dk_183 0 44 (dk_at dksX4_init_3 20 rfl rfl)
theorem dX4_init_91 : decode cX4_init 91 = .ok (.putfield 47, 3) := dk_181 0 47 (dk_at dksX4_init_4 0 rfl rfl)
theorem dX4_init_94 : decode cX4_init 94 = .ok (.aload_n 0, 1) := dk_42 (dk_at dksX4_init_4 3 rfl rfl)
theorem dX4_init_95 : decode cX4_init 95 = .ok (.new 42, 3) := dk_187 0 42 (dk_at dksX4_init_4 4 rfl rfl)
theorem dX4_init_98 : decode cX4_init 98 = .ok (.dup, 1) := dk_89 (dk_at dksX4_init_4 7 rfl rfl)
theorem dX4_init_99 : decode cX4_init 99 = .ok (.aload_n 0, 1) := dk_42 (dk_at dksX4_init_4 8 rfl rfl)
theorem dX4_init_100 : decode cX4_init 100 = .ok (.invokespecial 44, 3) := dk_183 0 44 (dk_at dksX4_init_4 9 rfl rfl)
theorem dX4_init_103 : decode cX4_init 103 = .ok (.putfield 51, 3) := dk_181 0 51 (dk_at dksX4_init_4 12 rfl rfl)
theorem dX4_init_106 : decode cX4_init 106 = .ok (.return_, 1) := dk_177 (dk_at dksX4_init_4 15 rfl rfl)
abbrev cX4_thrown : ByteArray := prog_41_method_2_code
def yX4_thrown : MethodName := ⟨RX4, "thrown", "()I"⟩
theorem dX4_thrown_0 : decode cX4_thrown 0 = .ok (.aload_n 0, 1) := by decide +kernel
theorem dX4_thrown_1 : decode cX4_thrown 1 = .ok (.getfield 54, 3) := by decide +kernel
theorem dX4_thrown_4 : decode cX4_thrown 4 = .ok (.ireturn, 1) := by decide +kernel
abbrev cX4_feed : ByteArray := prog_41_method_43_code
def yX4_feed : MethodName := ⟨RX4, "feed", "(IIIII)I"⟩
def dkwX4_feed_4 : List UInt8 := [167, 255, 212, 42, 89, 180, 0, 79, 16, 20, 96, 181, 0, 79, 42, 180, 0, 79, 172]
abbrev dktX4_feed_4 : List UInt8 := dkwX4_feed_4 ++ []
def dkwX4_feed_3 : List UInt8 := [21, 7, 7, 108, 46, 16, 24, 16, 8, 21, 7, 7, 112, 104, 100, 122, 17, 0, 255, 126, 79, 132, 7, 1]
abbrev dktX4_feed_3 : List UInt8 := dkwX4_feed_3 ++ dktX4_feed_4
def dkwX4_feed_2 : List UInt8 := [3, 54, 7, 21, 7, 16, 20, 162, 0, 43, 42, 180, 0, 9, 42, 180, 0, 79, 21, 7, 96, 25, 6]
abbrev dktX4_feed_2 : List UInt8 := dkwX4_feed_2 ++ dktX4_feed_3
def dkwX4_feed_1 : List UInt8 := [89, 3, 27, 79, 89, 4, 28, 79, 89, 5, 29, 79, 89, 6, 21, 4, 79, 89, 7, 21, 5, 79, 58, 6]
abbrev dktX4_feed_1 : List UInt8 := dkwX4_feed_1 ++ dktX4_feed_2
def dkwX4_feed_0 : List UInt8 := [42, 3, 181, 0, 54, 42, 180, 0, 79, 17, 7, 188, 164, 0, 9, 42, 4, 182, 0, 234, 172, 8, 188, 10]
abbrev dktX4_feed_0 : List UInt8 := dkwX4_feed_0 ++ dktX4_feed_1
theorem dksX4_feed_0 : cX4_feed.data.toList.drop 0 = dktX4_feed_0 := by decide +kernel
theorem dksX4_feed_1 : cX4_feed.data.toList.drop 24 = dktX4_feed_1 := dk_seg dksX4_feed_0 24 rfl rfl
theorem dksX4_feed_2 : cX4_feed.data.toList.drop 48 = dktX4_feed_2 := dk_seg dksX4_feed_1 24 rfl rfl
theorem dksX4_feed_3 : cX4_feed.data.toList.drop 71 = dktX4_feed_3 := dk_seg dksX4_feed_2 23 rfl rfl
theorem dksX4_feed_4 : cX4_feed.data.toList.drop 95 = dktX4_feed_4 := dk_seg dksX4_feed_3 24 rfl rfl
theorem dX4_feed_0 : decode cX4_feed 0 = .ok (.aload_n 0, 1) := dk_42 (dk_at dksX4_feed_0 0 rfl rfl)
theorem dX4_feed_1 : decode cX4_feed 1 = .ok (.iconst 0, 1) := dk_3 (dk_at dksX4_feed_0 1 rfl rfl)
theorem dX4_feed_2 : decode cX4_feed 2 = .ok (.putfield 54, 3) := dk_181 0 54 (dk_at dksX4_feed_0 2 rfl rfl)
theorem dX4_feed_5 : decode cX4_feed 5 = .ok (.aload_n 0, 1) := dk_42 (dk_at dksX4_feed_0 5 rfl rfl)
theorem dX4_feed_6 : decode cX4_feed 6 = .ok (.getfield 79, 3) := dk_180 0 79 (dk_at dksX4_feed_0 6 rfl rfl)
theorem dX4_feed_9 : decode cX4_feed 9 = .ok (.sipush 1980, 3) := dk_17 7 188 (dk_at dksX4_feed_0 9 rfl rfl)
theorem dX4_feed_12 : decode cX4_feed 12 = .ok (.if_icmp .le 9, 3) := dk_164 0 9 (dk_at dksX4_feed_0 12 rfl rfl)
theorem dX4_feed_15 : decode cX4_feed 15 = .ok (.aload_n 0, 1) := dk_42 (dk_at dksX4_feed_0 15 rfl rfl)
theorem dX4_feed_16 : decode cX4_feed 16 = .ok (.iconst 1, 1) := dk_4 (dk_at dksX4_feed_0 16 rfl rfl)
theorem dX4_feed_17 : decode cX4_feed 17 = .ok (.invokevirtual 234, 3) := dk_182 0 234 (dk_at dksX4_feed_0 17 rfl rfl)
theorem dX4_feed_20 : decode cX4_feed 20 = .ok (.ireturn, 1) := dk_172 (dk_at dksX4_feed_0 20 rfl rfl)
theorem dX4_feed_21 : decode cX4_feed 21 = .ok (.iconst 5, 1) := dk_8 (dk_at dksX4_feed_0 21 rfl rfl)
theorem dX4_feed_22 : decode cX4_feed 22 = .ok (.newarray .int, 2) := dk_188_10 (dk_at dksX4_feed_0 22 rfl rfl)
theorem dX4_feed_24 : decode cX4_feed 24 = .ok (.dup, 1) := dk_89 (dk_at dksX4_feed_1 0 rfl rfl)
theorem dX4_feed_25 : decode cX4_feed 25 = .ok (.iconst 0, 1) := dk_3 (dk_at dksX4_feed_1 1 rfl rfl)
theorem dX4_feed_26 : decode cX4_feed 26 = .ok (.iload_n 1, 1) := dk_27 (dk_at dksX4_feed_1 2 rfl rfl)
theorem dX4_feed_27 : decode cX4_feed 27 = .ok (.iastore, 1) := dk_79 (dk_at dksX4_feed_1 3 rfl rfl)
theorem dX4_feed_28 : decode cX4_feed 28 = .ok (.dup, 1) := dk_89 (dk_at dksX4_feed_1 4 rfl rfl)
theorem dX4_feed_29 : decode cX4_feed 29 = .ok (.iconst 1, 1) := dk_4 (dk_at dksX4_feed_1 5 rfl rfl)
theorem dX4_feed_30 : decode cX4_feed 30 = .ok (.iload_n 2, 1) := dk_28 (dk_at dksX4_feed_1 6 rfl rfl)
theorem dX4_feed_31 : decode cX4_feed 31 = .ok (.iastore, 1) := dk_79 (dk_at dksX4_feed_1 7 rfl rfl)
theorem dX4_feed_32 : decode cX4_feed 32 = .ok (.dup, 1) := dk_89 (dk_at dksX4_feed_1 8 rfl rfl)
theorem dX4_feed_33 : decode cX4_feed 33 = .ok (.iconst 2, 1) := dk_5 (dk_at dksX4_feed_1 9 rfl rfl)
theorem dX4_feed_34 : decode cX4_feed 34 = .ok (.iload_n 3, 1) := dk_29 (dk_at dksX4_feed_1 10 rfl rfl)
theorem dX4_feed_35 : decode cX4_feed 35 = .ok (.iastore, 1) := dk_79 (dk_at dksX4_feed_1 11 rfl rfl)
theorem dX4_feed_36 : decode cX4_feed 36 = .ok (.dup, 1) := dk_89 (dk_at dksX4_feed_1 12 rfl rfl)
theorem dX4_feed_37 : decode cX4_feed 37 = .ok (.iconst 3, 1) := dk_6 (dk_at dksX4_feed_1 13 rfl rfl)
theorem dX4_feed_38 : decode cX4_feed 38 = .ok (.iload 4, 2) := dk_21 4 (dk_at dksX4_feed_1 14 rfl rfl)
theorem dX4_feed_40 : decode cX4_feed 40 = .ok (.iastore, 1) := dk_79 (dk_at dksX4_feed_1 16 rfl rfl)
theorem dX4_feed_41 : decode cX4_feed 41 = .ok (.dup, 1) := dk_89 (dk_at dksX4_feed_1 17 rfl rfl)
theorem dX4_feed_42 : decode cX4_feed 42 = .ok (.iconst 4, 1) := dk_7 (dk_at dksX4_feed_1 18 rfl rfl)
theorem dX4_feed_43 : decode cX4_feed 43 = .ok (.iload 5, 2) := dk_21 5 (dk_at dksX4_feed_1 19 rfl rfl)
theorem dX4_feed_45 : decode cX4_feed 45 = .ok (.iastore, 1) := dk_79 (dk_at dksX4_feed_1 21 rfl rfl)
theorem dX4_feed_46 : decode cX4_feed 46 = .ok (.astore 6, 2) := dk_58 6 (dk_at dksX4_feed_1 22 rfl rfl)
theorem dX4_feed_48 : decode cX4_feed 48 = .ok (.iconst 0, 1) := dk_3 (dk_at dksX4_feed_2 0 rfl rfl)
theorem dX4_feed_49 : decode cX4_feed 49 = .ok (.istore 7, 2) := dk_54 7 (dk_at dksX4_feed_2 1 rfl rfl)
theorem dX4_feed_51 : decode cX4_feed 51 = .ok (.iload 7, 2) := dk_21 7 (dk_at dksX4_feed_2 3 rfl rfl)
theorem dX4_feed_53 : decode cX4_feed 53 = .ok (.bipush 20, 2) := dk_16 20 (dk_at dksX4_feed_2 5 rfl rfl)
theorem dX4_feed_55 : decode cX4_feed 55 = .ok (.if_icmp .ge 43, 3) := dk_162 0 43 (dk_at dksX4_feed_2 7 rfl rfl)
theorem dX4_feed_58 : decode cX4_feed 58 = .ok (.aload_n 0, 1) := dk_42 (dk_at dksX4_feed_2 10 rfl rfl)
theorem dX4_feed_59 : decode cX4_feed 59 = .ok (.getfield 9, 3) := dk_180 0 9 (dk_at dksX4_feed_2 11 rfl rfl)
theorem dX4_feed_62 : decode cX4_feed 62 = .ok (.aload_n 0, 1) := dk_42 (dk_at dksX4_feed_2 14 rfl rfl)
theorem dX4_feed_63 : decode cX4_feed 63 = .ok (.getfield 79, 3) := dk_180 0 79 (dk_at dksX4_feed_2 15 rfl rfl)
theorem dX4_feed_66 : decode cX4_feed 66 = .ok (.iload 7, 2) := dk_21 7 (dk_at dksX4_feed_2 18 rfl rfl)
theorem dX4_feed_68 : decode cX4_feed 68 = .ok (.iadd, 1) := dk_96 (dk_at dksX4_feed_2 20 rfl rfl)
theorem dX4_feed_69 : decode cX4_feed 69 = .ok (.aload 6, 2) := dk_25 6 (dk_at dksX4_feed_2 21 rfl rfl)
theorem dX4_feed_71 : decode cX4_feed 71 = .ok (.iload 7, 2) := dk_21 7 (dk_at dksX4_feed_3 0 rfl rfl)
theorem dX4_feed_73 : decode cX4_feed 73 = .ok (.iconst 4, 1) := dk_7 (dk_at dksX4_feed_3 2 rfl rfl)
theorem dX4_feed_74 : decode cX4_feed 74 = .ok (.idiv, 1) := dk_108 (dk_at dksX4_feed_3 3 rfl rfl)
theorem dX4_feed_75 : decode cX4_feed 75 = .ok (.iaload, 1) := dk_46 (dk_at dksX4_feed_3 4 rfl rfl)
theorem dX4_feed_76 : decode cX4_feed 76 = .ok (.bipush 24, 2) := dk_16 24 (dk_at dksX4_feed_3 5 rfl rfl)
theorem dX4_feed_78 : decode cX4_feed 78 = .ok (.bipush 8, 2) := dk_16 8 (dk_at dksX4_feed_3 7 rfl rfl)
theorem dX4_feed_80 : decode cX4_feed 80 = .ok (.iload 7, 2) := dk_21 7 (dk_at dksX4_feed_3 9 rfl rfl)
theorem dX4_feed_82 : decode cX4_feed 82 = .ok (.iconst 4, 1) := dk_7 (dk_at dksX4_feed_3 11 rfl rfl)
theorem dX4_feed_83 : decode cX4_feed 83 = .ok (.irem, 1) := dk_112 (dk_at dksX4_feed_3 12 rfl rfl)
theorem dX4_feed_84 : decode cX4_feed 84 = .ok (.imul, 1) := dk_104 (dk_at dksX4_feed_3 13 rfl rfl)
theorem dX4_feed_85 : decode cX4_feed 85 = .ok (.isub, 1) := dk_100 (dk_at dksX4_feed_3 14 rfl rfl)
theorem dX4_feed_86 : decode cX4_feed 86 = .ok (.ishr, 1) := dk_122 (dk_at dksX4_feed_3 15 rfl rfl)
theorem dX4_feed_87 : decode cX4_feed 87 = .ok (.sipush 255, 3) := dk_17 0 255 (dk_at dksX4_feed_3 16 rfl rfl)
theorem dX4_feed_90 : decode cX4_feed 90 = .ok (.iand, 1) := dk_126 (dk_at dksX4_feed_3 19 rfl rfl)
theorem dX4_feed_91 : decode cX4_feed 91 = .ok (.iastore, 1) := dk_79 (dk_at dksX4_feed_3 20 rfl rfl)
theorem dX4_feed_92 : decode cX4_feed 92 = .ok (.iinc 7 1, 3) := dk_132 7 1 (dk_at dksX4_feed_3 21 rfl rfl)
theorem dX4_feed_95 : decode cX4_feed 95 = .ok (.goto (-44), 3) := dk_167 255 212 (dk_at dksX4_feed_4 0 rfl rfl)
theorem dX4_feed_98 : decode cX4_feed 98 = .ok (.aload_n 0, 1) := dk_42 (dk_at dksX4_feed_4 3 rfl rfl)
theorem dX4_feed_99 : decode cX4_feed 99 = .ok (.dup, 1) := dk_89 (dk_at dksX4_feed_4 4 rfl rfl)
theorem dX4_feed_100 : decode cX4_feed 100 = .ok (.getfield 79, 3) := dk_180 0 79 (dk_at dksX4_feed_4 5 rfl rfl)
theorem dX4_feed_103 : decode cX4_feed 103 = .ok (.bipush 20, 2) := dk_16 20 (dk_at dksX4_feed_4 8 rfl rfl)
theorem dX4_feed_105 : decode cX4_feed 105 = .ok (.iadd, 1) := dk_96 (dk_at dksX4_feed_4 10 rfl rfl)
theorem dX4_feed_106 : decode cX4_feed 106 = .ok (.putfield 79, 3) := dk_181 0 79 (dk_at dksX4_feed_4 11 rfl rfl)
theorem dX4_feed_109 : decode cX4_feed 109 = .ok (.aload_n 0, 1) := dk_42 (dk_at dksX4_feed_4 14 rfl rfl)
theorem dX4_feed_110 : decode cX4_feed 110 = .ok (.getfield 79, 3) := dk_180 0 79 (dk_at dksX4_feed_4 15 rfl rfl)
theorem dX4_feed_113 : decode cX4_feed 113 = .ok (.ireturn, 1) := dk_172 (dk_at dksX4_feed_4 18 rfl rfl)
abbrev cX4_no : ByteArray := prog_41_method_3_code
def yX4_no : MethodName := ⟨RX4, "no", "(I)I"⟩
def dkwX4_no_0 : List UInt8 := [42, 27, 181, 0, 54, 3, 172]
abbrev dktX4_no_0 : List UInt8 := dkwX4_no_0 ++ []
theorem dksX4_no_0 : cX4_no.data.toList.drop 0 = dktX4_no_0 := by decide +kernel
theorem dX4_no_0 : decode cX4_no 0 = .ok (.aload_n 0, 1) := dk_42 (dk_at dksX4_no_0 0 rfl rfl)
theorem dX4_no_1 : decode cX4_no 1 = .ok (.iload_n 1, 1) := dk_27 (dk_at dksX4_no_0 1 rfl rfl)
theorem dX4_no_2 : decode cX4_no 2 = .ok (.putfield 54, 3) := dk_181 0 54 (dk_at dksX4_no_0 2 rfl rfl)
theorem dX4_no_5 : decode cX4_no 5 = .ok (.iconst 0, 1) := dk_3 (dk_at dksX4_no_0 5 rfl rfl)
theorem dX4_no_6 : decode cX4_no 6 = .ok (.ireturn, 1) := dk_172 (dk_at dksX4_no_0 6 rfl rfl)
abbrev cX4_trim : ByteArray := prog_41_method_44_code
def yX4_trim : MethodName := ⟨RX4, "trim", "(I)I"⟩
def dkwX4_trim_1 : List UInt8 := [27, 181, 0, 79, 27, 172]
abbrev dktX4_trim_1 : List UInt8 := dkwX4_trim_1 ++ []
def dkwX4_trim_0 : List UInt8 := [42, 3, 181, 0, 54, 27, 3, 42, 180, 0, 79, 184, 0, 60, 154, 0, 9, 42, 4, 182, 0, 234, 172, 42]
abbrev dktX4_trim_0 : List UInt8 := dkwX4_trim_0 ++ dktX4_trim_1
theorem dksX4_trim_0 : cX4_trim.data.toList.drop 0 = dktX4_trim_0 := by decide +kernel
theorem dksX4_trim_1 : cX4_trim.data.toList.drop 24 = dktX4_trim_1 := dk_seg dksX4_trim_0 24 rfl rfl
theorem dX4_trim_0 : decode cX4_trim 0 = .ok (.aload_n 0, 1) := dk_42 (dk_at dksX4_trim_0 0 rfl rfl)
theorem dX4_trim_1 : decode cX4_trim 1 = .ok (.iconst 0, 1) := dk_3 (dk_at dksX4_trim_0 1 rfl rfl)
theorem dX4_trim_2 : decode cX4_trim 2 = .ok (.putfield 54, 3) := dk_181 0 54 (dk_at dksX4_trim_0 2 rfl rfl)
theorem dX4_trim_5 : decode cX4_trim 5 = .ok (.iload_n 1, 1) := dk_27 (dk_at dksX4_trim_0 5 rfl rfl)
theorem dX4_trim_6 : decode cX4_trim 6 = .ok (.iconst 0, 1) := dk_3 (dk_at dksX4_trim_0 6 rfl rfl)
theorem dX4_trim_7 : decode cX4_trim 7 = .ok (.aload_n 0, 1) := dk_42 (dk_at dksX4_trim_0 7 rfl rfl)
theorem dX4_trim_8 : decode cX4_trim 8 = .ok (.getfield 79, 3) := dk_180 0 79 (dk_at dksX4_trim_0 8 rfl rfl)
theorem dX4_trim_11 : decode cX4_trim 11 = .ok (.invokestatic 60, 3) := dk_184 0 60 (dk_at dksX4_trim_0 11 rfl rfl)
theorem dX4_trim_14 : decode cX4_trim 14 = .ok (.ifCond .ne 9, 3) := dk_154 0 9 (dk_at dksX4_trim_0 14 rfl rfl)
theorem dX4_trim_17 : decode cX4_trim 17 = .ok (.aload_n 0, 1) := dk_42 (dk_at dksX4_trim_0 17 rfl rfl)
theorem dX4_trim_18 : decode cX4_trim 18 = .ok (.iconst 1, 1) := dk_4 (dk_at dksX4_trim_0 18 rfl rfl)
theorem dX4_trim_19 : decode cX4_trim 19 = .ok (.invokevirtual 234, 3) := dk_182 0 234 (dk_at dksX4_trim_0 19 rfl rfl)
theorem dX4_trim_22 : decode cX4_trim 22 = .ok (.ireturn, 1) := dk_172 (dk_at dksX4_trim_0 22 rfl rfl)
theorem dX4_trim_23 : decode cX4_trim 23 = .ok (.aload_n 0, 1) := dk_42 (dk_at dksX4_trim_0 23 rfl rfl)
theorem dX4_trim_24 : decode cX4_trim 24 = .ok (.iload_n 1, 1) := dk_27 (dk_at dksX4_trim_1 0 rfl rfl)
theorem dX4_trim_25 : decode cX4_trim 25 = .ok (.putfield 79, 3) := dk_181 0 79 (dk_at dksX4_trim_1 1 rfl rfl)
theorem dX4_trim_28 : decode cX4_trim 28 = .ok (.iload_n 1, 1) := dk_27 (dk_at dksX4_trim_1 4 rfl rfl)
theorem dX4_trim_29 : decode cX4_trim 29 = .ok (.ireturn, 1) := dk_172 (dk_at dksX4_trim_1 5 rfl rfl)
abbrev cX4_isIn : ByteArray := prog_41_method_4_code
def yX4_isIn : MethodName := ⟨RX4, "isIn", "(III)Z"⟩
def dkwX4_isIn_0 : List UInt8 := [26, 27, 161, 0, 12, 26, 28, 163, 0, 7, 4, 167, 0, 4, 3, 172]
abbrev dktX4_isIn_0 : List UInt8 := dkwX4_isIn_0 ++ []
theorem dksX4_isIn_0 : cX4_isIn.data.toList.drop 0 = dktX4_isIn_0 := by decide +kernel
theorem dX4_isIn_0 : decode cX4_isIn 0 = .ok (.iload_n 0, 1) := dk_26 (dk_at dksX4_isIn_0 0 rfl rfl)
theorem dX4_isIn_1 : decode cX4_isIn 1 = .ok (.iload_n 1, 1) := dk_27 (dk_at dksX4_isIn_0 1 rfl rfl)
theorem dX4_isIn_2 : decode cX4_isIn 2 = .ok (.if_icmp .lt 12, 3) := dk_161 0 12 (dk_at dksX4_isIn_0 2 rfl rfl)
theorem dX4_isIn_5 : decode cX4_isIn 5 = .ok (.iload_n 0, 1) := dk_26 (dk_at dksX4_isIn_0 5 rfl rfl)
theorem dX4_isIn_6 : decode cX4_isIn 6 = .ok (.iload_n 2, 1) := dk_28 (dk_at dksX4_isIn_0 6 rfl rfl)
theorem dX4_isIn_7 : decode cX4_isIn 7 = .ok (.if_icmp .gt 7, 3) := dk_163 0 7 (dk_at dksX4_isIn_0 7 rfl rfl)
theorem dX4_isIn_10 : decode cX4_isIn 10 = .ok (.iconst 1, 1) := dk_4 (dk_at dksX4_isIn_0 10 rfl rfl)
theorem dX4_isIn_11 : decode cX4_isIn 11 = .ok (.goto 4, 3) := dk_167 0 4 (dk_at dksX4_isIn_0 11 rfl rfl)
theorem dX4_isIn_14 : decode cX4_isIn 14 = .ok (.iconst 0, 1) := dk_3 (dk_at dksX4_isIn_0 14 rfl rfl)
theorem dX4_isIn_15 : decode cX4_isIn 15 = .ok (.ireturn, 1) := dk_172 (dk_at dksX4_isIn_0 15 rfl rfl)
abbrev cX4_teach : ByteArray := prog_41_method_45_code
def yX4_teach : MethodName := ⟨RX4, "teach", "()I"⟩
def dkwX4_teach_4 : List UInt8 := [180, 0, 247, 28, 3, 79, 132, 2, 1, 167, 255, 237, 3, 172]
abbrev dktX4_teach_4 : List UInt8 := dkwX4_teach_4 ++ []
def dkwX4_teach_3 : List UInt8 := [180, 0, 244, 28, 3, 79, 132, 2, 1, 167, 255, 211, 3, 61, 28, 16, 12, 162, 0, 19, 42, 180, 0, 47]
abbrev dktX4_teach_3 : List UInt8 := dkwX4_teach_3 ++ dktX4_teach_4
def dkwX4_teach_2 : List UInt8 := [180, 0, 47, 28, 42, 180, 0, 35, 180, 0, 213, 8, 28, 104, 5, 96, 46, 182, 0, 240, 42, 180, 0, 47]
abbrev dktX4_teach_2 : List UInt8 := dkwX4_teach_2 ++ dktX4_teach_3
def dkwX4_teach_1 : List UInt8 := [27, 172, 42, 42, 180, 0, 39, 181, 0, 35, 3, 61, 28, 42, 180, 0, 35, 180, 0, 57, 162, 0, 40, 42]
abbrev dktX4_teach_1 : List UInt8 := dkwX4_teach_1 ++ dktX4_teach_2
def dkwX4_teach_0 : List UInt8 := [42, 3, 181, 0, 54, 42, 2, 181, 0, 13, 42, 182, 0, 237, 60, 42, 3, 181, 0, 79, 27, 158, 0, 5]
abbrev dktX4_teach_0 : List UInt8 := dkwX4_teach_0 ++ dktX4_teach_1
theorem dksX4_teach_0 : cX4_teach.data.toList.drop 0 = dktX4_teach_0 := by decide +kernel
theorem dksX4_teach_1 : cX4_teach.data.toList.drop 24 = dktX4_teach_1 := dk_seg dksX4_teach_0 24 rfl rfl
theorem dksX4_teach_2 : cX4_teach.data.toList.drop 48 = dktX4_teach_2 := dk_seg dksX4_teach_1 24 rfl rfl
theorem dksX4_teach_3 : cX4_teach.data.toList.drop 72 = dktX4_teach_3 := dk_seg dksX4_teach_2 24 rfl rfl
theorem dksX4_teach_4 : cX4_teach.data.toList.drop 96 = dktX4_teach_4 := dk_seg dksX4_teach_3 24 rfl rfl
theorem dX4_teach_0 : decode cX4_teach 0 = .ok (.aload_n 0, 1) := dk_42 (dk_at dksX4_teach_0 0 rfl rfl)
theorem dX4_teach_1 : decode cX4_teach 1 = .ok (.iconst 0, 1) := dk_3 (dk_at dksX4_teach_0 1 rfl rfl)
theorem dX4_teach_2 : decode cX4_teach 2 = .ok (.putfield 54, 3) := dk_181 0 54 (dk_at dksX4_teach_0 2 rfl rfl)
theorem dX4_teach_5 : decode cX4_teach 5 = .ok (.aload_n 0, 1) := dk_42 (dk_at dksX4_teach_0 5 rfl rfl)
theorem dX4_teach_6 : decode cX4_teach 6 = .ok (.iconst (-1), 1) := dk_2 (dk_at dksX4_teach_0 6 rfl rfl)
theorem dX4_teach_7 : decode cX4_teach 7 = .ok (.putfield 13, 3) := dk_181 0 13 (dk_at dksX4_teach_0 7 rfl rfl)
theorem dX4_teach_10 : decode cX4_teach 10 = .ok (.aload_n 0, 1) := dk_42 (dk_at dksX4_teach_0 10 rfl rfl)
theorem dX4_teach_11 : decode cX4_teach 11 = .ok (.invokevirtual 237, 3) := dk_182 0 237 (dk_at dksX4_teach_0 11 rfl rfl)
theorem dX4_teach_14 : decode cX4_teach 14 = .ok (.istore_n 1, 1) := dk_60 (dk_at dksX4_teach_0 14 rfl rfl)
theorem dX4_teach_15 : decode cX4_teach 15 = .ok (.aload_n 0, 1) := dk_42 (dk_at dksX4_teach_0 15 rfl rfl)
theorem dX4_teach_16 : decode cX4_teach 16 = .ok (.iconst 0, 1) := dk_3 (dk_at dksX4_teach_0 16 rfl rfl)
theorem dX4_teach_17 : decode cX4_teach 17 = .ok (.putfield 79, 3) := dk_181 0 79 (dk_at dksX4_teach_0 17 rfl rfl)
theorem dX4_teach_20 : decode cX4_teach 20 = .ok (.iload_n 1, 1) := dk_27 (dk_at dksX4_teach_0 20 rfl rfl)
theorem dX4_teach_21 : decode cX4_teach 21 = .ok (.ifCond .le 5, 3) := dk_158 0 5 (dk_at dksX4_teach_0 21 rfl rfl)
theorem dX4_teach_24 : decode cX4_teach 24 = .ok (.iload_n 1, 1) := dk_27 (dk_at dksX4_teach_1 0 rfl rfl)
theorem dX4_teach_25 : decode cX4_teach 25 = .ok (.ireturn, 1) := dk_172 (dk_at dksX4_teach_1 1 rfl rfl)
theorem dX4_teach_26 : decode cX4_teach 26 = .ok (.aload_n 0, 1) := dk_42 (dk_at dksX4_teach_1 2 rfl rfl)
theorem dX4_teach_27 : decode cX4_teach 27 = .ok (.aload_n 0, 1) := dk_42 (dk_at dksX4_teach_1 3 rfl rfl)
theorem dX4_teach_28 : decode cX4_teach 28 = .ok (.getfield 39, 3) := dk_180 0 39 (dk_at dksX4_teach_1 4 rfl rfl)
theorem dX4_teach_31 : decode cX4_teach 31 = .ok (.putfield 35, 3) := dk_181 0 35 (dk_at dksX4_teach_1 7 rfl rfl)
theorem dX4_teach_34 : decode cX4_teach 34 = .ok (.iconst 0, 1) := dk_3 (dk_at dksX4_teach_1 10 rfl rfl)
theorem dX4_teach_35 : decode cX4_teach 35 = .ok (.istore_n 2, 1) := dk_61 (dk_at dksX4_teach_1 11 rfl rfl)
theorem dX4_teach_36 : decode cX4_teach 36 = .ok (.iload_n 2, 1) := dk_28 (dk_at dksX4_teach_1 12 rfl rfl)
theorem dX4_teach_37 : decode cX4_teach 37 = .ok (.aload_n 0, 1) := dk_42 (dk_at dksX4_teach_1 13 rfl rfl)
theorem dX4_teach_38 : decode cX4_teach 38 = .ok (.getfield 35, 3) := dk_180 0 35 (dk_at dksX4_teach_1 14 rfl rfl)
theorem dX4_teach_41 : decode cX4_teach 41 = .ok (.getfield 57, 3) := dk_180 0 57 (dk_at dksX4_teach_1 17 rfl rfl)
theorem dX4_teach_44 : decode cX4_teach 44 = .ok (.if_icmp .ge 40, 3) := dk_162 0 40 (dk_at dksX4_teach_1 20 rfl rfl)
theorem dX4_teach_47 : decode cX4_teach 47 = .ok (.aload_n 0, 1) := dk_42 (dk_at dksX4_teach_1 23 rfl rfl)
theorem dX4_teach_48 : decode cX4_teach 48 = .ok (.getfield 47, 3) := dk_180 0 47 (dk_at dksX4_teach_2 0 rfl rfl)
theorem dX4_teach_51 : decode cX4_teach 51 = .ok (.iload_n 2, 1) := dk_28 (dk_at dksX4_teach_2 3 rfl rfl)
theorem dX4_teach_52 : decode cX4_teach 52 = .ok (.aload_n 0, 1) := dk_42 (dk_at dksX4_teach_2 4 rfl rfl)
theorem dX4_teach_53 : decode cX4_teach 53 = .ok (.getfield 35, 3) := dk_180 0 35 (dk_at dksX4_teach_2 5 rfl rfl)
theorem dX4_teach_56 : decode cX4_teach 56 = .ok (.getfield 213, 3) := dk_180 0 213 (dk_at dksX4_teach_2 8 rfl rfl)
theorem dX4_teach_59 : decode cX4_teach 59 = .ok (.iconst 5, 1) := dk_8 (dk_at dksX4_teach_2 11 rfl rfl)
theorem dX4_teach_60 : decode cX4_teach 60 = .ok (.iload_n 2, 1) := dk_28 (dk_at dksX4_teach_2 12 rfl rfl)
theorem dX4_teach_61 : decode cX4_teach 61 = .ok (.imul, 1) := dk_104 (dk_at dksX4_teach_2 13 rfl rfl)
theorem dX4_teach_62 : decode cX4_teach 62 = .ok (.iconst 2, 1) := dk_5 (dk_at dksX4_teach_2 14 rfl rfl)
theorem dX4_teach_63 : decode cX4_teach 63 = .ok (.iadd, 1) := dk_96 (dk_at dksX4_teach_2 15 rfl rfl)
theorem dX4_teach_64 : decode cX4_teach 64 = .ok (.iaload, 1) := dk_46 (dk_at dksX4_teach_2 16 rfl rfl)
theorem dX4_teach_65 : decode cX4_teach 65 = .ok (.invokevirtual 240, 3) := dk_182 0 240 (dk_at dksX4_teach_2 17 rfl rfl)
theorem dX4_teach_68 : decode cX4_teach 68 = .ok (.aload_n 0, 1) := dk_42 (dk_at dksX4_teach_2 20 rfl rfl)
theorem dX4_teach_69 : decode cX4_teach 69 = .ok (.getfield 47, 3) := dk_180 0 47 (dk_at dksX4_teach_2 21 rfl rfl)
theorem dX4_teach_72 : decode cX4_teach 72 = .ok (.getfield 244, 3) := dk_180 0 244 (dk_at dksX4_teach_3 0 rfl rfl)
theorem dX4_teach_75 : decode cX4_teach 75 = .ok (.iload_n 2, 1) := dk_28 (dk_at dksX4_teach_3 3 rfl rfl)
theorem dX4_teach_76 : decode cX4_teach 76 = .ok (.iconst 0, 1) := dk_3 (dk_at dksX4_teach_3 4 rfl rfl)
theorem dX4_teach_77 : decode cX4_teach 77 = .ok (.iastore, 1) := dk_79 (dk_at dksX4_teach_3 5 rfl rfl)
theorem dX4_teach_78 : decode cX4_teach 78 = .ok (.iinc 2 1, 3) := dk_132 2 1 (dk_at dksX4_teach_3 6 rfl rfl)
theorem dX4_teach_81 : decode cX4_teach 81 = .ok (.goto (-45), 3) := dk_167 255 211 (dk_at dksX4_teach_3 9 rfl rfl)
theorem dX4_teach_84 : decode cX4_teach 84 = .ok (.iconst 0, 1) := dk_3 (dk_at dksX4_teach_3 12 rfl rfl)
theorem dX4_teach_85 : decode cX4_teach 85 = .ok (.istore_n 2, 1) := dk_61 (dk_at dksX4_teach_3 13 rfl rfl)
theorem dX4_teach_86 : decode cX4_teach 86 = .ok (.iload_n 2, 1) := dk_28 (dk_at dksX4_teach_3 14 rfl rfl)
theorem dX4_teach_87 : decode cX4_teach 87 = .ok (.bipush 12, 2) := dk_16 12 (dk_at dksX4_teach_3 15 rfl rfl)
theorem dX4_teach_89 : decode cX4_teach 89 = .ok (.if_icmp .ge 19, 3) := dk_162 0 19 (dk_at dksX4_teach_3 17 rfl rfl)
theorem dX4_teach_92 : decode cX4_teach 92 = .ok (.aload_n 0, 1) := dk_42 (dk_at dksX4_teach_3 20 rfl rfl)
theorem dX4_teach_93 : decode cX4_teach 93 = .ok (.getfield 47, 3) := dk_180 0 47 (dk_at dksX4_teach_3 21 rfl rfl)
theorem dX4_teach_96 : decode cX4_teach 96 = .ok (.getfield 247, 3) := dk_180 0 247 (dk_at dksX4_teach_4 0 rfl rfl)
theorem dX4_teach_99 : decode cX4_teach 99 = .ok (.iload_n 2, 1) := dk_28 (dk_at dksX4_teach_4 3 rfl rfl)
theorem dX4_teach_100 : decode cX4_teach 100 = .ok (.iconst 0, 1) := dk_3 (dk_at dksX4_teach_4 4 rfl rfl)
theorem dX4_teach_101 : decode cX4_teach 101 = .ok (.iastore, 1) := dk_79 (dk_at dksX4_teach_4 5 rfl rfl)
theorem dX4_teach_102 : decode cX4_teach 102 = .ok (.iinc 2 1, 3) := dk_132 2 1 (dk_at dksX4_teach_4 6 rfl rfl)
theorem dX4_teach_105 : decode cX4_teach 105 = .ok (.goto (-19), 3) := dk_167 255 237 (dk_at dksX4_teach_4 9 rfl rfl)
theorem dX4_teach_108 : decode cX4_teach 108 = .ok (.iconst 0, 1) := dk_3 (dk_at dksX4_teach_4 12 rfl rfl)
theorem dX4_teach_109 : decode cX4_teach 109 = .ok (.ireturn, 1) := dk_172 (dk_at dksX4_teach_4 13 rfl rfl)
abbrev cX4_read : ByteArray := prog_41_method_42_code
def yX4_read : MethodName := ⟨RX4, "read", "()I"⟩
def dkwX4_read_9 : List UInt8 := [132, 2, 1, 167, 255, 219, 3, 172]
abbrev dktX4_read_9 : List UInt8 := dkwX4_read_9 ++ []
def dkwX4_read_8 : List UInt8 := [180, 0, 39, 180, 0, 170, 28, 42, 180, 0, 29, 42, 180, 0, 39, 180, 0, 170, 28, 46, 46, 79]
abbrev dktX4_read_8 : List UInt8 := dkwX4_read_8 ++ dktX4_read_9
def dkwX4_read_7 : List UInt8 := [46, 46, 46, 79, 132, 2, 1, 167, 255, 203, 3, 61, 28, 42, 180, 0, 39, 180, 0, 155, 162, 0, 32, 42]
abbrev dktX4_read_7 : List UInt8 := dkwX4_read_7 ++ dktX4_read_8
def dkwX4_read_6 : List UInt8 := [180, 0, 127, 28, 46, 42, 180, 0, 29, 42, 180, 0, 39, 180, 0, 122, 42, 180, 0, 39, 180, 0, 127, 28]
abbrev dktX4_read_6 : List UInt8 := dkwX4_read_6 ++ dktX4_read_7
def dkwX4_read_5 : List UInt8 := [61, 28, 42, 180, 0, 39, 180, 0, 130, 162, 0, 48, 42, 180, 0, 39, 180, 0, 122, 42, 180, 0, 39]
abbrev dktX4_read_5 : List UInt8 := dkwX4_read_5 ++ dktX4_read_6
def dkwX4_read_4 : List UInt8 := [42, 180, 0, 113, 46, 181, 0, 13, 28, 172, 42, 89, 180, 0, 113, 4, 96, 181, 0, 113, 167, 255, 207, 3]
abbrev dktX4_read_4 : List UInt8 := dkwX4_read_4 ++ dktX4_read_5
def dkwX4_read_3 : List UInt8 := [162, 0, 47, 42, 42, 180, 0, 113, 182, 0, 231, 61, 28, 154, 0, 6, 167, 0, 18, 42, 42, 180, 0, 20]
abbrev dktX4_read_3 : List UInt8 := dkwX4_read_3 ++ dktX4_read_4
def dkwX4_read_2 : List UInt8 := [172, 42, 180, 0, 113, 60, 42, 180, 0, 29, 3, 3, 79, 42, 3, 181, 0, 113, 42, 180, 0, 113, 27]
abbrev dktX4_read_2 : List UInt8 := dkwX4_read_2 ++ dktX4_read_3
def dkwX4_read_1 : List UInt8 := [181, 0, 179, 42, 182, 0, 228, 154, 0, 18, 42, 42, 180, 0, 20, 42, 180, 0, 113, 46, 181, 0, 13, 4]
abbrev dktX4_read_1 : List UInt8 := dkwX4_read_1 ++ dktX4_read_2
def dkwX4_read_0 : List UInt8 := [42, 187, 0, 32, 89, 183, 0, 34, 181, 0, 39, 42, 182, 0, 225, 42, 3, 181, 0, 113, 42, 3]
abbrev dktX4_read_0 : List UInt8 := dkwX4_read_0 ++ dktX4_read_1
theorem dksX4_read_0 : cX4_read.data.toList.drop 0 = dktX4_read_0 := by decide +kernel
theorem dksX4_read_1 : cX4_read.data.toList.drop 22 = dktX4_read_1 := dk_seg dksX4_read_0 22 rfl rfl
theorem dksX4_read_2 : cX4_read.data.toList.drop 46 = dktX4_read_2 := dk_seg dksX4_read_1 24 rfl rfl
theorem dksX4_read_3 : cX4_read.data.toList.drop 69 = dktX4_read_3 := dk_seg dksX4_read_2 23 rfl rfl
theorem dksX4_read_4 : cX4_read.data.toList.drop 93 = dktX4_read_4 := dk_seg dksX4_read_3 24 rfl rfl
theorem dksX4_read_5 : cX4_read.data.toList.drop 117 = dktX4_read_5 := dk_seg dksX4_read_4 24 rfl rfl
theorem dksX4_read_6 : cX4_read.data.toList.drop 140 = dktX4_read_6 := dk_seg dksX4_read_5 23 rfl rfl
theorem dksX4_read_7 : cX4_read.data.toList.drop 164 = dktX4_read_7 := dk_seg dksX4_read_6 24 rfl rfl
theorem dksX4_read_8 : cX4_read.data.toList.drop 188 = dktX4_read_8 := dk_seg dksX4_read_7 24 rfl rfl
theorem dksX4_read_9 : cX4_read.data.toList.drop 210 = dktX4_read_9 := dk_seg dksX4_read_8 22 rfl rfl
theorem dX4_read_0 : decode cX4_read 0 = .ok (.aload_n 0, 1) := dk_42 (dk_at dksX4_read_0 0 rfl rfl)
theorem dX4_read_1 : decode cX4_read 1 = .ok (.new 32, 3) := dk_187 0 32 (dk_at dksX4_read_0 1 rfl rfl)
theorem dX4_read_4 : decode cX4_read 4 = .ok (.dup, 1) := dk_89 (dk_at dksX4_read_0 4 rfl rfl)
theorem dX4_read_5 : decode cX4_read 5 = .ok (.invokespecial 34, 3) := dk_183 0 34 (dk_at dksX4_read_0 5 rfl rfl)
theorem dX4_read_8 : decode cX4_read 8 = .ok (.putfield 39, 3) := dk_181 0 39 (dk_at dksX4_read_0 8 rfl rfl)
theorem dX4_read_11 : decode cX4_read 11 = .ok (.aload_n 0, 1) := dk_42 (dk_at dksX4_read_0 11 rfl rfl)
theorem dX4_read_12 : decode cX4_read 12 = .ok (.invokevirtual 225, 3) := dk_182 0 225 (dk_at dksX4_read_0 12 rfl rfl)
theorem dX4_read_15 : decode cX4_read 15 = .ok (.aload_n 0, 1) := dk_42 (dk_at dksX4_read_0 15 rfl rfl)
theorem dX4_read_16 : decode cX4_read 16 = .ok (.iconst 0, 1) := dk_3 (dk_at dksX4_read_0 16 rfl rfl)
theorem dX4_read_17 : decode cX4_read 17 = .ok (.putfield 113, 3) := dk_181 0 113 (dk_at dksX4_read_0 17 rfl rfl)
theorem dX4_read_20 : decode cX4_read 20 = .ok (.aload_n 0, 1) := dk_42 (dk_at dksX4_read_0 20 rfl rfl)
theorem dX4_read_21 : decode cX4_read 21 = .ok (.iconst 0, 1) := dk_3 (dk_at dksX4_read_0 21 rfl rfl)
theorem dX4_read_22 : decode cX4_read 22 = .ok (.putfield 179, 3) := dk_181 0 179 (dk_at dksX4_read_1 0 rfl rfl)
theorem dX4_read_25 : decode cX4_read 25 = .ok (.aload_n 0, 1) := dk_42 (dk_at dksX4_read_1 3 rfl rfl)
theorem dX4_read_26 : decode cX4_read 26 = .ok (.invokevirtual 228, 3) := dk_182 0 228 (dk_at dksX4_read_1 4 rfl rfl)
theorem dX4_read_29 : decode cX4_read 29 = .ok (.ifCond .ne 18, 3) := dk_154 0 18 (dk_at dksX4_read_1 7 rfl rfl)
theorem dX4_read_32 : decode cX4_read 32 = .ok (.aload_n 0, 1) := dk_42 (dk_at dksX4_read_1 10 rfl rfl)
theorem dX4_read_33 : decode cX4_read 33 = .ok (.aload_n 0, 1) := dk_42 (dk_at dksX4_read_1 11 rfl rfl)
theorem dX4_read_34 : decode cX4_read 34 = .ok (.getfield 20, 3) := dk_180 0 20 (dk_at dksX4_read_1 12 rfl rfl)
theorem dX4_read_37 : decode cX4_read 37 = .ok (.aload_n 0, 1) := dk_42 (dk_at dksX4_read_1 15 rfl rfl)
theorem dX4_read_38 : decode cX4_read 38 = .ok (.getfield 113, 3) := dk_180 0 113 (dk_at dksX4_read_1 16 rfl rfl)
theorem dX4_read_41 : decode cX4_read 41 = .ok (.iaload, 1) := dk_46 (dk_at dksX4_read_1 19 rfl rfl)
theorem dX4_read_42 : decode cX4_read 42 = .ok (.putfield 13, 3) := dk_181 0 13 (dk_at dksX4_read_1 20 rfl rfl)
theorem dX4_read_45 : decode cX4_read 45 = .ok (.iconst 1, 1) := dk_4 (dk_at dksX4_read_1 23 rfl rfl)
theorem dX4_read_46 : decode cX4_read 46 = .ok (.ireturn, 1) := dk_172 (dk_at dksX4_read_2 0 rfl rfl)
theorem dX4_read_47 : decode cX4_read 47 = .ok (.aload_n 0, 1) := dk_42 (dk_at dksX4_read_2 1 rfl rfl)
theorem dX4_read_48 : decode cX4_read 48 = .ok (.getfield 113, 3) := dk_180 0 113 (dk_at dksX4_read_2 2 rfl rfl)
theorem dX4_read_51 : decode cX4_read 51 = .ok (.istore_n 1, 1) := dk_60 (dk_at dksX4_read_2 5 rfl rfl)
theorem dX4_read_52 : decode cX4_read 52 = .ok (.aload_n 0, 1) := dk_42 (dk_at dksX4_read_2 6 rfl rfl)
theorem dX4_read_53 : decode cX4_read 53 = .ok (.getfield 29, 3) := dk_180 0 29 (dk_at dksX4_read_2 7 rfl rfl)
theorem dX4_read_56 : decode cX4_read 56 = .ok (.iconst 0, 1) := dk_3 (dk_at dksX4_read_2 10 rfl rfl)
theorem dX4_read_57 : decode cX4_read 57 = .ok (.iconst 0, 1) := dk_3 (dk_at dksX4_read_2 11 rfl rfl)
theorem dX4_read_58 : decode cX4_read 58 = .ok (.iastore, 1) := dk_79 (dk_at dksX4_read_2 12 rfl rfl)
theorem dX4_read_59 : decode cX4_read 59 = .ok (.aload_n 0, 1) := dk_42 (dk_at dksX4_read_2 13 rfl rfl)
theorem dX4_read_60 : decode cX4_read 60 = .ok (.iconst 0, 1) := dk_3 (dk_at dksX4_read_2 14 rfl rfl)
theorem dX4_read_61 : decode cX4_read 61 = .ok (.putfield 113, 3) := dk_181 0 113 (dk_at dksX4_read_2 15 rfl rfl)
theorem dX4_read_64 : decode cX4_read 64 = .ok (.aload_n 0, 1) := dk_42 (dk_at dksX4_read_2 18 rfl rfl)
theorem dX4_read_65 : decode cX4_read 65 = .ok (.getfield 113, 3) := dk_180 0 113 (dk_at dksX4_read_2 19 rfl rfl)
theorem dX4_read_68 : decode cX4_read 68 = .ok (.iload_n 1, 1) := dk_27 (dk_at dksX4_read_2 22 rfl rfl)
theorem dX4_read_69 : decode cX4_read 69 = .ok (.if_icmp .ge 47, 3) := dk_162 0 47 (dk_at dksX4_read_3 0 rfl rfl)
theorem dX4_read_72 : decode cX4_read 72 = .ok (.aload_n 0, 1) := dk_42 (dk_at dksX4_read_3 3 rfl rfl)
theorem dX4_read_73 : decode cX4_read 73 = .ok (.aload_n 0, 1) := dk_42 (dk_at dksX4_read_3 4 rfl rfl)
theorem dX4_read_74 : decode cX4_read 74 = .ok (.getfield 113, 3) := dk_180 0 113 (dk_at dksX4_read_3 5 rfl rfl)
theorem dX4_read_77 : decode cX4_read 77 = .ok (.invokevirtual 231, 3) := dk_182 0 231 (dk_at dksX4_read_3 8 rfl rfl)
theorem dX4_read_80 : decode cX4_read 80 = .ok (.istore_n 2, 1) := dk_61 (dk_at dksX4_read_3 11 rfl rfl)
theorem dX4_read_81 : decode cX4_read 81 = .ok (.iload_n 2, 1) := dk_28 (dk_at dksX4_read_3 12 rfl rfl)
theorem dX4_read_82 : decode cX4_read 82 = .ok (.ifCond .ne 6, 3) := dk_154 0 6 (dk_at dksX4_read_3 13 rfl rfl)
theorem dX4_read_85 : decode cX4_read 85 = .ok (.goto 18, 3) := dk_167 0 18 (dk_at dksX4_read_3 16 rfl rfl)
theorem dX4_read_88 : decode cX4_read 88 = .ok (.aload_n 0, 1) := dk_42 (dk_at dksX4_read_3 19 rfl rfl)
theorem dX4_read_89 : decode cX4_read 89 = .ok (.aload_n 0, 1) := dk_42 (dk_at dksX4_read_3 20 rfl rfl)
theorem dX4_read_90 : decode cX4_read 90 = .ok (.getfield 20, 3) := dk_180 0 20 (dk_at dksX4_read_3 21 rfl rfl)
theorem dX4_read_93 : decode cX4_read 93 = .ok (.aload_n 0, 1) := dk_42 (dk_at dksX4_read_4 0 rfl rfl)
theorem dX4_read_94 : decode cX4_read 94 = .ok (.getfield 113, 3) := dk_180 0 113 (dk_at dksX4_read_4 1 rfl rfl)
theorem dX4_read_97 : decode cX4_read 97 = .ok (.iaload, 1) := dk_46 (dk_at dksX4_read_4 4 rfl rfl)
theorem dX4_read_98 : decode cX4_read 98 = .ok (.putfield 13, 3) := dk_181 0 13 (dk_at dksX4_read_4 5 rfl rfl)
theorem dX4_read_101 : decode cX4_read 101 = .ok (.iload_n 2, 1) := dk_28 (dk_at dksX4_read_4 8 rfl rfl)
theorem dX4_read_102 : decode cX4_read 102 = .ok (.ireturn, 1) := dk_172 (dk_at dksX4_read_4 9 rfl rfl)
theorem dX4_read_103 : decode cX4_read 103 = .ok (.aload_n 0, 1) := dk_42 (dk_at dksX4_read_4 10 rfl rfl)
theorem dX4_read_104 : decode cX4_read 104 = .ok (.dup, 1) := dk_89 (dk_at dksX4_read_4 11 rfl rfl)
theorem dX4_read_105 : decode cX4_read 105 = .ok (.getfield 113, 3) := dk_180 0 113 (dk_at dksX4_read_4 12 rfl rfl)
theorem dX4_read_108 : decode cX4_read 108 = .ok (.iconst 1, 1) := dk_4 (dk_at dksX4_read_4 15 rfl rfl)
theorem dX4_read_109 : decode cX4_read 109 = .ok (.iadd, 1) := dk_96 (dk_at dksX4_read_4 16 rfl rfl)
theorem dX4_read_110 : decode cX4_read 110 = .ok (.putfield 113, 3) := dk_181 0 113 (dk_at dksX4_read_4 17 rfl rfl)
theorem dX4_read_113 : decode cX4_read 113 = .ok (.goto (-49), 3) := dk_167 255 207 (dk_at dksX4_read_4 20 rfl rfl)
theorem dX4_read_116 : decode cX4_read 116 = .ok (.iconst 0, 1) := dk_3 (dk_at dksX4_read_4 23 rfl rfl)
theorem dX4_read_117 : decode cX4_read 117 = .ok (.istore_n 2, 1) := dk_61 (dk_at dksX4_read_5 0 rfl rfl)
theorem dX4_read_118 : decode cX4_read 118 = .ok (.iload_n 2, 1) := dk_28 (dk_at dksX4_read_5 1 rfl rfl)
theorem dX4_read_119 : decode cX4_read 119 = .ok (.aload_n 0, 1) := dk_42 (dk_at dksX4_read_5 2 rfl rfl)
theorem dX4_read_120 : decode cX4_read 120 = .ok (.getfield 39, 3) := dk_180 0 39 (dk_at dksX4_read_5 3 rfl rfl)
theorem dX4_read_123 : decode cX4_read 123 = .ok (.getfield 130, 3) := dk_180 0 130 (dk_at dksX4_read_5 6 rfl rfl)
theorem dX4_read_126 : decode cX4_read 126 = .ok (.if_icmp .ge 48, 3) := dk_162 0 48 (dk_at dksX4_read_5 9 rfl rfl)
theorem dX4_read_129 : decode cX4_read 129 = .ok (.aload_n 0, 1) := dk_42 (dk_at dksX4_read_5 12 rfl rfl)
theorem dX4_read_130 : decode cX4_read 130 = .ok (.getfield 39, 3) := dk_180 0 39 (dk_at dksX4_read_5 13 rfl rfl)
theorem dX4_read_133 : decode cX4_read 133 = .ok (.getfield 122, 3) := dk_180 0 122 (dk_at dksX4_read_5 16 rfl rfl)
theorem dX4_read_136 : decode cX4_read 136 = .ok (.aload_n 0, 1) := dk_42 (dk_at dksX4_read_5 19 rfl rfl)
theorem dX4_read_137 : decode cX4_read 137 = .ok (.getfield 39, 3) := dk_180 0 39 (dk_at dksX4_read_5 20 rfl rfl)
theorem dX4_read_140 : decode cX4_read 140 = .ok (.getfield 127, 3) := dk_180 0 127 (dk_at dksX4_read_6 0 rfl rfl)
theorem dX4_read_143 : decode cX4_read 143 = .ok (.iload_n 2, 1) := dk_28 (dk_at dksX4_read_6 3 rfl rfl)
theorem dX4_read_144 : decode cX4_read 144 = .ok (.iaload, 1) := dk_46 (dk_at dksX4_read_6 4 rfl rfl)
theorem dX4_read_145 : decode cX4_read 145 = .ok (.aload_n 0, 1) := dk_42 (dk_at dksX4_read_6 5 rfl rfl)
theorem dX4_read_146 : decode cX4_read 146 = .ok (.getfield 29, 3) := dk_180 0 29 (dk_at dksX4_read_6 6 rfl rfl)
theorem dX4_read_149 : decode cX4_read 149 = .ok (.aload_n 0, 1) := dk_42 (dk_at dksX4_read_6 9 rfl rfl)
theorem dX4_read_150 : decode cX4_read 150 = .ok (.getfield 39, 3) := dk_180 0 39 (dk_at dksX4_read_6 10 rfl rfl)
theorem dX4_read_153 : decode cX4_read 153 = .ok (.getfield 122, 3) := dk_180 0 122 (dk_at dksX4_read_6 13 rfl rfl)
theorem dX4_read_156 : decode cX4_read 156 = .ok (.aload_n 0, 1) := dk_42 (dk_at dksX4_read_6 16 rfl rfl)
theorem dX4_read_157 : decode cX4_read 157 = .ok (.getfield 39, 3) := dk_180 0 39 (dk_at dksX4_read_6 17 rfl rfl)
theorem dX4_read_160 : decode cX4_read 160 = .ok (.getfield 127, 3) := dk_180 0 127 (dk_at dksX4_read_6 20 rfl rfl)
theorem dX4_read_163 : decode cX4_read 163 = .ok (.iload_n 2, 1) := dk_28 (dk_at dksX4_read_6 23 rfl rfl)
theorem dX4_read_164 : decode cX4_read 164 = .ok (.iaload, 1) := dk_46 (dk_at dksX4_read_7 0 rfl rfl)
theorem dX4_read_165 : decode cX4_read 165 = .ok (.iaload, 1) := dk_46 (dk_at dksX4_read_7 1 rfl rfl)
theorem dX4_read_166 : decode cX4_read 166 = .ok (.iaload, 1) := dk_46 (dk_at dksX4_read_7 2 rfl rfl)
theorem dX4_read_167 : decode cX4_read 167 = .ok (.iastore, 1) := dk_79 (dk_at dksX4_read_7 3 rfl rfl)
theorem dX4_read_168 : decode cX4_read 168 = .ok (.iinc 2 1, 3) := dk_132 2 1 (dk_at dksX4_read_7 4 rfl rfl)
theorem dX4_read_171 : decode cX4_read 171 = .ok (.goto (-53), 3) := dk_167 255 203 (dk_at dksX4_read_7 7 rfl rfl)
theorem dX4_read_174 : decode cX4_read 174 = .ok (.iconst 0, 1) := dk_3 (dk_at dksX4_read_7 10 rfl rfl)
theorem dX4_read_175 : decode cX4_read 175 = .ok (.istore_n 2, 1) := dk_61 (dk_at dksX4_read_7 11 rfl rfl)
theorem dX4_read_176 : decode cX4_read 176 = .ok (.iload_n 2, 1) := dk_28 (dk_at dksX4_read_7 12 rfl rfl)
theorem dX4_read_177 : decode cX4_read 177 = .ok (.aload_n 0, 1) := dk_42 (dk_at dksX4_read_7 13 rfl rfl)
theorem dX4_read_178 : decode cX4_read 178 = .ok (.getfield 39, 3) := dk_180 0 39 (dk_at dksX4_read_7 14 rfl rfl)
theorem dX4_read_181 : decode cX4_read 181 = .ok (.getfield 155, 3) := dk_180 0 155 (dk_at dksX4_read_7 17 rfl rfl)
theorem dX4_read_184 : decode cX4_read 184 = .ok (.if_icmp .ge 32, 3) := dk_162 0 32 (dk_at dksX4_read_7 20 rfl rfl)
theorem dX4_read_187 : decode cX4_read 187 = .ok (.aload_n 0, 1) := dk_42 (dk_at dksX4_read_7 23 rfl rfl)
theorem dX4_read_188 : decode cX4_read 188 = .ok (.getfield 39, 3) := dk_180 0 39 (dk_at dksX4_read_8 0 rfl rfl)
theorem dX4_read_191 : decode cX4_read 191 = .ok (.getfield 170, 3) := dk_180 0 170 (dk_at dksX4_read_8 3 rfl rfl)
theorem dX4_read_194 : decode cX4_read 194 = .ok (.iload_n 2, 1) := dk_28 (dk_at dksX4_read_8 6 rfl rfl)
theorem dX4_read_195 : decode cX4_read 195 = .ok (.aload_n 0, 1) := dk_42 (dk_at dksX4_read_8 7 rfl rfl)
theorem dX4_read_196 : decode cX4_read 196 = .ok (.getfield 29, 3) := dk_180 0 29 (dk_at dksX4_read_8 8 rfl rfl)
theorem dX4_read_199 : decode cX4_read 199 = .ok (.aload_n 0, 1) := dk_42 (dk_at dksX4_read_8 11 rfl rfl)
theorem dX4_read_200 : decode cX4_read 200 = .ok (.getfield 39, 3) := dk_180 0 39 (dk_at dksX4_read_8 12 rfl rfl)
theorem dX4_read_203 : decode cX4_read 203 = .ok (.getfield 170, 3) := dk_180 0 170 (dk_at dksX4_read_8 15 rfl rfl)
theorem dX4_read_206 : decode cX4_read 206 = .ok (.iload_n 2, 1) := dk_28 (dk_at dksX4_read_8 18 rfl rfl)
theorem dX4_read_207 : decode cX4_read 207 = .ok (.iaload, 1) := dk_46 (dk_at dksX4_read_8 19 rfl rfl)
theorem dX4_read_208 : decode cX4_read 208 = .ok (.iaload, 1) := dk_46 (dk_at dksX4_read_8 20 rfl rfl)
theorem dX4_read_209 : decode cX4_read 209 = .ok (.iastore, 1) := dk_79 (dk_at dksX4_read_8 21 rfl rfl)
theorem dX4_read_210 : decode cX4_read 210 = .ok (.iinc 2 1, 3) := dk_132 2 1 (dk_at dksX4_read_9 0 rfl rfl)
theorem dX4_read_213 : decode cX4_read 213 = .ok (.goto (-37), 3) := dk_167 255 219 (dk_at dksX4_read_9 3 rfl rfl)
theorem dX4_read_216 : decode cX4_read 216 = .ok (.iconst 0, 1) := dk_3 (dk_at dksX4_read_9 6 rfl rfl)
theorem dX4_read_217 : decode cX4_read 217 = .ok (.ireturn, 1) := dk_172 (dk_at dksX4_read_9 7 rfl rfl)
abbrev cX4_cutIntoTokens : ByteArray := prog_41_method_15_code
def yX4_cutIntoTokens : MethodName := ⟨RX4, "cutIntoTokens", "()V"⟩
def dkwX4_cutIntoTokens_5 : List UInt8 := [46, 96, 60, 132, 2, 1, 167, 255, 137, 177]
abbrev dktX4_cutIntoTokens_5 : List UInt8 := dkwX4_cutIntoTokens_5 ++ []
def dkwX4_cutIntoTokens_4 : List UInt8 := [28, 17, 3, 133, 79, 42, 180, 0, 17, 28, 46, 17, 3, 132, 161, 0, 4, 177, 27, 42, 180, 0, 23, 28]
abbrev dktX4_cutIntoTokens_4 : List UInt8 := dkwX4_cutIntoTokens_4 ++ dktX4_cutIntoTokens_5
def dkwX4_cutIntoTokens_3 : List UInt8 := [79, 28, 17, 1, 144, 160, 0, 24, 42, 180, 0, 17, 28, 46, 17, 3, 132, 159, 0, 12, 42, 180, 0, 17]
abbrev dktX4_cutIntoTokens_3 : List UInt8 := dkwX4_cutIntoTokens_3 ++ dktX4_cutIntoTokens_4
def dkwX4_cutIntoTokens_2 : List UInt8 := [180, 0, 26, 28, 3, 79, 42, 180, 0, 29, 28, 3, 79, 42, 180, 0, 17, 28, 42, 27, 28, 182, 0, 110]
abbrev dktX4_cutIntoTokens_2 : List UInt8 := dkwX4_cutIntoTokens_2 ++ dktX4_cutIntoTokens_3
def dkwX4_cutIntoTokens_1 : List UInt8 := [182, 0, 82, 16, 10, 160, 0, 9, 132, 1, 1, 167, 255, 233, 42, 180, 0, 20, 28, 27, 79, 42]
abbrev dktX4_cutIntoTokens_1 : List UInt8 := dkwX4_cutIntoTokens_1 ++ dktX4_cutIntoTokens_2
def dkwX4_cutIntoTokens_0 : List UInt8 := [3, 60, 3, 61, 28, 17, 1, 144, 163, 0, 118, 42, 27, 182, 0, 82, 16, 32, 159, 0, 13, 42, 27]
abbrev dktX4_cutIntoTokens_0 : List UInt8 := dkwX4_cutIntoTokens_0 ++ dktX4_cutIntoTokens_1
theorem dksX4_cutIntoTokens_0 : cX4_cutIntoTokens.data.toList.drop 0 = dktX4_cutIntoTokens_0 := by decide +kernel
theorem dksX4_cutIntoTokens_1 : cX4_cutIntoTokens.data.toList.drop 23 = dktX4_cutIntoTokens_1 := dk_seg dksX4_cutIntoTokens_0 23 rfl rfl
theorem dksX4_cutIntoTokens_2 : cX4_cutIntoTokens.data.toList.drop 45 = dktX4_cutIntoTokens_2 := dk_seg dksX4_cutIntoTokens_1 22 rfl rfl
theorem dksX4_cutIntoTokens_3 : cX4_cutIntoTokens.data.toList.drop 69 = dktX4_cutIntoTokens_3 := dk_seg dksX4_cutIntoTokens_2 24 rfl rfl
theorem dksX4_cutIntoTokens_4 : cX4_cutIntoTokens.data.toList.drop 93 = dktX4_cutIntoTokens_4 := dk_seg dksX4_cutIntoTokens_3 24 rfl rfl
theorem dksX4_cutIntoTokens_5 : cX4_cutIntoTokens.data.toList.drop 117 = dktX4_cutIntoTokens_5 := dk_seg dksX4_cutIntoTokens_4 24 rfl rfl
theorem dX4_cutIntoTokens_0 : decode cX4_cutIntoTokens 0 = .ok (.iconst 0, 1) := dk_3 (dk_at dksX4_cutIntoTokens_0 0 rfl rfl)
theorem dX4_cutIntoTokens_1 : decode cX4_cutIntoTokens 1 = .ok (.istore_n 1, 1) := dk_60 (dk_at dksX4_cutIntoTokens_0 1 rfl rfl)
theorem dX4_cutIntoTokens_2 : decode cX4_cutIntoTokens 2 = .ok (.iconst 0, 1) := dk_3 (dk_at dksX4_cutIntoTokens_0 2 rfl rfl)
theorem dX4_cutIntoTokens_3 : decode cX4_cutIntoTokens 3 = .ok (.istore_n 2, 1) := dk_61 (dk_at dksX4_cutIntoTokens_0 3 rfl rfl)
theorem dX4_cutIntoTokens_4 : decode cX4_cutIntoTokens 4 = .ok (.iload_n 2, 1) := dk_28 (dk_at dksX4_cutIntoTokens_0 4 rfl rfl)
theorem dX4_cutIntoTokens_5 : decode cX4_cutIntoTokens 5 = .ok (.sipush 400, 3) := dk_17 1 144 (dk_at dksX4_cutIntoTokens_0 5 rfl rfl)
theorem dX4_cutIntoTokens_8 : decode cX4_cutIntoTokens 8 = .ok (.if_icmp .gt 118, 3) := dk_163 0 118 (dk_at dksX4_cutIntoTokens_0 8 rfl rfl)
theorem dX4_cutIntoTokens_11 : decode cX4_cutIntoTokens 11 = .ok (.aload_n 0, 1) := dk_42 (dk_at dksX4_cutIntoTokens_0 11 rfl rfl)
theorem dX4_cutIntoTokens_12 : decode cX4_cutIntoTokens 12 = .ok (.iload_n 1, 1) := dk_27 (dk_at dksX4_cutIntoTokens_0 12 rfl rfl)
theorem dX4_cutIntoTokens_13 : decode cX4_cutIntoTokens 13 = .ok (.invokevirtual 82, 3) := dk_182 0 82 (dk_at dksX4_cutIntoTokens_0 13 rfl rfl)
theorem dX4_cutIntoTokens_16 : decode cX4_cutIntoTokens 16 = .ok (.bipush 32, 2) := dk_16 32 (dk_at dksX4_cutIntoTokens_0 16 rfl rfl)
theorem dX4_cutIntoTokens_18 : decode cX4_cutIntoTokens 18 = .ok (.if_icmp .eq 13, 3) := dk_159 0 13 (dk_at dksX4_cutIntoTokens_0 18 rfl rfl)
theorem dX4_cutIntoTokens_21 : decode cX4_cutIntoTokens 21 = .ok (.aload_n 0, 1) := dk_42 (dk_at dksX4_cutIntoTokens_0 21 rfl rfl)
theorem dX4_cutIntoTokens_22 : decode cX4_cutIntoTokens 22 = .ok (.iload_n 1, 1) := dk_27 (dk_at dksX4_cutIntoTokens_0 22 rfl rfl)
theorem dX4_cutIntoTokens_23 : decode cX4_cutIntoTokens 23 = .ok (.invokevirtual 82, 3) := dk_182 0 82 (dk_at dksX4_cutIntoTokens_1 0 rfl rfl)
theorem dX4_cutIntoTokens_26 : decode cX4_cutIntoTokens 26 = .ok (.bipush 10, 2) := dk_16 10 (dk_at dksX4_cutIntoTokens_1 3 rfl rfl)
theorem dX4_cutIntoTokens_28 : decode cX4_cutIntoTokens 28 = .ok (.if_icmp .ne 9, 3) := dk_160 0 9 (dk_at dksX4_cutIntoTokens_1 5 rfl rfl)
theorem dX4_cutIntoTokens_31 : decode cX4_cutIntoTokens 31 = .ok (.iinc 1 1, 3) := dk_132 1 1 (dk_at dksX4_cutIntoTokens_1 8 rfl rfl)
theorem dX4_cutIntoTokens_34 : decode cX4_cutIntoTokens 34 = .ok (.goto (-23), 3) := dk_167 255 233 (dk_at dksX4_cutIntoTokens_1 11 rfl rfl)
theorem dX4_cutIntoTokens_37 : decode cX4_cutIntoTokens 37 = .ok (.aload_n 0, 1) := dk_42 (dk_at dksX4_cutIntoTokens_1 14 rfl rfl)
theorem dX4_cutIntoTokens_38 : decode cX4_cutIntoTokens 38 = .ok (.getfield 20, 3) := dk_180 0 20 (dk_at dksX4_cutIntoTokens_1 15 rfl rfl)
theorem dX4_cutIntoTokens_41 : decode cX4_cutIntoTokens 41 = .ok (.iload_n 2, 1) := dk_28 (dk_at dksX4_cutIntoTokens_1 18 rfl rfl)
theorem dX4_cutIntoTokens_42 : decode cX4_cutIntoTokens 42 = .ok (.iload_n 1, 1) := dk_27 (dk_at dksX4_cutIntoTokens_1 19 rfl rfl)
theorem dX4_cutIntoTokens_43 : decode cX4_cutIntoTokens 43 = .ok (.iastore, 1) := dk_79 (dk_at dksX4_cutIntoTokens_1 20 rfl rfl)
theorem dX4_cutIntoTokens_44 : decode cX4_cutIntoTokens 44 = .ok (.aload_n 0, 1) := dk_42 (dk_at dksX4_cutIntoTokens_1 21 rfl rfl)
theorem dX4_cutIntoTokens_45 : decode cX4_cutIntoTokens 45 = .ok (.getfield 26, 3) := dk_180 0 26 (dk_at dksX4_cutIntoTokens_2 0 rfl rfl)
theorem dX4_cutIntoTokens_48 : decode cX4_cutIntoTokens 48 = .ok (.iload_n 2, 1) := dk_28 (dk_at dksX4_cutIntoTokens_2 3 rfl rfl)
theorem dX4_cutIntoTokens_49 : decode cX4_cutIntoTokens 49 = .ok (.iconst 0, 1) := dk_3 (dk_at dksX4_cutIntoTokens_2 4 rfl rfl)
theorem dX4_cutIntoTokens_50 : decode cX4_cutIntoTokens 50 = .ok (.iastore, 1) := dk_79 (dk_at dksX4_cutIntoTokens_2 5 rfl rfl)
theorem dX4_cutIntoTokens_51 : decode cX4_cutIntoTokens 51 = .ok (.aload_n 0, 1) := dk_42 (dk_at dksX4_cutIntoTokens_2 6 rfl rfl)
theorem dX4_cutIntoTokens_52 : decode cX4_cutIntoTokens 52 = .ok (.getfield 29, 3) := dk_180 0 29 (dk_at dksX4_cutIntoTokens_2 7 rfl rfl)
theorem dX4_cutIntoTokens_55 : decode cX4_cutIntoTokens 55 = .ok (.iload_n 2, 1) := dk_28 (dk_at dksX4_cutIntoTokens_2 10 rfl rfl)
theorem dX4_cutIntoTokens_56 : decode cX4_cutIntoTokens 56 = .ok (.iconst 0, 1) := dk_3 (dk_at dksX4_cutIntoTokens_2 11 rfl rfl)
theorem dX4_cutIntoTokens_57 : decode cX4_cutIntoTokens 57 = .ok (.iastore, 1) := dk_79 (dk_at dksX4_cutIntoTokens_2 12 rfl rfl)
theorem dX4_cutIntoTokens_58 : decode cX4_cutIntoTokens 58 = .ok (.aload_n 0, 1) := dk_42 (dk_at dksX4_cutIntoTokens_2 13 rfl rfl)
theorem dX4_cutIntoTokens_59 : decode cX4_cutIntoTokens 59 = .ok (.getfield 17, 3) := dk_180 0 17 (dk_at dksX4_cutIntoTokens_2 14 rfl rfl)
theorem dX4_cutIntoTokens_62 : decode cX4_cutIntoTokens 62 = .ok (.iload_n 2, 1) := dk_28 (dk_at dksX4_cutIntoTokens_2 17 rfl rfl)
theorem dX4_cutIntoTokens_63 : decode cX4_cutIntoTokens 63 = .ok (.aload_n 0, 1) := dk_42 (dk_at dksX4_cutIntoTokens_2 18 rfl rfl)
theorem dX4_cutIntoTokens_64 : decode cX4_cutIntoTokens 64 = .ok (.iload_n 1, 1) := dk_27 (dk_at dksX4_cutIntoTokens_2 19 rfl rfl)
theorem dX4_cutIntoTokens_65 : decode cX4_cutIntoTokens 65 = .ok (.iload_n 2, 1) := dk_28 (dk_at dksX4_cutIntoTokens_2 20 rfl rfl)
theorem dX4_cutIntoTokens_66 : decode cX4_cutIntoTokens 66 = .ok (.invokevirtual 110, 3) := dk_182 0 110 (dk_at dksX4_cutIntoTokens_2 21 rfl rfl)
theorem dX4_cutIntoTokens_69 : decode cX4_cutIntoTokens 69 = .ok (.iastore, 1) := dk_79 (dk_at dksX4_cutIntoTokens_3 0 rfl rfl)
theorem dX4_cutIntoTokens_70 : decode cX4_cutIntoTokens 70 = .ok (.iload_n 2, 1) := dk_28 (dk_at dksX4_cutIntoTokens_3 1 rfl rfl)
theorem dX4_cutIntoTokens_71 : decode cX4_cutIntoTokens 71 = .ok (.sipush 400, 3) := dk_17 1 144 (dk_at dksX4_cutIntoTokens_3 2 rfl rfl)
theorem dX4_cutIntoTokens_74 : decode cX4_cutIntoTokens 74 = .ok (.if_icmp .ne 24, 3) := dk_160 0 24 (dk_at dksX4_cutIntoTokens_3 5 rfl rfl)
theorem dX4_cutIntoTokens_77 : decode cX4_cutIntoTokens 77 = .ok (.aload_n 0, 1) := dk_42 (dk_at dksX4_cutIntoTokens_3 8 rfl rfl)
theorem dX4_cutIntoTokens_78 : decode cX4_cutIntoTokens 78 = .ok (.getfield 17, 3) := dk_180 0 17 (dk_at dksX4_cutIntoTokens_3 9 rfl rfl)
theorem dX4_cutIntoTokens_81 : decode cX4_cutIntoTokens 81 = .ok (.iload_n 2, 1) := dk_28 (dk_at dksX4_cutIntoTokens_3 12 rfl rfl)
theorem dX4_cutIntoTokens_82 : decode cX4_cutIntoTokens 82 = .ok (.iaload, 1) := dk_46 (dk_at dksX4_cutIntoTokens_3 13 rfl rfl)
theorem dX4_cutIntoTokens_83 : decode cX4_cutIntoTokens 83 = .ok (.sipush 900, 3) := dk_17 3 132 (dk_at dksX4_cutIntoTokens_3 14 rfl rfl)
theorem dX4_cutIntoTokens_86 : decode cX4_cutIntoTokens 86 = .ok (.if_icmp .eq 12, 3) := dk_159 0 12 (dk_at dksX4_cutIntoTokens_3 17 rfl rfl)
theorem dX4_cutIntoTokens_89 : decode cX4_cutIntoTokens 89 = .ok (.aload_n 0, 1) := dk_42 (dk_at dksX4_cutIntoTokens_3 20 rfl rfl)
theorem dX4_cutIntoTokens_90 : decode cX4_cutIntoTokens 90 = .ok (.getfield 17, 3) := dk_180 0 17 (dk_at dksX4_cutIntoTokens_3 21 rfl rfl)
theorem dX4_cutIntoTokens_93 : decode cX4_cutIntoTokens 93 = .ok (.iload_n 2, 1) := dk_28 (dk_at dksX4_cutIntoTokens_4 0 rfl rfl)
theorem dX4_cutIntoTokens_94 : decode cX4_cutIntoTokens 94 = .ok (.sipush 901, 3) := dk_17 3 133 (dk_at dksX4_cutIntoTokens_4 1 rfl rfl)
theorem dX4_cutIntoTokens_97 : decode cX4_cutIntoTokens 97 = .ok (.iastore, 1) := dk_79 (dk_at dksX4_cutIntoTokens_4 4 rfl rfl)
theorem dX4_cutIntoTokens_98 : decode cX4_cutIntoTokens 98 = .ok (.aload_n 0, 1) := dk_42 (dk_at dksX4_cutIntoTokens_4 5 rfl rfl)
theorem dX4_cutIntoTokens_99 : decode cX4_cutIntoTokens 99 = .ok (.getfield 17, 3) := dk_180 0 17 (dk_at dksX4_cutIntoTokens_4 6 rfl rfl)
theorem dX4_cutIntoTokens_102 : decode cX4_cutIntoTokens 102 = .ok (.iload_n 2, 1) := dk_28 (dk_at dksX4_cutIntoTokens_4 9 rfl rfl)
theorem dX4_cutIntoTokens_103 : decode cX4_cutIntoTokens 103 = .ok (.iaload, 1) := dk_46 (dk_at dksX4_cutIntoTokens_4 10 rfl rfl)
theorem dX4_cutIntoTokens_104 : decode cX4_cutIntoTokens 104 = .ok (.sipush 900, 3) := dk_17 3 132 (dk_at dksX4_cutIntoTokens_4 11 rfl rfl)
theorem dX4_cutIntoTokens_107 : decode cX4_cutIntoTokens 107 = .ok (.if_icmp .lt 4, 3) := dk_161 0 4 (dk_at dksX4_cutIntoTokens_4 14 rfl rfl)
theorem dX4_cutIntoTokens_110 : decode cX4_cutIntoTokens 110 = .ok (.return_, 1) := dk_177 (dk_at dksX4_cutIntoTokens_4 17 rfl rfl)
theorem dX4_cutIntoTokens_111 : decode cX4_cutIntoTokens 111 = .ok (.iload_n 1, 1) := dk_27 (dk_at dksX4_cutIntoTokens_4 18 rfl rfl)
theorem dX4_cutIntoTokens_112 : decode cX4_cutIntoTokens 112 = .ok (.aload_n 0, 1) := dk_42 (dk_at dksX4_cutIntoTokens_4 19 rfl rfl)
theorem dX4_cutIntoTokens_113 : decode cX4_cutIntoTokens 113 = .ok (.getfield 23, 3) := dk_180 0 23 (dk_at dksX4_cutIntoTokens_4 20 rfl rfl)
theorem dX4_cutIntoTokens_116 : decode cX4_cutIntoTokens 116 = .ok (.iload_n 2, 1) := dk_28 (dk_at dksX4_cutIntoTokens_4 23 rfl rfl)
theorem dX4_cutIntoTokens_117 : decode cX4_cutIntoTokens 117 = .ok (.iaload, 1) := dk_46 (dk_at dksX4_cutIntoTokens_5 0 rfl rfl)
theorem dX4_cutIntoTokens_118 : decode cX4_cutIntoTokens 118 = .ok (.iadd, 1) := dk_96 (dk_at dksX4_cutIntoTokens_5 1 rfl rfl)
theorem dX4_cutIntoTokens_119 : decode cX4_cutIntoTokens 119 = .ok (.istore_n 1, 1) := dk_60 (dk_at dksX4_cutIntoTokens_5 2 rfl rfl)
theorem dX4_cutIntoTokens_120 : decode cX4_cutIntoTokens 120 = .ok (.iinc 2 1, 3) := dk_132 2 1 (dk_at dksX4_cutIntoTokens_5 3 rfl rfl)
theorem dX4_cutIntoTokens_123 : decode cX4_cutIntoTokens 123 = .ok (.goto (-119), 3) := dk_167 255 137 (dk_at dksX4_cutIntoTokens_5 6 rfl rfl)
theorem dX4_cutIntoTokens_126 : decode cX4_cutIntoTokens 126 = .ok (.return_, 1) := dk_177 (dk_at dksX4_cutIntoTokens_5 9 rfl rfl)
abbrev cX4_byteOf : ByteArray := prog_41_method_12_code
def yX4_byteOf : MethodName := ⟨RX4, "byteOf", "(I)I"⟩
def dkwX4_byteOf_0 : List UInt8 := [27, 42, 180, 0, 79, 162, 0, 12, 42, 180, 0, 9, 27, 46, 167, 0, 4, 2, 172]
abbrev dktX4_byteOf_0 : List UInt8 := dkwX4_byteOf_0 ++ []
theorem dksX4_byteOf_0 : cX4_byteOf.data.toList.drop 0 = dktX4_byteOf_0 := by decide +kernel
theorem dX4_byteOf_0 : decode cX4_byteOf 0 = .ok (.iload_n 1, 1) := dk_27 (dk_at dksX4_byteOf_0 0 rfl rfl)
theorem dX4_byteOf_1 : decode cX4_byteOf 1 = .ok (.aload_n 0, 1) := dk_42 (dk_at dksX4_byteOf_0 1 rfl rfl)
theorem dX4_byteOf_2 : decode cX4_byteOf 2 = .ok (.getfield 79, 3) := dk_180 0 79 (dk_at dksX4_byteOf_0 2 rfl rfl)
theorem dX4_byteOf_5 : decode cX4_byteOf 5 = .ok (.if_icmp .ge 12, 3) := dk_162 0 12 (dk_at dksX4_byteOf_0 5 rfl rfl)
theorem dX4_byteOf_8 : decode cX4_byteOf 8 = .ok (.aload_n 0, 1) := dk_42 (dk_at dksX4_byteOf_0 8 rfl rfl)
theorem dX4_byteOf_9 : decode cX4_byteOf 9 = .ok (.getfield 9, 3) := dk_180 0 9 (dk_at dksX4_byteOf_0 9 rfl rfl)
theorem dX4_byteOf_12 : decode cX4_byteOf 12 = .ok (.iload_n 1, 1) := dk_27 (dk_at dksX4_byteOf_0 12 rfl rfl)
theorem dX4_byteOf_13 : decode cX4_byteOf 13 = .ok (.iaload, 1) := dk_46 (dk_at dksX4_byteOf_0 13 rfl rfl)
theorem dX4_byteOf_14 : decode cX4_byteOf 14 = .ok (.goto 4, 3) := dk_167 0 4 (dk_at dksX4_byteOf_0 14 rfl rfl)
theorem dX4_byteOf_17 : decode cX4_byteOf 17 = .ok (.iconst (-1), 1) := dk_2 (dk_at dksX4_byteOf_0 17 rfl rfl)
theorem dX4_byteOf_18 : decode cX4_byteOf 18 = .ok (.ireturn, 1) := dk_172 (dk_at dksX4_byteOf_0 18 rfl rfl)
abbrev cX4_kindAt : ByteArray := prog_41_method_13_code
def yX4_kindAt : MethodName := ⟨RX4, "kindAt", "(II)I"⟩
def dkwX4_kindAt_13 : List UInt8 := [17, 3, 133, 172]
abbrev dktX4_kindAt_13 : List UInt8 := dkwX4_kindAt_13 ++ []
def dkwX4_kindAt_12 : List UInt8 := [159, 0, 15, 29, 16, 62, 159, 0, 9, 29, 16, 61, 160, 0, 10, 16, 32, 29, 96, 167, 0, 6]
abbrev dktX4_kindAt_12 : List UInt8 := dkwX4_kindAt_12 ++ dktX4_kindAt_13
def dkwX4_kindAt_11 : List UInt8 := [159, 0, 39, 29, 16, 42, 159, 0, 33, 29, 16, 47, 159, 0, 27, 29, 16, 37, 159, 0, 21, 29, 16, 60]
abbrev dktX4_kindAt_11 : List UInt8 := dkwX4_kindAt_11 ++ dktX4_kindAt_12
def dkwX4_kindAt_10 : List UInt8 := [159, 0, 63, 29, 16, 59, 159, 0, 57, 29, 16, 44, 159, 0, 51, 29, 16, 43, 159, 0, 45, 29, 16, 45]
abbrev dktX4_kindAt_10 : List UInt8 := dkwX4_kindAt_10 ++ dktX4_kindAt_11
def dkwX4_kindAt_9 : List UInt8 := [172, 29, 16, 40, 159, 0, 81, 29, 16, 41, 159, 0, 75, 29, 16, 91, 159, 0, 69, 29, 16, 93]
abbrev dktX4_kindAt_9 : List UInt8 := dkwX4_kindAt_9 ++ dktX4_kindAt_10
def dkwX4_kindAt_8 : List UInt8 := [29, 16, 60, 160, 0, 9, 17, 3, 32, 167, 0, 6, 17, 3, 33, 172, 29, 2, 160, 0, 7, 17, 3, 132]
abbrev dktX4_kindAt_8 : List UInt8 := dkwX4_kindAt_8 ++ dktX4_kindAt_9
def dkwX4_kindAt_7 : List UInt8 := [3, 54, 5, 42, 180, 0, 23, 28, 21, 5, 153, 0, 7, 5, 167, 0, 4, 4, 79, 21, 5, 153, 0, 19]
abbrev dktX4_kindAt_7 : List UInt8 := dkwX4_kindAt_7 ++ dktX4_kindAt_8
def dkwX4_kindAt_6 : List UInt8 := [159, 0, 9, 29, 16, 62, 160, 0, 18, 42, 21, 4, 182, 0, 82, 16, 61, 160, 0, 7, 4, 167, 0, 4]
abbrev dktX4_kindAt_6 : List UInt8 := dkwX4_kindAt_6 ++ dktX4_kindAt_7
def dkwX4_kindAt_5 : List UInt8 := [79, 21, 4, 27, 100, 16, 6, 164, 0, 9, 17, 3, 133, 167, 0, 5, 16, 31, 172, 29, 16, 60]
abbrev dktX4_kindAt_5 : List UInt8 := dkwX4_kindAt_5 ++ dktX4_kindAt_6
def dkwX4_kindAt_4 : List UInt8 := [182, 0, 82, 184, 0, 90, 153, 0, 9, 132, 4, 1, 167, 255, 241, 42, 180, 0, 23, 28, 21, 4, 27, 100]
abbrev dktX4_kindAt_4 : List UInt8 := dkwX4_kindAt_4 ++ dktX4_kindAt_5
def dkwX4_kindAt_3 : List UInt8 := [167, 0, 12, 42, 27, 21, 4, 27, 100, 182, 0, 93, 172, 29, 184, 0, 90, 153, 0, 49, 42, 21, 4]
abbrev dktX4_kindAt_3 : List UInt8 := dkwX4_kindAt_3 ++ dktX4_kindAt_4
def dkwX4_kindAt_2 : List UInt8 := [42, 180, 0, 23, 28, 21, 4, 27, 100, 79, 21, 4, 27, 100, 16, 12, 164, 0, 9, 17, 3, 133]
abbrev dktX4_kindAt_2 : List UInt8 := dkwX4_kindAt_2 ++ dktX4_kindAt_3
def dkwX4_kindAt_1 : List UInt8 := [184, 0, 86, 154, 0, 15, 42, 21, 4, 182, 0, 82, 184, 0, 90, 153, 0, 9, 132, 4, 1, 167, 255, 229]
abbrev dktX4_kindAt_1 : List UInt8 := dkwX4_kindAt_1 ++ dktX4_kindAt_2
def dkwX4_kindAt_0 : List UInt8 := [42, 27, 182, 0, 82, 62, 27, 4, 96, 54, 4, 29, 184, 0, 86, 153, 0, 68, 42, 21, 4, 182, 0, 82]
abbrev dktX4_kindAt_0 : List UInt8 := dkwX4_kindAt_0 ++ dktX4_kindAt_1
theorem dksX4_kindAt_0 : cX4_kindAt.data.toList.drop 0 = dktX4_kindAt_0 := by decide +kernel
theorem dksX4_kindAt_1 : cX4_kindAt.data.toList.drop 24 = dktX4_kindAt_1 := dk_seg dksX4_kindAt_0 24 rfl rfl
theorem dksX4_kindAt_2 : cX4_kindAt.data.toList.drop 48 = dktX4_kindAt_2 := dk_seg dksX4_kindAt_1 24 rfl rfl
theorem dksX4_kindAt_3 : cX4_kindAt.data.toList.drop 70 = dktX4_kindAt_3 := dk_seg dksX4_kindAt_2 22 rfl rfl
theorem dksX4_kindAt_4 : cX4_kindAt.data.toList.drop 93 = dktX4_kindAt_4 := dk_seg dksX4_kindAt_3 23 rfl rfl
theorem dksX4_kindAt_5 : cX4_kindAt.data.toList.drop 117 = dktX4_kindAt_5 := dk_seg dksX4_kindAt_4 24 rfl rfl
theorem dksX4_kindAt_6 : cX4_kindAt.data.toList.drop 139 = dktX4_kindAt_6 := dk_seg dksX4_kindAt_5 22 rfl rfl
theorem dksX4_kindAt_7 : cX4_kindAt.data.toList.drop 163 = dktX4_kindAt_7 := dk_seg dksX4_kindAt_6 24 rfl rfl
theorem dksX4_kindAt_8 : cX4_kindAt.data.toList.drop 187 = dktX4_kindAt_8 := dk_seg dksX4_kindAt_7 24 rfl rfl
theorem dksX4_kindAt_9 : cX4_kindAt.data.toList.drop 211 = dktX4_kindAt_9 := dk_seg dksX4_kindAt_8 24 rfl rfl
theorem dksX4_kindAt_10 : cX4_kindAt.data.toList.drop 233 = dktX4_kindAt_10 := dk_seg dksX4_kindAt_9 22 rfl rfl
theorem dksX4_kindAt_11 : cX4_kindAt.data.toList.drop 257 = dktX4_kindAt_11 := dk_seg dksX4_kindAt_10 24 rfl rfl
theorem dksX4_kindAt_12 : cX4_kindAt.data.toList.drop 281 = dktX4_kindAt_12 := dk_seg dksX4_kindAt_11 24 rfl rfl
theorem dksX4_kindAt_13 : cX4_kindAt.data.toList.drop 303 = dktX4_kindAt_13 := dk_seg dksX4_kindAt_12 22 rfl rfl
theorem dX4_kindAt_0 : decode cX4_kindAt 0 = .ok (.aload_n 0, 1) := dk_42 (dk_at dksX4_kindAt_0 0 rfl rfl)
theorem dX4_kindAt_1 : decode cX4_kindAt 1 = .ok (.iload_n 1, 1) := dk_27 (dk_at dksX4_kindAt_0 1 rfl rfl)
theorem dX4_kindAt_2 : decode cX4_kindAt 2 = .ok (.invokevirtual 82, 3) := dk_182 0 82 (dk_at dksX4_kindAt_0 2 rfl rfl)
theorem dX4_kindAt_5 : decode cX4_kindAt 5 = .ok (.istore_n 3, 1) := dk_62 (dk_at dksX4_kindAt_0 5 rfl rfl)
theorem dX4_kindAt_6 : decode cX4_kindAt 6 = .ok (.iload_n 1, 1) := dk_27 (dk_at dksX4_kindAt_0 6 rfl rfl)
theorem dX4_kindAt_7 : decode cX4_kindAt 7 = .ok (.iconst 1, 1) := dk_4 (dk_at dksX4_kindAt_0 7 rfl rfl)
theorem dX4_kindAt_8 : decode cX4_kindAt 8 = .ok (.iadd, 1) := dk_96 (dk_at dksX4_kindAt_0 8 rfl rfl)
theorem dX4_kindAt_9 : decode cX4_kindAt 9 = .ok (.istore 4, 2) := dk_54 4 (dk_at dksX4_kindAt_0 9 rfl rfl)
theorem dX4_kindAt_11 : decode cX4_kindAt 11 = .ok (.iload_n 3, 1) := dk_29 (dk_at dksX4_kindAt_0 11 rfl rfl)
theorem dX4_kindAt_12 : decode cX4_kindAt 12 = .ok (.invokestatic 86, 3) := dk_184 0 86 (dk_at dksX4_kindAt_0 12 rfl rfl)
theorem dX4_kindAt_15 : decode cX4_kindAt 15 = .ok (.ifCond .eq 68, 3) := dk_153 0 68 (dk_at dksX4_kindAt_0 15 rfl rfl)
theorem dX4_kindAt_18 : decode cX4_kindAt 18 = .ok (.aload_n 0, 1) := dk_42 (dk_at dksX4_kindAt_0 18 rfl rfl)
theorem dX4_kindAt_19 : decode cX4_kindAt 19 = .ok (.iload 4, 2) := dk_21 4 (dk_at dksX4_kindAt_0 19 rfl rfl)
theorem dX4_kindAt_21 : decode cX4_kindAt 21 = .ok (.invokevirtual 82, 3) := dk_182 0 82 (dk_at dksX4_kindAt_0 21 rfl rfl)
theorem dX4_kindAt_24 : decode cX4_kindAt 24 = .ok (.invokestatic 86, 3) := dk_184 0 86 (dk_at dksX4_kindAt_1 0 rfl rfl)
theorem dX4_kindAt_27 : decode cX4_kindAt 27 = .ok (.ifCond .ne 15, 3) := dk_154 0 15 (dk_at dksX4_kindAt_1 3 rfl rfl)
theorem dX4_kindAt_30 : decode cX4_kindAt 30 = .ok (.aload_n 0, 1) := dk_42 (dk_at dksX4_kindAt_1 6 rfl rfl)
theorem dX4_kindAt_31 : decode cX4_kindAt 31 = .ok (.iload 4, 2) := dk_21 4 (dk_at dksX4_kindAt_1 7 rfl rfl)
theorem dX4_kindAt_33 : decode cX4_kindAt 33 = .ok (.invokevirtual 82, 3) := dk_182 0 82 (dk_at dksX4_kindAt_1 9 rfl rfl)
theorem dX4_kindAt_36 : decode cX4_kindAt 36 = .ok (.invokestatic 90, 3) := dk_184 0 90 (dk_at dksX4_kindAt_1 12 rfl rfl)
theorem dX4_kindAt_39 : decode cX4_kindAt 39 = .ok (.ifCond .eq 9, 3) := dk_153 0 9 (dk_at dksX4_kindAt_1 15 rfl rfl)
theorem dX4_kindAt_42 : decode cX4_kindAt 42 = .ok (.iinc 4 1, 3) := dk_132 4 1 (dk_at dksX4_kindAt_1 18 rfl rfl)
theorem dX4_kindAt_45 : decode cX4_kindAt 45 = .ok (.goto (-27), 3) := dk_167 255 229 (dk_at dksX4_kindAt_1 21 rfl rfl)
theorem dX4_kindAt_48 : decode cX4_kindAt 48 = .ok (.aload_n 0, 1) := dk_42 (dk_at dksX4_kindAt_2 0 rfl rfl)
theorem dX4_kindAt_49 : decode cX4_kindAt 49 = .ok (.getfield 23, 3) := dk_180 0 23 (dk_at dksX4_kindAt_2 1 rfl rfl)
theorem dX4_kindAt_52 : decode cX4_kindAt 52 = .ok (.iload_n 2, 1) := dk_28 (dk_at dksX4_kindAt_2 4 rfl rfl)
theorem dX4_kindAt_53 : decode cX4_kindAt 53 = .ok (.iload 4, 2) := dk_21 4 (dk_at dksX4_kindAt_2 5 rfl rfl)
theorem dX4_kindAt_55 : decode cX4_kindAt 55 = .ok (.iload_n 1, 1) := dk_27 (dk_at dksX4_kindAt_2 7 rfl rfl)
theorem dX4_kindAt_56 : decode cX4_kindAt 56 = .ok (.isub, 1) := dk_100 (dk_at dksX4_kindAt_2 8 rfl rfl)
theorem dX4_kindAt_57 : decode cX4_kindAt 57 = .ok (.iastore, 1) := dk_79 (dk_at dksX4_kindAt_2 9 rfl rfl)
theorem dX4_kindAt_58 : decode cX4_kindAt 58 = .ok (.iload 4, 2) := dk_21 4 (dk_at dksX4_kindAt_2 10 rfl rfl)
theorem dX4_kindAt_60 : decode cX4_kindAt 60 = .ok (.iload_n 1, 1) := dk_27 (dk_at dksX4_kindAt_2 12 rfl rfl)
theorem dX4_kindAt_61 : decode cX4_kindAt 61 = .ok (.isub, 1) := dk_100 (dk_at dksX4_kindAt_2 13 rfl rfl)
theorem dX4_kindAt_62 : decode cX4_kindAt 62 = .ok (.bipush 12, 2) := dk_16 12 (dk_at dksX4_kindAt_2 14 rfl rfl)
theorem dX4_kindAt_64 : decode cX4_kindAt 64 = .ok (.if_icmp .le 9, 3) := dk_164 0 9 (dk_at dksX4_kindAt_2 16 rfl rfl)
theorem dX4_kindAt_67 : decode cX4_kindAt 67 = .ok (.sipush 901, 3) := dk_17 3 133 (dk_at dksX4_kindAt_2 19 rfl rfl)
theorem dX4_kindAt_70 : decode cX4_kindAt 70 = .ok (.goto 12, 3) := dk_167 0 12 (dk_at dksX4_kindAt_3 0 rfl rfl)
theorem dX4_kindAt_73 : decode cX4_kindAt 73 = .ok (.aload_n 0, 1) := dk_42 (dk_at dksX4_kindAt_3 3 rfl rfl)
theorem dX4_kindAt_74 : decode cX4_kindAt 74 = .ok (.iload_n 1, 1) := dk_27 (dk_at dksX4_kindAt_3 4 rfl rfl)
theorem dX4_kindAt_75 : decode cX4_kindAt 75 = .ok (.iload 4, 2) := dk_21 4 (dk_at dksX4_kindAt_3 5 rfl rfl)
theorem dX4_kindAt_77 : decode cX4_kindAt 77 = .ok (.iload_n 1, 1) := dk_27 (dk_at dksX4_kindAt_3 7 rfl rfl)
theorem dX4_kindAt_78 : decode cX4_kindAt 78 = .ok (.isub, 1) := dk_100 (dk_at dksX4_kindAt_3 8 rfl rfl)
theorem dX4_kindAt_79 : decode cX4_kindAt 79 = .ok (.invokevirtual 93, 3) := dk_182 0 93 (dk_at dksX4_kindAt_3 9 rfl rfl)
theorem dX4_kindAt_82 : decode cX4_kindAt 82 = .ok (.ireturn, 1) := dk_172 (dk_at dksX4_kindAt_3 12 rfl rfl)
theorem dX4_kindAt_83 : decode cX4_kindAt 83 = .ok (.iload_n 3, 1) := dk_29 (dk_at dksX4_kindAt_3 13 rfl rfl)
theorem dX4_kindAt_84 : decode cX4_kindAt 84 = .ok (.invokestatic 90, 3) := dk_184 0 90 (dk_at dksX4_kindAt_3 14 rfl rfl)
theorem dX4_kindAt_87 : decode cX4_kindAt 87 = .ok (.ifCond .eq 49, 3) := dk_153 0 49 (dk_at dksX4_kindAt_3 17 rfl rfl)
theorem dX4_kindAt_90 : decode cX4_kindAt 90 = .ok (.aload_n 0, 1) := dk_42 (dk_at dksX4_kindAt_3 20 rfl rfl)
theorem dX4_kindAt_91 : decode cX4_kindAt 91 = .ok (.iload 4, 2) := dk_21 4 (dk_at dksX4_kindAt_3 21 rfl rfl)
theorem dX4_kindAt_93 : decode cX4_kindAt 93 = .ok (.invokevirtual 82, 3) := dk_182 0 82 (dk_at dksX4_kindAt_4 0 rfl rfl)
theorem dX4_kindAt_96 : decode cX4_kindAt 96 = .ok (.invokestatic 90, 3) := dk_184 0 90 (dk_at dksX4_kindAt_4 3 rfl rfl)
theorem dX4_kindAt_99 : decode cX4_kindAt 99 = .ok (.ifCond .eq 9, 3) := dk_153 0 9 (dk_at dksX4_kindAt_4 6 rfl rfl)
theorem dX4_kindAt_102 : decode cX4_kindAt 102 = .ok (.iinc 4 1, 3) := dk_132 4 1 (dk_at dksX4_kindAt_4 9 rfl rfl)
theorem dX4_kindAt_105 : decode cX4_kindAt 105 = .ok (.goto (-15), 3) := dk_167 255 241 (dk_at dksX4_kindAt_4 12 rfl rfl)
theorem dX4_kindAt_108 : decode cX4_kindAt 108 = .ok (.aload_n 0, 1) := dk_42 (dk_at dksX4_kindAt_4 15 rfl rfl)
theorem dX4_kindAt_109 : decode cX4_kindAt 109 = .ok (.getfield 23, 3) := dk_180 0 23 (dk_at dksX4_kindAt_4 16 rfl rfl)
theorem dX4_kindAt_112 : decode cX4_kindAt 112 = .ok (.iload_n 2, 1) := dk_28 (dk_at dksX4_kindAt_4 19 rfl rfl)
theorem dX4_kindAt_113 : decode cX4_kindAt 113 = .ok (.iload 4, 2) := dk_21 4 (dk_at dksX4_kindAt_4 20 rfl rfl)
theorem dX4_kindAt_115 : decode cX4_kindAt 115 = .ok (.iload_n 1, 1) := dk_27 (dk_at dksX4_kindAt_4 22 rfl rfl)
theorem dX4_kindAt_116 : decode cX4_kindAt 116 = .ok (.isub, 1) := dk_100 (dk_at dksX4_kindAt_4 23 rfl rfl)
theorem dX4_kindAt_117 : decode cX4_kindAt 117 = .ok (.iastore, 1) := dk_79 (dk_at dksX4_kindAt_5 0 rfl rfl)
theorem dX4_kindAt_118 : decode cX4_kindAt 118 = .ok (.iload 4, 2) := dk_21 4 (dk_at dksX4_kindAt_5 1 rfl rfl)
theorem dX4_kindAt_120 : decode cX4_kindAt 120 = .ok (.iload_n 1, 1) := dk_27 (dk_at dksX4_kindAt_5 3 rfl rfl)
theorem dX4_kindAt_121 : decode cX4_kindAt 121 = .ok (.isub, 1) := dk_100 (dk_at dksX4_kindAt_5 4 rfl rfl)
theorem dX4_kindAt_122 : decode cX4_kindAt 122 = .ok (.bipush 6, 2) := dk_16 6 (dk_at dksX4_kindAt_5 5 rfl rfl)
theorem dX4_kindAt_124 : decode cX4_kindAt 124 = .ok (.if_icmp .le 9, 3) := dk_164 0 9 (dk_at dksX4_kindAt_5 7 rfl rfl)
theorem dX4_kindAt_127 : decode cX4_kindAt 127 = .ok (.sipush 901, 3) := dk_17 3 133 (dk_at dksX4_kindAt_5 10 rfl rfl)
theorem dX4_kindAt_130 : decode cX4_kindAt 130 = .ok (.goto 5, 3) := dk_167 0 5 (dk_at dksX4_kindAt_5 13 rfl rfl)
theorem dX4_kindAt_133 : decode cX4_kindAt 133 = .ok (.bipush 31, 2) := dk_16 31 (dk_at dksX4_kindAt_5 16 rfl rfl)
theorem dX4_kindAt_135 : decode cX4_kindAt 135 = .ok (.ireturn, 1) := dk_172 (dk_at dksX4_kindAt_5 18 rfl rfl)
theorem dX4_kindAt_136 : decode cX4_kindAt 136 = .ok (.iload_n 3, 1) := dk_29 (dk_at dksX4_kindAt_5 19 rfl rfl)
theorem dX4_kindAt_137 : decode cX4_kindAt 137 = .ok (.bipush 60, 2) := dk_16 60 (dk_at dksX4_kindAt_5 20 rfl rfl)
theorem dX4_kindAt_139 : decode cX4_kindAt 139 = .ok (.if_icmp .eq 9, 3) := dk_159 0 9 (dk_at dksX4_kindAt_6 0 rfl rfl)
theorem dX4_kindAt_142 : decode cX4_kindAt 142 = .ok (.iload_n 3, 1) := dk_29 (dk_at dksX4_kindAt_6 3 rfl rfl)
theorem dX4_kindAt_143 : decode cX4_kindAt 143 = .ok (.bipush 62, 2) := dk_16 62 (dk_at dksX4_kindAt_6 4 rfl rfl)
theorem dX4_kindAt_145 : decode cX4_kindAt 145 = .ok (.if_icmp .ne 18, 3) := dk_160 0 18 (dk_at dksX4_kindAt_6 6 rfl rfl)
theorem dX4_kindAt_148 : decode cX4_kindAt 148 = .ok (.aload_n 0, 1) := dk_42 (dk_at dksX4_kindAt_6 9 rfl rfl)
theorem dX4_kindAt_149 : decode cX4_kindAt 149 = .ok (.iload 4, 2) := dk_21 4 (dk_at dksX4_kindAt_6 10 rfl rfl)
theorem dX4_kindAt_151 : decode cX4_kindAt 151 = .ok (.invokevirtual 82, 3) := dk_182 0 82 (dk_at dksX4_kindAt_6 12 rfl rfl)
theorem dX4_kindAt_154 : decode cX4_kindAt 154 = .ok (.bipush 61, 2) := dk_16 61 (dk_at dksX4_kindAt_6 15 rfl rfl)
theorem dX4_kindAt_156 : decode cX4_kindAt 156 = .ok (.if_icmp .ne 7, 3) := dk_160 0 7 (dk_at dksX4_kindAt_6 17 rfl rfl)
theorem dX4_kindAt_159 : decode cX4_kindAt 159 = .ok (.iconst 1, 1) := dk_4 (dk_at dksX4_kindAt_6 20 rfl rfl)
theorem dX4_kindAt_160 : decode cX4_kindAt 160 = .ok (.goto 4, 3) := dk_167 0 4 (dk_at dksX4_kindAt_6 21 rfl rfl)
theorem dX4_kindAt_163 : decode cX4_kindAt 163 = .ok (.iconst 0, 1) := dk_3 (dk_at dksX4_kindAt_7 0 rfl rfl)
theorem dX4_kindAt_164 : decode cX4_kindAt 164 = .ok (.istore 5, 2) := dk_54 5 (dk_at dksX4_kindAt_7 1 rfl rfl)
theorem dX4_kindAt_166 : decode cX4_kindAt 166 = .ok (.aload_n 0, 1) := dk_42 (dk_at dksX4_kindAt_7 3 rfl rfl)
theorem dX4_kindAt_167 : decode cX4_kindAt 167 = .ok (.getfield 23, 3) := dk_180 0 23 (dk_at dksX4_kindAt_7 4 rfl rfl)
theorem dX4_kindAt_170 : decode cX4_kindAt 170 = .ok (.iload_n 2, 1) := dk_28 (dk_at dksX4_kindAt_7 7 rfl rfl)
theorem dX4_kindAt_171 : decode cX4_kindAt 171 = .ok (.iload 5, 2) := dk_21 5 (dk_at dksX4_kindAt_7 8 rfl rfl)
theorem dX4_kindAt_173 : decode cX4_kindAt 173 = .ok (.ifCond .eq 7, 3) := dk_153 0 7 (dk_at dksX4_kindAt_7 10 rfl rfl)
theorem dX4_kindAt_176 : decode cX4_kindAt 176 = .ok (.iconst 2, 1) := dk_5 (dk_at dksX4_kindAt_7 13 rfl rfl)
theorem dX4_kindAt_177 : decode cX4_kindAt 177 = .ok (.goto 4, 3) := dk_167 0 4 (dk_at dksX4_kindAt_7 14 rfl rfl)
theorem dX4_kindAt_180 : decode cX4_kindAt 180 = .ok (.iconst 1, 1) := dk_4 (dk_at dksX4_kindAt_7 17 rfl rfl)
theorem dX4_kindAt_181 : decode cX4_kindAt 181 = .ok (.iastore, 1) := dk_79 (dk_at dksX4_kindAt_7 18 rfl rfl)
theorem dX4_kindAt_182 : decode cX4_kindAt 182 = .ok (.iload 5, 2) := dk_21 5 (dk_at dksX4_kindAt_7 19 rfl rfl)
theorem dX4_kindAt_184 : decode cX4_kindAt 184 = .ok (.ifCond .eq 19, 3) := dk_153 0 19 (dk_at dksX4_kindAt_7 21 rfl rfl)
theorem dX4_kindAt_187 : decode cX4_kindAt 187 = .ok (.iload_n 3, 1) := dk_29 (dk_at dksX4_kindAt_8 0 rfl rfl)
theorem dX4_kindAt_188 : decode cX4_kindAt 188 = .ok (.bipush 60, 2) := dk_16 60 (dk_at dksX4_kindAt_8 1 rfl rfl)
theorem dX4_kindAt_190 : decode cX4_kindAt 190 = .ok (.if_icmp .ne 9, 3) := dk_160 0 9 (dk_at dksX4_kindAt_8 3 rfl rfl)
theorem dX4_kindAt_193 : decode cX4_kindAt 193 = .ok (.sipush 800, 3) := dk_17 3 32 (dk_at dksX4_kindAt_8 6 rfl rfl)
theorem dX4_kindAt_196 : decode cX4_kindAt 196 = .ok (.goto 6, 3) := dk_167 0 6 (dk_at dksX4_kindAt_8 9 rfl rfl)
theorem dX4_kindAt_199 : decode cX4_kindAt 199 = .ok (.sipush 801, 3) := dk_17 3 33 (dk_at dksX4_kindAt_8 12 rfl rfl)
theorem dX4_kindAt_202 : decode cX4_kindAt 202 = .ok (.ireturn, 1) := dk_172 (dk_at dksX4_kindAt_8 15 rfl rfl)
theorem dX4_kindAt_203 : decode cX4_kindAt 203 = .ok (.iload_n 3, 1) := dk_29 (dk_at dksX4_kindAt_8 16 rfl rfl)
theorem dX4_kindAt_204 : decode cX4_kindAt 204 = .ok (.iconst (-1), 1) := dk_2 (dk_at dksX4_kindAt_8 17 rfl rfl)
theorem dX4_kindAt_205 : decode cX4_kindAt 205 = .ok (.if_icmp .ne 7, 3) := dk_160 0 7 (dk_at dksX4_kindAt_8 18 rfl rfl)
theorem dX4_kindAt_208 : decode cX4_kindAt 208 = .ok (.sipush 900, 3) := dk_17 3 132 (dk_at dksX4_kindAt_8 21 rfl rfl)
theorem dX4_kindAt_211 : decode cX4_kindAt 211 = .ok (.ireturn, 1) := dk_172 (dk_at dksX4_kindAt_9 0 rfl rfl)
theorem dX4_kindAt_212 : decode cX4_kindAt 212 = .ok (.iload_n 3, 1) := dk_29 (dk_at dksX4_kindAt_9 1 rfl rfl)
theorem dX4_kindAt_213 : decode cX4_kindAt 213 = .ok (.bipush 40, 2) := dk_16 40 (dk_at dksX4_kindAt_9 2 rfl rfl)
theorem dX4_kindAt_215 : decode cX4_kindAt 215 = .ok (.if_icmp .eq 81, 3) := dk_159 0 81 (dk_at dksX4_kindAt_9 4 rfl rfl)
theorem dX4_kindAt_218 : decode cX4_kindAt 218 = .ok (.iload_n 3, 1) := dk_29 (dk_at dksX4_kindAt_9 7 rfl rfl)
theorem dX4_kindAt_219 : decode cX4_kindAt 219 = .ok (.bipush 41, 2) := dk_16 41 (dk_at dksX4_kindAt_9 8 rfl rfl)
theorem dX4_kindAt_221 : decode cX4_kindAt 221 = .ok (.if_icmp .eq 75, 3) := dk_159 0 75 (dk_at dksX4_kindAt_9 10 rfl rfl)
theorem dX4_kindAt_224 : decode cX4_kindAt 224 = .ok (.iload_n 3, 1) := dk_29 (dk_at dksX4_kindAt_9 13 rfl rfl)
theorem dX4_kindAt_225 : decode cX4_kindAt 225 = .ok (.bipush 91, 2) := dk_16 91 (dk_at dksX4_kindAt_9 14 rfl rfl)
theorem dX4_kindAt_227 : decode cX4_kindAt 227 = .ok (.if_icmp .eq 69, 3) := dk_159 0 69 (dk_at dksX4_kindAt_9 16 rfl rfl)
theorem dX4_kindAt_230 : decode cX4_kindAt 230 = .ok (.iload_n 3, 1) := dk_29 (dk_at dksX4_kindAt_9 19 rfl rfl)
theorem dX4_kindAt_231 : decode cX4_kindAt 231 = .ok (.bipush 93, 2) := dk_16 93 (dk_at dksX4_kindAt_9 20 rfl rfl)
theorem dX4_kindAt_233 : decode cX4_kindAt 233 = .ok (.if_icmp .eq 63, 3) := dk_159 0 63 (dk_at dksX4_kindAt_10 0 rfl rfl)
theorem dX4_kindAt_236 : decode cX4_kindAt 236 = .ok (.iload_n 3, 1) := dk_29 (dk_at dksX4_kindAt_10 3 rfl rfl)
theorem dX4_kindAt_237 : decode cX4_kindAt 237 = .ok (.bipush 59, 2) := dk_16 59 (dk_at dksX4_kindAt_10 4 rfl rfl)
theorem dX4_kindAt_239 : decode cX4_kindAt 239 = .ok (.if_icmp .eq 57, 3) := dk_159 0 57 (dk_at dksX4_kindAt_10 6 rfl rfl)
theorem dX4_kindAt_242 : decode cX4_kindAt 242 = .ok (.iload_n 3, 1) := dk_29 (dk_at dksX4_kindAt_10 9 rfl rfl)
theorem dX4_kindAt_243 : decode cX4_kindAt 243 = .ok (.bipush 44, 2) := dk_16 44 (dk_at dksX4_kindAt_10 10 rfl rfl)
theorem dX4_kindAt_245 : decode cX4_kindAt 245 = .ok (.if_icmp .eq 51, 3) := dk_159 0 51 (dk_at dksX4_kindAt_10 12 rfl rfl)
theorem dX4_kindAt_248 : decode cX4_kindAt 248 = .ok (.iload_n 3, 1) := dk_29 (dk_at dksX4_kindAt_10 15 rfl rfl)
theorem dX4_kindAt_249 : decode cX4_kindAt 249 = .ok (.bipush 43, 2) := dk_16 43 (dk_at dksX4_kindAt_10 16 rfl rfl)
theorem dX4_kindAt_251 : decode cX4_kindAt 251 = .ok (.if_icmp .eq 45, 3) := dk_159 0 45 (dk_at dksX4_kindAt_10 18 rfl rfl)
theorem dX4_kindAt_254 : decode cX4_kindAt 254 = .ok (.iload_n 3, 1) := dk_29 (dk_at dksX4_kindAt_10 21 rfl rfl)
theorem dX4_kindAt_255 : decode cX4_kindAt 255 = .ok (.bipush 45, 2) := dk_16 45 (dk_at dksX4_kindAt_10 22 rfl rfl)
theorem dX4_kindAt_257 : decode cX4_kindAt 257 = .ok (.if_icmp .eq 39, 3) := dk_159 0 39 (dk_at dksX4_kindAt_11 0 rfl rfl)
theorem dX4_kindAt_260 : decode cX4_kindAt 260 = .ok (.iload_n 3, 1) := dk_29 (dk_at dksX4_kindAt_11 3 rfl rfl)
theorem dX4_kindAt_261 : decode cX4_kindAt 261 = .ok (.bipush 42, 2) := dk_16 42 (dk_at dksX4_kindAt_11 4 rfl rfl)
theorem dX4_kindAt_263 : decode cX4_kindAt 263 = .ok (.if_icmp .eq 33, 3) := dk_159 0 33 (dk_at dksX4_kindAt_11 6 rfl rfl)
theorem dX4_kindAt_266 : decode cX4_kindAt 266 = .ok (.iload_n 3, 1) := dk_29 (dk_at dksX4_kindAt_11 9 rfl rfl)
theorem dX4_kindAt_267 : decode cX4_kindAt 267 = .ok (.bipush 47, 2) := dk_16 47 (dk_at dksX4_kindAt_11 10 rfl rfl)
theorem dX4_kindAt_269 : decode cX4_kindAt 269 = .ok (.if_icmp .eq 27, 3) := dk_159 0 27 (dk_at dksX4_kindAt_11 12 rfl rfl)
theorem dX4_kindAt_272 : decode cX4_kindAt 272 = .ok (.iload_n 3, 1) := dk_29 (dk_at dksX4_kindAt_11 15 rfl rfl)
theorem dX4_kindAt_273 : decode cX4_kindAt 273 = .ok (.bipush 37, 2) := dk_16 37 (dk_at dksX4_kindAt_11 16 rfl rfl)
theorem dX4_kindAt_275 : decode cX4_kindAt 275 = .ok (.if_icmp .eq 21, 3) := dk_159 0 21 (dk_at dksX4_kindAt_11 18 rfl rfl)
theorem dX4_kindAt_278 : decode cX4_kindAt 278 = .ok (.iload_n 3, 1) := dk_29 (dk_at dksX4_kindAt_11 21 rfl rfl)
theorem dX4_kindAt_279 : decode cX4_kindAt 279 = .ok (.bipush 60, 2) := dk_16 60 (dk_at dksX4_kindAt_11 22 rfl rfl)
theorem dX4_kindAt_281 : decode cX4_kindAt 281 = .ok (.if_icmp .eq 15, 3) := dk_159 0 15 (dk_at dksX4_kindAt_12 0 rfl rfl)
theorem dX4_kindAt_284 : decode cX4_kindAt 284 = .ok (.iload_n 3, 1) := dk_29 (dk_at dksX4_kindAt_12 3 rfl rfl)
theorem dX4_kindAt_285 : decode cX4_kindAt 285 = .ok (.bipush 62, 2) := dk_16 62 (dk_at dksX4_kindAt_12 4 rfl rfl)
theorem dX4_kindAt_287 : decode cX4_kindAt 287 = .ok (.if_icmp .eq 9, 3) := dk_159 0 9 (dk_at dksX4_kindAt_12 6 rfl rfl)
theorem dX4_kindAt_290 : decode cX4_kindAt 290 = .ok (.iload_n 3, 1) := dk_29 (dk_at dksX4_kindAt_12 9 rfl rfl)
theorem dX4_kindAt_291 : decode cX4_kindAt 291 = .ok (.bipush 61, 2) := dk_16 61 (dk_at dksX4_kindAt_12 10 rfl rfl)
theorem dX4_kindAt_293 : decode cX4_kindAt 293 = .ok (.if_icmp .ne 10, 3) := dk_160 0 10 (dk_at dksX4_kindAt_12 12 rfl rfl)
theorem dX4_kindAt_296 : decode cX4_kindAt 296 = .ok (.bipush 32, 2) := dk_16 32 (dk_at dksX4_kindAt_12 15 rfl rfl)
theorem dX4_kindAt_298 : decode cX4_kindAt 298 = .ok (.iload_n 3, 1) := dk_29 (dk_at dksX4_kindAt_12 17 rfl rfl)
theorem dX4_kindAt_299 : decode cX4_kindAt 299 = .ok (.iadd, 1) := dk_96 (dk_at dksX4_kindAt_12 18 rfl rfl)
theorem dX4_kindAt_300 : decode cX4_kindAt 300 = .ok (.goto 6, 3) := dk_167 0 6 (dk_at dksX4_kindAt_12 19 rfl rfl)
theorem dX4_kindAt_303 : decode cX4_kindAt 303 = .ok (.sipush 901, 3) := dk_17 3 133 (dk_at dksX4_kindAt_13 0 rfl rfl)
theorem dX4_kindAt_306 : decode cX4_kindAt 306 = .ok (.ireturn, 1) := dk_172 (dk_at dksX4_kindAt_13 3 rfl rfl)
abbrev cX4_isLetter : ByteArray := prog_41_method_10_code
def yX4_isLetter : MethodName := ⟨RX4, "isLetter", "(I)Z"⟩
def dkwX4_isLetter_0 : List UInt8 := [26, 16, 97, 161, 0, 13, 26, 16, 122, 163, 0, 7, 4, 167, 0, 4, 3, 172]
abbrev dktX4_isLetter_0 : List UInt8 := dkwX4_isLetter_0 ++ []
theorem dksX4_isLetter_0 : cX4_isLetter.data.toList.drop 0 = dktX4_isLetter_0 := by decide +kernel
theorem dX4_isLetter_0 : decode cX4_isLetter 0 = .ok (.iload_n 0, 1) := dk_26 (dk_at dksX4_isLetter_0 0 rfl rfl)
theorem dX4_isLetter_1 : decode cX4_isLetter 1 = .ok (.bipush 97, 2) := dk_16 97 (dk_at dksX4_isLetter_0 1 rfl rfl)
theorem dX4_isLetter_3 : decode cX4_isLetter 3 = .ok (.if_icmp .lt 13, 3) := dk_161 0 13 (dk_at dksX4_isLetter_0 3 rfl rfl)
theorem dX4_isLetter_6 : decode cX4_isLetter 6 = .ok (.iload_n 0, 1) := dk_26 (dk_at dksX4_isLetter_0 6 rfl rfl)
theorem dX4_isLetter_7 : decode cX4_isLetter 7 = .ok (.bipush 122, 2) := dk_16 122 (dk_at dksX4_isLetter_0 7 rfl rfl)
theorem dX4_isLetter_9 : decode cX4_isLetter 9 = .ok (.if_icmp .gt 7, 3) := dk_163 0 7 (dk_at dksX4_isLetter_0 9 rfl rfl)
theorem dX4_isLetter_12 : decode cX4_isLetter 12 = .ok (.iconst 1, 1) := dk_4 (dk_at dksX4_isLetter_0 12 rfl rfl)
theorem dX4_isLetter_13 : decode cX4_isLetter 13 = .ok (.goto 4, 3) := dk_167 0 4 (dk_at dksX4_isLetter_0 13 rfl rfl)
theorem dX4_isLetter_16 : decode cX4_isLetter 16 = .ok (.iconst 0, 1) := dk_3 (dk_at dksX4_isLetter_0 16 rfl rfl)
theorem dX4_isLetter_17 : decode cX4_isLetter 17 = .ok (.ireturn, 1) := dk_172 (dk_at dksX4_isLetter_0 17 rfl rfl)
abbrev cX4_isDigit : ByteArray := prog_41_method_11_code
def yX4_isDigit : MethodName := ⟨RX4, "isDigit", "(I)Z"⟩
def dkwX4_isDigit_0 : List UInt8 := [26, 16, 48, 161, 0, 13, 26, 16, 57, 163, 0, 7, 4, 167, 0, 4, 3, 172]
abbrev dktX4_isDigit_0 : List UInt8 := dkwX4_isDigit_0 ++ []
theorem dksX4_isDigit_0 : cX4_isDigit.data.toList.drop 0 = dktX4_isDigit_0 := by decide +kernel
theorem dX4_isDigit_0 : decode cX4_isDigit 0 = .ok (.iload_n 0, 1) := dk_26 (dk_at dksX4_isDigit_0 0 rfl rfl)
theorem dX4_isDigit_1 : decode cX4_isDigit 1 = .ok (.bipush 48, 2) := dk_16 48 (dk_at dksX4_isDigit_0 1 rfl rfl)
theorem dX4_isDigit_3 : decode cX4_isDigit 3 = .ok (.if_icmp .lt 13, 3) := dk_161 0 13 (dk_at dksX4_isDigit_0 3 rfl rfl)
theorem dX4_isDigit_6 : decode cX4_isDigit 6 = .ok (.iload_n 0, 1) := dk_26 (dk_at dksX4_isDigit_0 6 rfl rfl)
theorem dX4_isDigit_7 : decode cX4_isDigit 7 = .ok (.bipush 57, 2) := dk_16 57 (dk_at dksX4_isDigit_0 7 rfl rfl)
theorem dX4_isDigit_9 : decode cX4_isDigit 9 = .ok (.if_icmp .gt 7, 3) := dk_163 0 7 (dk_at dksX4_isDigit_0 9 rfl rfl)
theorem dX4_isDigit_12 : decode cX4_isDigit 12 = .ok (.iconst 1, 1) := dk_4 (dk_at dksX4_isDigit_0 12 rfl rfl)
theorem dX4_isDigit_13 : decode cX4_isDigit 13 = .ok (.goto 4, 3) := dk_167 0 4 (dk_at dksX4_isDigit_0 13 rfl rfl)
theorem dX4_isDigit_16 : decode cX4_isDigit 16 = .ok (.iconst 0, 1) := dk_3 (dk_at dksX4_isDigit_0 16 rfl rfl)
theorem dX4_isDigit_17 : decode cX4_isDigit 17 = .ok (.ireturn, 1) := dk_172 (dk_at dksX4_isDigit_0 17 rfl rfl)
abbrev cX4_word : ByteArray := prog_41_method_14_code
def yX4_word : MethodName := ⟨RX4, "word", "(II)I"⟩
def dkwX4_word_3 : List UInt8 := [54, 4, 132, 5, 1, 167, 255, 213, 21, 4, 153, 0, 5, 29, 172, 132, 3, 1, 167, 255, 170, 16, 30, 172]
abbrev dktX4_word_3 : List UInt8 := dkwX4_word_3 ++ []
def dkwX4_word_2 : List UInt8 := [50, 21, 5, 182, 0, 106, 42, 180, 0, 9, 27, 21, 5, 96, 46, 160, 0, 7, 4, 167, 0, 4, 3]
abbrev dktX4_word_2 : List UInt8 := dkwX4_word_2 ++ dktX4_word_3
def dkwX4_word_1 : List UInt8 := [167, 0, 4, 3, 54, 4, 3, 54, 5, 21, 4, 153, 0, 44, 21, 5, 28, 162, 0, 38, 178, 0, 96, 29]
abbrev dktX4_word_1 : List UInt8 := dkwX4_word_1 ++ dktX4_word_2
def dkwX4_word_0 : List UInt8 := [3, 62, 29, 178, 0, 96, 190, 162, 0, 84, 178, 0, 96, 29, 50, 182, 0, 100, 28, 160, 0, 7, 4]
abbrev dktX4_word_0 : List UInt8 := dkwX4_word_0 ++ dktX4_word_1
theorem dksX4_word_0 : cX4_word.data.toList.drop 0 = dktX4_word_0 := by decide +kernel
theorem dksX4_word_1 : cX4_word.data.toList.drop 23 = dktX4_word_1 := dk_seg dksX4_word_0 23 rfl rfl
theorem dksX4_word_2 : cX4_word.data.toList.drop 47 = dktX4_word_2 := dk_seg dksX4_word_1 24 rfl rfl
theorem dksX4_word_3 : cX4_word.data.toList.drop 70 = dktX4_word_3 := dk_seg dksX4_word_2 23 rfl rfl
theorem dX4_word_0 : decode cX4_word 0 = .ok (.iconst 0, 1) := dk_3 (dk_at dksX4_word_0 0 rfl rfl)
theorem dX4_word_1 : decode cX4_word 1 = .ok (.istore_n 3, 1) := dk_62 (dk_at dksX4_word_0 1 rfl rfl)
theorem dX4_word_2 : decode cX4_word 2 = .ok (.iload_n 3, 1) := dk_29 (dk_at dksX4_word_0 2 rfl rfl)
theorem dX4_word_3 : decode cX4_word 3 = .ok (.getstatic 96, 3) := dk_178 0 96 (dk_at dksX4_word_0 3 rfl rfl)
theorem dX4_word_6 : decode cX4_word 6 = .ok (.arraylength, 1) := dk_190 (dk_at dksX4_word_0 6 rfl rfl)
theorem dX4_word_7 : decode cX4_word 7 = .ok (.if_icmp .ge 84, 3) := dk_162 0 84 (dk_at dksX4_word_0 7 rfl rfl)
theorem dX4_word_10 : decode cX4_word 10 = .ok (.getstatic 96, 3) := dk_178 0 96 (dk_at dksX4_word_0 10 rfl rfl)
theorem dX4_word_13 : decode cX4_word 13 = .ok (.iload_n 3, 1) := dk_29 (dk_at dksX4_word_0 13 rfl rfl)
theorem dX4_word_14 : decode cX4_word 14 = .ok (.aaload, 1) := dk_50 (dk_at dksX4_word_0 14 rfl rfl)
theorem dX4_word_15 : decode cX4_word 15 = .ok (.invokevirtual 100, 3) := dk_182 0 100 (dk_at dksX4_word_0 15 rfl rfl)
theorem dX4_word_18 : decode cX4_word 18 = .ok (.iload_n 2, 1) := dk_28 (dk_at dksX4_word_0 18 rfl rfl)
theorem dX4_word_19 : decode cX4_word 19 = .ok (.if_icmp .ne 7, 3) := dk_160 0 7 (dk_at dksX4_word_0 19 rfl rfl)
theorem dX4_word_22 : decode cX4_word 22 = .ok (.iconst 1, 1) := dk_4 (dk_at dksX4_word_0 22 rfl rfl)
theorem dX4_word_23 : decode cX4_word 23 = .ok (.goto 4, 3) := dk_167 0 4 (dk_at dksX4_word_1 0 rfl rfl)
theorem dX4_word_26 : decode cX4_word 26 = .ok (.iconst 0, 1) := dk_3 (dk_at dksX4_word_1 3 rfl rfl)
theorem dX4_word_27 : decode cX4_word 27 = .ok (.istore 4, 2) := dk_54 4 (dk_at dksX4_word_1 4 rfl rfl)
theorem dX4_word_29 : decode cX4_word 29 = .ok (.iconst 0, 1) := dk_3 (dk_at dksX4_word_1 6 rfl rfl)
theorem dX4_word_30 : decode cX4_word 30 = .ok (.istore 5, 2) := dk_54 5 (dk_at dksX4_word_1 7 rfl rfl)
theorem dX4_word_32 : decode cX4_word 32 = .ok (.iload 4, 2) := dk_21 4 (dk_at dksX4_word_1 9 rfl rfl)
theorem dX4_word_34 : decode cX4_word 34 = .ok (.ifCond .eq 44, 3) := dk_153 0 44 (dk_at dksX4_word_1 11 rfl rfl)
theorem dX4_word_37 : decode cX4_word 37 = .ok (.iload 5, 2) := dk_21 5 (dk_at dksX4_word_1 14 rfl rfl)
theorem dX4_word_39 : decode cX4_word 39 = .ok (.iload_n 2, 1) := dk_28 (dk_at dksX4_word_1 16 rfl rfl)
theorem dX4_word_40 : decode cX4_word 40 = .ok (.if_icmp .ge 38, 3) := dk_162 0 38 (dk_at dksX4_word_1 17 rfl rfl)
theorem dX4_word_43 : decode cX4_word 43 = .ok (.getstatic 96, 3) := dk_178 0 96 (dk_at dksX4_word_1 20 rfl rfl)
theorem dX4_word_46 : decode cX4_word 46 = .ok (.iload_n 3, 1) := dk_29 (dk_at dksX4_word_1 23 rfl rfl)
theorem dX4_word_47 : decode cX4_word 47 = .ok (.aaload, 1) := dk_50 (dk_at dksX4_word_2 0 rfl rfl)
theorem dX4_word_48 : decode cX4_word 48 = .ok (.iload 5, 2) := dk_21 5 (dk_at dksX4_word_2 1 rfl rfl)
theorem dX4_word_50 : decode cX4_word 50 = .ok (.invokevirtual 106, 3) := dk_182 0 106 (dk_at dksX4_word_2 3 rfl rfl)
theorem dX4_word_53 : decode cX4_word 53 = .ok (.aload_n 0, 1) := dk_42 (dk_at dksX4_word_2 6 rfl rfl)
theorem dX4_word_54 : decode cX4_word 54 = .ok (.getfield 9, 3) := dk_180 0 9 (dk_at dksX4_word_2 7 rfl rfl)
theorem dX4_word_57 : decode cX4_word 57 = .ok (.iload_n 1, 1) := dk_27 (dk_at dksX4_word_2 10 rfl rfl)
theorem dX4_word_58 : decode cX4_word 58 = .ok (.iload 5, 2) := dk_21 5 (dk_at dksX4_word_2 11 rfl rfl)
theorem dX4_word_60 : decode cX4_word 60 = .ok (.iadd, 1) := dk_96 (dk_at dksX4_word_2 13 rfl rfl)
theorem dX4_word_61 : decode cX4_word 61 = .ok (.iaload, 1) := dk_46 (dk_at dksX4_word_2 14 rfl rfl)
theorem dX4_word_62 : decode cX4_word 62 = .ok (.if_icmp .ne 7, 3) := dk_160 0 7 (dk_at dksX4_word_2 15 rfl rfl)
theorem dX4_word_65 : decode cX4_word 65 = .ok (.iconst 1, 1) := dk_4 (dk_at dksX4_word_2 18 rfl rfl)
theorem dX4_word_66 : decode cX4_word 66 = .ok (.goto 4, 3) := dk_167 0 4 (dk_at dksX4_word_2 19 rfl rfl)
theorem dX4_word_69 : decode cX4_word 69 = .ok (.iconst 0, 1) := dk_3 (dk_at dksX4_word_2 22 rfl rfl)
theorem dX4_word_70 : decode cX4_word 70 = .ok (.istore 4, 2) := dk_54 4 (dk_at dksX4_word_3 0 rfl rfl)
theorem dX4_word_72 : decode cX4_word 72 = .ok (.iinc 5 1, 3) := dk_132 5 1 (dk_at dksX4_word_3 2 rfl rfl)
theorem dX4_word_75 : decode cX4_word 75 = .ok (.goto (-43), 3) := dk_167 255 213 (dk_at dksX4_word_3 5 rfl rfl)
theorem dX4_word_78 : decode cX4_word 78 = .ok (.iload 4, 2) := dk_21 4 (dk_at dksX4_word_3 8 rfl rfl)
theorem dX4_word_80 : decode cX4_word 80 = .ok (.ifCond .eq 5, 3) := dk_153 0 5 (dk_at dksX4_word_3 10 rfl rfl)
theorem dX4_word_83 : decode cX4_word 83 = .ok (.iload_n 3, 1) := dk_29 (dk_at dksX4_word_3 13 rfl rfl)
theorem dX4_word_84 : decode cX4_word 84 = .ok (.ireturn, 1) := dk_172 (dk_at dksX4_word_3 14 rfl rfl)
theorem dX4_word_85 : decode cX4_word 85 = .ok (.iinc 3 1, 3) := dk_132 3 1 (dk_at dksX4_word_3 15 rfl rfl)
theorem dX4_word_88 : decode cX4_word 88 = .ok (.goto (-86), 3) := dk_167 255 170 (dk_at dksX4_word_3 18 rfl rfl)
theorem dX4_word_91 : decode cX4_word 91 = .ok (.bipush 30, 2) := dk_16 30 (dk_at dksX4_word_3 21 rfl rfl)
theorem dX4_word_93 : decode cX4_word 93 = .ok (.ireturn, 1) := dk_172 (dk_at dksX4_word_3 23 rfl rfl)
abbrev cX4_isText : ByteArray := prog_41_method_23_code
def yX4_isText : MethodName := ⟨RX4, "isText", "()Z"⟩
def dkwX4_isText_3 : List UInt8 := [172, 167, 255, 187, 4, 172]
abbrev dktX4_isText_3 : List UInt8 := dkwX4_isText_3 ++ []
def dkwX4_isText_2 : List UInt8 := [182, 0, 116, 153, 0, 14, 42, 182, 0, 144, 153, 0, 7, 4, 167, 0, 4, 3, 60, 27, 154, 0, 5, 3]
abbrev dktX4_isText_2 : List UInt8 := dkwX4_isText_2 ++ dktX4_isText_3
def dkwX4_isText_1 : List UInt8 := [167, 0, 40, 42, 16, 6, 182, 0, 116, 153, 0, 10, 42, 182, 0, 141, 167, 0, 24, 42, 16, 7]
abbrev dktX4_isText_1 : List UInt8 := dkwX4_isText_1 ++ dktX4_isText_2
def dkwX4_isText_0 : List UInt8 := [42, 17, 3, 132, 182, 0, 116, 154, 0, 65, 42, 3, 182, 0, 116, 153, 0, 10, 42, 182, 0, 137]
abbrev dktX4_isText_0 : List UInt8 := dkwX4_isText_0 ++ dktX4_isText_1
theorem dksX4_isText_0 : cX4_isText.data.toList.drop 0 = dktX4_isText_0 := by decide +kernel
theorem dksX4_isText_1 : cX4_isText.data.toList.drop 22 = dktX4_isText_1 := dk_seg dksX4_isText_0 22 rfl rfl
theorem dksX4_isText_2 : cX4_isText.data.toList.drop 44 = dktX4_isText_2 := dk_seg dksX4_isText_1 22 rfl rfl
theorem dksX4_isText_3 : cX4_isText.data.toList.drop 68 = dktX4_isText_3 := dk_seg dksX4_isText_2 24 rfl rfl
theorem dX4_isText_0 : decode cX4_isText 0 = .ok (.aload_n 0, 1) := dk_42 (dk_at dksX4_isText_0 0 rfl rfl)
theorem dX4_isText_1 : decode cX4_isText 1 = .ok (.sipush 900, 3) := dk_17 3 132 (dk_at dksX4_isText_0 1 rfl rfl)
theorem dX4_isText_4 : decode cX4_isText 4 = .ok (.invokevirtual 116, 3) := dk_182 0 116 (dk_at dksX4_isText_0 4 rfl rfl)
theorem dX4_isText_7 : decode cX4_isText 7 = .ok (.ifCond .ne 65, 3) := dk_154 0 65 (dk_at dksX4_isText_0 7 rfl rfl)
theorem dX4_isText_10 : decode cX4_isText 10 = .ok (.aload_n 0, 1) := dk_42 (dk_at dksX4_isText_0 10 rfl rfl)
theorem dX4_isText_11 : decode cX4_isText 11 = .ok (.iconst 0, 1) := dk_3 (dk_at dksX4_isText_0 11 rfl rfl)
theorem dX4_isText_12 : decode cX4_isText 12 = .ok (.invokevirtual 116, 3) := dk_182 0 116 (dk_at dksX4_isText_0 12 rfl rfl)
theorem dX4_isText_15 : decode cX4_isText 15 = .ok (.ifCond .eq 10, 3) := dk_153 0 10 (dk_at dksX4_isText_0 15 rfl rfl)
theorem dX4_isText_18 : decode cX4_isText 18 = .ok (.aload_n 0, 1) := dk_42 (dk_at dksX4_isText_0 18 rfl rfl)
theorem dX4_isText_19 : decode cX4_isText 19 = .ok (.invokevirtual 137, 3) := dk_182 0 137 (dk_at dksX4_isText_0 19 rfl rfl)
theorem dX4_isText_22 : decode cX4_isText 22 = .ok (.goto 40, 3) := dk_167 0 40 (dk_at dksX4_isText_1 0 rfl rfl)
theorem dX4_isText_25 : decode cX4_isText 25 = .ok (.aload_n 0, 1) := dk_42 (dk_at dksX4_isText_1 3 rfl rfl)
theorem dX4_isText_26 : decode cX4_isText 26 = .ok (.bipush 6, 2) := dk_16 6 (dk_at dksX4_isText_1 4 rfl rfl)
theorem dX4_isText_28 : decode cX4_isText 28 = .ok (.invokevirtual 116, 3) := dk_182 0 116 (dk_at dksX4_isText_1 6 rfl rfl)
theorem dX4_isText_31 : decode cX4_isText 31 = .ok (.ifCond .eq 10, 3) := dk_153 0 10 (dk_at dksX4_isText_1 9 rfl rfl)
theorem dX4_isText_34 : decode cX4_isText 34 = .ok (.aload_n 0, 1) := dk_42 (dk_at dksX4_isText_1 12 rfl rfl)
theorem dX4_isText_35 : decode cX4_isText 35 = .ok (.invokevirtual 141, 3) := dk_182 0 141 (dk_at dksX4_isText_1 13 rfl rfl)
theorem dX4_isText_38 : decode cX4_isText 38 = .ok (.goto 24, 3) := dk_167 0 24 (dk_at dksX4_isText_1 16 rfl rfl)
theorem dX4_isText_41 : decode cX4_isText 41 = .ok (.aload_n 0, 1) := dk_42 (dk_at dksX4_isText_1 19 rfl rfl)
theorem dX4_isText_42 : decode cX4_isText 42 = .ok (.bipush 7, 2) := dk_16 7 (dk_at dksX4_isText_1 20 rfl rfl)
theorem dX4_isText_44 : decode cX4_isText 44 = .ok (.invokevirtual 116, 3) := dk_182 0 116 (dk_at dksX4_isText_2 0 rfl rfl)
theorem dX4_isText_47 : decode cX4_isText 47 = .ok (.ifCond .eq 14, 3) := dk_153 0 14 (dk_at dksX4_isText_2 3 rfl rfl)
theorem dX4_isText_50 : decode cX4_isText 50 = .ok (.aload_n 0, 1) := dk_42 (dk_at dksX4_isText_2 6 rfl rfl)
theorem dX4_isText_51 : decode cX4_isText 51 = .ok (.invokevirtual 144, 3) := dk_182 0 144 (dk_at dksX4_isText_2 7 rfl rfl)
theorem dX4_isText_54 : decode cX4_isText 54 = .ok (.ifCond .eq 7, 3) := dk_153 0 7 (dk_at dksX4_isText_2 10 rfl rfl)
theorem dX4_isText_57 : decode cX4_isText 57 = .ok (.iconst 1, 1) := dk_4 (dk_at dksX4_isText_2 13 rfl rfl)
theorem dX4_isText_58 : decode cX4_isText 58 = .ok (.goto 4, 3) := dk_167 0 4 (dk_at dksX4_isText_2 14 rfl rfl)
theorem dX4_isText_61 : decode cX4_isText 61 = .ok (.iconst 0, 1) := dk_3 (dk_at dksX4_isText_2 17 rfl rfl)
theorem dX4_isText_62 : decode cX4_isText 62 = .ok (.istore_n 1, 1) := dk_60 (dk_at dksX4_isText_2 18 rfl rfl)
theorem dX4_isText_63 : decode cX4_isText 63 = .ok (.iload_n 1, 1) := dk_27 (dk_at dksX4_isText_2 19 rfl rfl)
theorem dX4_isText_64 : decode cX4_isText 64 = .ok (.ifCond .ne 5, 3) := dk_154 0 5 (dk_at dksX4_isText_2 20 rfl rfl)
theorem dX4_isText_67 : decode cX4_isText 67 = .ok (.iconst 0, 1) := dk_3 (dk_at dksX4_isText_2 23 rfl rfl)
theorem dX4_isText_68 : decode cX4_isText 68 = .ok (.ireturn, 1) := dk_172 (dk_at dksX4_isText_3 0 rfl rfl)
theorem dX4_isText_69 : decode cX4_isText 69 = .ok (.goto (-69), 3) := dk_167 255 187 (dk_at dksX4_isText_3 1 rfl rfl)
theorem dX4_isText_72 : decode cX4_isText 72 = .ok (.iconst 1, 1) := dk_4 (dk_at dksX4_isText_3 4 rfl rfl)
theorem dX4_isText_73 : decode cX4_isText 73 = .ok (.ireturn, 1) := dk_172 (dk_at dksX4_isText_3 5 rfl rfl)
abbrev cX4_is : ByteArray := prog_41_method_16_code
def yX4_is : MethodName := ⟨RX4, "is", "(I)Z"⟩
def dkwX4_is_0 : List UInt8 := [42, 180, 0, 17, 42, 180, 0, 113, 46, 27, 160, 0, 7, 4, 167, 0, 4, 3, 172]
abbrev dktX4_is_0 : List UInt8 := dkwX4_is_0 ++ []
theorem dksX4_is_0 : cX4_is.data.toList.drop 0 = dktX4_is_0 := by decide +kernel
theorem dX4_is_0 : decode cX4_is 0 = .ok (.aload_n 0, 1) := dk_42 (dk_at dksX4_is_0 0 rfl rfl)
theorem dX4_is_1 : decode cX4_is 1 = .ok (.getfield 17, 3) := dk_180 0 17 (dk_at dksX4_is_0 1 rfl rfl)
theorem dX4_is_4 : decode cX4_is 4 = .ok (.aload_n 0, 1) := dk_42 (dk_at dksX4_is_0 4 rfl rfl)
theorem dX4_is_5 : decode cX4_is 5 = .ok (.getfield 113, 3) := dk_180 0 113 (dk_at dksX4_is_0 5 rfl rfl)
theorem dX4_is_8 : decode cX4_is 8 = .ok (.iaload, 1) := dk_46 (dk_at dksX4_is_0 8 rfl rfl)
theorem dX4_is_9 : decode cX4_is 9 = .ok (.iload_n 1, 1) := dk_27 (dk_at dksX4_is_0 9 rfl rfl)
theorem dX4_is_10 : decode cX4_is 10 = .ok (.if_icmp .ne 7, 3) := dk_160 0 7 (dk_at dksX4_is_0 10 rfl rfl)
theorem dX4_is_13 : decode cX4_is 13 = .ok (.iconst 1, 1) := dk_4 (dk_at dksX4_is_0 13 rfl rfl)
theorem dX4_is_14 : decode cX4_is 14 = .ok (.goto 4, 3) := dk_167 0 4 (dk_at dksX4_is_0 14 rfl rfl)
theorem dX4_is_17 : decode cX4_is 17 = .ok (.iconst 0, 1) := dk_3 (dk_at dksX4_is_0 17 rfl rfl)
theorem dX4_is_18 : decode cX4_is 18 = .ok (.ireturn, 1) := dk_172 (dk_at dksX4_is_0 18 rfl rfl)
abbrev cX4_isPlanetLine : ByteArray := prog_41_method_24_code
def yX4_isPlanetLine : MethodName := ⟨RX4, "isPlanetLine", "()Z"⟩
def dkwX4_isPlanetLine_5 : List UInt8 := [154, 0, 5, 3, 172, 42, 16, 59, 182, 0, 151, 172]
abbrev dktX4_isPlanetLine_5 : List UInt8 := dkwX4_isPlanetLine_5 ++ []
def dkwX4_isPlanetLine_4 : List UInt8 := [16, 11, 182, 0, 147, 153, 0, 22, 42, 8, 182, 0, 119, 153, 0, 14, 42, 16, 31, 16, 12, 182, 0, 147]
abbrev dktX4_isPlanetLine_4 : List UInt8 := dkwX4_isPlanetLine_4 ++ dktX4_isPlanetLine_5
def dkwX4_isPlanetLine_3 : List UInt8 := [42, 16, 31, 16, 10, 182, 0, 147, 154, 0, 5, 3, 172, 42, 7, 182, 0, 119, 153, 0, 35, 42, 16, 31]
abbrev dktX4_isPlanetLine_3 : List UInt8 := dkwX4_isPlanetLine_3 ++ dktX4_isPlanetLine_4
def dkwX4_isPlanetLine_2 : List UInt8 := [153, 0, 14, 42, 16, 31, 16, 9, 182, 0, 147, 154, 0, 5, 3, 172, 42, 6, 182, 0, 119, 153, 0, 16]
abbrev dktX4_isPlanetLine_2 : List UInt8 := dkwX4_isPlanetLine_2 ++ dktX4_isPlanetLine_3
def dkwX4_isPlanetLine_1 : List UInt8 := [182, 0, 119, 153, 0, 33, 42, 16, 31, 16, 8, 182, 0, 147, 153, 0, 22, 42, 5, 182, 0, 119]
abbrev dktX4_isPlanetLine_1 : List UInt8 := dkwX4_isPlanetLine_1 ++ dktX4_isPlanetLine_2
def dkwX4_isPlanetLine_0 : List UInt8 := [42, 89, 180, 0, 113, 4, 96, 181, 0, 113, 42, 16, 30, 4, 182, 0, 147, 153, 0, 41, 42, 4]
abbrev dktX4_isPlanetLine_0 : List UInt8 := dkwX4_isPlanetLine_0 ++ dktX4_isPlanetLine_1
theorem dksX4_isPlanetLine_0 : cX4_isPlanetLine.data.toList.drop 0 = dktX4_isPlanetLine_0 := by decide +kernel
theorem dksX4_isPlanetLine_1 : cX4_isPlanetLine.data.toList.drop 22 = dktX4_isPlanetLine_1 := dk_seg dksX4_isPlanetLine_0 22 rfl rfl
theorem dksX4_isPlanetLine_2 : cX4_isPlanetLine.data.toList.drop 44 = dktX4_isPlanetLine_2 := dk_seg dksX4_isPlanetLine_1 22 rfl rfl
theorem dksX4_isPlanetLine_3 : cX4_isPlanetLine.data.toList.drop 68 = dktX4_isPlanetLine_3 := dk_seg dksX4_isPlanetLine_2 24 rfl rfl
theorem dksX4_isPlanetLine_4 : cX4_isPlanetLine.data.toList.drop 92 = dktX4_isPlanetLine_4 := dk_seg dksX4_isPlanetLine_3 24 rfl rfl
theorem dksX4_isPlanetLine_5 : cX4_isPlanetLine.data.toList.drop 116 = dktX4_isPlanetLine_5 := dk_seg dksX4_isPlanetLine_4 24 rfl rfl
theorem dX4_isPlanetLine_0 : decode cX4_isPlanetLine 0 = .ok (.aload_n 0, 1) := dk_42 (dk_at dksX4_isPlanetLine_0 0 rfl rfl)
theorem dX4_isPlanetLine_1 : decode cX4_isPlanetLine 1 = .ok (.dup, 1) := dk_89 (dk_at dksX4_isPlanetLine_0 1 rfl rfl)
theorem dX4_isPlanetLine_2 : decode cX4_isPlanetLine 2 = .ok (.getfield 113, 3) := dk_180 0 113 (dk_at dksX4_isPlanetLine_0 2 rfl rfl)
theorem dX4_isPlanetLine_5 : decode cX4_isPlanetLine 5 = .ok (.iconst 1, 1) := dk_4 (dk_at dksX4_isPlanetLine_0 5 rfl rfl)
theorem dX4_isPlanetLine_6 : decode cX4_isPlanetLine 6 = .ok (.iadd, 1) := dk_96 (dk_at dksX4_isPlanetLine_0 6 rfl rfl)
theorem dX4_isPlanetLine_7 : decode cX4_isPlanetLine 7 = .ok (.putfield 113, 3) := dk_181 0 113 (dk_at dksX4_isPlanetLine_0 7 rfl rfl)
theorem dX4_isPlanetLine_10 : decode cX4_isPlanetLine 10 = .ok (.aload_n 0, 1) := dk_42 (dk_at dksX4_isPlanetLine_0 10 rfl rfl)
theorem dX4_isPlanetLine_11 : decode cX4_isPlanetLine 11 = .ok (.bipush 30, 2) := dk_16 30 (dk_at dksX4_isPlanetLine_0 11 rfl rfl)
theorem dX4_isPlanetLine_13 : decode cX4_isPlanetLine 13 = .ok (.iconst 1, 1) := dk_4 (dk_at dksX4_isPlanetLine_0 13 rfl rfl)
theorem dX4_isPlanetLine_14 : decode cX4_isPlanetLine 14 = .ok (.invokevirtual 147, 3) := dk_182 0 147 (dk_at dksX4_isPlanetLine_0 14 rfl rfl)
theorem dX4_isPlanetLine_17 : decode cX4_isPlanetLine 17 = .ok (.ifCond .eq 41, 3) := dk_153 0 41 (dk_at dksX4_isPlanetLine_0 17 rfl rfl)
theorem dX4_isPlanetLine_20 : decode cX4_isPlanetLine 20 = .ok (.aload_n 0, 1) := dk_42 (dk_at dksX4_isPlanetLine_0 20 rfl rfl)
theorem dX4_isPlanetLine_21 : decode cX4_isPlanetLine 21 = .ok (.iconst 1, 1) := dk_4 (dk_at dksX4_isPlanetLine_0 21 rfl rfl)
theorem dX4_isPlanetLine_22 : decode cX4_isPlanetLine 22 = .ok (.invokevirtual 119, 3) := dk_182 0 119 (dk_at dksX4_isPlanetLine_1 0 rfl rfl)
theorem dX4_isPlanetLine_25 : decode cX4_isPlanetLine 25 = .ok (.ifCond .eq 33, 3) := dk_153 0 33 (dk_at dksX4_isPlanetLine_1 3 rfl rfl)
theorem dX4_isPlanetLine_28 : decode cX4_isPlanetLine 28 = .ok (.aload_n 0, 1) := dk_42 (dk_at dksX4_isPlanetLine_1 6 rfl rfl)
theorem dX4_isPlanetLine_29 : decode cX4_isPlanetLine 29 = .ok (.bipush 31, 2) := dk_16 31 (dk_at dksX4_isPlanetLine_1 7 rfl rfl)
theorem dX4_isPlanetLine_31 : decode cX4_isPlanetLine 31 = .ok (.bipush 8, 2) := dk_16 8 (dk_at dksX4_isPlanetLine_1 9 rfl rfl)
theorem dX4_isPlanetLine_33 : decode cX4_isPlanetLine 33 = .ok (.invokevirtual 147, 3) := dk_182 0 147 (dk_at dksX4_isPlanetLine_1 11 rfl rfl)
theorem dX4_isPlanetLine_36 : decode cX4_isPlanetLine 36 = .ok (.ifCond .eq 22, 3) := dk_153 0 22 (dk_at dksX4_isPlanetLine_1 14 rfl rfl)
theorem dX4_isPlanetLine_39 : decode cX4_isPlanetLine 39 = .ok (.aload_n 0, 1) := dk_42 (dk_at dksX4_isPlanetLine_1 17 rfl rfl)
theorem dX4_isPlanetLine_40 : decode cX4_isPlanetLine 40 = .ok (.iconst 2, 1) := dk_5 (dk_at dksX4_isPlanetLine_1 18 rfl rfl)
theorem dX4_isPlanetLine_41 : decode cX4_isPlanetLine 41 = .ok (.invokevirtual 119, 3) := dk_182 0 119 (dk_at dksX4_isPlanetLine_1 19 rfl rfl)
theorem dX4_isPlanetLine_44 : decode cX4_isPlanetLine 44 = .ok (.ifCond .eq 14, 3) := dk_153 0 14 (dk_at dksX4_isPlanetLine_2 0 rfl rfl)
theorem dX4_isPlanetLine_47 : decode cX4_isPlanetLine 47 = .ok (.aload_n 0, 1) := dk_42 (dk_at dksX4_isPlanetLine_2 3 rfl rfl)
theorem dX4_isPlanetLine_48 : decode cX4_isPlanetLine 48 = .ok (.bipush 31, 2) := dk_16 31 (dk_at dksX4_isPlanetLine_2 4 rfl rfl)
theorem dX4_isPlanetLine_50 : decode cX4_isPlanetLine 50 = .ok (.bipush 9, 2) := dk_16 9 (dk_at dksX4_isPlanetLine_2 6 rfl rfl)
theorem dX4_isPlanetLine_52 : decode cX4_isPlanetLine 52 = .ok (.invokevirtual 147, 3) := dk_182 0 147 (dk_at dksX4_isPlanetLine_2 8 rfl rfl)
theorem dX4_isPlanetLine_55 : decode cX4_isPlanetLine 55 = .ok (.ifCond .ne 5, 3) := dk_154 0 5 (dk_at dksX4_isPlanetLine_2 11 rfl rfl)
theorem dX4_isPlanetLine_58 : decode cX4_isPlanetLine 58 = .ok (.iconst 0, 1) := dk_3 (dk_at dksX4_isPlanetLine_2 14 rfl rfl)
theorem dX4_isPlanetLine_59 : decode cX4_isPlanetLine 59 = .ok (.ireturn, 1) := dk_172 (dk_at dksX4_isPlanetLine_2 15 rfl rfl)
theorem dX4_isPlanetLine_60 : decode cX4_isPlanetLine 60 = .ok (.aload_n 0, 1) := dk_42 (dk_at dksX4_isPlanetLine_2 16 rfl rfl)
theorem dX4_isPlanetLine_61 : decode cX4_isPlanetLine 61 = .ok (.iconst 3, 1) := dk_6 (dk_at dksX4_isPlanetLine_2 17 rfl rfl)
theorem dX4_isPlanetLine_62 : decode cX4_isPlanetLine 62 = .ok (.invokevirtual 119, 3) := dk_182 0 119 (dk_at dksX4_isPlanetLine_2 18 rfl rfl)
theorem dX4_isPlanetLine_65 : decode cX4_isPlanetLine 65 = .ok (.ifCond .eq 16, 3) := dk_153 0 16 (dk_at dksX4_isPlanetLine_2 21 rfl rfl)
theorem dX4_isPlanetLine_68 : decode cX4_isPlanetLine 68 = .ok (.aload_n 0, 1) := dk_42 (dk_at dksX4_isPlanetLine_3 0 rfl rfl)
theorem dX4_isPlanetLine_69 : decode cX4_isPlanetLine 69 = .ok (.bipush 31, 2) := dk_16 31 (dk_at dksX4_isPlanetLine_3 1 rfl rfl)
theorem dX4_isPlanetLine_71 : decode cX4_isPlanetLine 71 = .ok (.bipush 10, 2) := dk_16 10 (dk_at dksX4_isPlanetLine_3 3 rfl rfl)
theorem dX4_isPlanetLine_73 : decode cX4_isPlanetLine 73 = .ok (.invokevirtual 147, 3) := dk_182 0 147 (dk_at dksX4_isPlanetLine_3 5 rfl rfl)
theorem dX4_isPlanetLine_76 : decode cX4_isPlanetLine 76 = .ok (.ifCond .ne 5, 3) := dk_154 0 5 (dk_at dksX4_isPlanetLine_3 8 rfl rfl)
theorem dX4_isPlanetLine_79 : decode cX4_isPlanetLine 79 = .ok (.iconst 0, 1) := dk_3 (dk_at dksX4_isPlanetLine_3 11 rfl rfl)
theorem dX4_isPlanetLine_80 : decode cX4_isPlanetLine 80 = .ok (.ireturn, 1) := dk_172 (dk_at dksX4_isPlanetLine_3 12 rfl rfl)
theorem dX4_isPlanetLine_81 : decode cX4_isPlanetLine 81 = .ok (.aload_n 0, 1) := dk_42 (dk_at dksX4_isPlanetLine_3 13 rfl rfl)
theorem dX4_isPlanetLine_82 : decode cX4_isPlanetLine 82 = .ok (.iconst 4, 1) := dk_7 (dk_at dksX4_isPlanetLine_3 14 rfl rfl)
theorem dX4_isPlanetLine_83 : decode cX4_isPlanetLine 83 = .ok (.invokevirtual 119, 3) := dk_182 0 119 (dk_at dksX4_isPlanetLine_3 15 rfl rfl)
theorem dX4_isPlanetLine_86 : decode cX4_isPlanetLine 86 = .ok (.ifCond .eq 35, 3) := dk_153 0 35 (dk_at dksX4_isPlanetLine_3 18 rfl rfl)
theorem dX4_isPlanetLine_89 : decode cX4_isPlanetLine 89 = .ok (.aload_n 0, 1) := dk_42 (dk_at dksX4_isPlanetLine_3 21 rfl rfl)
theorem dX4_isPlanetLine_90 : decode cX4_isPlanetLine 90 = .ok (.bipush 31, 2) := dk_16 31 (dk_at dksX4_isPlanetLine_3 22 rfl rfl)
theorem dX4_isPlanetLine_92 : decode cX4_isPlanetLine 92 = .ok (.bipush 11, 2) := dk_16 11 (dk_at dksX4_isPlanetLine_4 0 rfl rfl)
theorem dX4_isPlanetLine_94 : decode cX4_isPlanetLine 94 = .ok (.invokevirtual 147, 3) := dk_182 0 147 (dk_at dksX4_isPlanetLine_4 2 rfl rfl)
theorem dX4_isPlanetLine_97 : decode cX4_isPlanetLine 97 = .ok (.ifCond .eq 22, 3) := dk_153 0 22 (dk_at dksX4_isPlanetLine_4 5 rfl rfl)
theorem dX4_isPlanetLine_100 : decode cX4_isPlanetLine 100 = .ok (.aload_n 0, 1) := dk_42 (dk_at dksX4_isPlanetLine_4 8 rfl rfl)
theorem dX4_isPlanetLine_101 : decode cX4_isPlanetLine 101 = .ok (.iconst 5, 1) := dk_8 (dk_at dksX4_isPlanetLine_4 9 rfl rfl)
theorem dX4_isPlanetLine_102 : decode cX4_isPlanetLine 102 = .ok (.invokevirtual 119, 3) := dk_182 0 119 (dk_at dksX4_isPlanetLine_4 10 rfl rfl)
theorem dX4_isPlanetLine_105 : decode cX4_isPlanetLine 105 = .ok (.ifCond .eq 14, 3) := dk_153 0 14 (dk_at dksX4_isPlanetLine_4 13 rfl rfl)
theorem dX4_isPlanetLine_108 : decode cX4_isPlanetLine 108 = .ok (.aload_n 0, 1) := dk_42 (dk_at dksX4_isPlanetLine_4 16 rfl rfl)
theorem dX4_isPlanetLine_109 : decode cX4_isPlanetLine 109 = .ok (.bipush 31, 2) := dk_16 31 (dk_at dksX4_isPlanetLine_4 17 rfl rfl)
theorem dX4_isPlanetLine_111 : decode cX4_isPlanetLine 111 = .ok (.bipush 12, 2) := dk_16 12 (dk_at dksX4_isPlanetLine_4 19 rfl rfl)
theorem dX4_isPlanetLine_113 : decode cX4_isPlanetLine 113 = .ok (.invokevirtual 147, 3) := dk_182 0 147 (dk_at dksX4_isPlanetLine_4 21 rfl rfl)
theorem dX4_isPlanetLine_116 : decode cX4_isPlanetLine 116 = .ok (.ifCond .ne 5, 3) := dk_154 0 5 (dk_at dksX4_isPlanetLine_5 0 rfl rfl)
theorem dX4_isPlanetLine_119 : decode cX4_isPlanetLine 119 = .ok (.iconst 0, 1) := dk_3 (dk_at dksX4_isPlanetLine_5 3 rfl rfl)
theorem dX4_isPlanetLine_120 : decode cX4_isPlanetLine 120 = .ok (.ireturn, 1) := dk_172 (dk_at dksX4_isPlanetLine_5 4 rfl rfl)
theorem dX4_isPlanetLine_121 : decode cX4_isPlanetLine 121 = .ok (.aload_n 0, 1) := dk_42 (dk_at dksX4_isPlanetLine_5 5 rfl rfl)
theorem dX4_isPlanetLine_122 : decode cX4_isPlanetLine 122 = .ok (.bipush 59, 2) := dk_16 59 (dk_at dksX4_isPlanetLine_5 6 rfl rfl)
theorem dX4_isPlanetLine_124 : decode cX4_isPlanetLine 124 = .ok (.invokevirtual 151, 3) := dk_182 0 151 (dk_at dksX4_isPlanetLine_5 8 rfl rfl)
theorem dX4_isPlanetLine_127 : decode cX4_isPlanetLine 127 = .ok (.ireturn, 1) := dk_172 (dk_at dksX4_isPlanetLine_5 11 rfl rfl)
abbrev cX4_eatAs : ByteArray := prog_41_method_20_code
def yX4_eatAs : MethodName := ⟨RX4, "eatAs", "(II)Z"⟩
def dkwX4_eatAs_0 : List UInt8 := [42, 180, 0, 26, 42, 180, 0, 113, 28, 79, 42, 27, 182, 0, 119, 172]
abbrev dktX4_eatAs_0 : List UInt8 := dkwX4_eatAs_0 ++ []
theorem dksX4_eatAs_0 : cX4_eatAs.data.toList.drop 0 = dktX4_eatAs_0 := by decide +kernel
theorem dX4_eatAs_0 : decode cX4_eatAs 0 = .ok (.aload_n 0, 1) := dk_42 (dk_at dksX4_eatAs_0 0 rfl rfl)
theorem dX4_eatAs_1 : decode cX4_eatAs 1 = .ok (.getfield 26, 3) := dk_180 0 26 (dk_at dksX4_eatAs_0 1 rfl rfl)
theorem dX4_eatAs_4 : decode cX4_eatAs 4 = .ok (.aload_n 0, 1) := dk_42 (dk_at dksX4_eatAs_0 4 rfl rfl)
theorem dX4_eatAs_5 : decode cX4_eatAs 5 = .ok (.getfield 113, 3) := dk_180 0 113 (dk_at dksX4_eatAs_0 5 rfl rfl)
theorem dX4_eatAs_8 : decode cX4_eatAs 8 = .ok (.iload_n 2, 1) := dk_28 (dk_at dksX4_eatAs_0 8 rfl rfl)
theorem dX4_eatAs_9 : decode cX4_eatAs 9 = .ok (.iastore, 1) := dk_79 (dk_at dksX4_eatAs_0 9 rfl rfl)
theorem dX4_eatAs_10 : decode cX4_eatAs 10 = .ok (.aload_n 0, 1) := dk_42 (dk_at dksX4_eatAs_0 10 rfl rfl)
theorem dX4_eatAs_11 : decode cX4_eatAs 11 = .ok (.iload_n 1, 1) := dk_27 (dk_at dksX4_eatAs_0 11 rfl rfl)
theorem dX4_eatAs_12 : decode cX4_eatAs 12 = .ok (.invokevirtual 119, 3) := dk_182 0 119 (dk_at dksX4_eatAs_0 12 rfl rfl)
theorem dX4_eatAs_15 : decode cX4_eatAs 15 = .ok (.ireturn, 1) := dk_172 (dk_at dksX4_eatAs_0 15 rfl rfl)
abbrev cX4_eat : ByteArray := prog_41_method_18_code
def yX4_eat : MethodName := ⟨RX4, "eat", "(I)Z"⟩
def dkwX4_eat_0 : List UInt8 := [42, 27, 182, 0, 116, 154, 0, 5, 3, 172, 42, 89, 180, 0, 113, 4, 96, 181, 0, 113, 4, 172]
abbrev dktX4_eat_0 : List UInt8 := dkwX4_eat_0 ++ []
theorem dksX4_eat_0 : cX4_eat.data.toList.drop 0 = dktX4_eat_0 := by decide +kernel
theorem dX4_eat_0 : decode cX4_eat 0 = .ok (.aload_n 0, 1) := dk_42 (dk_at dksX4_eat_0 0 rfl rfl)
theorem dX4_eat_1 : decode cX4_eat 1 = .ok (.iload_n 1, 1) := dk_27 (dk_at dksX4_eat_0 1 rfl rfl)
theorem dX4_eat_2 : decode cX4_eat 2 = .ok (.invokevirtual 116, 3) := dk_182 0 116 (dk_at dksX4_eat_0 2 rfl rfl)
theorem dX4_eat_5 : decode cX4_eat 5 = .ok (.ifCond .ne 5, 3) := dk_154 0 5 (dk_at dksX4_eat_0 5 rfl rfl)
theorem dX4_eat_8 : decode cX4_eat 8 = .ok (.iconst 0, 1) := dk_3 (dk_at dksX4_eat_0 8 rfl rfl)
theorem dX4_eat_9 : decode cX4_eat 9 = .ok (.ireturn, 1) := dk_172 (dk_at dksX4_eat_0 9 rfl rfl)
theorem dX4_eat_10 : decode cX4_eat 10 = .ok (.aload_n 0, 1) := dk_42 (dk_at dksX4_eat_0 10 rfl rfl)
theorem dX4_eat_11 : decode cX4_eat 11 = .ok (.dup, 1) := dk_89 (dk_at dksX4_eat_0 11 rfl rfl)
theorem dX4_eat_12 : decode cX4_eat 12 = .ok (.getfield 113, 3) := dk_180 0 113 (dk_at dksX4_eat_0 12 rfl rfl)
theorem dX4_eat_15 : decode cX4_eat 15 = .ok (.iconst 1, 1) := dk_4 (dk_at dksX4_eat_0 15 rfl rfl)
theorem dX4_eat_16 : decode cX4_eat 16 = .ok (.iadd, 1) := dk_96 (dk_at dksX4_eat_0 16 rfl rfl)
theorem dX4_eat_17 : decode cX4_eat 17 = .ok (.putfield 113, 3) := dk_181 0 113 (dk_at dksX4_eat_0 17 rfl rfl)
theorem dX4_eat_20 : decode cX4_eat 20 = .ok (.iconst 1, 1) := dk_4 (dk_at dksX4_eat_0 20 rfl rfl)
theorem dX4_eat_21 : decode cX4_eat 21 = .ok (.ireturn, 1) := dk_172 (dk_at dksX4_eat_0 21 rfl rfl)
abbrev cX4_eatSign : ByteArray := prog_41_method_19_code
def yX4_eatSign : MethodName := ⟨RX4, "eatSign", "(C)Z"⟩
def dkwX4_eatSign_0 : List UInt8 := [42, 16, 32, 27, 96, 182, 0, 119, 172]
abbrev dktX4_eatSign_0 : List UInt8 := dkwX4_eatSign_0 ++ []
theorem dksX4_eatSign_0 : cX4_eatSign.data.toList.drop 0 = dktX4_eatSign_0 := by decide +kernel
theorem dX4_eatSign_0 : decode cX4_eatSign 0 = .ok (.aload_n 0, 1) := dk_42 (dk_at dksX4_eatSign_0 0 rfl rfl)
theorem dX4_eatSign_1 : decode cX4_eatSign 1 = .ok (.bipush 32, 2) := dk_16 32 (dk_at dksX4_eatSign_0 1 rfl rfl)
theorem dX4_eatSign_3 : decode cX4_eatSign 3 = .ok (.iload_n 1, 1) := dk_27 (dk_at dksX4_eatSign_0 3 rfl rfl)
theorem dX4_eatSign_4 : decode cX4_eatSign 4 = .ok (.iadd, 1) := dk_96 (dk_at dksX4_eatSign_0 4 rfl rfl)
theorem dX4_eatSign_5 : decode cX4_eatSign 5 = .ok (.invokevirtual 119, 3) := dk_182 0 119 (dk_at dksX4_eatSign_0 5 rfl rfl)
theorem dX4_eatSign_8 : decode cX4_eatSign 8 = .ok (.ireturn, 1) := dk_172 (dk_at dksX4_eatSign_0 8 rfl rfl)
abbrev cX4_isAlphabetLine : ByteArray := prog_41_method_25_code
def yX4_isAlphabetLine : MethodName := ⟨RX4, "isAlphabetLine", "()Z"⟩
def dkwX4_isAlphabetLine_1 : List UInt8 := [182, 0, 147, 153, 0, 16, 42, 16, 59, 182, 0, 151, 153, 0, 7, 4, 167, 0, 4, 3, 172]
abbrev dktX4_isAlphabetLine_1 : List UInt8 := dkwX4_isAlphabetLine_1 ++ []
def dkwX4_isAlphabetLine_0 : List UInt8 := [42, 89, 180, 0, 113, 4, 96, 181, 0, 113, 42, 16, 30, 5, 182, 0, 147, 153, 0, 26, 42, 16, 30, 6]
abbrev dktX4_isAlphabetLine_0 : List UInt8 := dkwX4_isAlphabetLine_0 ++ dktX4_isAlphabetLine_1
theorem dksX4_isAlphabetLine_0 : cX4_isAlphabetLine.data.toList.drop 0 = dktX4_isAlphabetLine_0 := by decide +kernel
theorem dksX4_isAlphabetLine_1 : cX4_isAlphabetLine.data.toList.drop 24 = dktX4_isAlphabetLine_1 := dk_seg dksX4_isAlphabetLine_0 24 rfl rfl
theorem dX4_isAlphabetLine_0 : decode cX4_isAlphabetLine 0 = .ok (.aload_n 0, 1) := dk_42 (dk_at dksX4_isAlphabetLine_0 0 rfl rfl)
theorem dX4_isAlphabetLine_1 : decode cX4_isAlphabetLine 1 = .ok (.dup, 1) := dk_89 (dk_at dksX4_isAlphabetLine_0 1 rfl rfl)
theorem dX4_isAlphabetLine_2 : decode cX4_isAlphabetLine 2 = .ok (.getfield 113, 3) := dk_180 0 113 (dk_at dksX4_isAlphabetLine_0 2 rfl rfl)
theorem dX4_isAlphabetLine_5 : decode cX4_isAlphabetLine 5 = .ok (.iconst 1, 1) := dk_4 (dk_at dksX4_isAlphabetLine_0 5 rfl rfl)
theorem dX4_isAlphabetLine_6 : decode cX4_isAlphabetLine 6 = .ok (.iadd, 1) := dk_96 (dk_at dksX4_isAlphabetLine_0 6 rfl rfl)
theorem dX4_isAlphabetLine_7 : decode cX4_isAlphabetLine 7 = .ok (.putfield 113, 3) := dk_181 0 113 (dk_at dksX4_isAlphabetLine_0 7 rfl rfl)
theorem dX4_isAlphabetLine_10 : decode cX4_isAlphabetLine 10 = .ok (.aload_n 0, 1) := dk_42 (dk_at dksX4_isAlphabetLine_0 10 rfl rfl)
theorem dX4_isAlphabetLine_11 : decode cX4_isAlphabetLine 11 = .ok (.bipush 30, 2) := dk_16 30 (dk_at dksX4_isAlphabetLine_0 11 rfl rfl)
theorem dX4_isAlphabetLine_13 : decode cX4_isAlphabetLine 13 = .ok (.iconst 2, 1) := dk_5 (dk_at dksX4_isAlphabetLine_0 13 rfl rfl)
theorem dX4_isAlphabetLine_14 : decode cX4_isAlphabetLine 14 = .ok (.invokevirtual 147, 3) := dk_182 0 147 (dk_at dksX4_isAlphabetLine_0 14 rfl rfl)
theorem dX4_isAlphabetLine_17 : decode cX4_isAlphabetLine 17 = .ok (.ifCond .eq 26, 3) := dk_153 0 26 (dk_at dksX4_isAlphabetLine_0 17 rfl rfl)
theorem dX4_isAlphabetLine_20 : decode cX4_isAlphabetLine 20 = .ok (.aload_n 0, 1) := dk_42 (dk_at dksX4_isAlphabetLine_0 20 rfl rfl)
theorem dX4_isAlphabetLine_21 : decode cX4_isAlphabetLine 21 = .ok (.bipush 30, 2) := dk_16 30 (dk_at dksX4_isAlphabetLine_0 21 rfl rfl)
theorem dX4_isAlphabetLine_23 : decode cX4_isAlphabetLine 23 = .ok (.iconst 3, 1) := dk_6 (dk_at dksX4_isAlphabetLine_0 23 rfl rfl)
theorem dX4_isAlphabetLine_24 : decode cX4_isAlphabetLine 24 = .ok (.invokevirtual 147, 3) := dk_182 0 147 (dk_at dksX4_isAlphabetLine_1 0 rfl rfl)
theorem dX4_isAlphabetLine_27 : decode cX4_isAlphabetLine 27 = .ok (.ifCond .eq 16, 3) := dk_153 0 16 (dk_at dksX4_isAlphabetLine_1 3 rfl rfl)
theorem dX4_isAlphabetLine_30 : decode cX4_isAlphabetLine 30 = .ok (.aload_n 0, 1) := dk_42 (dk_at dksX4_isAlphabetLine_1 6 rfl rfl)
theorem dX4_isAlphabetLine_31 : decode cX4_isAlphabetLine 31 = .ok (.bipush 59, 2) := dk_16 59 (dk_at dksX4_isAlphabetLine_1 7 rfl rfl)
theorem dX4_isAlphabetLine_33 : decode cX4_isAlphabetLine 33 = .ok (.invokevirtual 151, 3) := dk_182 0 151 (dk_at dksX4_isAlphabetLine_1 9 rfl rfl)
theorem dX4_isAlphabetLine_36 : decode cX4_isAlphabetLine 36 = .ok (.ifCond .eq 7, 3) := dk_153 0 7 (dk_at dksX4_isAlphabetLine_1 12 rfl rfl)
theorem dX4_isAlphabetLine_39 : decode cX4_isAlphabetLine 39 = .ok (.iconst 1, 1) := dk_4 (dk_at dksX4_isAlphabetLine_1 15 rfl rfl)
theorem dX4_isAlphabetLine_40 : decode cX4_isAlphabetLine 40 = .ok (.goto 4, 3) := dk_167 0 4 (dk_at dksX4_isAlphabetLine_1 16 rfl rfl)
theorem dX4_isAlphabetLine_43 : decode cX4_isAlphabetLine 43 = .ok (.iconst 0, 1) := dk_3 (dk_at dksX4_isAlphabetLine_1 19 rfl rfl)
theorem dX4_isAlphabetLine_44 : decode cX4_isAlphabetLine 44 = .ok (.ireturn, 1) := dk_172 (dk_at dksX4_isAlphabetLine_1 20 rfl rfl)
abbrev cX4_isRule : ByteArray := prog_41_method_26_code
def yX4_isRule : MethodName := ⟨RX4, "isRule", "()Z"⟩
def dkwX4_isRule_7 : List UInt8 := [180, 0, 39, 180, 0, 125, 79, 42, 16, 59, 182, 0, 151, 172]
abbrev dktX4_isRule_7 : List UInt8 := dkwX4_isRule_7 ++ []
def dkwX4_isRule_6 : List UInt8 := [181, 0, 155, 42, 180, 0, 39, 180, 0, 158, 42, 180, 0, 39, 180, 0, 155, 16, 12, 184, 0, 73, 42]
abbrev dktX4_isRule_6 : List UInt8 := dkwX4_isRule_6 ++ dktX4_isRule_7
def dkwX4_isRule_5 : List UInt8 := [16, 30, 16, 6, 182, 0, 147, 154, 0, 5, 3, 172, 42, 180, 0, 39, 89, 180, 0, 155, 4, 96]
abbrev dktX4_isRule_5 : List UInt8 := dkwX4_isRule_5 ++ dktX4_isRule_6
def dkwX4_isRule_4 : List UInt8 := [16, 9, 182, 0, 119, 154, 0, 5, 3, 172, 42, 180, 0, 39, 180, 0, 170, 27, 42, 180, 0, 113, 79, 42]
abbrev dktX4_isRule_4 : List UInt8 := dkwX4_isRule_4 ++ dktX4_isRule_5
def dkwX4_isRule_3 : List UInt8 := [180, 0, 39, 180, 0, 164, 27, 42, 180, 0, 39, 180, 0, 125, 79, 42, 182, 0, 167, 153, 0, 12, 42]
abbrev dktX4_isRule_3 : List UInt8 := dkwX4_isRule_3 ++ dktX4_isRule_4
def dkwX4_isRule_2 : List UInt8 := [180, 0, 125, 79, 42, 182, 0, 161, 153, 0, 12, 42, 16, 8, 182, 0, 119, 154, 0, 5, 3, 172, 42]
abbrev dktX4_isRule_2 : List UInt8 := dkwX4_isRule_2 ++ dktX4_isRule_3
def dkwX4_isRule_1 : List UInt8 := [180, 0, 39, 180, 0, 155, 16, 12, 184, 0, 73, 60, 42, 180, 0, 39, 180, 0, 158, 27, 42, 180, 0, 39]
abbrev dktX4_isRule_1 : List UInt8 := dkwX4_isRule_1 ++ dktX4_isRule_2
def dkwX4_isRule_0 : List UInt8 := [42, 180, 0, 26, 42, 180, 0, 113, 16, 7, 79, 42, 89, 180, 0, 113, 4, 96, 181, 0, 113, 42]
abbrev dktX4_isRule_0 : List UInt8 := dkwX4_isRule_0 ++ dktX4_isRule_1
theorem dksX4_isRule_0 : cX4_isRule.data.toList.drop 0 = dktX4_isRule_0 := by decide +kernel
theorem dksX4_isRule_1 : cX4_isRule.data.toList.drop 22 = dktX4_isRule_1 := dk_seg dksX4_isRule_0 22 rfl rfl
theorem dksX4_isRule_2 : cX4_isRule.data.toList.drop 46 = dktX4_isRule_2 := dk_seg dksX4_isRule_1 24 rfl rfl
theorem dksX4_isRule_3 : cX4_isRule.data.toList.drop 69 = dktX4_isRule_3 := dk_seg dksX4_isRule_2 23 rfl rfl
theorem dksX4_isRule_4 : cX4_isRule.data.toList.drop 92 = dktX4_isRule_4 := dk_seg dksX4_isRule_3 23 rfl rfl
theorem dksX4_isRule_5 : cX4_isRule.data.toList.drop 116 = dktX4_isRule_5 := dk_seg dksX4_isRule_4 24 rfl rfl
theorem dksX4_isRule_6 : cX4_isRule.data.toList.drop 138 = dktX4_isRule_6 := dk_seg dksX4_isRule_5 22 rfl rfl
theorem dksX4_isRule_7 : cX4_isRule.data.toList.drop 161 = dktX4_isRule_7 := dk_seg dksX4_isRule_6 23 rfl rfl
theorem dX4_isRule_0 : decode cX4_isRule 0 = .ok (.aload_n 0, 1) := dk_42 (dk_at dksX4_isRule_0 0 rfl rfl)
theorem dX4_isRule_1 : decode cX4_isRule 1 = .ok (.getfield 26, 3) := dk_180 0 26 (dk_at dksX4_isRule_0 1 rfl rfl)
theorem dX4_isRule_4 : decode cX4_isRule 4 = .ok (.aload_n 0, 1) := dk_42 (dk_at dksX4_isRule_0 4 rfl rfl)
theorem dX4_isRule_5 : decode cX4_isRule 5 = .ok (.getfield 113, 3) := dk_180 0 113 (dk_at dksX4_isRule_0 5 rfl rfl)
theorem dX4_isRule_8 : decode cX4_isRule 8 = .ok (.bipush 7, 2) := dk_16 7 (dk_at dksX4_isRule_0 8 rfl rfl)
theorem dX4_isRule_10 : decode cX4_isRule 10 = .ok (.iastore, 1) := dk_79 (dk_at dksX4_isRule_0 10 rfl rfl)
theorem dX4_isRule_11 : decode cX4_isRule 11 = .ok (.aload_n 0, 1) := dk_42 (dk_at dksX4_isRule_0 11 rfl rfl)
theorem dX4_isRule_12 : decode cX4_isRule 12 = .ok (.dup, 1) := dk_89 (dk_at dksX4_isRule_0 12 rfl rfl)
theorem dX4_isRule_13 : decode cX4_isRule 13 = .ok (.getfield 113, 3) := dk_180 0 113 (dk_at dksX4_isRule_0 13 rfl rfl)
theorem dX4_isRule_16 : decode cX4_isRule 16 = .ok (.iconst 1, 1) := dk_4 (dk_at dksX4_isRule_0 16 rfl rfl)
theorem dX4_isRule_17 : decode cX4_isRule 17 = .ok (.iadd, 1) := dk_96 (dk_at dksX4_isRule_0 17 rfl rfl)
theorem dX4_isRule_18 : decode cX4_isRule 18 = .ok (.putfield 113, 3) := dk_181 0 113 (dk_at dksX4_isRule_0 18 rfl rfl)
theorem dX4_isRule_21 : decode cX4_isRule 21 = .ok (.aload_n 0, 1) := dk_42 (dk_at dksX4_isRule_0 21 rfl rfl)
theorem dX4_isRule_22 : decode cX4_isRule 22 = .ok (.getfield 39, 3) := dk_180 0 39 (dk_at dksX4_isRule_1 0 rfl rfl)
theorem dX4_isRule_25 : decode cX4_isRule 25 = .ok (.getfield 155, 3) := dk_180 0 155 (dk_at dksX4_isRule_1 3 rfl rfl)
theorem dX4_isRule_28 : decode cX4_isRule 28 = .ok (.bipush 12, 2) := dk_16 12 (dk_at dksX4_isRule_1 6 rfl rfl)
theorem dX4_isRule_30 : decode cX4_isRule 30 = .ok (.invokestatic 73, 3) := dk_184 0 73 (dk_at dksX4_isRule_1 8 rfl rfl)
theorem dX4_isRule_33 : decode cX4_isRule 33 = .ok (.istore_n 1, 1) := dk_60 (dk_at dksX4_isRule_1 11 rfl rfl)
theorem dX4_isRule_34 : decode cX4_isRule 34 = .ok (.aload_n 0, 1) := dk_42 (dk_at dksX4_isRule_1 12 rfl rfl)
theorem dX4_isRule_35 : decode cX4_isRule 35 = .ok (.getfield 39, 3) := dk_180 0 39 (dk_at dksX4_isRule_1 13 rfl rfl)
theorem dX4_isRule_38 : decode cX4_isRule 38 = .ok (.getfield 158, 3) := dk_180 0 158 (dk_at dksX4_isRule_1 16 rfl rfl)
theorem dX4_isRule_41 : decode cX4_isRule 41 = .ok (.iload_n 1, 1) := dk_27 (dk_at dksX4_isRule_1 19 rfl rfl)
theorem dX4_isRule_42 : decode cX4_isRule 42 = .ok (.aload_n 0, 1) := dk_42 (dk_at dksX4_isRule_1 20 rfl rfl)
theorem dX4_isRule_43 : decode cX4_isRule 43 = .ok (.getfield 39, 3) := dk_180 0 39 (dk_at dksX4_isRule_1 21 rfl rfl)
theorem dX4_isRule_46 : decode cX4_isRule 46 = .ok (.getfield 125, 3) := dk_180 0 125 (dk_at dksX4_isRule_2 0 rfl rfl)
theorem dX4_isRule_49 : decode cX4_isRule 49 = .ok (.iastore, 1) := dk_79 (dk_at dksX4_isRule_2 3 rfl rfl)
theorem dX4_isRule_50 : decode cX4_isRule 50 = .ok (.aload_n 0, 1) := dk_42 (dk_at dksX4_isRule_2 4 rfl rfl)
theorem dX4_isRule_51 : decode cX4_isRule 51 = .ok (.invokevirtual 161, 3) := dk_182 0 161 (dk_at dksX4_isRule_2 5 rfl rfl)
theorem dX4_isRule_54 : decode cX4_isRule 54 = .ok (.ifCond .eq 12, 3) := dk_153 0 12 (dk_at dksX4_isRule_2 8 rfl rfl)
theorem dX4_isRule_57 : decode cX4_isRule 57 = .ok (.aload_n 0, 1) := dk_42 (dk_at dksX4_isRule_2 11 rfl rfl)
theorem dX4_isRule_58 : decode cX4_isRule 58 = .ok (.bipush 8, 2) := dk_16 8 (dk_at dksX4_isRule_2 12 rfl rfl)
theorem dX4_isRule_60 : decode cX4_isRule 60 = .ok (.invokevirtual 119, 3) := dk_182 0 119 (dk_at dksX4_isRule_2 14 rfl rfl)
theorem dX4_isRule_63 : decode cX4_isRule 63 = .ok (.ifCond .ne 5, 3) := dk_154 0 5 (dk_at dksX4_isRule_2 17 rfl rfl)
theorem dX4_isRule_66 : decode cX4_isRule 66 = .ok (.iconst 0, 1) := dk_3 (dk_at dksX4_isRule_2 20 rfl rfl)
theorem dX4_isRule_67 : decode cX4_isRule 67 = .ok (.ireturn, 1) := dk_172 (dk_at dksX4_isRule_2 21 rfl rfl)
theorem dX4_isRule_68 : decode cX4_isRule 68 = .ok (.aload_n 0, 1) := dk_42 (dk_at dksX4_isRule_2 22 rfl rfl)
theorem dX4_isRule_69 : decode cX4_isRule 69 = .ok (.getfield 39, 3) := dk_180 0 39 (dk_at dksX4_isRule_3 0 rfl rfl)
theorem dX4_isRule_72 : decode cX4_isRule 72 = .ok (.getfield 164, 3) := dk_180 0 164 (dk_at dksX4_isRule_3 3 rfl rfl)
theorem dX4_isRule_75 : decode cX4_isRule 75 = .ok (.iload_n 1, 1) := dk_27 (dk_at dksX4_isRule_3 6 rfl rfl)
theorem dX4_isRule_76 : decode cX4_isRule 76 = .ok (.aload_n 0, 1) := dk_42 (dk_at dksX4_isRule_3 7 rfl rfl)
theorem dX4_isRule_77 : decode cX4_isRule 77 = .ok (.getfield 39, 3) := dk_180 0 39 (dk_at dksX4_isRule_3 8 rfl rfl)
theorem dX4_isRule_80 : decode cX4_isRule 80 = .ok (.getfield 125, 3) := dk_180 0 125 (dk_at dksX4_isRule_3 11 rfl rfl)
theorem dX4_isRule_83 : decode cX4_isRule 83 = .ok (.iastore, 1) := dk_79 (dk_at dksX4_isRule_3 14 rfl rfl)
theorem dX4_isRule_84 : decode cX4_isRule 84 = .ok (.aload_n 0, 1) := dk_42 (dk_at dksX4_isRule_3 15 rfl rfl)
theorem dX4_isRule_85 : decode cX4_isRule 85 = .ok (.invokevirtual 167, 3) := dk_182 0 167 (dk_at dksX4_isRule_3 16 rfl rfl)
theorem dX4_isRule_88 : decode cX4_isRule 88 = .ok (.ifCond .eq 12, 3) := dk_153 0 12 (dk_at dksX4_isRule_3 19 rfl rfl)
theorem dX4_isRule_91 : decode cX4_isRule 91 = .ok (.aload_n 0, 1) := dk_42 (dk_at dksX4_isRule_3 22 rfl rfl)
theorem dX4_isRule_92 : decode cX4_isRule 92 = .ok (.bipush 9, 2) := dk_16 9 (dk_at dksX4_isRule_4 0 rfl rfl)
theorem dX4_isRule_94 : decode cX4_isRule 94 = .ok (.invokevirtual 119, 3) := dk_182 0 119 (dk_at dksX4_isRule_4 2 rfl rfl)
theorem dX4_isRule_97 : decode cX4_isRule 97 = .ok (.ifCond .ne 5, 3) := dk_154 0 5 (dk_at dksX4_isRule_4 5 rfl rfl)
theorem dX4_isRule_100 : decode cX4_isRule 100 = .ok (.iconst 0, 1) := dk_3 (dk_at dksX4_isRule_4 8 rfl rfl)
theorem dX4_isRule_101 : decode cX4_isRule 101 = .ok (.ireturn, 1) := dk_172 (dk_at dksX4_isRule_4 9 rfl rfl)
theorem dX4_isRule_102 : decode cX4_isRule 102 = .ok (.aload_n 0, 1) := dk_42 (dk_at dksX4_isRule_4 10 rfl rfl)
theorem dX4_isRule_103 : decode cX4_isRule 103 = .ok (.getfield 39, 3) := dk_180 0 39 (dk_at dksX4_isRule_4 11 rfl rfl)
theorem dX4_isRule_106 : decode cX4_isRule 106 = .ok (.getfield 170, 3) := dk_180 0 170 (dk_at dksX4_isRule_4 14 rfl rfl)
theorem dX4_isRule_109 : decode cX4_isRule 109 = .ok (.iload_n 1, 1) := dk_27 (dk_at dksX4_isRule_4 17 rfl rfl)
theorem dX4_isRule_110 : decode cX4_isRule 110 = .ok (.aload_n 0, 1) := dk_42 (dk_at dksX4_isRule_4 18 rfl rfl)
theorem dX4_isRule_111 : decode cX4_isRule 111 = .ok (.getfield 113, 3) := dk_180 0 113 (dk_at dksX4_isRule_4 19 rfl rfl)
theorem dX4_isRule_114 : decode cX4_isRule 114 = .ok (.iastore, 1) := dk_79 (dk_at dksX4_isRule_4 22 rfl rfl)
theorem dX4_isRule_115 : decode cX4_isRule 115 = .ok (.aload_n 0, 1) := dk_42 (dk_at dksX4_isRule_4 23 rfl rfl)
theorem dX4_isRule_116 : decode cX4_isRule 116 = .ok (.bipush 30, 2) := dk_16 30 (dk_at dksX4_isRule_5 0 rfl rfl)
theorem dX4_isRule_118 : decode cX4_isRule 118 = .ok (.bipush 6, 2) := dk_16 6 (dk_at dksX4_isRule_5 2 rfl rfl)
theorem dX4_isRule_120 : decode cX4_isRule 120 = .ok (.invokevirtual 147, 3) := dk_182 0 147 (dk_at dksX4_isRule_5 4 rfl rfl)
theorem dX4_isRule_123 : decode cX4_isRule 123 = .ok (.ifCond .ne 5, 3) := dk_154 0 5 (dk_at dksX4_isRule_5 7 rfl rfl)
theorem dX4_isRule_126 : decode cX4_isRule 126 = .ok (.iconst 0, 1) := dk_3 (dk_at dksX4_isRule_5 10 rfl rfl)
theorem dX4_isRule_127 : decode cX4_isRule 127 = .ok (.ireturn, 1) := dk_172 (dk_at dksX4_isRule_5 11 rfl rfl)
theorem dX4_isRule_128 : decode cX4_isRule 128 = .ok (.aload_n 0, 1) := dk_42 (dk_at dksX4_isRule_5 12 rfl rfl)
theorem dX4_isRule_129 : decode cX4_isRule 129 = .ok (.getfield 39, 3) := dk_180 0 39 (dk_at dksX4_isRule_5 13 rfl rfl)
theorem dX4_isRule_132 : decode cX4_isRule 132 = .ok (.dup, 1) := dk_89 (dk_at dksX4_isRule_5 16 rfl rfl)
theorem dX4_isRule_133 : decode cX4_isRule 133 = .ok (.getfield 155, 3) := dk_180 0 155 (dk_at dksX4_isRule_5 17 rfl rfl)
theorem dX4_isRule_136 : decode cX4_isRule 136 = .ok (.iconst 1, 1) := dk_4 (dk_at dksX4_isRule_5 20 rfl rfl)
theorem dX4_isRule_137 : decode cX4_isRule 137 = .ok (.iadd, 1) := dk_96 (dk_at dksX4_isRule_5 21 rfl rfl)
theorem dX4_isRule_138 : decode cX4_isRule 138 = .ok (.putfield 155, 3) := dk_181 0 155 (dk_at dksX4_isRule_6 0 rfl rfl)
theorem dX4_isRule_141 : decode cX4_isRule 141 = .ok (.aload_n 0, 1) := dk_42 (dk_at dksX4_isRule_6 3 rfl rfl)
theorem dX4_isRule_142 : decode cX4_isRule 142 = .ok (.getfield 39, 3) := dk_180 0 39 (dk_at dksX4_isRule_6 4 rfl rfl)
theorem dX4_isRule_145 : decode cX4_isRule 145 = .ok (.getfield 158, 3) := dk_180 0 158 (dk_at dksX4_isRule_6 7 rfl rfl)
theorem dX4_isRule_148 : decode cX4_isRule 148 = .ok (.aload_n 0, 1) := dk_42 (dk_at dksX4_isRule_6 10 rfl rfl)
theorem dX4_isRule_149 : decode cX4_isRule 149 = .ok (.getfield 39, 3) := dk_180 0 39 (dk_at dksX4_isRule_6 11 rfl rfl)
theorem dX4_isRule_152 : decode cX4_isRule 152 = .ok (.getfield 155, 3) := dk_180 0 155 (dk_at dksX4_isRule_6 14 rfl rfl)
theorem dX4_isRule_155 : decode cX4_isRule 155 = .ok (.bipush 12, 2) := dk_16 12 (dk_at dksX4_isRule_6 17 rfl rfl)
theorem dX4_isRule_157 : decode cX4_isRule 157 = .ok (.invokestatic 73, 3) := dk_184 0 73 (dk_at dksX4_isRule_6 19 rfl rfl)
theorem dX4_isRule_160 : decode cX4_isRule 160 = .ok (.aload_n 0, 1) := dk_42 (dk_at dksX4_isRule_6 22 rfl rfl)
theorem dX4_isRule_161 : decode cX4_isRule 161 = .ok (.getfield 39, 3) := dk_180 0 39 (dk_at dksX4_isRule_7 0 rfl rfl)
theorem dX4_isRule_164 : decode cX4_isRule 164 = .ok (.getfield 125, 3) := dk_180 0 125 (dk_at dksX4_isRule_7 3 rfl rfl)
theorem dX4_isRule_167 : decode cX4_isRule 167 = .ok (.iastore, 1) := dk_79 (dk_at dksX4_isRule_7 6 rfl rfl)
theorem dX4_isRule_168 : decode cX4_isRule 168 = .ok (.aload_n 0, 1) := dk_42 (dk_at dksX4_isRule_7 7 rfl rfl)
theorem dX4_isRule_169 : decode cX4_isRule 169 = .ok (.bipush 59, 2) := dk_16 59 (dk_at dksX4_isRule_7 8 rfl rfl)
theorem dX4_isRule_171 : decode cX4_isRule 171 = .ok (.invokevirtual 151, 3) := dk_182 0 151 (dk_at dksX4_isRule_7 10 rfl rfl)
theorem dX4_isRule_174 : decode cX4_isRule 174 = .ok (.ireturn, 1) := dk_172 (dk_at dksX4_isRule_7 13 rfl rfl)
abbrev cX4_isTest : ByteArray := prog_41_method_27_code
def yX4_isTest : MethodName := ⟨RX4, "isTest", "()Z"⟩
def dkwX4_isTest_1 : List UInt8 := [154, 0, 5, 3, 172, 42, 16, 19, 182, 0, 133, 167, 255, 232, 4, 172]
abbrev dktX4_isTest_1 : List UInt8 := dkwX4_isTest_1 ++ []
def dkwX4_isTest_0 : List UInt8 := [42, 182, 0, 173, 154, 0, 5, 3, 172, 42, 16, 19, 182, 0, 119, 153, 0, 21, 42, 182, 0, 173]
abbrev dktX4_isTest_0 : List UInt8 := dkwX4_isTest_0 ++ dktX4_isTest_1
theorem dksX4_isTest_0 : cX4_isTest.data.toList.drop 0 = dktX4_isTest_0 := by decide +kernel
theorem dksX4_isTest_1 : cX4_isTest.data.toList.drop 22 = dktX4_isTest_1 := dk_seg dksX4_isTest_0 22 rfl rfl
theorem dX4_isTest_0 : decode cX4_isTest 0 = .ok (.aload_n 0, 1) := dk_42 (dk_at dksX4_isTest_0 0 rfl rfl)
theorem dX4_isTest_1 : decode cX4_isTest 1 = .ok (.invokevirtual 173, 3) := dk_182 0 173 (dk_at dksX4_isTest_0 1 rfl rfl)
theorem dX4_isTest_4 : decode cX4_isTest 4 = .ok (.ifCond .ne 5, 3) := dk_154 0 5 (dk_at dksX4_isTest_0 4 rfl rfl)
theorem dX4_isTest_7 : decode cX4_isTest 7 = .ok (.iconst 0, 1) := dk_3 (dk_at dksX4_isTest_0 7 rfl rfl)
theorem dX4_isTest_8 : decode cX4_isTest 8 = .ok (.ireturn, 1) := dk_172 (dk_at dksX4_isTest_0 8 rfl rfl)
theorem dX4_isTest_9 : decode cX4_isTest 9 = .ok (.aload_n 0, 1) := dk_42 (dk_at dksX4_isTest_0 9 rfl rfl)
theorem dX4_isTest_10 : decode cX4_isTest 10 = .ok (.bipush 19, 2) := dk_16 19 (dk_at dksX4_isTest_0 10 rfl rfl)
theorem dX4_isTest_12 : decode cX4_isTest 12 = .ok (.invokevirtual 119, 3) := dk_182 0 119 (dk_at dksX4_isTest_0 12 rfl rfl)
theorem dX4_isTest_15 : decode cX4_isTest 15 = .ok (.ifCond .eq 21, 3) := dk_153 0 21 (dk_at dksX4_isTest_0 15 rfl rfl)
theorem dX4_isTest_18 : decode cX4_isTest 18 = .ok (.aload_n 0, 1) := dk_42 (dk_at dksX4_isTest_0 18 rfl rfl)
theorem dX4_isTest_19 : decode cX4_isTest 19 = .ok (.invokevirtual 173, 3) := dk_182 0 173 (dk_at dksX4_isTest_0 19 rfl rfl)
theorem dX4_isTest_22 : decode cX4_isTest 22 = .ok (.ifCond .ne 5, 3) := dk_154 0 5 (dk_at dksX4_isTest_1 0 rfl rfl)
theorem dX4_isTest_25 : decode cX4_isTest 25 = .ok (.iconst 0, 1) := dk_3 (dk_at dksX4_isTest_1 3 rfl rfl)
theorem dX4_isTest_26 : decode cX4_isTest 26 = .ok (.ireturn, 1) := dk_172 (dk_at dksX4_isTest_1 4 rfl rfl)
theorem dX4_isTest_27 : decode cX4_isTest 27 = .ok (.aload_n 0, 1) := dk_42 (dk_at dksX4_isTest_1 5 rfl rfl)
theorem dX4_isTest_28 : decode cX4_isTest 28 = .ok (.bipush 19, 2) := dk_16 19 (dk_at dksX4_isTest_1 6 rfl rfl)
theorem dX4_isTest_30 : decode cX4_isTest 30 = .ok (.invokevirtual 133, 3) := dk_182 0 133 (dk_at dksX4_isTest_1 8 rfl rfl)
theorem dX4_isTest_33 : decode cX4_isTest 33 = .ok (.goto (-24), 3) := dk_167 255 232 (dk_at dksX4_isTest_1 11 rfl rfl)
theorem dX4_isTest_36 : decode cX4_isTest 36 = .ok (.iconst 1, 1) := dk_4 (dk_at dksX4_isTest_1 14 rfl rfl)
theorem dX4_isTest_37 : decode cX4_isTest 37 = .ok (.ireturn, 1) := dk_172 (dk_at dksX4_isTest_1 15 rfl rfl)
abbrev cX4_isBoth : ByteArray := prog_41_method_28_code
def yX4_isBoth : MethodName := ⟨RX4, "isBoth", "()Z"⟩
def dkwX4_isBoth_1 : List UInt8 := [154, 0, 5, 3, 172, 42, 16, 18, 182, 0, 133, 167, 255, 232, 4, 172]
abbrev dktX4_isBoth_1 : List UInt8 := dkwX4_isBoth_1 ++ []
def dkwX4_isBoth_0 : List UInt8 := [42, 182, 0, 176, 154, 0, 5, 3, 172, 42, 16, 18, 182, 0, 119, 153, 0, 21, 42, 182, 0, 176]
abbrev dktX4_isBoth_0 : List UInt8 := dkwX4_isBoth_0 ++ dktX4_isBoth_1
theorem dksX4_isBoth_0 : cX4_isBoth.data.toList.drop 0 = dktX4_isBoth_0 := by decide +kernel
theorem dksX4_isBoth_1 : cX4_isBoth.data.toList.drop 22 = dktX4_isBoth_1 := dk_seg dksX4_isBoth_0 22 rfl rfl
theorem dX4_isBoth_0 : decode cX4_isBoth 0 = .ok (.aload_n 0, 1) := dk_42 (dk_at dksX4_isBoth_0 0 rfl rfl)
theorem dX4_isBoth_1 : decode cX4_isBoth 1 = .ok (.invokevirtual 176, 3) := dk_182 0 176 (dk_at dksX4_isBoth_0 1 rfl rfl)
theorem dX4_isBoth_4 : decode cX4_isBoth 4 = .ok (.ifCond .ne 5, 3) := dk_154 0 5 (dk_at dksX4_isBoth_0 4 rfl rfl)
theorem dX4_isBoth_7 : decode cX4_isBoth 7 = .ok (.iconst 0, 1) := dk_3 (dk_at dksX4_isBoth_0 7 rfl rfl)
theorem dX4_isBoth_8 : decode cX4_isBoth 8 = .ok (.ireturn, 1) := dk_172 (dk_at dksX4_isBoth_0 8 rfl rfl)
theorem dX4_isBoth_9 : decode cX4_isBoth 9 = .ok (.aload_n 0, 1) := dk_42 (dk_at dksX4_isBoth_0 9 rfl rfl)
theorem dX4_isBoth_10 : decode cX4_isBoth 10 = .ok (.bipush 18, 2) := dk_16 18 (dk_at dksX4_isBoth_0 10 rfl rfl)
theorem dX4_isBoth_12 : decode cX4_isBoth 12 = .ok (.invokevirtual 119, 3) := dk_182 0 119 (dk_at dksX4_isBoth_0 12 rfl rfl)
theorem dX4_isBoth_15 : decode cX4_isBoth 15 = .ok (.ifCond .eq 21, 3) := dk_153 0 21 (dk_at dksX4_isBoth_0 15 rfl rfl)
theorem dX4_isBoth_18 : decode cX4_isBoth 18 = .ok (.aload_n 0, 1) := dk_42 (dk_at dksX4_isBoth_0 18 rfl rfl)
theorem dX4_isBoth_19 : decode cX4_isBoth 19 = .ok (.invokevirtual 176, 3) := dk_182 0 176 (dk_at dksX4_isBoth_0 19 rfl rfl)
theorem dX4_isBoth_22 : decode cX4_isBoth 22 = .ok (.ifCond .ne 5, 3) := dk_154 0 5 (dk_at dksX4_isBoth_1 0 rfl rfl)
theorem dX4_isBoth_25 : decode cX4_isBoth 25 = .ok (.iconst 0, 1) := dk_3 (dk_at dksX4_isBoth_1 3 rfl rfl)
theorem dX4_isBoth_26 : decode cX4_isBoth 26 = .ok (.ireturn, 1) := dk_172 (dk_at dksX4_isBoth_1 4 rfl rfl)
theorem dX4_isBoth_27 : decode cX4_isBoth 27 = .ok (.aload_n 0, 1) := dk_42 (dk_at dksX4_isBoth_1 5 rfl rfl)
theorem dX4_isBoth_28 : decode cX4_isBoth 28 = .ok (.bipush 18, 2) := dk_16 18 (dk_at dksX4_isBoth_1 6 rfl rfl)
theorem dX4_isBoth_30 : decode cX4_isBoth 30 = .ok (.invokevirtual 133, 3) := dk_182 0 133 (dk_at dksX4_isBoth_1 8 rfl rfl)
theorem dX4_isBoth_33 : decode cX4_isBoth 33 = .ok (.goto (-24), 3) := dk_167 255 232 (dk_at dksX4_isBoth_1 11 rfl rfl)
theorem dX4_isBoth_36 : decode cX4_isBoth 36 = .ok (.iconst 1, 1) := dk_4 (dk_at dksX4_isBoth_1 14 rfl rfl)
theorem dX4_isBoth_37 : decode cX4_isBoth 37 = .ok (.ireturn, 1) := dk_172 (dk_at dksX4_isBoth_1 15 rfl rfl)
abbrev cX4_isSingle : ByteArray := prog_41_method_32_code
def yX4_isSingle : MethodName := ⟨RX4, "isSingle", "()Z"⟩
def dkwX4_isSingle_5 : List UInt8 := [7, 182, 0, 116, 153, 0, 11, 42, 7, 182, 0, 193, 167, 0, 7, 42, 182, 0, 196, 172]
abbrev dktX4_isSingle_5 : List UInt8 := dkwX4_isSingle_5 ++ []
def dkwX4_isSingle_4 : List UInt8 := [42, 16, 11, 182, 0, 116, 153, 0, 17, 42, 42, 180, 0, 17, 42, 180, 0, 113, 46, 182, 0, 190, 172, 42]
abbrev dktX4_isSingle_4 : List UInt8 := dkwX4_isSingle_4 ++ dktX4_isSingle_5
def dkwX4_isSingle_3 : List UInt8 := [180, 0, 179, 4, 100, 181, 0, 179, 42, 16, 93, 182, 0, 151, 172, 42, 16, 10, 182, 0, 116, 154, 0, 12]
abbrev dktX4_isSingle_3 : List UInt8 := dkwX4_isSingle_3 ++ dktX4_isSingle_4
def dkwX4_isSingle_2 : List UInt8 := [182, 0, 187, 153, 0, 36, 42, 182, 0, 185, 153, 0, 10, 42, 182, 0, 161, 154, 0, 5, 3, 172, 42, 89]
abbrev dktX4_isSingle_2 : List UInt8 := dkwX4_isSingle_2 ++ dktX4_isSingle_3
def dkwX4_isSingle_1 : List UInt8 := [172, 42, 89, 180, 0, 179, 4, 100, 181, 0, 179, 42, 16, 17, 182, 0, 133, 4, 172, 42, 16, 91]
abbrev dktX4_isSingle_1 : List UInt8 := dkwX4_isSingle_1 ++ dktX4_isSingle_2
def dkwX4_isSingle_0 : List UInt8 := [42, 16, 17, 182, 0, 116, 153, 0, 37, 42, 182, 0, 185, 153, 0, 10, 42, 182, 0, 176, 154, 0, 5, 3]
abbrev dktX4_isSingle_0 : List UInt8 := dkwX4_isSingle_0 ++ dktX4_isSingle_1
theorem dksX4_isSingle_0 : cX4_isSingle.data.toList.drop 0 = dktX4_isSingle_0 := by decide +kernel
theorem dksX4_isSingle_1 : cX4_isSingle.data.toList.drop 24 = dktX4_isSingle_1 := dk_seg dksX4_isSingle_0 24 rfl rfl
theorem dksX4_isSingle_2 : cX4_isSingle.data.toList.drop 46 = dktX4_isSingle_2 := dk_seg dksX4_isSingle_1 22 rfl rfl
theorem dksX4_isSingle_3 : cX4_isSingle.data.toList.drop 70 = dktX4_isSingle_3 := dk_seg dksX4_isSingle_2 24 rfl rfl
theorem dksX4_isSingle_4 : cX4_isSingle.data.toList.drop 94 = dktX4_isSingle_4 := dk_seg dksX4_isSingle_3 24 rfl rfl
theorem dksX4_isSingle_5 : cX4_isSingle.data.toList.drop 118 = dktX4_isSingle_5 := dk_seg dksX4_isSingle_4 24 rfl rfl
theorem dX4_isSingle_0 : decode cX4_isSingle 0 = .ok (.aload_n 0, 1) := dk_42 (dk_at dksX4_isSingle_0 0 rfl rfl)
theorem dX4_isSingle_1 : decode cX4_isSingle 1 = .ok (.bipush 17, 2) := dk_16 17 (dk_at dksX4_isSingle_0 1 rfl rfl)
theorem dX4_isSingle_3 : decode cX4_isSingle 3 = .ok (.invokevirtual 116, 3) := dk_182 0 116 (dk_at dksX4_isSingle_0 3 rfl rfl)
theorem dX4_isSingle_6 : decode cX4_isSingle 6 = .ok (.ifCond .eq 37, 3) := dk_153 0 37 (dk_at dksX4_isSingle_0 6 rfl rfl)
theorem dX4_isSingle_9 : decode cX4_isSingle 9 = .ok (.aload_n 0, 1) := dk_42 (dk_at dksX4_isSingle_0 9 rfl rfl)
theorem dX4_isSingle_10 : decode cX4_isSingle 10 = .ok (.invokevirtual 185, 3) := dk_182 0 185 (dk_at dksX4_isSingle_0 10 rfl rfl)
theorem dX4_isSingle_13 : decode cX4_isSingle 13 = .ok (.ifCond .eq 10, 3) := dk_153 0 10 (dk_at dksX4_isSingle_0 13 rfl rfl)
theorem dX4_isSingle_16 : decode cX4_isSingle 16 = .ok (.aload_n 0, 1) := dk_42 (dk_at dksX4_isSingle_0 16 rfl rfl)
theorem dX4_isSingle_17 : decode cX4_isSingle 17 = .ok (.invokevirtual 176, 3) := dk_182 0 176 (dk_at dksX4_isSingle_0 17 rfl rfl)
theorem dX4_isSingle_20 : decode cX4_isSingle 20 = .ok (.ifCond .ne 5, 3) := dk_154 0 5 (dk_at dksX4_isSingle_0 20 rfl rfl)
theorem dX4_isSingle_23 : decode cX4_isSingle 23 = .ok (.iconst 0, 1) := dk_3 (dk_at dksX4_isSingle_0 23 rfl rfl)
theorem dX4_isSingle_24 : decode cX4_isSingle 24 = .ok (.ireturn, 1) := dk_172 (dk_at dksX4_isSingle_1 0 rfl rfl)
theorem dX4_isSingle_25 : decode cX4_isSingle 25 = .ok (.aload_n 0, 1) := dk_42 (dk_at dksX4_isSingle_1 1 rfl rfl)
theorem dX4_isSingle_26 : decode cX4_isSingle 26 = .ok (.dup, 1) := dk_89 (dk_at dksX4_isSingle_1 2 rfl rfl)
theorem dX4_isSingle_27 : decode cX4_isSingle 27 = .ok (.getfield 179, 3) := dk_180 0 179 (dk_at dksX4_isSingle_1 3 rfl rfl)
theorem dX4_isSingle_30 : decode cX4_isSingle 30 = .ok (.iconst 1, 1) := dk_4 (dk_at dksX4_isSingle_1 6 rfl rfl)
theorem dX4_isSingle_31 : decode cX4_isSingle 31 = .ok (.isub, 1) := dk_100 (dk_at dksX4_isSingle_1 7 rfl rfl)
theorem dX4_isSingle_32 : decode cX4_isSingle 32 = .ok (.putfield 179, 3) := dk_181 0 179 (dk_at dksX4_isSingle_1 8 rfl rfl)
theorem dX4_isSingle_35 : decode cX4_isSingle 35 = .ok (.aload_n 0, 1) := dk_42 (dk_at dksX4_isSingle_1 11 rfl rfl)
theorem dX4_isSingle_36 : decode cX4_isSingle 36 = .ok (.bipush 17, 2) := dk_16 17 (dk_at dksX4_isSingle_1 12 rfl rfl)
theorem dX4_isSingle_38 : decode cX4_isSingle 38 = .ok (.invokevirtual 133, 3) := dk_182 0 133 (dk_at dksX4_isSingle_1 14 rfl rfl)
theorem dX4_isSingle_41 : decode cX4_isSingle 41 = .ok (.iconst 1, 1) := dk_4 (dk_at dksX4_isSingle_1 17 rfl rfl)
theorem dX4_isSingle_42 : decode cX4_isSingle 42 = .ok (.ireturn, 1) := dk_172 (dk_at dksX4_isSingle_1 18 rfl rfl)
theorem dX4_isSingle_43 : decode cX4_isSingle 43 = .ok (.aload_n 0, 1) := dk_42 (dk_at dksX4_isSingle_1 19 rfl rfl)
theorem dX4_isSingle_44 : decode cX4_isSingle 44 = .ok (.bipush 91, 2) := dk_16 91 (dk_at dksX4_isSingle_1 20 rfl rfl)
theorem dX4_isSingle_46 : decode cX4_isSingle 46 = .ok (.invokevirtual 187, 3) := dk_182 0 187 (dk_at dksX4_isSingle_2 0 rfl rfl)
theorem dX4_isSingle_49 : decode cX4_isSingle 49 = .ok (.ifCond .eq 36, 3) := dk_153 0 36 (dk_at dksX4_isSingle_2 3 rfl rfl)
theorem dX4_isSingle_52 : decode cX4_isSingle 52 = .ok (.aload_n 0, 1) := dk_42 (dk_at dksX4_isSingle_2 6 rfl rfl)
theorem dX4_isSingle_53 : decode cX4_isSingle 53 = .ok (.invokevirtual 185, 3) := dk_182 0 185 (dk_at dksX4_isSingle_2 7 rfl rfl)
theorem dX4_isSingle_56 : decode cX4_isSingle 56 = .ok (.ifCond .eq 10, 3) := dk_153 0 10 (dk_at dksX4_isSingle_2 10 rfl rfl)
theorem dX4_isSingle_59 : decode cX4_isSingle 59 = .ok (.aload_n 0, 1) := dk_42 (dk_at dksX4_isSingle_2 13 rfl rfl)
theorem dX4_isSingle_60 : decode cX4_isSingle 60 = .ok (.invokevirtual 161, 3) := dk_182 0 161 (dk_at dksX4_isSingle_2 14 rfl rfl)
theorem dX4_isSingle_63 : decode cX4_isSingle 63 = .ok (.ifCond .ne 5, 3) := dk_154 0 5 (dk_at dksX4_isSingle_2 17 rfl rfl)
theorem dX4_isSingle_66 : decode cX4_isSingle 66 = .ok (.iconst 0, 1) := dk_3 (dk_at dksX4_isSingle_2 20 rfl rfl)
theorem dX4_isSingle_67 : decode cX4_isSingle 67 = .ok (.ireturn, 1) := dk_172 (dk_at dksX4_isSingle_2 21 rfl rfl)
theorem dX4_isSingle_68 : decode cX4_isSingle 68 = .ok (.aload_n 0, 1) := dk_42 (dk_at dksX4_isSingle_2 22 rfl rfl)
theorem dX4_isSingle_69 : decode cX4_isSingle 69 = .ok (.dup, 1) := dk_89 (dk_at dksX4_isSingle_2 23 rfl rfl)
theorem dX4_isSingle_70 : decode cX4_isSingle 70 = .ok (.getfield 179, 3) := dk_180 0 179 (dk_at dksX4_isSingle_3 0 rfl rfl)
theorem dX4_isSingle_73 : decode cX4_isSingle 73 = .ok (.iconst 1, 1) := dk_4 (dk_at dksX4_isSingle_3 3 rfl rfl)
theorem dX4_isSingle_74 : decode cX4_isSingle 74 = .ok (.isub, 1) := dk_100 (dk_at dksX4_isSingle_3 4 rfl rfl)
theorem dX4_isSingle_75 : decode cX4_isSingle 75 = .ok (.putfield 179, 3) := dk_181 0 179 (dk_at dksX4_isSingle_3 5 rfl rfl)
theorem dX4_isSingle_78 : decode cX4_isSingle 78 = .ok (.aload_n 0, 1) := dk_42 (dk_at dksX4_isSingle_3 8 rfl rfl)
theorem dX4_isSingle_79 : decode cX4_isSingle 79 = .ok (.bipush 93, 2) := dk_16 93 (dk_at dksX4_isSingle_3 9 rfl rfl)
theorem dX4_isSingle_81 : decode cX4_isSingle 81 = .ok (.invokevirtual 151, 3) := dk_182 0 151 (dk_at dksX4_isSingle_3 11 rfl rfl)
theorem dX4_isSingle_84 : decode cX4_isSingle 84 = .ok (.ireturn, 1) := dk_172 (dk_at dksX4_isSingle_3 14 rfl rfl)
theorem dX4_isSingle_85 : decode cX4_isSingle 85 = .ok (.aload_n 0, 1) := dk_42 (dk_at dksX4_isSingle_3 15 rfl rfl)
theorem dX4_isSingle_86 : decode cX4_isSingle 86 = .ok (.bipush 10, 2) := dk_16 10 (dk_at dksX4_isSingle_3 16 rfl rfl)
theorem dX4_isSingle_88 : decode cX4_isSingle 88 = .ok (.invokevirtual 116, 3) := dk_182 0 116 (dk_at dksX4_isSingle_3 18 rfl rfl)
theorem dX4_isSingle_91 : decode cX4_isSingle 91 = .ok (.ifCond .ne 12, 3) := dk_154 0 12 (dk_at dksX4_isSingle_3 21 rfl rfl)
theorem dX4_isSingle_94 : decode cX4_isSingle 94 = .ok (.aload_n 0, 1) := dk_42 (dk_at dksX4_isSingle_4 0 rfl rfl)
theorem dX4_isSingle_95 : decode cX4_isSingle 95 = .ok (.bipush 11, 2) := dk_16 11 (dk_at dksX4_isSingle_4 1 rfl rfl)
theorem dX4_isSingle_97 : decode cX4_isSingle 97 = .ok (.invokevirtual 116, 3) := dk_182 0 116 (dk_at dksX4_isSingle_4 3 rfl rfl)
theorem dX4_isSingle_100 : decode cX4_isSingle 100 = .ok (.ifCond .eq 17, 3) := dk_153 0 17 (dk_at dksX4_isSingle_4 6 rfl rfl)
theorem dX4_isSingle_103 : decode cX4_isSingle 103 = .ok (.aload_n 0, 1) := dk_42 (dk_at dksX4_isSingle_4 9 rfl rfl)
theorem dX4_isSingle_104 : decode cX4_isSingle 104 = .ok (.aload_n 0, 1) := dk_42 (dk_at dksX4_isSingle_4 10 rfl rfl)
theorem dX4_isSingle_105 : decode cX4_isSingle 105 = .ok (.getfield 17, 3) := dk_180 0 17 (dk_at dksX4_isSingle_4 11 rfl rfl)
theorem dX4_isSingle_108 : decode cX4_isSingle 108 = .ok (.aload_n 0, 1) := dk_42 (dk_at dksX4_isSingle_4 14 rfl rfl)
theorem dX4_isSingle_109 : decode cX4_isSingle 109 = .ok (.getfield 113, 3) := dk_180 0 113 (dk_at dksX4_isSingle_4 15 rfl rfl)
theorem dX4_isSingle_112 : decode cX4_isSingle 112 = .ok (.iaload, 1) := dk_46 (dk_at dksX4_isSingle_4 18 rfl rfl)
theorem dX4_isSingle_113 : decode cX4_isSingle 113 = .ok (.invokevirtual 190, 3) := dk_182 0 190 (dk_at dksX4_isSingle_4 19 rfl rfl)
theorem dX4_isSingle_116 : decode cX4_isSingle 116 = .ok (.ireturn, 1) := dk_172 (dk_at dksX4_isSingle_4 22 rfl rfl)
theorem dX4_isSingle_117 : decode cX4_isSingle 117 = .ok (.aload_n 0, 1) := dk_42 (dk_at dksX4_isSingle_4 23 rfl rfl)
theorem dX4_isSingle_118 : decode cX4_isSingle 118 = .ok (.iconst 4, 1) := dk_7 (dk_at dksX4_isSingle_5 0 rfl rfl)
theorem dX4_isSingle_119 : decode cX4_isSingle 119 = .ok (.invokevirtual 116, 3) := dk_182 0 116 (dk_at dksX4_isSingle_5 1 rfl rfl)
theorem dX4_isSingle_122 : decode cX4_isSingle 122 = .ok (.ifCond .eq 11, 3) := dk_153 0 11 (dk_at dksX4_isSingle_5 4 rfl rfl)
theorem dX4_isSingle_125 : decode cX4_isSingle 125 = .ok (.aload_n 0, 1) := dk_42 (dk_at dksX4_isSingle_5 7 rfl rfl)
theorem dX4_isSingle_126 : decode cX4_isSingle 126 = .ok (.iconst 4, 1) := dk_7 (dk_at dksX4_isSingle_5 8 rfl rfl)
theorem dX4_isSingle_127 : decode cX4_isSingle 127 = .ok (.invokevirtual 193, 3) := dk_182 0 193 (dk_at dksX4_isSingle_5 9 rfl rfl)
theorem dX4_isSingle_130 : decode cX4_isSingle 130 = .ok (.goto 7, 3) := dk_167 0 7 (dk_at dksX4_isSingle_5 12 rfl rfl)
theorem dX4_isSingle_133 : decode cX4_isSingle 133 = .ok (.aload_n 0, 1) := dk_42 (dk_at dksX4_isSingle_5 15 rfl rfl)
theorem dX4_isSingle_134 : decode cX4_isSingle 134 = .ok (.invokevirtual 196, 3) := dk_182 0 196 (dk_at dksX4_isSingle_5 16 rfl rfl)
theorem dX4_isSingle_137 : decode cX4_isSingle 137 = .ok (.ireturn, 1) := dk_172 (dk_at dksX4_isSingle_5 19 rfl rfl)
abbrev cX4_isIn_2 : ByteArray := prog_41_method_29_code
def yX4_isIn_2 : MethodName := ⟨RX4, "isIn", "()Z"⟩
def dkwX4_isIn_2_1 : List UInt8 := [180, 0, 113, 4, 96, 181, 0, 113, 4, 172]
abbrev dktX4_isIn_2_1 : List UInt8 := dkwX4_isIn_2_1 ++ []
def dkwX4_isIn_2_0 : List UInt8 := [42, 180, 0, 179, 16, 8, 160, 0, 5, 3, 172, 42, 89, 180, 0, 179, 4, 96, 181, 0, 179, 42, 89]
abbrev dktX4_isIn_2_0 : List UInt8 := dkwX4_isIn_2_0 ++ dktX4_isIn_2_1
theorem dksX4_isIn_2_0 : cX4_isIn_2.data.toList.drop 0 = dktX4_isIn_2_0 := by decide +kernel
theorem dksX4_isIn_2_1 : cX4_isIn_2.data.toList.drop 23 = dktX4_isIn_2_1 := dk_seg dksX4_isIn_2_0 23 rfl rfl
theorem dX4_isIn_2_0 : decode cX4_isIn_2 0 = .ok (.aload_n 0, 1) := dk_42 (dk_at dksX4_isIn_2_0 0 rfl rfl)
theorem dX4_isIn_2_1 : decode cX4_isIn_2 1 = .ok (.getfield 179, 3) := dk_180 0 179 (dk_at dksX4_isIn_2_0 1 rfl rfl)
theorem dX4_isIn_2_4 : decode cX4_isIn_2 4 = .ok (.bipush 8, 2) := dk_16 8 (dk_at dksX4_isIn_2_0 4 rfl rfl)
theorem dX4_isIn_2_6 : decode cX4_isIn_2 6 = .ok (.if_icmp .ne 5, 3) := dk_160 0 5 (dk_at dksX4_isIn_2_0 6 rfl rfl)
theorem dX4_isIn_2_9 : decode cX4_isIn_2 9 = .ok (.iconst 0, 1) := dk_3 (dk_at dksX4_isIn_2_0 9 rfl rfl)
theorem dX4_isIn_2_10 : decode cX4_isIn_2 10 = .ok (.ireturn, 1) := dk_172 (dk_at dksX4_isIn_2_0 10 rfl rfl)
theorem dX4_isIn_2_11 : decode cX4_isIn_2 11 = .ok (.aload_n 0, 1) := dk_42 (dk_at dksX4_isIn_2_0 11 rfl rfl)
theorem dX4_isIn_2_12 : decode cX4_isIn_2 12 = .ok (.dup, 1) := dk_89 (dk_at dksX4_isIn_2_0 12 rfl rfl)
theorem dX4_isIn_2_13 : decode cX4_isIn_2 13 = .ok (.getfield 179, 3) := dk_180 0 179 (dk_at dksX4_isIn_2_0 13 rfl rfl)
theorem dX4_isIn_2_16 : decode cX4_isIn_2 16 = .ok (.iconst 1, 1) := dk_4 (dk_at dksX4_isIn_2_0 16 rfl rfl)
theorem dX4_isIn_2_17 : decode cX4_isIn_2 17 = .ok (.iadd, 1) := dk_96 (dk_at dksX4_isIn_2_0 17 rfl rfl)
theorem dX4_isIn_2_18 : decode cX4_isIn_2 18 = .ok (.putfield 179, 3) := dk_181 0 179 (dk_at dksX4_isIn_2_0 18 rfl rfl)
theorem dX4_isIn_2_21 : decode cX4_isIn_2 21 = .ok (.aload_n 0, 1) := dk_42 (dk_at dksX4_isIn_2_0 21 rfl rfl)
theorem dX4_isIn_2_22 : decode cX4_isIn_2 22 = .ok (.dup, 1) := dk_89 (dk_at dksX4_isIn_2_0 22 rfl rfl)
theorem dX4_isIn_2_23 : decode cX4_isIn_2 23 = .ok (.getfield 113, 3) := dk_180 0 113 (dk_at dksX4_isIn_2_1 0 rfl rfl)
theorem dX4_isIn_2_26 : decode cX4_isIn_2 26 = .ok (.iconst 1, 1) := dk_4 (dk_at dksX4_isIn_2_1 3 rfl rfl)
theorem dX4_isIn_2_27 : decode cX4_isIn_2 27 = .ok (.iadd, 1) := dk_96 (dk_at dksX4_isIn_2_1 4 rfl rfl)
theorem dX4_isIn_2_28 : decode cX4_isIn_2 28 = .ok (.putfield 113, 3) := dk_181 0 113 (dk_at dksX4_isIn_2_1 5 rfl rfl)
theorem dX4_isIn_2_31 : decode cX4_isIn_2 31 = .ok (.iconst 1, 1) := dk_4 (dk_at dksX4_isIn_2_1 8 rfl rfl)
theorem dX4_isIn_2_32 : decode cX4_isIn_2 32 = .ok (.ireturn, 1) := dk_172 (dk_at dksX4_isIn_2_1 9 rfl rfl)
abbrev cX4_put : ByteArray := prog_41_method_21_code
def yX4_put : MethodName := ⟨RX4, "put", "(I)V"⟩
def dkwX4_put_1 : List UInt8 := [4, 96, 181, 0, 125, 177]
abbrev dktX4_put_1 : List UInt8 := dkwX4_put_1 ++ []
def dkwX4_put_0 : List UInt8 := [42, 180, 0, 39, 180, 0, 122, 42, 180, 0, 39, 180, 0, 125, 27, 79, 42, 180, 0, 39, 89, 180, 0, 125]
abbrev dktX4_put_0 : List UInt8 := dkwX4_put_0 ++ dktX4_put_1
theorem dksX4_put_0 : cX4_put.data.toList.drop 0 = dktX4_put_0 := by decide +kernel
theorem dksX4_put_1 : cX4_put.data.toList.drop 24 = dktX4_put_1 := dk_seg dksX4_put_0 24 rfl rfl
theorem dX4_put_0 : decode cX4_put 0 = .ok (.aload_n 0, 1) := dk_42 (dk_at dksX4_put_0 0 rfl rfl)
theorem dX4_put_1 : decode cX4_put 1 = .ok (.getfield 39, 3) := dk_180 0 39 (dk_at dksX4_put_0 1 rfl rfl)
theorem dX4_put_4 : decode cX4_put 4 = .ok (.getfield 122, 3) := dk_180 0 122 (dk_at dksX4_put_0 4 rfl rfl)
theorem dX4_put_7 : decode cX4_put 7 = .ok (.aload_n 0, 1) := dk_42 (dk_at dksX4_put_0 7 rfl rfl)
theorem dX4_put_8 : decode cX4_put 8 = .ok (.getfield 39, 3) := dk_180 0 39 (dk_at dksX4_put_0 8 rfl rfl)
theorem dX4_put_11 : decode cX4_put 11 = .ok (.getfield 125, 3) := dk_180 0 125 (dk_at dksX4_put_0 11 rfl rfl)
theorem dX4_put_14 : decode cX4_put 14 = .ok (.iload_n 1, 1) := dk_27 (dk_at dksX4_put_0 14 rfl rfl)
theorem dX4_put_15 : decode cX4_put 15 = .ok (.iastore, 1) := dk_79 (dk_at dksX4_put_0 15 rfl rfl)
theorem dX4_put_16 : decode cX4_put 16 = .ok (.aload_n 0, 1) := dk_42 (dk_at dksX4_put_0 16 rfl rfl)
theorem dX4_put_17 : decode cX4_put 17 = .ok (.getfield 39, 3) := dk_180 0 39 (dk_at dksX4_put_0 17 rfl rfl)
theorem dX4_put_20 : decode cX4_put 20 = .ok (.dup, 1) := dk_89 (dk_at dksX4_put_0 20 rfl rfl)
theorem dX4_put_21 : decode cX4_put 21 = .ok (.getfield 125, 3) := dk_180 0 125 (dk_at dksX4_put_0 21 rfl rfl)
theorem dX4_put_24 : decode cX4_put 24 = .ok (.iconst 1, 1) := dk_4 (dk_at dksX4_put_1 0 rfl rfl)
theorem dX4_put_25 : decode cX4_put 25 = .ok (.iadd, 1) := dk_96 (dk_at dksX4_put_1 1 rfl rfl)
theorem dX4_put_26 : decode cX4_put 26 = .ok (.putfield 125, 3) := dk_181 0 125 (dk_at dksX4_put_1 2 rfl rfl)
theorem dX4_put_29 : decode cX4_put 29 = .ok (.return_, 1) := dk_177 (dk_at dksX4_put_1 5 rfl rfl)
abbrev cX4_isSign : ByteArray := prog_41_method_17_code
def yX4_isSign : MethodName := ⟨RX4, "isSign", "(C)Z"⟩
def dkwX4_isSign_0 : List UInt8 := [42, 180, 0, 17, 42, 180, 0, 113, 46, 16, 32, 27, 96, 160, 0, 7, 4, 167, 0, 4, 3, 172]
abbrev dktX4_isSign_0 : List UInt8 := dkwX4_isSign_0 ++ []
theorem dksX4_isSign_0 : cX4_isSign.data.toList.drop 0 = dktX4_isSign_0 := by decide +kernel
theorem dX4_isSign_0 : decode cX4_isSign 0 = .ok (.aload_n 0, 1) := dk_42 (dk_at dksX4_isSign_0 0 rfl rfl)
theorem dX4_isSign_1 : decode cX4_isSign 1 = .ok (.getfield 17, 3) := dk_180 0 17 (dk_at dksX4_isSign_0 1 rfl rfl)
theorem dX4_isSign_4 : decode cX4_isSign 4 = .ok (.aload_n 0, 1) := dk_42 (dk_at dksX4_isSign_0 4 rfl rfl)
theorem dX4_isSign_5 : decode cX4_isSign 5 = .ok (.getfield 113, 3) := dk_180 0 113 (dk_at dksX4_isSign_0 5 rfl rfl)
theorem dX4_isSign_8 : decode cX4_isSign 8 = .ok (.iaload, 1) := dk_46 (dk_at dksX4_isSign_0 8 rfl rfl)
theorem dX4_isSign_9 : decode cX4_isSign 9 = .ok (.bipush 32, 2) := dk_16 32 (dk_at dksX4_isSign_0 9 rfl rfl)
theorem dX4_isSign_11 : decode cX4_isSign 11 = .ok (.iload_n 1, 1) := dk_27 (dk_at dksX4_isSign_0 11 rfl rfl)
theorem dX4_isSign_12 : decode cX4_isSign 12 = .ok (.iadd, 1) := dk_96 (dk_at dksX4_isSign_0 12 rfl rfl)
theorem dX4_isSign_13 : decode cX4_isSign 13 = .ok (.if_icmp .ne 7, 3) := dk_160 0 7 (dk_at dksX4_isSign_0 13 rfl rfl)
theorem dX4_isSign_16 : decode cX4_isSign 16 = .ok (.iconst 1, 1) := dk_4 (dk_at dksX4_isSign_0 16 rfl rfl)
theorem dX4_isSign_17 : decode cX4_isSign 17 = .ok (.goto 4, 3) := dk_167 0 4 (dk_at dksX4_isSign_0 17 rfl rfl)
theorem dX4_isSign_20 : decode cX4_isSign 20 = .ok (.iconst 0, 1) := dk_3 (dk_at dksX4_isSign_0 20 rfl rfl)
theorem dX4_isSign_21 : decode cX4_isSign 21 = .ok (.ireturn, 1) := dk_172 (dk_at dksX4_isSign_0 21 rfl rfl)
abbrev cX4_isPair : ByteArray := prog_41_method_30_code
def yX4_isPair : MethodName := ⟨RX4, "isPair", "(I)Z"⟩
def dkwX4_isPair_2 : List UInt8 := [182, 0, 147, 172]
abbrev dktX4_isPair_2 : List UInt8 := dkwX4_isPair_2 ++ []
def dkwX4_isPair_1 : List UInt8 := [16, 30, 7, 182, 0, 147, 154, 0, 5, 3, 172, 42, 42, 180, 0, 113, 182, 0, 182, 42, 16, 30, 8]
abbrev dktX4_isPair_1 : List UInt8 := dkwX4_isPair_1 ++ dktX4_isPair_2
def dkwX4_isPair_0 : List UInt8 := [42, 27, 182, 0, 133, 42, 89, 180, 0, 113, 4, 96, 181, 0, 113, 42, 42, 180, 0, 113, 182, 0, 182, 42]
abbrev dktX4_isPair_0 : List UInt8 := dkwX4_isPair_0 ++ dktX4_isPair_1
theorem dksX4_isPair_0 : cX4_isPair.data.toList.drop 0 = dktX4_isPair_0 := by decide +kernel
theorem dksX4_isPair_1 : cX4_isPair.data.toList.drop 24 = dktX4_isPair_1 := dk_seg dksX4_isPair_0 24 rfl rfl
theorem dksX4_isPair_2 : cX4_isPair.data.toList.drop 47 = dktX4_isPair_2 := dk_seg dksX4_isPair_1 23 rfl rfl
theorem dX4_isPair_0 : decode cX4_isPair 0 = .ok (.aload_n 0, 1) := dk_42 (dk_at dksX4_isPair_0 0 rfl rfl)
theorem dX4_isPair_1 : decode cX4_isPair 1 = .ok (.iload_n 1, 1) := dk_27 (dk_at dksX4_isPair_0 1 rfl rfl)
theorem dX4_isPair_2 : decode cX4_isPair 2 = .ok (.invokevirtual 133, 3) := dk_182 0 133 (dk_at dksX4_isPair_0 2 rfl rfl)
theorem dX4_isPair_5 : decode cX4_isPair 5 = .ok (.aload_n 0, 1) := dk_42 (dk_at dksX4_isPair_0 5 rfl rfl)
theorem dX4_isPair_6 : decode cX4_isPair 6 = .ok (.dup, 1) := dk_89 (dk_at dksX4_isPair_0 6 rfl rfl)
theorem dX4_isPair_7 : decode cX4_isPair 7 = .ok (.getfield 113, 3) := dk_180 0 113 (dk_at dksX4_isPair_0 7 rfl rfl)
theorem dX4_isPair_10 : decode cX4_isPair 10 = .ok (.iconst 1, 1) := dk_4 (dk_at dksX4_isPair_0 10 rfl rfl)
theorem dX4_isPair_11 : decode cX4_isPair 11 = .ok (.iadd, 1) := dk_96 (dk_at dksX4_isPair_0 11 rfl rfl)
theorem dX4_isPair_12 : decode cX4_isPair 12 = .ok (.putfield 113, 3) := dk_181 0 113 (dk_at dksX4_isPair_0 12 rfl rfl)
theorem dX4_isPair_15 : decode cX4_isPair 15 = .ok (.aload_n 0, 1) := dk_42 (dk_at dksX4_isPair_0 15 rfl rfl)
theorem dX4_isPair_16 : decode cX4_isPair 16 = .ok (.aload_n 0, 1) := dk_42 (dk_at dksX4_isPair_0 16 rfl rfl)
theorem dX4_isPair_17 : decode cX4_isPair 17 = .ok (.getfield 113, 3) := dk_180 0 113 (dk_at dksX4_isPair_0 17 rfl rfl)
theorem dX4_isPair_20 : decode cX4_isPair 20 = .ok (.invokevirtual 182, 3) := dk_182 0 182 (dk_at dksX4_isPair_0 20 rfl rfl)
theorem dX4_isPair_23 : decode cX4_isPair 23 = .ok (.aload_n 0, 1) := dk_42 (dk_at dksX4_isPair_0 23 rfl rfl)
theorem dX4_isPair_24 : decode cX4_isPair 24 = .ok (.bipush 30, 2) := dk_16 30 (dk_at dksX4_isPair_1 0 rfl rfl)
theorem dX4_isPair_26 : decode cX4_isPair 26 = .ok (.iconst 4, 1) := dk_7 (dk_at dksX4_isPair_1 2 rfl rfl)
theorem dX4_isPair_27 : decode cX4_isPair 27 = .ok (.invokevirtual 147, 3) := dk_182 0 147 (dk_at dksX4_isPair_1 3 rfl rfl)
theorem dX4_isPair_30 : decode cX4_isPair 30 = .ok (.ifCond .ne 5, 3) := dk_154 0 5 (dk_at dksX4_isPair_1 6 rfl rfl)
theorem dX4_isPair_33 : decode cX4_isPair 33 = .ok (.iconst 0, 1) := dk_3 (dk_at dksX4_isPair_1 9 rfl rfl)
theorem dX4_isPair_34 : decode cX4_isPair 34 = .ok (.ireturn, 1) := dk_172 (dk_at dksX4_isPair_1 10 rfl rfl)
theorem dX4_isPair_35 : decode cX4_isPair 35 = .ok (.aload_n 0, 1) := dk_42 (dk_at dksX4_isPair_1 11 rfl rfl)
theorem dX4_isPair_36 : decode cX4_isPair 36 = .ok (.aload_n 0, 1) := dk_42 (dk_at dksX4_isPair_1 12 rfl rfl)
theorem dX4_isPair_37 : decode cX4_isPair 37 = .ok (.getfield 113, 3) := dk_180 0 113 (dk_at dksX4_isPair_1 13 rfl rfl)
theorem dX4_isPair_40 : decode cX4_isPair 40 = .ok (.invokevirtual 182, 3) := dk_182 0 182 (dk_at dksX4_isPair_1 16 rfl rfl)
theorem dX4_isPair_43 : decode cX4_isPair 43 = .ok (.aload_n 0, 1) := dk_42 (dk_at dksX4_isPair_1 19 rfl rfl)
theorem dX4_isPair_44 : decode cX4_isPair 44 = .ok (.bipush 30, 2) := dk_16 30 (dk_at dksX4_isPair_1 20 rfl rfl)
theorem dX4_isPair_46 : decode cX4_isPair 46 = .ok (.iconst 5, 1) := dk_8 (dk_at dksX4_isPair_1 22 rfl rfl)
theorem dX4_isPair_47 : decode cX4_isPair 47 = .ok (.invokevirtual 147, 3) := dk_182 0 147 (dk_at dksX4_isPair_2 0 rfl rfl)
theorem dX4_isPair_50 : decode cX4_isPair 50 = .ok (.ireturn, 1) := dk_172 (dk_at dksX4_isPair_2 3 rfl rfl)
abbrev cX4_putToken : ByteArray := prog_41_method_22_code
def yX4_putToken : MethodName := ⟨RX4, "putToken", "(I)V"⟩
def dkwX4_putToken_1 : List UInt8 := [180, 0, 39, 89, 180, 0, 130, 4, 96, 181, 0, 130, 42, 27, 182, 0, 133, 177]
abbrev dktX4_putToken_1 : List UInt8 := dkwX4_putToken_1 ++ []
def dkwX4_putToken_0 : List UInt8 := [42, 180, 0, 39, 180, 0, 127, 42, 180, 0, 39, 180, 0, 130, 42, 180, 0, 39, 180, 0, 125, 79, 42]
abbrev dktX4_putToken_0 : List UInt8 := dkwX4_putToken_0 ++ dktX4_putToken_1
theorem dksX4_putToken_0 : cX4_putToken.data.toList.drop 0 = dktX4_putToken_0 := by decide +kernel
theorem dksX4_putToken_1 : cX4_putToken.data.toList.drop 23 = dktX4_putToken_1 := dk_seg dksX4_putToken_0 23 rfl rfl
theorem dX4_putToken_0 : decode cX4_putToken 0 = .ok (.aload_n 0, 1) := dk_42 (dk_at dksX4_putToken_0 0 rfl rfl)
theorem dX4_putToken_1 : decode cX4_putToken 1 = .ok (.getfield 39, 3) := dk_180 0 39 (dk_at dksX4_putToken_0 1 rfl rfl)
theorem dX4_putToken_4 : decode cX4_putToken 4 = .ok (.getfield 127, 3) := dk_180 0 127 (dk_at dksX4_putToken_0 4 rfl rfl)
theorem dX4_putToken_7 : decode cX4_putToken 7 = .ok (.aload_n 0, 1) := dk_42 (dk_at dksX4_putToken_0 7 rfl rfl)
theorem dX4_putToken_8 : decode cX4_putToken 8 = .ok (.getfield 39, 3) := dk_180 0 39 (dk_at dksX4_putToken_0 8 rfl rfl)
theorem dX4_putToken_11 : decode cX4_putToken 11 = .ok (.getfield 130, 3) := dk_180 0 130 (dk_at dksX4_putToken_0 11 rfl rfl)
theorem dX4_putToken_14 : decode cX4_putToken 14 = .ok (.aload_n 0, 1) := dk_42 (dk_at dksX4_putToken_0 14 rfl rfl)
theorem dX4_putToken_15 : decode cX4_putToken 15 = .ok (.getfield 39, 3) := dk_180 0 39 (dk_at dksX4_putToken_0 15 rfl rfl)
theorem dX4_putToken_18 : decode cX4_putToken 18 = .ok (.getfield 125, 3) := dk_180 0 125 (dk_at dksX4_putToken_0 18 rfl rfl)
theorem dX4_putToken_21 : decode cX4_putToken 21 = .ok (.iastore, 1) := dk_79 (dk_at dksX4_putToken_0 21 rfl rfl)
theorem dX4_putToken_22 : decode cX4_putToken 22 = .ok (.aload_n 0, 1) := dk_42 (dk_at dksX4_putToken_0 22 rfl rfl)
theorem dX4_putToken_23 : decode cX4_putToken 23 = .ok (.getfield 39, 3) := dk_180 0 39 (dk_at dksX4_putToken_1 0 rfl rfl)
theorem dX4_putToken_26 : decode cX4_putToken 26 = .ok (.dup, 1) := dk_89 (dk_at dksX4_putToken_1 3 rfl rfl)
theorem dX4_putToken_27 : decode cX4_putToken 27 = .ok (.getfield 130, 3) := dk_180 0 130 (dk_at dksX4_putToken_1 4 rfl rfl)
theorem dX4_putToken_30 : decode cX4_putToken 30 = .ok (.iconst 1, 1) := dk_4 (dk_at dksX4_putToken_1 7 rfl rfl)
theorem dX4_putToken_31 : decode cX4_putToken 31 = .ok (.iadd, 1) := dk_96 (dk_at dksX4_putToken_1 8 rfl rfl)
theorem dX4_putToken_32 : decode cX4_putToken 32 = .ok (.putfield 130, 3) := dk_181 0 130 (dk_at dksX4_putToken_1 9 rfl rfl)
theorem dX4_putToken_35 : decode cX4_putToken 35 = .ok (.aload_n 0, 1) := dk_42 (dk_at dksX4_putToken_1 12 rfl rfl)
theorem dX4_putToken_36 : decode cX4_putToken 36 = .ok (.iload_n 1, 1) := dk_27 (dk_at dksX4_putToken_1 13 rfl rfl)
theorem dX4_putToken_37 : decode cX4_putToken 37 = .ok (.invokevirtual 133, 3) := dk_182 0 133 (dk_at dksX4_putToken_1 14 rfl rfl)
theorem dX4_putToken_40 : decode cX4_putToken 40 = .ok (.return_, 1) := dk_177 (dk_at dksX4_putToken_1 17 rfl rfl)
abbrev cX4_isOne : ByteArray := prog_41_method_31_code
def yX4_isOne : MethodName := ⟨RX4, "isOne", "(I)Z"⟩
def dkwX4_isOne_1 : List UInt8 := [16, 30, 7, 182, 0, 147, 172]
abbrev dktX4_isOne_1 : List UInt8 := dkwX4_isOne_1 ++ []
def dkwX4_isOne_0 : List UInt8 := [42, 27, 182, 0, 133, 42, 89, 180, 0, 113, 4, 96, 181, 0, 113, 42, 42, 180, 0, 113, 182, 0, 182, 42]
abbrev dktX4_isOne_0 : List UInt8 := dkwX4_isOne_0 ++ dktX4_isOne_1
theorem dksX4_isOne_0 : cX4_isOne.data.toList.drop 0 = dktX4_isOne_0 := by decide +kernel
theorem dksX4_isOne_1 : cX4_isOne.data.toList.drop 24 = dktX4_isOne_1 := dk_seg dksX4_isOne_0 24 rfl rfl
theorem dX4_isOne_0 : decode cX4_isOne 0 = .ok (.aload_n 0, 1) := dk_42 (dk_at dksX4_isOne_0 0 rfl rfl)
theorem dX4_isOne_1 : decode cX4_isOne 1 = .ok (.iload_n 1, 1) := dk_27 (dk_at dksX4_isOne_0 1 rfl rfl)
theorem dX4_isOne_2 : decode cX4_isOne 2 = .ok (.invokevirtual 133, 3) := dk_182 0 133 (dk_at dksX4_isOne_0 2 rfl rfl)
theorem dX4_isOne_5 : decode cX4_isOne 5 = .ok (.aload_n 0, 1) := dk_42 (dk_at dksX4_isOne_0 5 rfl rfl)
theorem dX4_isOne_6 : decode cX4_isOne 6 = .ok (.dup, 1) := dk_89 (dk_at dksX4_isOne_0 6 rfl rfl)
theorem dX4_isOne_7 : decode cX4_isOne 7 = .ok (.getfield 113, 3) := dk_180 0 113 (dk_at dksX4_isOne_0 7 rfl rfl)
theorem dX4_isOne_10 : decode cX4_isOne 10 = .ok (.iconst 1, 1) := dk_4 (dk_at dksX4_isOne_0 10 rfl rfl)
theorem dX4_isOne_11 : decode cX4_isOne 11 = .ok (.iadd, 1) := dk_96 (dk_at dksX4_isOne_0 11 rfl rfl)
theorem dX4_isOne_12 : decode cX4_isOne 12 = .ok (.putfield 113, 3) := dk_181 0 113 (dk_at dksX4_isOne_0 12 rfl rfl)
theorem dX4_isOne_15 : decode cX4_isOne 15 = .ok (.aload_n 0, 1) := dk_42 (dk_at dksX4_isOne_0 15 rfl rfl)
theorem dX4_isOne_16 : decode cX4_isOne 16 = .ok (.aload_n 0, 1) := dk_42 (dk_at dksX4_isOne_0 16 rfl rfl)
theorem dX4_isOne_17 : decode cX4_isOne 17 = .ok (.getfield 113, 3) := dk_180 0 113 (dk_at dksX4_isOne_0 17 rfl rfl)
theorem dX4_isOne_20 : decode cX4_isOne 20 = .ok (.invokevirtual 182, 3) := dk_182 0 182 (dk_at dksX4_isOne_0 20 rfl rfl)
theorem dX4_isOne_23 : decode cX4_isOne 23 = .ok (.aload_n 0, 1) := dk_42 (dk_at dksX4_isOne_0 23 rfl rfl)
theorem dX4_isOne_24 : decode cX4_isOne 24 = .ok (.bipush 30, 2) := dk_16 30 (dk_at dksX4_isOne_1 0 rfl rfl)
theorem dX4_isOne_26 : decode cX4_isOne 26 = .ok (.iconst 4, 1) := dk_7 (dk_at dksX4_isOne_1 2 rfl rfl)
theorem dX4_isOne_27 : decode cX4_isOne 27 = .ok (.invokevirtual 147, 3) := dk_182 0 147 (dk_at dksX4_isOne_1 3 rfl rfl)
theorem dX4_isOne_30 : decode cX4_isOne 30 = .ok (.ireturn, 1) := dk_172 (dk_at dksX4_isOne_1 6 rfl rfl)
abbrev cX4_isCompared : ByteArray := prog_41_method_33_code
def yX4_isCompared : MethodName := ⟨RX4, "isCompared", "()Z"⟩
def dkwX4_isCompared_4 : List UInt8 := [180, 0, 113, 4, 96, 181, 0, 113, 42, 182, 0, 167, 154, 0, 5, 3, 172, 42, 27, 182, 0, 133, 4, 172]
abbrev dktX4_isCompared_4 : List UInt8 := dkwX4_isCompared_4 ++ []
def dkwX4_isCompared_3 : List UInt8 := [182, 0, 116, 153, 0, 8, 16, 51, 167, 0, 4, 2, 60, 27, 2, 160, 0, 5, 3, 172, 42, 89]
abbrev dktX4_isCompared_3 : List UInt8 := dkwX4_isCompared_3 ++ dktX4_isCompared_4
def dkwX4_isCompared_2 : List UInt8 := [167, 0, 34, 42, 17, 3, 32, 182, 0, 116, 153, 0, 8, 16, 50, 167, 0, 19, 42, 17, 3, 33]
abbrev dktX4_isCompared_2 : List UInt8 := dkwX4_isCompared_2 ++ dktX4_isCompared_3
def dkwX4_isCompared_1 : List UInt8 := [16, 62, 182, 0, 187, 153, 0, 8, 16, 48, 167, 0, 48, 42, 16, 61, 182, 0, 187, 153, 0, 8, 16, 49]
abbrev dktX4_isCompared_1 : List UInt8 := dkwX4_isCompared_1 ++ dktX4_isCompared_2
def dkwX4_isCompared_0 : List UInt8 := [42, 182, 0, 167, 154, 0, 5, 3, 172, 42, 16, 60, 182, 0, 187, 153, 0, 8, 16, 47, 167, 0, 62, 42]
abbrev dktX4_isCompared_0 : List UInt8 := dkwX4_isCompared_0 ++ dktX4_isCompared_1
theorem dksX4_isCompared_0 : cX4_isCompared.data.toList.drop 0 = dktX4_isCompared_0 := by decide +kernel
theorem dksX4_isCompared_1 : cX4_isCompared.data.toList.drop 24 = dktX4_isCompared_1 := dk_seg dksX4_isCompared_0 24 rfl rfl
theorem dksX4_isCompared_2 : cX4_isCompared.data.toList.drop 48 = dktX4_isCompared_2 := dk_seg dksX4_isCompared_1 24 rfl rfl
theorem dksX4_isCompared_3 : cX4_isCompared.data.toList.drop 70 = dktX4_isCompared_3 := dk_seg dksX4_isCompared_2 22 rfl rfl
theorem dksX4_isCompared_4 : cX4_isCompared.data.toList.drop 92 = dktX4_isCompared_4 := dk_seg dksX4_isCompared_3 22 rfl rfl
theorem dX4_isCompared_0 : decode cX4_isCompared 0 = .ok (.aload_n 0, 1) := dk_42 (dk_at dksX4_isCompared_0 0 rfl rfl)
theorem dX4_isCompared_1 : decode cX4_isCompared 1 = .ok (.invokevirtual 167, 3) := dk_182 0 167 (dk_at dksX4_isCompared_0 1 rfl rfl)
theorem dX4_isCompared_4 : decode cX4_isCompared 4 = .ok (.ifCond .ne 5, 3) := dk_154 0 5 (dk_at dksX4_isCompared_0 4 rfl rfl)
theorem dX4_isCompared_7 : decode cX4_isCompared 7 = .ok (.iconst 0, 1) := dk_3 (dk_at dksX4_isCompared_0 7 rfl rfl)
theorem dX4_isCompared_8 : decode cX4_isCompared 8 = .ok (.ireturn, 1) := dk_172 (dk_at dksX4_isCompared_0 8 rfl rfl)
theorem dX4_isCompared_9 : decode cX4_isCompared 9 = .ok (.aload_n 0, 1) := dk_42 (dk_at dksX4_isCompared_0 9 rfl rfl)
theorem dX4_isCompared_10 : decode cX4_isCompared 10 = .ok (.bipush 60, 2) := dk_16 60 (dk_at dksX4_isCompared_0 10 rfl rfl)
theorem dX4_isCompared_12 : decode cX4_isCompared 12 = .ok (.invokevirtual 187, 3) := dk_182 0 187 (dk_at dksX4_isCompared_0 12 rfl rfl)
theorem dX4_isCompared_15 : decode cX4_isCompared 15 = .ok (.ifCond .eq 8, 3) := dk_153 0 8 (dk_at dksX4_isCompared_0 15 rfl rfl)
theorem dX4_isCompared_18 : decode cX4_isCompared 18 = .ok (.bipush 47, 2) := dk_16 47 (dk_at dksX4_isCompared_0 18 rfl rfl)
theorem dX4_isCompared_20 : decode cX4_isCompared 20 = .ok (.goto 62, 3) := dk_167 0 62 (dk_at dksX4_isCompared_0 20 rfl rfl)
theorem dX4_isCompared_23 : decode cX4_isCompared 23 = .ok (.aload_n 0, 1) := dk_42 (dk_at dksX4_isCompared_0 23 rfl rfl)
theorem dX4_isCompared_24 : decode cX4_isCompared 24 = .ok (.bipush 62, 2) := dk_16 62 (dk_at dksX4_isCompared_1 0 rfl rfl)
theorem dX4_isCompared_26 : decode cX4_isCompared 26 = .ok (.invokevirtual 187, 3) := dk_182 0 187 (dk_at dksX4_isCompared_1 2 rfl rfl)
theorem dX4_isCompared_29 : decode cX4_isCompared 29 = .ok (.ifCond .eq 8, 3) := dk_153 0 8 (dk_at dksX4_isCompared_1 5 rfl rfl)
theorem dX4_isCompared_32 : decode cX4_isCompared 32 = .ok (.bipush 48, 2) := dk_16 48 (dk_at dksX4_isCompared_1 8 rfl rfl)
theorem dX4_isCompared_34 : decode cX4_isCompared 34 = .ok (.goto 48, 3) := dk_167 0 48 (dk_at dksX4_isCompared_1 10 rfl rfl)
theorem dX4_isCompared_37 : decode cX4_isCompared 37 = .ok (.aload_n 0, 1) := dk_42 (dk_at dksX4_isCompared_1 13 rfl rfl)
theorem dX4_isCompared_38 : decode cX4_isCompared 38 = .ok (.bipush 61, 2) := dk_16 61 (dk_at dksX4_isCompared_1 14 rfl rfl)
theorem dX4_isCompared_40 : decode cX4_isCompared 40 = .ok (.invokevirtual 187, 3) := dk_182 0 187 (dk_at dksX4_isCompared_1 16 rfl rfl)
theorem dX4_isCompared_43 : decode cX4_isCompared 43 = .ok (.ifCond .eq 8, 3) := dk_153 0 8 (dk_at dksX4_isCompared_1 19 rfl rfl)
theorem dX4_isCompared_46 : decode cX4_isCompared 46 = .ok (.bipush 49, 2) := dk_16 49 (dk_at dksX4_isCompared_1 22 rfl rfl)
theorem dX4_isCompared_48 : decode cX4_isCompared 48 = .ok (.goto 34, 3) := dk_167 0 34 (dk_at dksX4_isCompared_2 0 rfl rfl)
theorem dX4_isCompared_51 : decode cX4_isCompared 51 = .ok (.aload_n 0, 1) := dk_42 (dk_at dksX4_isCompared_2 3 rfl rfl)
theorem dX4_isCompared_52 : decode cX4_isCompared 52 = .ok (.sipush 800, 3) := dk_17 3 32 (dk_at dksX4_isCompared_2 4 rfl rfl)
theorem dX4_isCompared_55 : decode cX4_isCompared 55 = .ok (.invokevirtual 116, 3) := dk_182 0 116 (dk_at dksX4_isCompared_2 7 rfl rfl)
theorem dX4_isCompared_58 : decode cX4_isCompared 58 = .ok (.ifCond .eq 8, 3) := dk_153 0 8 (dk_at dksX4_isCompared_2 10 rfl rfl)
theorem dX4_isCompared_61 : decode cX4_isCompared 61 = .ok (.bipush 50, 2) := dk_16 50 (dk_at dksX4_isCompared_2 13 rfl rfl)
theorem dX4_isCompared_63 : decode cX4_isCompared 63 = .ok (.goto 19, 3) := dk_167 0 19 (dk_at dksX4_isCompared_2 15 rfl rfl)
theorem dX4_isCompared_66 : decode cX4_isCompared 66 = .ok (.aload_n 0, 1) := dk_42 (dk_at dksX4_isCompared_2 18 rfl rfl)
theorem dX4_isCompared_67 : decode cX4_isCompared 67 = .ok (.sipush 801, 3) := dk_17 3 33 (dk_at dksX4_isCompared_2 19 rfl rfl)
theorem dX4_isCompared_70 : decode cX4_isCompared 70 = .ok (.invokevirtual 116, 3) := dk_182 0 116 (dk_at dksX4_isCompared_3 0 rfl rfl)
theorem dX4_isCompared_73 : decode cX4_isCompared 73 = .ok (.ifCond .eq 8, 3) := dk_153 0 8 (dk_at dksX4_isCompared_3 3 rfl rfl)
theorem dX4_isCompared_76 : decode cX4_isCompared 76 = .ok (.bipush 51, 2) := dk_16 51 (dk_at dksX4_isCompared_3 6 rfl rfl)
theorem dX4_isCompared_78 : decode cX4_isCompared 78 = .ok (.goto 4, 3) := dk_167 0 4 (dk_at dksX4_isCompared_3 8 rfl rfl)
theorem dX4_isCompared_81 : decode cX4_isCompared 81 = .ok (.iconst (-1), 1) := dk_2 (dk_at dksX4_isCompared_3 11 rfl rfl)
theorem dX4_isCompared_82 : decode cX4_isCompared 82 = .ok (.istore_n 1, 1) := dk_60 (dk_at dksX4_isCompared_3 12 rfl rfl)
theorem dX4_isCompared_83 : decode cX4_isCompared 83 = .ok (.iload_n 1, 1) := dk_27 (dk_at dksX4_isCompared_3 13 rfl rfl)
theorem dX4_isCompared_84 : decode cX4_isCompared 84 = .ok (.iconst (-1), 1) := dk_2 (dk_at dksX4_isCompared_3 14 rfl rfl)
theorem dX4_isCompared_85 : decode cX4_isCompared 85 = .ok (.if_icmp .ne 5, 3) := dk_160 0 5 (dk_at dksX4_isCompared_3 15 rfl rfl)
theorem dX4_isCompared_88 : decode cX4_isCompared 88 = .ok (.iconst 0, 1) := dk_3 (dk_at dksX4_isCompared_3 18 rfl rfl)
theorem dX4_isCompared_89 : decode cX4_isCompared 89 = .ok (.ireturn, 1) := dk_172 (dk_at dksX4_isCompared_3 19 rfl rfl)
theorem dX4_isCompared_90 : decode cX4_isCompared 90 = .ok (.aload_n 0, 1) := dk_42 (dk_at dksX4_isCompared_3 20 rfl rfl)
theorem dX4_isCompared_91 : decode cX4_isCompared 91 = .ok (.dup, 1) := dk_89 (dk_at dksX4_isCompared_3 21 rfl rfl)
theorem dX4_isCompared_92 : decode cX4_isCompared 92 = .ok (.getfield 113, 3) := dk_180 0 113 (dk_at dksX4_isCompared_4 0 rfl rfl)
theorem dX4_isCompared_95 : decode cX4_isCompared 95 = .ok (.iconst 1, 1) := dk_4 (dk_at dksX4_isCompared_4 3 rfl rfl)
theorem dX4_isCompared_96 : decode cX4_isCompared 96 = .ok (.iadd, 1) := dk_96 (dk_at dksX4_isCompared_4 4 rfl rfl)
theorem dX4_isCompared_97 : decode cX4_isCompared 97 = .ok (.putfield 113, 3) := dk_181 0 113 (dk_at dksX4_isCompared_4 5 rfl rfl)
theorem dX4_isCompared_100 : decode cX4_isCompared 100 = .ok (.aload_n 0, 1) := dk_42 (dk_at dksX4_isCompared_4 8 rfl rfl)
theorem dX4_isCompared_101 : decode cX4_isCompared 101 = .ok (.invokevirtual 167, 3) := dk_182 0 167 (dk_at dksX4_isCompared_4 9 rfl rfl)
theorem dX4_isCompared_104 : decode cX4_isCompared 104 = .ok (.ifCond .ne 5, 3) := dk_154 0 5 (dk_at dksX4_isCompared_4 12 rfl rfl)
theorem dX4_isCompared_107 : decode cX4_isCompared 107 = .ok (.iconst 0, 1) := dk_3 (dk_at dksX4_isCompared_4 15 rfl rfl)
theorem dX4_isCompared_108 : decode cX4_isCompared 108 = .ok (.ireturn, 1) := dk_172 (dk_at dksX4_isCompared_4 16 rfl rfl)
theorem dX4_isCompared_109 : decode cX4_isCompared 109 = .ok (.aload_n 0, 1) := dk_42 (dk_at dksX4_isCompared_4 17 rfl rfl)
theorem dX4_isCompared_110 : decode cX4_isCompared 110 = .ok (.iload_n 1, 1) := dk_27 (dk_at dksX4_isCompared_4 18 rfl rfl)
theorem dX4_isCompared_111 : decode cX4_isCompared 111 = .ok (.invokevirtual 133, 3) := dk_182 0 133 (dk_at dksX4_isCompared_4 19 rfl rfl)
theorem dX4_isCompared_114 : decode cX4_isCompared 114 = .ok (.iconst 1, 1) := dk_4 (dk_at dksX4_isCompared_4 22 rfl rfl)
theorem dX4_isCompared_115 : decode cX4_isCompared 115 = .ok (.ireturn, 1) := dk_172 (dk_at dksX4_isCompared_4 23 rfl rfl)
abbrev cX4_isSum : ByteArray := prog_41_method_34_code
def yX4_isSum : MethodName := ⟨RX4, "isSum", "()Z"⟩
def dkwX4_isSum_3 : List UInt8 := [167, 255, 197, 4, 172]
abbrev dktX4_isSum_3 : List UInt8 := dkwX4_isSum_3 ++ []
def dkwX4_isSum_2 : List UInt8 := [180, 0, 113, 4, 96, 181, 0, 113, 42, 182, 0, 199, 154, 0, 5, 3, 172, 42, 27, 182, 0, 133]
abbrev dktX4_isSum_2 : List UInt8 := dkwX4_isSum_2 ++ dktX4_isSum_3
def dkwX4_isSum_1 : List UInt8 := [153, 0, 47, 42, 16, 43, 182, 0, 187, 153, 0, 8, 16, 42, 167, 0, 5, 16, 43, 60, 42, 89]
abbrev dktX4_isSum_1 : List UInt8 := dkwX4_isSum_1 ++ dktX4_isSum_2
def dkwX4_isSum_0 : List UInt8 := [42, 182, 0, 199, 154, 0, 5, 3, 172, 42, 16, 43, 182, 0, 187, 154, 0, 12, 42, 16, 45, 182, 0, 187]
abbrev dktX4_isSum_0 : List UInt8 := dkwX4_isSum_0 ++ dktX4_isSum_1
theorem dksX4_isSum_0 : cX4_isSum.data.toList.drop 0 = dktX4_isSum_0 := by decide +kernel
theorem dksX4_isSum_1 : cX4_isSum.data.toList.drop 24 = dktX4_isSum_1 := dk_seg dksX4_isSum_0 24 rfl rfl
theorem dksX4_isSum_2 : cX4_isSum.data.toList.drop 46 = dktX4_isSum_2 := dk_seg dksX4_isSum_1 22 rfl rfl
theorem dksX4_isSum_3 : cX4_isSum.data.toList.drop 68 = dktX4_isSum_3 := dk_seg dksX4_isSum_2 22 rfl rfl
theorem dX4_isSum_0 : decode cX4_isSum 0 = .ok (.aload_n 0, 1) := dk_42 (dk_at dksX4_isSum_0 0 rfl rfl)
theorem dX4_isSum_1 : decode cX4_isSum 1 = .ok (.invokevirtual 199, 3) := dk_182 0 199 (dk_at dksX4_isSum_0 1 rfl rfl)
theorem dX4_isSum_4 : decode cX4_isSum 4 = .ok (.ifCond .ne 5, 3) := dk_154 0 5 (dk_at dksX4_isSum_0 4 rfl rfl)
theorem dX4_isSum_7 : decode cX4_isSum 7 = .ok (.iconst 0, 1) := dk_3 (dk_at dksX4_isSum_0 7 rfl rfl)
theorem dX4_isSum_8 : decode cX4_isSum 8 = .ok (.ireturn, 1) := dk_172 (dk_at dksX4_isSum_0 8 rfl rfl)
theorem dX4_isSum_9 : decode cX4_isSum 9 = .ok (.aload_n 0, 1) := dk_42 (dk_at dksX4_isSum_0 9 rfl rfl)
theorem dX4_isSum_10 : decode cX4_isSum 10 = .ok (.bipush 43, 2) := dk_16 43 (dk_at dksX4_isSum_0 10 rfl rfl)
theorem dX4_isSum_12 : decode cX4_isSum 12 = .ok (.invokevirtual 187, 3) := dk_182 0 187 (dk_at dksX4_isSum_0 12 rfl rfl)
theorem dX4_isSum_15 : decode cX4_isSum 15 = .ok (.ifCond .ne 12, 3) := dk_154 0 12 (dk_at dksX4_isSum_0 15 rfl rfl)
theorem dX4_isSum_18 : decode cX4_isSum 18 = .ok (.aload_n 0, 1) := dk_42 (dk_at dksX4_isSum_0 18 rfl rfl)
theorem dX4_isSum_19 : decode cX4_isSum 19 = .ok (.bipush 45, 2) := dk_16 45 (dk_at dksX4_isSum_0 19 rfl rfl)
theorem dX4_isSum_21 : decode cX4_isSum 21 = .ok (.invokevirtual 187, 3) := dk_182 0 187 (dk_at dksX4_isSum_0 21 rfl rfl)
theorem dX4_isSum_24 : decode cX4_isSum 24 = .ok (.ifCond .eq 47, 3) := dk_153 0 47 (dk_at dksX4_isSum_1 0 rfl rfl)
theorem dX4_isSum_27 : decode cX4_isSum 27 = .ok (.aload_n 0, 1) := dk_42 (dk_at dksX4_isSum_1 3 rfl rfl)
theorem dX4_isSum_28 : decode cX4_isSum 28 = .ok (.bipush 43, 2) := dk_16 43 (dk_at dksX4_isSum_1 4 rfl rfl)
theorem dX4_isSum_30 : decode cX4_isSum 30 = .ok (.invokevirtual 187, 3) := dk_182 0 187 (dk_at dksX4_isSum_1 6 rfl rfl)
theorem dX4_isSum_33 : decode cX4_isSum 33 = .ok (.ifCond .eq 8, 3) := dk_153 0 8 (dk_at dksX4_isSum_1 9 rfl rfl)
theorem dX4_isSum_36 : decode cX4_isSum 36 = .ok (.bipush 42, 2) := dk_16 42 (dk_at dksX4_isSum_1 12 rfl rfl)
theorem dX4_isSum_38 : decode cX4_isSum 38 = .ok (.goto 5, 3) := dk_167 0 5 (dk_at dksX4_isSum_1 14 rfl rfl)
theorem dX4_isSum_41 : decode cX4_isSum 41 = .ok (.bipush 43, 2) := dk_16 43 (dk_at dksX4_isSum_1 17 rfl rfl)
theorem dX4_isSum_43 : decode cX4_isSum 43 = .ok (.istore_n 1, 1) := dk_60 (dk_at dksX4_isSum_1 19 rfl rfl)
theorem dX4_isSum_44 : decode cX4_isSum 44 = .ok (.aload_n 0, 1) := dk_42 (dk_at dksX4_isSum_1 20 rfl rfl)
theorem dX4_isSum_45 : decode cX4_isSum 45 = .ok (.dup, 1) := dk_89 (dk_at dksX4_isSum_1 21 rfl rfl)
theorem dX4_isSum_46 : decode cX4_isSum 46 = .ok (.getfield 113, 3) := dk_180 0 113 (dk_at dksX4_isSum_2 0 rfl rfl)
theorem dX4_isSum_49 : decode cX4_isSum 49 = .ok (.iconst 1, 1) := dk_4 (dk_at dksX4_isSum_2 3 rfl rfl)
theorem dX4_isSum_50 : decode cX4_isSum 50 = .ok (.iadd, 1) := dk_96 (dk_at dksX4_isSum_2 4 rfl rfl)
theorem dX4_isSum_51 : decode cX4_isSum 51 = .ok (.putfield 113, 3) := dk_181 0 113 (dk_at dksX4_isSum_2 5 rfl rfl)
theorem dX4_isSum_54 : decode cX4_isSum 54 = .ok (.aload_n 0, 1) := dk_42 (dk_at dksX4_isSum_2 8 rfl rfl)
theorem dX4_isSum_55 : decode cX4_isSum 55 = .ok (.invokevirtual 199, 3) := dk_182 0 199 (dk_at dksX4_isSum_2 9 rfl rfl)
theorem dX4_isSum_58 : decode cX4_isSum 58 = .ok (.ifCond .ne 5, 3) := dk_154 0 5 (dk_at dksX4_isSum_2 12 rfl rfl)
theorem dX4_isSum_61 : decode cX4_isSum 61 = .ok (.iconst 0, 1) := dk_3 (dk_at dksX4_isSum_2 15 rfl rfl)
theorem dX4_isSum_62 : decode cX4_isSum 62 = .ok (.ireturn, 1) := dk_172 (dk_at dksX4_isSum_2 16 rfl rfl)
theorem dX4_isSum_63 : decode cX4_isSum 63 = .ok (.aload_n 0, 1) := dk_42 (dk_at dksX4_isSum_2 17 rfl rfl)
theorem dX4_isSum_64 : decode cX4_isSum 64 = .ok (.iload_n 1, 1) := dk_27 (dk_at dksX4_isSum_2 18 rfl rfl)
theorem dX4_isSum_65 : decode cX4_isSum 65 = .ok (.invokevirtual 133, 3) := dk_182 0 133 (dk_at dksX4_isSum_2 19 rfl rfl)
theorem dX4_isSum_68 : decode cX4_isSum 68 = .ok (.goto (-59), 3) := dk_167 255 197 (dk_at dksX4_isSum_3 0 rfl rfl)
theorem dX4_isSum_71 : decode cX4_isSum 71 = .ok (.iconst 1, 1) := dk_4 (dk_at dksX4_isSum_3 3 rfl rfl)
theorem dX4_isSum_72 : decode cX4_isSum 72 = .ok (.ireturn, 1) := dk_172 (dk_at dksX4_isSum_3 4 rfl rfl)
abbrev cX4_isProduct : ByteArray := prog_41_method_35_code
def yX4_isProduct : MethodName := ⟨RX4, "isProduct", "()Z"⟩
def dkwX4_isProduct_4 : List UInt8 := [167, 255, 174, 4, 172]
abbrev dktX4_isProduct_4 : List UInt8 := dkwX4_isProduct_4 ++ []
def dkwX4_isProduct_3 : List UInt8 := [180, 0, 113, 4, 96, 181, 0, 113, 42, 182, 0, 202, 154, 0, 5, 3, 172, 42, 27, 182, 0, 133]
abbrev dktX4_isProduct_3 : List UInt8 := dkwX4_isProduct_3 ++ dktX4_isProduct_4
def dkwX4_isProduct_2 : List UInt8 := [167, 0, 19, 42, 16, 47, 182, 0, 187, 153, 0, 8, 16, 45, 167, 0, 5, 16, 46, 60, 42, 89]
abbrev dktX4_isProduct_2 : List UInt8 := dkwX4_isProduct_2 ++ dktX4_isProduct_3
def dkwX4_isProduct_1 : List UInt8 := [154, 0, 12, 42, 16, 37, 182, 0, 187, 153, 0, 61, 42, 16, 42, 182, 0, 187, 153, 0, 8, 16, 44]
abbrev dktX4_isProduct_1 : List UInt8 := dkwX4_isProduct_1 ++ dktX4_isProduct_2
def dkwX4_isProduct_0 : List UInt8 := [42, 182, 0, 202, 154, 0, 5, 3, 172, 42, 16, 42, 182, 0, 187, 154, 0, 21, 42, 16, 47, 182, 0, 187]
abbrev dktX4_isProduct_0 : List UInt8 := dkwX4_isProduct_0 ++ dktX4_isProduct_1
theorem dksX4_isProduct_0 : cX4_isProduct.data.toList.drop 0 = dktX4_isProduct_0 := by decide +kernel
theorem dksX4_isProduct_1 : cX4_isProduct.data.toList.drop 24 = dktX4_isProduct_1 := dk_seg dksX4_isProduct_0 24 rfl rfl
theorem dksX4_isProduct_2 : cX4_isProduct.data.toList.drop 47 = dktX4_isProduct_2 := dk_seg dksX4_isProduct_1 23 rfl rfl
theorem dksX4_isProduct_3 : cX4_isProduct.data.toList.drop 69 = dktX4_isProduct_3 := dk_seg dksX4_isProduct_2 22 rfl rfl
theorem dksX4_isProduct_4 : cX4_isProduct.data.toList.drop 91 = dktX4_isProduct_4 := dk_seg dksX4_isProduct_3 22 rfl rfl
theorem dX4_isProduct_0 : decode cX4_isProduct 0 = .ok (.aload_n 0, 1) := dk_42 (dk_at dksX4_isProduct_0 0 rfl rfl)
theorem dX4_isProduct_1 : decode cX4_isProduct 1 = .ok (.invokevirtual 202, 3) := dk_182 0 202 (dk_at dksX4_isProduct_0 1 rfl rfl)
theorem dX4_isProduct_4 : decode cX4_isProduct 4 = .ok (.ifCond .ne 5, 3) := dk_154 0 5 (dk_at dksX4_isProduct_0 4 rfl rfl)
theorem dX4_isProduct_7 : decode cX4_isProduct 7 = .ok (.iconst 0, 1) := dk_3 (dk_at dksX4_isProduct_0 7 rfl rfl)
theorem dX4_isProduct_8 : decode cX4_isProduct 8 = .ok (.ireturn, 1) := dk_172 (dk_at dksX4_isProduct_0 8 rfl rfl)
theorem dX4_isProduct_9 : decode cX4_isProduct 9 = .ok (.aload_n 0, 1) := dk_42 (dk_at dksX4_isProduct_0 9 rfl rfl)
theorem dX4_isProduct_10 : decode cX4_isProduct 10 = .ok (.bipush 42, 2) := dk_16 42 (dk_at dksX4_isProduct_0 10 rfl rfl)
theorem dX4_isProduct_12 : decode cX4_isProduct 12 = .ok (.invokevirtual 187, 3) := dk_182 0 187 (dk_at dksX4_isProduct_0 12 rfl rfl)
theorem dX4_isProduct_15 : decode cX4_isProduct 15 = .ok (.ifCond .ne 21, 3) := dk_154 0 21 (dk_at dksX4_isProduct_0 15 rfl rfl)
theorem dX4_isProduct_18 : decode cX4_isProduct 18 = .ok (.aload_n 0, 1) := dk_42 (dk_at dksX4_isProduct_0 18 rfl rfl)
theorem dX4_isProduct_19 : decode cX4_isProduct 19 = .ok (.bipush 47, 2) := dk_16 47 (dk_at dksX4_isProduct_0 19 rfl rfl)
theorem dX4_isProduct_21 : decode cX4_isProduct 21 = .ok (.invokevirtual 187, 3) := dk_182 0 187 (dk_at dksX4_isProduct_0 21 rfl rfl)
theorem dX4_isProduct_24 : decode cX4_isProduct 24 = .ok (.ifCond .ne 12, 3) := dk_154 0 12 (dk_at dksX4_isProduct_1 0 rfl rfl)
theorem dX4_isProduct_27 : decode cX4_isProduct 27 = .ok (.aload_n 0, 1) := dk_42 (dk_at dksX4_isProduct_1 3 rfl rfl)
theorem dX4_isProduct_28 : decode cX4_isProduct 28 = .ok (.bipush 37, 2) := dk_16 37 (dk_at dksX4_isProduct_1 4 rfl rfl)
theorem dX4_isProduct_30 : decode cX4_isProduct 30 = .ok (.invokevirtual 187, 3) := dk_182 0 187 (dk_at dksX4_isProduct_1 6 rfl rfl)
theorem dX4_isProduct_33 : decode cX4_isProduct 33 = .ok (.ifCond .eq 61, 3) := dk_153 0 61 (dk_at dksX4_isProduct_1 9 rfl rfl)
theorem dX4_isProduct_36 : decode cX4_isProduct 36 = .ok (.aload_n 0, 1) := dk_42 (dk_at dksX4_isProduct_1 12 rfl rfl)
theorem dX4_isProduct_37 : decode cX4_isProduct 37 = .ok (.bipush 42, 2) := dk_16 42 (dk_at dksX4_isProduct_1 13 rfl rfl)
theorem dX4_isProduct_39 : decode cX4_isProduct 39 = .ok (.invokevirtual 187, 3) := dk_182 0 187 (dk_at dksX4_isProduct_1 15 rfl rfl)
theorem dX4_isProduct_42 : decode cX4_isProduct 42 = .ok (.ifCond .eq 8, 3) := dk_153 0 8 (dk_at dksX4_isProduct_1 18 rfl rfl)
theorem dX4_isProduct_45 : decode cX4_isProduct 45 = .ok (.bipush 44, 2) := dk_16 44 (dk_at dksX4_isProduct_1 21 rfl rfl)
theorem dX4_isProduct_47 : decode cX4_isProduct 47 = .ok (.goto 19, 3) := dk_167 0 19 (dk_at dksX4_isProduct_2 0 rfl rfl)
theorem dX4_isProduct_50 : decode cX4_isProduct 50 = .ok (.aload_n 0, 1) := dk_42 (dk_at dksX4_isProduct_2 3 rfl rfl)
theorem dX4_isProduct_51 : decode cX4_isProduct 51 = .ok (.bipush 47, 2) := dk_16 47 (dk_at dksX4_isProduct_2 4 rfl rfl)
theorem dX4_isProduct_53 : decode cX4_isProduct 53 = .ok (.invokevirtual 187, 3) := dk_182 0 187 (dk_at dksX4_isProduct_2 6 rfl rfl)
theorem dX4_isProduct_56 : decode cX4_isProduct 56 = .ok (.ifCond .eq 8, 3) := dk_153 0 8 (dk_at dksX4_isProduct_2 9 rfl rfl)
theorem dX4_isProduct_59 : decode cX4_isProduct 59 = .ok (.bipush 45, 2) := dk_16 45 (dk_at dksX4_isProduct_2 12 rfl rfl)
theorem dX4_isProduct_61 : decode cX4_isProduct 61 = .ok (.goto 5, 3) := dk_167 0 5 (dk_at dksX4_isProduct_2 14 rfl rfl)
theorem dX4_isProduct_64 : decode cX4_isProduct 64 = .ok (.bipush 46, 2) := dk_16 46 (dk_at dksX4_isProduct_2 17 rfl rfl)
theorem dX4_isProduct_66 : decode cX4_isProduct 66 = .ok (.istore_n 1, 1) := dk_60 (dk_at dksX4_isProduct_2 19 rfl rfl)
theorem dX4_isProduct_67 : decode cX4_isProduct 67 = .ok (.aload_n 0, 1) := dk_42 (dk_at dksX4_isProduct_2 20 rfl rfl)
theorem dX4_isProduct_68 : decode cX4_isProduct 68 = .ok (.dup, 1) := dk_89 (dk_at dksX4_isProduct_2 21 rfl rfl)
theorem dX4_isProduct_69 : decode cX4_isProduct 69 = .ok (.getfield 113, 3) := dk_180 0 113 (dk_at dksX4_isProduct_3 0 rfl rfl)
theorem dX4_isProduct_72 : decode cX4_isProduct 72 = .ok (.iconst 1, 1) := dk_4 (dk_at dksX4_isProduct_3 3 rfl rfl)
theorem dX4_isProduct_73 : decode cX4_isProduct 73 = .ok (.iadd, 1) := dk_96 (dk_at dksX4_isProduct_3 4 rfl rfl)
theorem dX4_isProduct_74 : decode cX4_isProduct 74 = .ok (.putfield 113, 3) := dk_181 0 113 (dk_at dksX4_isProduct_3 5 rfl rfl)
theorem dX4_isProduct_77 : decode cX4_isProduct 77 = .ok (.aload_n 0, 1) := dk_42 (dk_at dksX4_isProduct_3 8 rfl rfl)
theorem dX4_isProduct_78 : decode cX4_isProduct 78 = .ok (.invokevirtual 202, 3) := dk_182 0 202 (dk_at dksX4_isProduct_3 9 rfl rfl)
theorem dX4_isProduct_81 : decode cX4_isProduct 81 = .ok (.ifCond .ne 5, 3) := dk_154 0 5 (dk_at dksX4_isProduct_3 12 rfl rfl)
theorem dX4_isProduct_84 : decode cX4_isProduct 84 = .ok (.iconst 0, 1) := dk_3 (dk_at dksX4_isProduct_3 15 rfl rfl)
theorem dX4_isProduct_85 : decode cX4_isProduct 85 = .ok (.ireturn, 1) := dk_172 (dk_at dksX4_isProduct_3 16 rfl rfl)
theorem dX4_isProduct_86 : decode cX4_isProduct 86 = .ok (.aload_n 0, 1) := dk_42 (dk_at dksX4_isProduct_3 17 rfl rfl)
theorem dX4_isProduct_87 : decode cX4_isProduct 87 = .ok (.iload_n 1, 1) := dk_27 (dk_at dksX4_isProduct_3 18 rfl rfl)
theorem dX4_isProduct_88 : decode cX4_isProduct 88 = .ok (.invokevirtual 133, 3) := dk_182 0 133 (dk_at dksX4_isProduct_3 19 rfl rfl)
theorem dX4_isProduct_91 : decode cX4_isProduct 91 = .ok (.goto (-82), 3) := dk_167 255 174 (dk_at dksX4_isProduct_4 0 rfl rfl)
theorem dX4_isProduct_94 : decode cX4_isProduct 94 = .ok (.iconst 1, 1) := dk_4 (dk_at dksX4_isProduct_4 3 rfl rfl)
theorem dX4_isProduct_95 : decode cX4_isProduct 95 = .ok (.ireturn, 1) := dk_172 (dk_at dksX4_isProduct_4 4 rfl rfl)
abbrev cX4_isValue : ByteArray := prog_41_method_36_code
def yX4_isValue : MethodName := ⟨RX4, "isValue", "()Z"⟩
def dkwX4_isValue_11 : List UInt8 := [100, 181, 0, 179, 28, 153, 0, 8, 42, 27, 182, 0, 133, 42, 16, 41, 182, 0, 151, 172]
abbrev dktX4_isValue_11 : List UInt8 := dkwX4_isValue_11 ++ []
def dkwX4_isValue_10 : List UInt8 := [42, 16, 44, 182, 0, 151, 153, 0, 10, 42, 182, 0, 167, 154, 0, 5, 3, 172, 42, 89, 180, 0, 179, 4]
abbrev dktX4_isValue_10 : List UInt8 := dkwX4_isValue_10 ++ dktX4_isValue_11
def dkwX4_isValue_9 : List UInt8 := [182, 0, 187, 153, 0, 37, 42, 182, 0, 185, 153, 0, 30, 42, 182, 0, 167, 153, 0, 23, 28, 153, 0, 21]
abbrev dktX4_isValue_9 : List UInt8 := dkwX4_isValue_9 ++ dktX4_isValue_10
def dkwX4_isValue_8 : List UInt8 := [182, 0, 119, 154, 0, 12, 42, 16, 21, 182, 0, 119, 153, 0, 7, 4, 167, 0, 4, 3, 61, 42, 16, 40]
abbrev dktX4_isValue_8 : List UInt8 := dkwX4_isValue_8 ++ dktX4_isValue_9
def dkwX4_isValue_7 : List UInt8 := [181, 0, 179, 42, 16, 41, 182, 0, 133, 4, 172, 42, 180, 0, 17, 42, 180, 0, 113, 46, 60, 42, 16, 20]
abbrev dktX4_isValue_7 : List UInt8 := dkwX4_isValue_7 ++ dktX4_isValue_8
def dkwX4_isValue_6 : List UInt8 := [182, 0, 185, 153, 0, 10, 42, 182, 0, 202, 154, 0, 5, 3, 172, 42, 89, 180, 0, 179, 4, 100]
abbrev dktX4_isValue_6 : List UInt8 := dkwX4_isValue_6 ++ dktX4_isValue_7
def dkwX4_isValue_5 : List UInt8 := [182, 0, 116, 153, 0, 10, 42, 16, 14, 182, 0, 190, 172, 42, 16, 45, 182, 0, 187, 153, 0, 37, 42]
abbrev dktX4_isValue_5 : List UInt8 := dkwX4_isValue_5 ++ dktX4_isValue_6
def dkwX4_isValue_4 : List UInt8 := [182, 0, 116, 153, 0, 17, 42, 42, 180, 0, 17, 42, 180, 0, 113, 46, 182, 0, 193, 172, 42, 16, 14]
abbrev dktX4_isValue_4 : List UInt8 := dkwX4_isValue_4 ++ dktX4_isValue_5
def dkwX4_isValue_3 : List UInt8 := [180, 0, 113, 4, 96, 181, 0, 113, 4, 172, 42, 16, 12, 182, 0, 116, 154, 0, 12, 42, 16, 13]
abbrev dktX4_isValue_3 : List UInt8 := dkwX4_isValue_3 ++ dktX4_isValue_4
def dkwX4_isValue_2 : List UInt8 := [42, 16, 16, 182, 0, 116, 153, 0, 28, 42, 42, 180, 0, 17, 42, 180, 0, 113, 46, 182, 0, 133, 42, 89]
abbrev dktX4_isValue_2 : List UInt8 := dkwX4_isValue_2 ++ dktX4_isValue_3
def dkwX4_isValue_1 : List UInt8 := [182, 0, 133, 42, 89, 180, 0, 113, 4, 96, 181, 0, 113, 4, 172, 42, 16, 15, 182, 0, 116, 154, 0, 12]
abbrev dktX4_isValue_1 : List UInt8 := dkwX4_isValue_1 ++ dktX4_isValue_2
def dkwX4_isValue_0 : List UInt8 := [42, 16, 31, 182, 0, 116, 153, 0, 33, 42, 16, 40, 182, 0, 133, 42, 42, 42, 180, 0, 113, 182, 0, 205]
abbrev dktX4_isValue_0 : List UInt8 := dkwX4_isValue_0 ++ dktX4_isValue_1
theorem dksX4_isValue_0 : cX4_isValue.data.toList.drop 0 = dktX4_isValue_0 := by decide +kernel
theorem dksX4_isValue_1 : cX4_isValue.data.toList.drop 24 = dktX4_isValue_1 := dk_seg dksX4_isValue_0 24 rfl rfl
theorem dksX4_isValue_2 : cX4_isValue.data.toList.drop 48 = dktX4_isValue_2 := dk_seg dksX4_isValue_1 24 rfl rfl
theorem dksX4_isValue_3 : cX4_isValue.data.toList.drop 72 = dktX4_isValue_3 := dk_seg dksX4_isValue_2 24 rfl rfl
theorem dksX4_isValue_4 : cX4_isValue.data.toList.drop 94 = dktX4_isValue_4 := dk_seg dksX4_isValue_3 22 rfl rfl
theorem dksX4_isValue_5 : cX4_isValue.data.toList.drop 117 = dktX4_isValue_5 := dk_seg dksX4_isValue_4 23 rfl rfl
theorem dksX4_isValue_6 : cX4_isValue.data.toList.drop 140 = dktX4_isValue_6 := dk_seg dksX4_isValue_5 23 rfl rfl
theorem dksX4_isValue_7 : cX4_isValue.data.toList.drop 162 = dktX4_isValue_7 := dk_seg dksX4_isValue_6 22 rfl rfl
theorem dksX4_isValue_8 : cX4_isValue.data.toList.drop 186 = dktX4_isValue_8 := dk_seg dksX4_isValue_7 24 rfl rfl
theorem dksX4_isValue_9 : cX4_isValue.data.toList.drop 210 = dktX4_isValue_9 := dk_seg dksX4_isValue_8 24 rfl rfl
theorem dksX4_isValue_10 : cX4_isValue.data.toList.drop 234 = dktX4_isValue_10 := dk_seg dksX4_isValue_9 24 rfl rfl
theorem dksX4_isValue_11 : cX4_isValue.data.toList.drop 258 = dktX4_isValue_11 := dk_seg dksX4_isValue_10 24 rfl rfl
theorem dX4_isValue_0 : decode cX4_isValue 0 = .ok (.aload_n 0, 1) := dk_42 (dk_at dksX4_isValue_0 0 rfl rfl)
theorem dX4_isValue_1 : decode cX4_isValue 1 = .ok (.bipush 31, 2) := dk_16 31 (dk_at dksX4_isValue_0 1 rfl rfl)
theorem dX4_isValue_3 : decode cX4_isValue 3 = .ok (.invokevirtual 116, 3) := dk_182 0 116 (dk_at dksX4_isValue_0 3 rfl rfl)
theorem dX4_isValue_6 : decode cX4_isValue 6 = .ok (.ifCond .eq 33, 3) := dk_153 0 33 (dk_at dksX4_isValue_0 6 rfl rfl)
theorem dX4_isValue_9 : decode cX4_isValue 9 = .ok (.aload_n 0, 1) := dk_42 (dk_at dksX4_isValue_0 9 rfl rfl)
theorem dX4_isValue_10 : decode cX4_isValue 10 = .ok (.bipush 40, 2) := dk_16 40 (dk_at dksX4_isValue_0 10 rfl rfl)
theorem dX4_isValue_12 : decode cX4_isValue 12 = .ok (.invokevirtual 133, 3) := dk_182 0 133 (dk_at dksX4_isValue_0 12 rfl rfl)
theorem dX4_isValue_15 : decode cX4_isValue 15 = .ok (.aload_n 0, 1) := dk_42 (dk_at dksX4_isValue_0 15 rfl rfl)
theorem dX4_isValue_16 : decode cX4_isValue 16 = .ok (.aload_n 0, 1) := dk_42 (dk_at dksX4_isValue_0 16 rfl rfl)
theorem dX4_isValue_17 : decode cX4_isValue 17 = .ok (.aload_n 0, 1) := dk_42 (dk_at dksX4_isValue_0 17 rfl rfl)
theorem dX4_isValue_18 : decode cX4_isValue 18 = .ok (.getfield 113, 3) := dk_180 0 113 (dk_at dksX4_isValue_0 18 rfl rfl)
theorem dX4_isValue_21 : decode cX4_isValue 21 = .ok (.invokevirtual 205, 3) := dk_182 0 205 (dk_at dksX4_isValue_0 21 rfl rfl)
theorem dX4_isValue_24 : decode cX4_isValue 24 = .ok (.invokevirtual 133, 3) := dk_182 0 133 (dk_at dksX4_isValue_1 0 rfl rfl)
theorem dX4_isValue_27 : decode cX4_isValue 27 = .ok (.aload_n 0, 1) := dk_42 (dk_at dksX4_isValue_1 3 rfl rfl)
theorem dX4_isValue_28 : decode cX4_isValue 28 = .ok (.dup, 1) := dk_89 (dk_at dksX4_isValue_1 4 rfl rfl)
theorem dX4_isValue_29 : decode cX4_isValue 29 = .ok (.getfield 113, 3) := dk_180 0 113 (dk_at dksX4_isValue_1 5 rfl rfl)
theorem dX4_isValue_32 : decode cX4_isValue 32 = .ok (.iconst 1, 1) := dk_4 (dk_at dksX4_isValue_1 8 rfl rfl)
theorem dX4_isValue_33 : decode cX4_isValue 33 = .ok (.iadd, 1) := dk_96 (dk_at dksX4_isValue_1 9 rfl rfl)
theorem dX4_isValue_34 : decode cX4_isValue 34 = .ok (.putfield 113, 3) := dk_181 0 113 (dk_at dksX4_isValue_1 10 rfl rfl)
theorem dX4_isValue_37 : decode cX4_isValue 37 = .ok (.iconst 1, 1) := dk_4 (dk_at dksX4_isValue_1 13 rfl rfl)
theorem dX4_isValue_38 : decode cX4_isValue 38 = .ok (.ireturn, 1) := dk_172 (dk_at dksX4_isValue_1 14 rfl rfl)
theorem dX4_isValue_39 : decode cX4_isValue 39 = .ok (.aload_n 0, 1) := dk_42 (dk_at dksX4_isValue_1 15 rfl rfl)
theorem dX4_isValue_40 : decode cX4_isValue 40 = .ok (.bipush 15, 2) := dk_16 15 (dk_at dksX4_isValue_1 16 rfl rfl)
theorem dX4_isValue_42 : decode cX4_isValue 42 = .ok (.invokevirtual 116, 3) := dk_182 0 116 (dk_at dksX4_isValue_1 18 rfl rfl)
theorem dX4_isValue_45 : decode cX4_isValue 45 = .ok (.ifCond .ne 12, 3) := dk_154 0 12 (dk_at dksX4_isValue_1 21 rfl rfl)
theorem dX4_isValue_48 : decode cX4_isValue 48 = .ok (.aload_n 0, 1) := dk_42 (dk_at dksX4_isValue_2 0 rfl rfl)
theorem dX4_isValue_49 : decode cX4_isValue 49 = .ok (.bipush 16, 2) := dk_16 16 (dk_at dksX4_isValue_2 1 rfl rfl)
theorem dX4_isValue_51 : decode cX4_isValue 51 = .ok (.invokevirtual 116, 3) := dk_182 0 116 (dk_at dksX4_isValue_2 3 rfl rfl)
theorem dX4_isValue_54 : decode cX4_isValue 54 = .ok (.ifCond .eq 28, 3) := dk_153 0 28 (dk_at dksX4_isValue_2 6 rfl rfl)
theorem dX4_isValue_57 : decode cX4_isValue 57 = .ok (.aload_n 0, 1) := dk_42 (dk_at dksX4_isValue_2 9 rfl rfl)
theorem dX4_isValue_58 : decode cX4_isValue 58 = .ok (.aload_n 0, 1) := dk_42 (dk_at dksX4_isValue_2 10 rfl rfl)
theorem dX4_isValue_59 : decode cX4_isValue 59 = .ok (.getfield 17, 3) := dk_180 0 17 (dk_at dksX4_isValue_2 11 rfl rfl)
theorem dX4_isValue_62 : decode cX4_isValue 62 = .ok (.aload_n 0, 1) := dk_42 (dk_at dksX4_isValue_2 14 rfl rfl)
theorem dX4_isValue_63 : decode cX4_isValue 63 = .ok (.getfield 113, 3) := dk_180 0 113 (dk_at dksX4_isValue_2 15 rfl rfl)
theorem dX4_isValue_66 : decode cX4_isValue 66 = .ok (.iaload, 1) := dk_46 (dk_at dksX4_isValue_2 18 rfl rfl)
theorem dX4_isValue_67 : decode cX4_isValue 67 = .ok (.invokevirtual 133, 3) := dk_182 0 133 (dk_at dksX4_isValue_2 19 rfl rfl)
theorem dX4_isValue_70 : decode cX4_isValue 70 = .ok (.aload_n 0, 1) := dk_42 (dk_at dksX4_isValue_2 22 rfl rfl)
theorem dX4_isValue_71 : decode cX4_isValue 71 = .ok (.dup, 1) := dk_89 (dk_at dksX4_isValue_2 23 rfl rfl)
theorem dX4_isValue_72 : decode cX4_isValue 72 = .ok (.getfield 113, 3) := dk_180 0 113 (dk_at dksX4_isValue_3 0 rfl rfl)
theorem dX4_isValue_75 : decode cX4_isValue 75 = .ok (.iconst 1, 1) := dk_4 (dk_at dksX4_isValue_3 3 rfl rfl)
theorem dX4_isValue_76 : decode cX4_isValue 76 = .ok (.iadd, 1) := dk_96 (dk_at dksX4_isValue_3 4 rfl rfl)
theorem dX4_isValue_77 : decode cX4_isValue 77 = .ok (.putfield 113, 3) := dk_181 0 113 (dk_at dksX4_isValue_3 5 rfl rfl)
theorem dX4_isValue_80 : decode cX4_isValue 80 = .ok (.iconst 1, 1) := dk_4 (dk_at dksX4_isValue_3 8 rfl rfl)
theorem dX4_isValue_81 : decode cX4_isValue 81 = .ok (.ireturn, 1) := dk_172 (dk_at dksX4_isValue_3 9 rfl rfl)
theorem dX4_isValue_82 : decode cX4_isValue 82 = .ok (.aload_n 0, 1) := dk_42 (dk_at dksX4_isValue_3 10 rfl rfl)
theorem dX4_isValue_83 : decode cX4_isValue 83 = .ok (.bipush 12, 2) := dk_16 12 (dk_at dksX4_isValue_3 11 rfl rfl)
theorem dX4_isValue_85 : decode cX4_isValue 85 = .ok (.invokevirtual 116, 3) := dk_182 0 116 (dk_at dksX4_isValue_3 13 rfl rfl)
theorem dX4_isValue_88 : decode cX4_isValue 88 = .ok (.ifCond .ne 12, 3) := dk_154 0 12 (dk_at dksX4_isValue_3 16 rfl rfl)
theorem dX4_isValue_91 : decode cX4_isValue 91 = .ok (.aload_n 0, 1) := dk_42 (dk_at dksX4_isValue_3 19 rfl rfl)
theorem dX4_isValue_92 : decode cX4_isValue 92 = .ok (.bipush 13, 2) := dk_16 13 (dk_at dksX4_isValue_3 20 rfl rfl)
theorem dX4_isValue_94 : decode cX4_isValue 94 = .ok (.invokevirtual 116, 3) := dk_182 0 116 (dk_at dksX4_isValue_4 0 rfl rfl)
theorem dX4_isValue_97 : decode cX4_isValue 97 = .ok (.ifCond .eq 17, 3) := dk_153 0 17 (dk_at dksX4_isValue_4 3 rfl rfl)
theorem dX4_isValue_100 : decode cX4_isValue 100 = .ok (.aload_n 0, 1) := dk_42 (dk_at dksX4_isValue_4 6 rfl rfl)
theorem dX4_isValue_101 : decode cX4_isValue 101 = .ok (.aload_n 0, 1) := dk_42 (dk_at dksX4_isValue_4 7 rfl rfl)
theorem dX4_isValue_102 : decode cX4_isValue 102 = .ok (.getfield 17, 3) := dk_180 0 17 (dk_at dksX4_isValue_4 8 rfl rfl)
theorem dX4_isValue_105 : decode cX4_isValue 105 = .ok (.aload_n 0, 1) := dk_42 (dk_at dksX4_isValue_4 11 rfl rfl)
theorem dX4_isValue_106 : decode cX4_isValue 106 = .ok (.getfield 113, 3) := dk_180 0 113 (dk_at dksX4_isValue_4 12 rfl rfl)
theorem dX4_isValue_109 : decode cX4_isValue 109 = .ok (.iaload, 1) := dk_46 (dk_at dksX4_isValue_4 15 rfl rfl)
theorem dX4_isValue_110 : decode cX4_isValue 110 = .ok (.invokevirtual 193, 3) := dk_182 0 193 (dk_at dksX4_isValue_4 16 rfl rfl)
theorem dX4_isValue_113 : decode cX4_isValue 113 = .ok (.ireturn, 1) := dk_172 (dk_at dksX4_isValue_4 19 rfl rfl)
theorem dX4_isValue_114 : decode cX4_isValue 114 = .ok (.aload_n 0, 1) := dk_42 (dk_at dksX4_isValue_4 20 rfl rfl)
theorem dX4_isValue_115 : decode cX4_isValue 115 = .ok (.bipush 14, 2) := dk_16 14 (dk_at dksX4_isValue_4 21 rfl rfl)
theorem dX4_isValue_117 : decode cX4_isValue 117 = .ok (.invokevirtual 116, 3) := dk_182 0 116 (dk_at dksX4_isValue_5 0 rfl rfl)
theorem dX4_isValue_120 : decode cX4_isValue 120 = .ok (.ifCond .eq 10, 3) := dk_153 0 10 (dk_at dksX4_isValue_5 3 rfl rfl)
theorem dX4_isValue_123 : decode cX4_isValue 123 = .ok (.aload_n 0, 1) := dk_42 (dk_at dksX4_isValue_5 6 rfl rfl)
theorem dX4_isValue_124 : decode cX4_isValue 124 = .ok (.bipush 14, 2) := dk_16 14 (dk_at dksX4_isValue_5 7 rfl rfl)
theorem dX4_isValue_126 : decode cX4_isValue 126 = .ok (.invokevirtual 190, 3) := dk_182 0 190 (dk_at dksX4_isValue_5 9 rfl rfl)
theorem dX4_isValue_129 : decode cX4_isValue 129 = .ok (.ireturn, 1) := dk_172 (dk_at dksX4_isValue_5 12 rfl rfl)
theorem dX4_isValue_130 : decode cX4_isValue 130 = .ok (.aload_n 0, 1) := dk_42 (dk_at dksX4_isValue_5 13 rfl rfl)
theorem dX4_isValue_131 : decode cX4_isValue 131 = .ok (.bipush 45, 2) := dk_16 45 (dk_at dksX4_isValue_5 14 rfl rfl)
theorem dX4_isValue_133 : decode cX4_isValue 133 = .ok (.invokevirtual 187, 3) := dk_182 0 187 (dk_at dksX4_isValue_5 16 rfl rfl)
theorem dX4_isValue_136 : decode cX4_isValue 136 = .ok (.ifCond .eq 37, 3) := dk_153 0 37 (dk_at dksX4_isValue_5 19 rfl rfl)
theorem dX4_isValue_139 : decode cX4_isValue 139 = .ok (.aload_n 0, 1) := dk_42 (dk_at dksX4_isValue_5 22 rfl rfl)
theorem dX4_isValue_140 : decode cX4_isValue 140 = .ok (.invokevirtual 185, 3) := dk_182 0 185 (dk_at dksX4_isValue_6 0 rfl rfl)
theorem dX4_isValue_143 : decode cX4_isValue 143 = .ok (.ifCond .eq 10, 3) := dk_153 0 10 (dk_at dksX4_isValue_6 3 rfl rfl)
theorem dX4_isValue_146 : decode cX4_isValue 146 = .ok (.aload_n 0, 1) := dk_42 (dk_at dksX4_isValue_6 6 rfl rfl)
theorem dX4_isValue_147 : decode cX4_isValue 147 = .ok (.invokevirtual 202, 3) := dk_182 0 202 (dk_at dksX4_isValue_6 7 rfl rfl)
theorem dX4_isValue_150 : decode cX4_isValue 150 = .ok (.ifCond .ne 5, 3) := dk_154 0 5 (dk_at dksX4_isValue_6 10 rfl rfl)
theorem dX4_isValue_153 : decode cX4_isValue 153 = .ok (.iconst 0, 1) := dk_3 (dk_at dksX4_isValue_6 13 rfl rfl)
theorem dX4_isValue_154 : decode cX4_isValue 154 = .ok (.ireturn, 1) := dk_172 (dk_at dksX4_isValue_6 14 rfl rfl)
theorem dX4_isValue_155 : decode cX4_isValue 155 = .ok (.aload_n 0, 1) := dk_42 (dk_at dksX4_isValue_6 15 rfl rfl)
theorem dX4_isValue_156 : decode cX4_isValue 156 = .ok (.dup, 1) := dk_89 (dk_at dksX4_isValue_6 16 rfl rfl)
theorem dX4_isValue_157 : decode cX4_isValue 157 = .ok (.getfield 179, 3) := dk_180 0 179 (dk_at dksX4_isValue_6 17 rfl rfl)
theorem dX4_isValue_160 : decode cX4_isValue 160 = .ok (.iconst 1, 1) := dk_4 (dk_at dksX4_isValue_6 20 rfl rfl)
theorem dX4_isValue_161 : decode cX4_isValue 161 = .ok (.isub, 1) := dk_100 (dk_at dksX4_isValue_6 21 rfl rfl)
theorem dX4_isValue_162 : decode cX4_isValue 162 = .ok (.putfield 179, 3) := dk_181 0 179 (dk_at dksX4_isValue_7 0 rfl rfl)
theorem dX4_isValue_165 : decode cX4_isValue 165 = .ok (.aload_n 0, 1) := dk_42 (dk_at dksX4_isValue_7 3 rfl rfl)
theorem dX4_isValue_166 : decode cX4_isValue 166 = .ok (.bipush 41, 2) := dk_16 41 (dk_at dksX4_isValue_7 4 rfl rfl)
theorem dX4_isValue_168 : decode cX4_isValue 168 = .ok (.invokevirtual 133, 3) := dk_182 0 133 (dk_at dksX4_isValue_7 6 rfl rfl)
theorem dX4_isValue_171 : decode cX4_isValue 171 = .ok (.iconst 1, 1) := dk_4 (dk_at dksX4_isValue_7 9 rfl rfl)
theorem dX4_isValue_172 : decode cX4_isValue 172 = .ok (.ireturn, 1) := dk_172 (dk_at dksX4_isValue_7 10 rfl rfl)
theorem dX4_isValue_173 : decode cX4_isValue 173 = .ok (.aload_n 0, 1) := dk_42 (dk_at dksX4_isValue_7 11 rfl rfl)
theorem dX4_isValue_174 : decode cX4_isValue 174 = .ok (.getfield 17, 3) := dk_180 0 17 (dk_at dksX4_isValue_7 12 rfl rfl)
theorem dX4_isValue_177 : decode cX4_isValue 177 = .ok (.aload_n 0, 1) := dk_42 (dk_at dksX4_isValue_7 15 rfl rfl)
theorem dX4_isValue_178 : decode cX4_isValue 178 = .ok (.getfield 113, 3) := dk_180 0 113 (dk_at dksX4_isValue_7 16 rfl rfl)
theorem dX4_isValue_181 : decode cX4_isValue 181 = .ok (.iaload, 1) := dk_46 (dk_at dksX4_isValue_7 19 rfl rfl)
theorem dX4_isValue_182 : decode cX4_isValue 182 = .ok (.istore_n 1, 1) := dk_60 (dk_at dksX4_isValue_7 20 rfl rfl)
theorem dX4_isValue_183 : decode cX4_isValue 183 = .ok (.aload_n 0, 1) := dk_42 (dk_at dksX4_isValue_7 21 rfl rfl)
theorem dX4_isValue_184 : decode cX4_isValue 184 = .ok (.bipush 20, 2) := dk_16 20 (dk_at dksX4_isValue_7 22 rfl rfl)
theorem dX4_isValue_186 : decode cX4_isValue 186 = .ok (.invokevirtual 119, 3) := dk_182 0 119 (dk_at dksX4_isValue_8 0 rfl rfl)
theorem dX4_isValue_189 : decode cX4_isValue 189 = .ok (.ifCond .ne 12, 3) := dk_154 0 12 (dk_at dksX4_isValue_8 3 rfl rfl)
theorem dX4_isValue_192 : decode cX4_isValue 192 = .ok (.aload_n 0, 1) := dk_42 (dk_at dksX4_isValue_8 6 rfl rfl)
theorem dX4_isValue_193 : decode cX4_isValue 193 = .ok (.bipush 21, 2) := dk_16 21 (dk_at dksX4_isValue_8 7 rfl rfl)
theorem dX4_isValue_195 : decode cX4_isValue 195 = .ok (.invokevirtual 119, 3) := dk_182 0 119 (dk_at dksX4_isValue_8 9 rfl rfl)
theorem dX4_isValue_198 : decode cX4_isValue 198 = .ok (.ifCond .eq 7, 3) := dk_153 0 7 (dk_at dksX4_isValue_8 12 rfl rfl)
theorem dX4_isValue_201 : decode cX4_isValue 201 = .ok (.iconst 1, 1) := dk_4 (dk_at dksX4_isValue_8 15 rfl rfl)
theorem dX4_isValue_202 : decode cX4_isValue 202 = .ok (.goto 4, 3) := dk_167 0 4 (dk_at dksX4_isValue_8 16 rfl rfl)
theorem dX4_isValue_205 : decode cX4_isValue 205 = .ok (.iconst 0, 1) := dk_3 (dk_at dksX4_isValue_8 19 rfl rfl)
theorem dX4_isValue_206 : decode cX4_isValue 206 = .ok (.istore_n 2, 1) := dk_61 (dk_at dksX4_isValue_8 20 rfl rfl)
theorem dX4_isValue_207 : decode cX4_isValue 207 = .ok (.aload_n 0, 1) := dk_42 (dk_at dksX4_isValue_8 21 rfl rfl)
theorem dX4_isValue_208 : decode cX4_isValue 208 = .ok (.bipush 40, 2) := dk_16 40 (dk_at dksX4_isValue_8 22 rfl rfl)
theorem dX4_isValue_210 : decode cX4_isValue 210 = .ok (.invokevirtual 187, 3) := dk_182 0 187 (dk_at dksX4_isValue_9 0 rfl rfl)
theorem dX4_isValue_213 : decode cX4_isValue 213 = .ok (.ifCond .eq 37, 3) := dk_153 0 37 (dk_at dksX4_isValue_9 3 rfl rfl)
theorem dX4_isValue_216 : decode cX4_isValue 216 = .ok (.aload_n 0, 1) := dk_42 (dk_at dksX4_isValue_9 6 rfl rfl)
theorem dX4_isValue_217 : decode cX4_isValue 217 = .ok (.invokevirtual 185, 3) := dk_182 0 185 (dk_at dksX4_isValue_9 7 rfl rfl)
theorem dX4_isValue_220 : decode cX4_isValue 220 = .ok (.ifCond .eq 30, 3) := dk_153 0 30 (dk_at dksX4_isValue_9 10 rfl rfl)
theorem dX4_isValue_223 : decode cX4_isValue 223 = .ok (.aload_n 0, 1) := dk_42 (dk_at dksX4_isValue_9 13 rfl rfl)
theorem dX4_isValue_224 : decode cX4_isValue 224 = .ok (.invokevirtual 167, 3) := dk_182 0 167 (dk_at dksX4_isValue_9 14 rfl rfl)
theorem dX4_isValue_227 : decode cX4_isValue 227 = .ok (.ifCond .eq 23, 3) := dk_153 0 23 (dk_at dksX4_isValue_9 17 rfl rfl)
theorem dX4_isValue_230 : decode cX4_isValue 230 = .ok (.iload_n 2, 1) := dk_28 (dk_at dksX4_isValue_9 20 rfl rfl)
theorem dX4_isValue_231 : decode cX4_isValue 231 = .ok (.ifCond .eq 21, 3) := dk_153 0 21 (dk_at dksX4_isValue_9 21 rfl rfl)
theorem dX4_isValue_234 : decode cX4_isValue 234 = .ok (.aload_n 0, 1) := dk_42 (dk_at dksX4_isValue_10 0 rfl rfl)
theorem dX4_isValue_235 : decode cX4_isValue 235 = .ok (.bipush 44, 2) := dk_16 44 (dk_at dksX4_isValue_10 1 rfl rfl)
theorem dX4_isValue_237 : decode cX4_isValue 237 = .ok (.invokevirtual 151, 3) := dk_182 0 151 (dk_at dksX4_isValue_10 3 rfl rfl)
theorem dX4_isValue_240 : decode cX4_isValue 240 = .ok (.ifCond .eq 10, 3) := dk_153 0 10 (dk_at dksX4_isValue_10 6 rfl rfl)
theorem dX4_isValue_243 : decode cX4_isValue 243 = .ok (.aload_n 0, 1) := dk_42 (dk_at dksX4_isValue_10 9 rfl rfl)
theorem dX4_isValue_244 : decode cX4_isValue 244 = .ok (.invokevirtual 167, 3) := dk_182 0 167 (dk_at dksX4_isValue_10 10 rfl rfl)
theorem dX4_isValue_247 : decode cX4_isValue 247 = .ok (.ifCond .ne 5, 3) := dk_154 0 5 (dk_at dksX4_isValue_10 13 rfl rfl)
theorem dX4_isValue_250 : decode cX4_isValue 250 = .ok (.iconst 0, 1) := dk_3 (dk_at dksX4_isValue_10 16 rfl rfl)
theorem dX4_isValue_251 : decode cX4_isValue 251 = .ok (.ireturn, 1) := dk_172 (dk_at dksX4_isValue_10 17 rfl rfl)
theorem dX4_isValue_252 : decode cX4_isValue 252 = .ok (.aload_n 0, 1) := dk_42 (dk_at dksX4_isValue_10 18 rfl rfl)
theorem dX4_isValue_253 : decode cX4_isValue 253 = .ok (.dup, 1) := dk_89 (dk_at dksX4_isValue_10 19 rfl rfl)
theorem dX4_isValue_254 : decode cX4_isValue 254 = .ok (.getfield 179, 3) := dk_180 0 179 (dk_at dksX4_isValue_10 20 rfl rfl)
theorem dX4_isValue_257 : decode cX4_isValue 257 = .ok (.iconst 1, 1) := dk_4 (dk_at dksX4_isValue_10 23 rfl rfl)
theorem dX4_isValue_258 : decode cX4_isValue 258 = .ok (.isub, 1) := dk_100 (dk_at dksX4_isValue_11 0 rfl rfl)
theorem dX4_isValue_259 : decode cX4_isValue 259 = .ok (.putfield 179, 3) := dk_181 0 179 (dk_at dksX4_isValue_11 1 rfl rfl)
theorem dX4_isValue_262 : decode cX4_isValue 262 = .ok (.iload_n 2, 1) := dk_28 (dk_at dksX4_isValue_11 4 rfl rfl)
theorem dX4_isValue_263 : decode cX4_isValue 263 = .ok (.ifCond .eq 8, 3) := dk_153 0 8 (dk_at dksX4_isValue_11 5 rfl rfl)
theorem dX4_isValue_266 : decode cX4_isValue 266 = .ok (.aload_n 0, 1) := dk_42 (dk_at dksX4_isValue_11 8 rfl rfl)
theorem dX4_isValue_267 : decode cX4_isValue 267 = .ok (.iload_n 1, 1) := dk_27 (dk_at dksX4_isValue_11 9 rfl rfl)
theorem dX4_isValue_268 : decode cX4_isValue 268 = .ok (.invokevirtual 133, 3) := dk_182 0 133 (dk_at dksX4_isValue_11 10 rfl rfl)
theorem dX4_isValue_271 : decode cX4_isValue 271 = .ok (.aload_n 0, 1) := dk_42 (dk_at dksX4_isValue_11 13 rfl rfl)
theorem dX4_isValue_272 : decode cX4_isValue 272 = .ok (.bipush 41, 2) := dk_16 41 (dk_at dksX4_isValue_11 14 rfl rfl)
theorem dX4_isValue_274 : decode cX4_isValue 274 = .ok (.invokevirtual 151, 3) := dk_182 0 151 (dk_at dksX4_isValue_11 16 rfl rfl)
theorem dX4_isValue_277 : decode cX4_isValue 277 = .ok (.ireturn, 1) := dk_172 (dk_at dksX4_isValue_11 19 rfl rfl)
abbrev cX4_numberAt : ByteArray := prog_41_method_37_code
def yX4_numberAt : MethodName := ⟨RX4, "numberAt", "(I)I"⟩
def dkwX4_numberAt_1 : List UInt8 := [180, 0, 20, 27, 46, 29, 96, 46, 96, 16, 48, 100, 61, 132, 3, 1, 167, 255, 221, 28, 172]
abbrev dktX4_numberAt_1 : List UInt8 := dkwX4_numberAt_1 ++ []
def dkwX4_numberAt_0 : List UInt8 := [3, 61, 3, 62, 29, 42, 180, 0, 23, 27, 46, 162, 0, 31, 16, 10, 28, 104, 42, 180, 0, 9, 42]
abbrev dktX4_numberAt_0 : List UInt8 := dkwX4_numberAt_0 ++ dktX4_numberAt_1
theorem dksX4_numberAt_0 : cX4_numberAt.data.toList.drop 0 = dktX4_numberAt_0 := by decide +kernel
theorem dksX4_numberAt_1 : cX4_numberAt.data.toList.drop 23 = dktX4_numberAt_1 := dk_seg dksX4_numberAt_0 23 rfl rfl
theorem dX4_numberAt_0 : decode cX4_numberAt 0 = .ok (.iconst 0, 1) := dk_3 (dk_at dksX4_numberAt_0 0 rfl rfl)
theorem dX4_numberAt_1 : decode cX4_numberAt 1 = .ok (.istore_n 2, 1) := dk_61 (dk_at dksX4_numberAt_0 1 rfl rfl)
theorem dX4_numberAt_2 : decode cX4_numberAt 2 = .ok (.iconst 0, 1) := dk_3 (dk_at dksX4_numberAt_0 2 rfl rfl)
theorem dX4_numberAt_3 : decode cX4_numberAt 3 = .ok (.istore_n 3, 1) := dk_62 (dk_at dksX4_numberAt_0 3 rfl rfl)
theorem dX4_numberAt_4 : decode cX4_numberAt 4 = .ok (.iload_n 3, 1) := dk_29 (dk_at dksX4_numberAt_0 4 rfl rfl)
theorem dX4_numberAt_5 : decode cX4_numberAt 5 = .ok (.aload_n 0, 1) := dk_42 (dk_at dksX4_numberAt_0 5 rfl rfl)
theorem dX4_numberAt_6 : decode cX4_numberAt 6 = .ok (.getfield 23, 3) := dk_180 0 23 (dk_at dksX4_numberAt_0 6 rfl rfl)
theorem dX4_numberAt_9 : decode cX4_numberAt 9 = .ok (.iload_n 1, 1) := dk_27 (dk_at dksX4_numberAt_0 9 rfl rfl)
theorem dX4_numberAt_10 : decode cX4_numberAt 10 = .ok (.iaload, 1) := dk_46 (dk_at dksX4_numberAt_0 10 rfl rfl)
theorem dX4_numberAt_11 : decode cX4_numberAt 11 = .ok (.if_icmp .ge 31, 3) := dk_162 0 31 (dk_at dksX4_numberAt_0 11 rfl rfl)
theorem dX4_numberAt_14 : decode cX4_numberAt 14 = .ok (.bipush 10, 2) := dk_16 10 (dk_at dksX4_numberAt_0 14 rfl rfl)
theorem dX4_numberAt_16 : decode cX4_numberAt 16 = .ok (.iload_n 2, 1) := dk_28 (dk_at dksX4_numberAt_0 16 rfl rfl)
theorem dX4_numberAt_17 : decode cX4_numberAt 17 = .ok (.imul, 1) := dk_104 (dk_at dksX4_numberAt_0 17 rfl rfl)
theorem dX4_numberAt_18 : decode cX4_numberAt 18 = .ok (.aload_n 0, 1) := dk_42 (dk_at dksX4_numberAt_0 18 rfl rfl)
theorem dX4_numberAt_19 : decode cX4_numberAt 19 = .ok (.getfield 9, 3) := dk_180 0 9 (dk_at dksX4_numberAt_0 19 rfl rfl)
theorem dX4_numberAt_22 : decode cX4_numberAt 22 = .ok (.aload_n 0, 1) := dk_42 (dk_at dksX4_numberAt_0 22 rfl rfl)
theorem dX4_numberAt_23 : decode cX4_numberAt 23 = .ok (.getfield 20, 3) := dk_180 0 20 (dk_at dksX4_numberAt_1 0 rfl rfl)
theorem dX4_numberAt_26 : decode cX4_numberAt 26 = .ok (.iload_n 1, 1) := dk_27 (dk_at dksX4_numberAt_1 3 rfl rfl)
theorem dX4_numberAt_27 : decode cX4_numberAt 27 = .ok (.iaload, 1) := dk_46 (dk_at dksX4_numberAt_1 4 rfl rfl)
theorem dX4_numberAt_28 : decode cX4_numberAt 28 = .ok (.iload_n 3, 1) := dk_29 (dk_at dksX4_numberAt_1 5 rfl rfl)
theorem dX4_numberAt_29 : decode cX4_numberAt 29 = .ok (.iadd, 1) := dk_96 (dk_at dksX4_numberAt_1 6 rfl rfl)
theorem dX4_numberAt_30 : decode cX4_numberAt 30 = .ok (.iaload, 1) := dk_46 (dk_at dksX4_numberAt_1 7 rfl rfl)
theorem dX4_numberAt_31 : decode cX4_numberAt 31 = .ok (.iadd, 1) := dk_96 (dk_at dksX4_numberAt_1 8 rfl rfl)
theorem dX4_numberAt_32 : decode cX4_numberAt 32 = .ok (.bipush 48, 2) := dk_16 48 (dk_at dksX4_numberAt_1 9 rfl rfl)
theorem dX4_numberAt_34 : decode cX4_numberAt 34 = .ok (.isub, 1) := dk_100 (dk_at dksX4_numberAt_1 11 rfl rfl)
theorem dX4_numberAt_35 : decode cX4_numberAt 35 = .ok (.istore_n 2, 1) := dk_61 (dk_at dksX4_numberAt_1 12 rfl rfl)
theorem dX4_numberAt_36 : decode cX4_numberAt 36 = .ok (.iinc 3 1, 3) := dk_132 3 1 (dk_at dksX4_numberAt_1 13 rfl rfl)
theorem dX4_numberAt_39 : decode cX4_numberAt 39 = .ok (.goto (-35), 3) := dk_167 255 221 (dk_at dksX4_numberAt_1 16 rfl rfl)
theorem dX4_numberAt_42 : decode cX4_numberAt 42 = .ok (.iload_n 2, 1) := dk_28 (dk_at dksX4_numberAt_1 19 rfl rfl)
theorem dX4_numberAt_43 : decode cX4_numberAt 43 = .ok (.ireturn, 1) := dk_172 (dk_at dksX4_numberAt_1 20 rfl rfl)
abbrev cX4_errorOf : ByteArray := prog_41_method_40_code
def yX4_errorOf : MethodName := ⟨RX4, "errorOf", "(I)I"⟩
def dkwX4_errorOf_18 : List UInt8 := [46, 164, 0, 7, 3, 167, 0, 4, 8, 172, 3, 172]
abbrev dktX4_errorOf_18 : List UInt8 := dkwX4_errorOf_18 ++ []
def dkwX4_errorOf_17 : List UInt8 := [96, 21, 4, 79, 21, 4, 4, 16, 60, 184, 0, 60, 153, 0, 20, 21, 4, 44, 180, 0, 213, 29, 6, 96]
abbrev dktX4_errorOf_17 : List UInt8 := dkwX4_errorOf_17 ++ dktX4_errorOf_18
def dkwX4_errorOf_16 : List UInt8 := [79, 21, 4, 3, 16, 29, 184, 0, 60, 153, 0, 7, 3, 167, 0, 4, 8, 172, 44, 180, 0, 213, 29, 7]
abbrev dktX4_errorOf_16 : List UInt8 := dkwX4_errorOf_16 ++ dktX4_errorOf_17
def dkwX4_errorOf_15 : List UInt8 := [17, 1, 103, 184, 0, 60, 153, 0, 7, 3, 167, 0, 4, 8, 172, 44, 180, 0, 213, 29, 6, 96, 21, 4]
abbrev dktX4_errorOf_15 : List UInt8 := dkwX4_errorOf_15 ++ dktX4_errorOf_16
def dkwX4_errorOf_14 : List UInt8 := [153, 0, 7, 3, 167, 0, 4, 8, 172, 44, 180, 0, 213, 29, 5, 96, 21, 4, 79, 21, 4, 3]
abbrev dktX4_errorOf_14 : List UInt8 := dkwX4_errorOf_14 ++ dktX4_errorOf_15
def dkwX4_errorOf_13 : List UInt8 := [167, 0, 4, 8, 172, 44, 180, 0, 213, 29, 4, 96, 21, 4, 79, 21, 4, 4, 16, 60, 184, 0, 60]
abbrev dktX4_errorOf_13 : List UInt8 := dkwX4_errorOf_13 ++ dktX4_errorOf_14
def dkwX4_errorOf_12 : List UInt8 := [3, 172, 44, 180, 0, 213, 29, 21, 4, 79, 21, 4, 4, 16, 20, 184, 0, 60, 153, 0, 7, 3]
abbrev dktX4_errorOf_12 : List UInt8 := dkwX4_errorOf_12 ++ dktX4_errorOf_13
def dkwX4_errorOf_11 : List UInt8 := [180, 0, 29, 3, 92, 46, 4, 96, 79, 42, 180, 0, 29, 3, 46, 16, 12, 164, 0, 7, 7, 167, 0, 4]
abbrev dktX4_errorOf_11 : List UInt8 := dkwX4_errorOf_11 ++ dktX4_errorOf_12
def dkwX4_errorOf_10 : List UInt8 := [5, 182, 0, 211, 79, 42, 180, 0, 29, 27, 46, 2, 160, 0, 7, 6, 167, 0, 4, 3, 172, 42]
abbrev dktX4_errorOf_10 : List UInt8 := dkwX4_errorOf_10 ++ dktX4_errorOf_11
def dkwX4_errorOf_9 : List UInt8 := [180, 0, 29, 27, 4, 100, 46, 160, 0, 8, 16, 6, 167, 0, 4, 3, 172, 42, 180, 0, 29, 27, 42, 27]
abbrev dktX4_errorOf_9 : List UInt8 := dkwX4_errorOf_9 ++ dktX4_errorOf_10
def dkwX4_errorOf_8 : List UInt8 := [160, 0, 5, 6, 172, 42, 180, 0, 26, 27, 46, 8, 160, 0, 25, 42, 180, 0, 29, 27, 46, 42]
abbrev dktX4_errorOf_8 : List UInt8 := dkwX4_errorOf_8 ++ dktX4_errorOf_9
def dkwX4_errorOf_7 : List UInt8 := [16, 7, 172, 42, 180, 0, 29, 27, 42, 27, 4, 182, 0, 211, 79, 42, 180, 0, 29, 27, 46, 2]
abbrev dktX4_errorOf_7 : List UInt8 := dkwX4_errorOf_7 ++ dktX4_errorOf_8
def dkwX4_errorOf_6 : List UInt8 := [44, 89, 180, 0, 64, 4, 96, 181, 0, 64, 3, 172, 42, 27, 182, 0, 216, 153, 0, 7, 3, 167, 0, 5]
abbrev dktX4_errorOf_6 : List UInt8 := dkwX4_errorOf_6 ++ dktX4_errorOf_7
def dkwX4_errorOf_5 : List UInt8 := [172, 42, 27, 5, 182, 0, 211, 2, 159, 0, 5, 5, 172, 44, 180, 0, 64, 16, 6, 160, 0, 5, 7, 172]
abbrev dktX4_errorOf_5 : List UInt8 := dkwX4_errorOf_5 ++ dktX4_errorOf_6
def dkwX4_errorOf_4 : List UInt8 := [180, 0, 213, 8, 44, 180, 0, 57, 104, 7, 96, 4, 79, 44, 89, 180, 0, 57, 4, 96, 181, 0, 57, 3]
abbrev dktX4_errorOf_4 : List UInt8 := dkwX4_errorOf_4 ++ dktX4_errorOf_5
def dkwX4_errorOf_3 : List UInt8 := [42, 27, 4, 182, 0, 211, 2, 159, 0, 5, 5, 172, 44, 180, 0, 57, 16, 8, 160, 0, 5, 7, 172, 44]
abbrev dktX4_errorOf_3 : List UInt8 := dkwX4_errorOf_3 ++ dktX4_errorOf_4
def dkwX4_errorOf_2 : List UInt8 := [170, 0, 0, 0, 1, 165, 0, 0, 0, 1, 0, 0, 0, 12, 0, 0, 0, 62, 0, 0, 0, 111, 0, 0, 0, 146, 0, 0, 0, 161, 0, 0, 0, 161, 0, 0, 0, 219, 0, 0, 0, 247, 0, 0, 1, 18, 0, 0, 1, 43, 0, 0, 1, 70, 0, 0, 1, 98, 0, 0, 1, 125]
abbrev dktX4_errorOf_2 : List UInt8 := dkwX4_errorOf_2 ++ dktX4_errorOf_3
def dkwX4_errorOf_1 : List UInt8 := [160, 0, 11, 42, 27, 182, 0, 205, 167, 0, 4, 3, 54, 4, 42, 180, 0, 26, 27, 46]
abbrev dktX4_errorOf_1 : List UInt8 := dkwX4_errorOf_1 ++ dktX4_errorOf_2
def dkwX4_errorOf_0 : List UInt8 := [42, 180, 0, 39, 77, 8, 44, 180, 0, 57, 4, 100, 104, 62, 42, 180, 0, 17, 27, 46, 16, 31]
abbrev dktX4_errorOf_0 : List UInt8 := dkwX4_errorOf_0 ++ dktX4_errorOf_1
theorem dksX4_errorOf_0 : cX4_errorOf.data.toList.drop 0 = dktX4_errorOf_0 := by decide +kernel
theorem dksX4_errorOf_1 : cX4_errorOf.data.toList.drop 22 = dktX4_errorOf_1 := dk_seg dksX4_errorOf_0 22 rfl rfl
theorem dksX4_errorOf_2 : cX4_errorOf.data.toList.drop 42 = dktX4_errorOf_2 := dk_seg dksX4_errorOf_1 20 rfl rfl
theorem dksX4_errorOf_3 : cX4_errorOf.data.toList.drop 104 = dktX4_errorOf_3 := dk_seg dksX4_errorOf_2 62 rfl rfl
theorem dksX4_errorOf_4 : cX4_errorOf.data.toList.drop 128 = dktX4_errorOf_4 := dk_seg dksX4_errorOf_3 24 rfl rfl
theorem dksX4_errorOf_5 : cX4_errorOf.data.toList.drop 152 = dktX4_errorOf_5 := dk_seg dksX4_errorOf_4 24 rfl rfl
theorem dksX4_errorOf_6 : cX4_errorOf.data.toList.drop 176 = dktX4_errorOf_6 := dk_seg dksX4_errorOf_5 24 rfl rfl
theorem dksX4_errorOf_7 : cX4_errorOf.data.toList.drop 200 = dktX4_errorOf_7 := dk_seg dksX4_errorOf_6 24 rfl rfl
theorem dksX4_errorOf_8 : cX4_errorOf.data.toList.drop 222 = dktX4_errorOf_8 := dk_seg dksX4_errorOf_7 22 rfl rfl
theorem dksX4_errorOf_9 : cX4_errorOf.data.toList.drop 244 = dktX4_errorOf_9 := dk_seg dksX4_errorOf_8 22 rfl rfl
theorem dksX4_errorOf_10 : cX4_errorOf.data.toList.drop 268 = dktX4_errorOf_10 := dk_seg dksX4_errorOf_9 24 rfl rfl
theorem dksX4_errorOf_11 : cX4_errorOf.data.toList.drop 290 = dktX4_errorOf_11 := dk_seg dksX4_errorOf_10 22 rfl rfl
theorem dksX4_errorOf_12 : cX4_errorOf.data.toList.drop 314 = dktX4_errorOf_12 := dk_seg dksX4_errorOf_11 24 rfl rfl
theorem dksX4_errorOf_13 : cX4_errorOf.data.toList.drop 336 = dktX4_errorOf_13 := dk_seg dksX4_errorOf_12 22 rfl rfl
theorem dksX4_errorOf_14 : cX4_errorOf.data.toList.drop 359 = dktX4_errorOf_14 := dk_seg dksX4_errorOf_13 23 rfl rfl
theorem dksX4_errorOf_15 : cX4_errorOf.data.toList.drop 381 = dktX4_errorOf_15 := dk_seg dksX4_errorOf_14 22 rfl rfl
theorem dksX4_errorOf_16 : cX4_errorOf.data.toList.drop 405 = dktX4_errorOf_16 := dk_seg dksX4_errorOf_15 24 rfl rfl
theorem dksX4_errorOf_17 : cX4_errorOf.data.toList.drop 429 = dktX4_errorOf_17 := dk_seg dksX4_errorOf_16 24 rfl rfl
theorem dksX4_errorOf_18 : cX4_errorOf.data.toList.drop 453 = dktX4_errorOf_18 := dk_seg dksX4_errorOf_17 24 rfl rfl
theorem dX4_errorOf_0 : decode cX4_errorOf 0 = .ok (.aload_n 0, 1) := dk_42 (dk_at dksX4_errorOf_0 0 rfl rfl)
theorem dX4_errorOf_1 : decode cX4_errorOf 1 = .ok (.getfield 39, 3) := dk_180 0 39 (dk_at dksX4_errorOf_0 1 rfl rfl)
theorem dX4_errorOf_4 : decode cX4_errorOf 4 = .ok (.astore_n 2, 1) := dk_77 (dk_at dksX4_errorOf_0 4 rfl rfl)
theorem dX4_errorOf_5 : decode cX4_errorOf 5 = .ok (.iconst 5, 1) := dk_8 (dk_at dksX4_errorOf_0 5 rfl rfl)
theorem dX4_errorOf_6 : decode cX4_errorOf 6 = .ok (.aload_n 2, 1) := dk_44 (dk_at dksX4_errorOf_0 6 rfl rfl)
theorem dX4_errorOf_7 : decode cX4_errorOf 7 = .ok (.getfield 57, 3) := dk_180 0 57 (dk_at dksX4_errorOf_0 7 rfl rfl)
theorem dX4_errorOf_10 : decode cX4_errorOf 10 = .ok (.iconst 1, 1) := dk_4 (dk_at dksX4_errorOf_0 10 rfl rfl)
theorem dX4_errorOf_11 : decode cX4_errorOf 11 = .ok (.isub, 1) := dk_100 (dk_at dksX4_errorOf_0 11 rfl rfl)
theorem dX4_errorOf_12 : decode cX4_errorOf 12 = .ok (.imul, 1) := dk_104 (dk_at dksX4_errorOf_0 12 rfl rfl)
theorem dX4_errorOf_13 : decode cX4_errorOf 13 = .ok (.istore_n 3, 1) := dk_62 (dk_at dksX4_errorOf_0 13 rfl rfl)
theorem dX4_errorOf_14 : decode cX4_errorOf 14 = .ok (.aload_n 0, 1) := dk_42 (dk_at dksX4_errorOf_0 14 rfl rfl)
theorem dX4_errorOf_15 : decode cX4_errorOf 15 = .ok (.getfield 17, 3) := dk_180 0 17 (dk_at dksX4_errorOf_0 15 rfl rfl)
theorem dX4_errorOf_18 : decode cX4_errorOf 18 = .ok (.iload_n 1, 1) := dk_27 (dk_at dksX4_errorOf_0 18 rfl rfl)
theorem dX4_errorOf_19 : decode cX4_errorOf 19 = .ok (.iaload, 1) := dk_46 (dk_at dksX4_errorOf_0 19 rfl rfl)
theorem dX4_errorOf_20 : decode cX4_errorOf 20 = .ok (.bipush 31, 2) := dk_16 31 (dk_at dksX4_errorOf_0 20 rfl rfl)
theorem dX4_errorOf_22 : decode cX4_errorOf 22 = .ok (.if_icmp .ne 11, 3) := dk_160 0 11 (dk_at dksX4_errorOf_1 0 rfl rfl)
theorem dX4_errorOf_25 : decode cX4_errorOf 25 = .ok (.aload_n 0, 1) := dk_42 (dk_at dksX4_errorOf_1 3 rfl rfl)
theorem dX4_errorOf_26 : decode cX4_errorOf 26 = .ok (.iload_n 1, 1) := dk_27 (dk_at dksX4_errorOf_1 4 rfl rfl)
theorem dX4_errorOf_27 : decode cX4_errorOf 27 = .ok (.invokevirtual 205, 3) := dk_182 0 205 (dk_at dksX4_errorOf_1 5 rfl rfl)
theorem dX4_errorOf_30 : decode cX4_errorOf 30 = .ok (.goto 4, 3) := dk_167 0 4 (dk_at dksX4_errorOf_1 8 rfl rfl)
theorem dX4_errorOf_33 : decode cX4_errorOf 33 = .ok (.iconst 0, 1) := dk_3 (dk_at dksX4_errorOf_1 11 rfl rfl)
theorem dX4_errorOf_34 : decode cX4_errorOf 34 = .ok (.istore 4, 2) := dk_54 4 (dk_at dksX4_errorOf_1 12 rfl rfl)
theorem dX4_errorOf_36 : decode cX4_errorOf 36 = .ok (.aload_n 0, 1) := dk_42 (dk_at dksX4_errorOf_1 14 rfl rfl)
theorem dX4_errorOf_37 : decode cX4_errorOf 37 = .ok (.getfield 26, 3) := dk_180 0 26 (dk_at dksX4_errorOf_1 15 rfl rfl)
theorem dX4_errorOf_40 : decode cX4_errorOf 40 = .ok (.iload_n 1, 1) := dk_27 (dk_at dksX4_errorOf_1 18 rfl rfl)
theorem dX4_errorOf_41 : decode cX4_errorOf 41 = .ok (.iaload, 1) := dk_46 (dk_at dksX4_errorOf_1 19 rfl rfl)
theorem dX4_errorOf_42 : decode cX4_errorOf 42 = .ok (.tableswitch 421 1 12 #[62, 111, 146, 161, 161, 219, 247, 274, 299, 326, 354, 381], 62) := by decide +kernel
theorem dX4_errorOf_104 : decode cX4_errorOf 104 = .ok (.aload_n 0, 1) := dk_42 (dk_at dksX4_errorOf_3 0 rfl rfl)
theorem dX4_errorOf_105 : decode cX4_errorOf 105 = .ok (.iload_n 1, 1) := dk_27 (dk_at dksX4_errorOf_3 1 rfl rfl)
theorem dX4_errorOf_106 : decode cX4_errorOf 106 = .ok (.iconst 1, 1) := dk_4 (dk_at dksX4_errorOf_3 2 rfl rfl)
theorem dX4_errorOf_107 : decode cX4_errorOf 107 = .ok (.invokevirtual 211, 3) := dk_182 0 211 (dk_at dksX4_errorOf_3 3 rfl rfl)
theorem dX4_errorOf_110 : decode cX4_errorOf 110 = .ok (.iconst (-1), 1) := dk_2 (dk_at dksX4_errorOf_3 6 rfl rfl)
theorem dX4_errorOf_111 : decode cX4_errorOf 111 = .ok (.if_icmp .eq 5, 3) := dk_159 0 5 (dk_at dksX4_errorOf_3 7 rfl rfl)
theorem dX4_errorOf_114 : decode cX4_errorOf 114 = .ok (.iconst 2, 1) := dk_5 (dk_at dksX4_errorOf_3 10 rfl rfl)
theorem dX4_errorOf_115 : decode cX4_errorOf 115 = .ok (.ireturn, 1) := dk_172 (dk_at dksX4_errorOf_3 11 rfl rfl)
theorem dX4_errorOf_116 : decode cX4_errorOf 116 = .ok (.aload_n 2, 1) := dk_44 (dk_at dksX4_errorOf_3 12 rfl rfl)
theorem dX4_errorOf_117 : decode cX4_errorOf 117 = .ok (.getfield 57, 3) := dk_180 0 57 (dk_at dksX4_errorOf_3 13 rfl rfl)
theorem dX4_errorOf_120 : decode cX4_errorOf 120 = .ok (.bipush 8, 2) := dk_16 8 (dk_at dksX4_errorOf_3 16 rfl rfl)
theorem dX4_errorOf_122 : decode cX4_errorOf 122 = .ok (.if_icmp .ne 5, 3) := dk_160 0 5 (dk_at dksX4_errorOf_3 18 rfl rfl)
theorem dX4_errorOf_125 : decode cX4_errorOf 125 = .ok (.iconst 4, 1) := dk_7 (dk_at dksX4_errorOf_3 21 rfl rfl)
theorem dX4_errorOf_126 : decode cX4_errorOf 126 = .ok (.ireturn, 1) := dk_172 (dk_at dksX4_errorOf_3 22 rfl rfl)
theorem dX4_errorOf_127 : decode cX4_errorOf 127 = .ok (.aload_n 2, 1) := dk_44 (dk_at dksX4_errorOf_3 23 rfl rfl)
theorem dX4_errorOf_128 : decode cX4_errorOf 128 = .ok (.getfield 213, 3) := dk_180 0 213 (dk_at dksX4_errorOf_4 0 rfl rfl)
theorem dX4_errorOf_131 : decode cX4_errorOf 131 = .ok (.iconst 5, 1) := dk_8 (dk_at dksX4_errorOf_4 3 rfl rfl)
theorem dX4_errorOf_132 : decode cX4_errorOf 132 = .ok (.aload_n 2, 1) := dk_44 (dk_at dksX4_errorOf_4 4 rfl rfl)
theorem dX4_errorOf_133 : decode cX4_errorOf 133 = .ok (.getfield 57, 3) := dk_180 0 57 (dk_at dksX4_errorOf_4 5 rfl rfl)
theorem dX4_errorOf_136 : decode cX4_errorOf 136 = .ok (.imul, 1) := dk_104 (dk_at dksX4_errorOf_4 8 rfl rfl)
theorem dX4_errorOf_137 : decode cX4_errorOf 137 = .ok (.iconst 4, 1) := dk_7 (dk_at dksX4_errorOf_4 9 rfl rfl)
theorem dX4_errorOf_138 : decode cX4_errorOf 138 = .ok (.iadd, 1) := dk_96 (dk_at dksX4_errorOf_4 10 rfl rfl)
theorem dX4_errorOf_139 : decode cX4_errorOf 139 = .ok (.iconst 1, 1) := dk_4 (dk_at dksX4_errorOf_4 11 rfl rfl)
theorem dX4_errorOf_140 : decode cX4_errorOf 140 = .ok (.iastore, 1) := dk_79 (dk_at dksX4_errorOf_4 12 rfl rfl)
theorem dX4_errorOf_141 : decode cX4_errorOf 141 = .ok (.aload_n 2, 1) := dk_44 (dk_at dksX4_errorOf_4 13 rfl rfl)
theorem dX4_errorOf_142 : decode cX4_errorOf 142 = .ok (.dup, 1) := dk_89 (dk_at dksX4_errorOf_4 14 rfl rfl)
theorem dX4_errorOf_143 : decode cX4_errorOf 143 = .ok (.getfield 57, 3) := dk_180 0 57 (dk_at dksX4_errorOf_4 15 rfl rfl)
theorem dX4_errorOf_146 : decode cX4_errorOf 146 = .ok (.iconst 1, 1) := dk_4 (dk_at dksX4_errorOf_4 18 rfl rfl)
theorem dX4_errorOf_147 : decode cX4_errorOf 147 = .ok (.iadd, 1) := dk_96 (dk_at dksX4_errorOf_4 19 rfl rfl)
theorem dX4_errorOf_148 : decode cX4_errorOf 148 = .ok (.putfield 57, 3) := dk_181 0 57 (dk_at dksX4_errorOf_4 20 rfl rfl)
theorem dX4_errorOf_151 : decode cX4_errorOf 151 = .ok (.iconst 0, 1) := dk_3 (dk_at dksX4_errorOf_4 23 rfl rfl)
theorem dX4_errorOf_152 : decode cX4_errorOf 152 = .ok (.ireturn, 1) := dk_172 (dk_at dksX4_errorOf_5 0 rfl rfl)
theorem dX4_errorOf_153 : decode cX4_errorOf 153 = .ok (.aload_n 0, 1) := dk_42 (dk_at dksX4_errorOf_5 1 rfl rfl)
theorem dX4_errorOf_154 : decode cX4_errorOf 154 = .ok (.iload_n 1, 1) := dk_27 (dk_at dksX4_errorOf_5 2 rfl rfl)
theorem dX4_errorOf_155 : decode cX4_errorOf 155 = .ok (.iconst 2, 1) := dk_5 (dk_at dksX4_errorOf_5 3 rfl rfl)
theorem dX4_errorOf_156 : decode cX4_errorOf 156 = .ok (.invokevirtual 211, 3) := dk_182 0 211 (dk_at dksX4_errorOf_5 4 rfl rfl)
theorem dX4_errorOf_159 : decode cX4_errorOf 159 = .ok (.iconst (-1), 1) := dk_2 (dk_at dksX4_errorOf_5 7 rfl rfl)
theorem dX4_errorOf_160 : decode cX4_errorOf 160 = .ok (.if_icmp .eq 5, 3) := dk_159 0 5 (dk_at dksX4_errorOf_5 8 rfl rfl)
theorem dX4_errorOf_163 : decode cX4_errorOf 163 = .ok (.iconst 2, 1) := dk_5 (dk_at dksX4_errorOf_5 11 rfl rfl)
theorem dX4_errorOf_164 : decode cX4_errorOf 164 = .ok (.ireturn, 1) := dk_172 (dk_at dksX4_errorOf_5 12 rfl rfl)
theorem dX4_errorOf_165 : decode cX4_errorOf 165 = .ok (.aload_n 2, 1) := dk_44 (dk_at dksX4_errorOf_5 13 rfl rfl)
theorem dX4_errorOf_166 : decode cX4_errorOf 166 = .ok (.getfield 64, 3) := dk_180 0 64 (dk_at dksX4_errorOf_5 14 rfl rfl)
theorem dX4_errorOf_169 : decode cX4_errorOf 169 = .ok (.bipush 6, 2) := dk_16 6 (dk_at dksX4_errorOf_5 17 rfl rfl)
theorem dX4_errorOf_171 : decode cX4_errorOf 171 = .ok (.if_icmp .ne 5, 3) := dk_160 0 5 (dk_at dksX4_errorOf_5 19 rfl rfl)
theorem dX4_errorOf_174 : decode cX4_errorOf 174 = .ok (.iconst 4, 1) := dk_7 (dk_at dksX4_errorOf_5 22 rfl rfl)
theorem dX4_errorOf_175 : decode cX4_errorOf 175 = .ok (.ireturn, 1) := dk_172 (dk_at dksX4_errorOf_5 23 rfl rfl)
theorem dX4_errorOf_176 : decode cX4_errorOf 176 = .ok (.aload_n 2, 1) := dk_44 (dk_at dksX4_errorOf_6 0 rfl rfl)
theorem dX4_errorOf_177 : decode cX4_errorOf 177 = .ok (.dup, 1) := dk_89 (dk_at dksX4_errorOf_6 1 rfl rfl)
theorem dX4_errorOf_178 : decode cX4_errorOf 178 = .ok (.getfield 64, 3) := dk_180 0 64 (dk_at dksX4_errorOf_6 2 rfl rfl)
theorem dX4_errorOf_181 : decode cX4_errorOf 181 = .ok (.iconst 1, 1) := dk_4 (dk_at dksX4_errorOf_6 5 rfl rfl)
theorem dX4_errorOf_182 : decode cX4_errorOf 182 = .ok (.iadd, 1) := dk_96 (dk_at dksX4_errorOf_6 6 rfl rfl)
theorem dX4_errorOf_183 : decode cX4_errorOf 183 = .ok (.putfield 64, 3) := dk_181 0 64 (dk_at dksX4_errorOf_6 7 rfl rfl)
theorem dX4_errorOf_186 : decode cX4_errorOf 186 = .ok (.iconst 0, 1) := dk_3 (dk_at dksX4_errorOf_6 10 rfl rfl)
theorem dX4_errorOf_187 : decode cX4_errorOf 187 = .ok (.ireturn, 1) := dk_172 (dk_at dksX4_errorOf_6 11 rfl rfl)
theorem dX4_errorOf_188 : decode cX4_errorOf 188 = .ok (.aload_n 0, 1) := dk_42 (dk_at dksX4_errorOf_6 12 rfl rfl)
theorem dX4_errorOf_189 : decode cX4_errorOf 189 = .ok (.iload_n 1, 1) := dk_27 (dk_at dksX4_errorOf_6 13 rfl rfl)
theorem dX4_errorOf_190 : decode cX4_errorOf 190 = .ok (.invokevirtual 216, 3) := dk_182 0 216 (dk_at dksX4_errorOf_6 14 rfl rfl)
theorem dX4_errorOf_193 : decode cX4_errorOf 193 = .ok (.ifCond .eq 7, 3) := dk_153 0 7 (dk_at dksX4_errorOf_6 17 rfl rfl)
theorem dX4_errorOf_196 : decode cX4_errorOf 196 = .ok (.iconst 0, 1) := dk_3 (dk_at dksX4_errorOf_6 20 rfl rfl)
theorem dX4_errorOf_197 : decode cX4_errorOf 197 = .ok (.goto 5, 3) := dk_167 0 5 (dk_at dksX4_errorOf_6 21 rfl rfl)
theorem dX4_errorOf_200 : decode cX4_errorOf 200 = .ok (.bipush 7, 2) := dk_16 7 (dk_at dksX4_errorOf_7 0 rfl rfl)
theorem dX4_errorOf_202 : decode cX4_errorOf 202 = .ok (.ireturn, 1) := dk_172 (dk_at dksX4_errorOf_7 2 rfl rfl)
theorem dX4_errorOf_203 : decode cX4_errorOf 203 = .ok (.aload_n 0, 1) := dk_42 (dk_at dksX4_errorOf_7 3 rfl rfl)
theorem dX4_errorOf_204 : decode cX4_errorOf 204 = .ok (.getfield 29, 3) := dk_180 0 29 (dk_at dksX4_errorOf_7 4 rfl rfl)
theorem dX4_errorOf_207 : decode cX4_errorOf 207 = .ok (.iload_n 1, 1) := dk_27 (dk_at dksX4_errorOf_7 7 rfl rfl)
theorem dX4_errorOf_208 : decode cX4_errorOf 208 = .ok (.aload_n 0, 1) := dk_42 (dk_at dksX4_errorOf_7 8 rfl rfl)
theorem dX4_errorOf_209 : decode cX4_errorOf 209 = .ok (.iload_n 1, 1) := dk_27 (dk_at dksX4_errorOf_7 9 rfl rfl)
theorem dX4_errorOf_210 : decode cX4_errorOf 210 = .ok (.iconst 1, 1) := dk_4 (dk_at dksX4_errorOf_7 10 rfl rfl)
theorem dX4_errorOf_211 : decode cX4_errorOf 211 = .ok (.invokevirtual 211, 3) := dk_182 0 211 (dk_at dksX4_errorOf_7 11 rfl rfl)
theorem dX4_errorOf_214 : decode cX4_errorOf 214 = .ok (.iastore, 1) := dk_79 (dk_at dksX4_errorOf_7 14 rfl rfl)
theorem dX4_errorOf_215 : decode cX4_errorOf 215 = .ok (.aload_n 0, 1) := dk_42 (dk_at dksX4_errorOf_7 15 rfl rfl)
theorem dX4_errorOf_216 : decode cX4_errorOf 216 = .ok (.getfield 29, 3) := dk_180 0 29 (dk_at dksX4_errorOf_7 16 rfl rfl)
theorem dX4_errorOf_219 : decode cX4_errorOf 219 = .ok (.iload_n 1, 1) := dk_27 (dk_at dksX4_errorOf_7 19 rfl rfl)
theorem dX4_errorOf_220 : decode cX4_errorOf 220 = .ok (.iaload, 1) := dk_46 (dk_at dksX4_errorOf_7 20 rfl rfl)
theorem dX4_errorOf_221 : decode cX4_errorOf 221 = .ok (.iconst (-1), 1) := dk_2 (dk_at dksX4_errorOf_7 21 rfl rfl)
theorem dX4_errorOf_222 : decode cX4_errorOf 222 = .ok (.if_icmp .ne 5, 3) := dk_160 0 5 (dk_at dksX4_errorOf_8 0 rfl rfl)
theorem dX4_errorOf_225 : decode cX4_errorOf 225 = .ok (.iconst 3, 1) := dk_6 (dk_at dksX4_errorOf_8 3 rfl rfl)
theorem dX4_errorOf_226 : decode cX4_errorOf 226 = .ok (.ireturn, 1) := dk_172 (dk_at dksX4_errorOf_8 4 rfl rfl)
theorem dX4_errorOf_227 : decode cX4_errorOf 227 = .ok (.aload_n 0, 1) := dk_42 (dk_at dksX4_errorOf_8 5 rfl rfl)
theorem dX4_errorOf_228 : decode cX4_errorOf 228 = .ok (.getfield 26, 3) := dk_180 0 26 (dk_at dksX4_errorOf_8 6 rfl rfl)
theorem dX4_errorOf_231 : decode cX4_errorOf 231 = .ok (.iload_n 1, 1) := dk_27 (dk_at dksX4_errorOf_8 9 rfl rfl)
theorem dX4_errorOf_232 : decode cX4_errorOf 232 = .ok (.iaload, 1) := dk_46 (dk_at dksX4_errorOf_8 10 rfl rfl)
theorem dX4_errorOf_233 : decode cX4_errorOf 233 = .ok (.iconst 5, 1) := dk_8 (dk_at dksX4_errorOf_8 11 rfl rfl)
theorem dX4_errorOf_234 : decode cX4_errorOf 234 = .ok (.if_icmp .ne 25, 3) := dk_160 0 25 (dk_at dksX4_errorOf_8 12 rfl rfl)
theorem dX4_errorOf_237 : decode cX4_errorOf 237 = .ok (.aload_n 0, 1) := dk_42 (dk_at dksX4_errorOf_8 15 rfl rfl)
theorem dX4_errorOf_238 : decode cX4_errorOf 238 = .ok (.getfield 29, 3) := dk_180 0 29 (dk_at dksX4_errorOf_8 16 rfl rfl)
theorem dX4_errorOf_241 : decode cX4_errorOf 241 = .ok (.iload_n 1, 1) := dk_27 (dk_at dksX4_errorOf_8 19 rfl rfl)
theorem dX4_errorOf_242 : decode cX4_errorOf 242 = .ok (.iaload, 1) := dk_46 (dk_at dksX4_errorOf_8 20 rfl rfl)
theorem dX4_errorOf_243 : decode cX4_errorOf 243 = .ok (.aload_n 0, 1) := dk_42 (dk_at dksX4_errorOf_8 21 rfl rfl)
theorem dX4_errorOf_244 : decode cX4_errorOf 244 = .ok (.getfield 29, 3) := dk_180 0 29 (dk_at dksX4_errorOf_9 0 rfl rfl)
theorem dX4_errorOf_247 : decode cX4_errorOf 247 = .ok (.iload_n 1, 1) := dk_27 (dk_at dksX4_errorOf_9 3 rfl rfl)
theorem dX4_errorOf_248 : decode cX4_errorOf 248 = .ok (.iconst 1, 1) := dk_4 (dk_at dksX4_errorOf_9 4 rfl rfl)
theorem dX4_errorOf_249 : decode cX4_errorOf 249 = .ok (.isub, 1) := dk_100 (dk_at dksX4_errorOf_9 5 rfl rfl)
theorem dX4_errorOf_250 : decode cX4_errorOf 250 = .ok (.iaload, 1) := dk_46 (dk_at dksX4_errorOf_9 6 rfl rfl)
theorem dX4_errorOf_251 : decode cX4_errorOf 251 = .ok (.if_icmp .ne 8, 3) := dk_160 0 8 (dk_at dksX4_errorOf_9 7 rfl rfl)
theorem dX4_errorOf_254 : decode cX4_errorOf 254 = .ok (.bipush 6, 2) := dk_16 6 (dk_at dksX4_errorOf_9 10 rfl rfl)
theorem dX4_errorOf_256 : decode cX4_errorOf 256 = .ok (.goto 4, 3) := dk_167 0 4 (dk_at dksX4_errorOf_9 12 rfl rfl)
theorem dX4_errorOf_259 : decode cX4_errorOf 259 = .ok (.iconst 0, 1) := dk_3 (dk_at dksX4_errorOf_9 15 rfl rfl)
theorem dX4_errorOf_260 : decode cX4_errorOf 260 = .ok (.ireturn, 1) := dk_172 (dk_at dksX4_errorOf_9 16 rfl rfl)
theorem dX4_errorOf_261 : decode cX4_errorOf 261 = .ok (.aload_n 0, 1) := dk_42 (dk_at dksX4_errorOf_9 17 rfl rfl)
theorem dX4_errorOf_262 : decode cX4_errorOf 262 = .ok (.getfield 29, 3) := dk_180 0 29 (dk_at dksX4_errorOf_9 18 rfl rfl)
theorem dX4_errorOf_265 : decode cX4_errorOf 265 = .ok (.iload_n 1, 1) := dk_27 (dk_at dksX4_errorOf_9 21 rfl rfl)
theorem dX4_errorOf_266 : decode cX4_errorOf 266 = .ok (.aload_n 0, 1) := dk_42 (dk_at dksX4_errorOf_9 22 rfl rfl)
theorem dX4_errorOf_267 : decode cX4_errorOf 267 = .ok (.iload_n 1, 1) := dk_27 (dk_at dksX4_errorOf_9 23 rfl rfl)
theorem dX4_errorOf_268 : decode cX4_errorOf 268 = .ok (.iconst 2, 1) := dk_5 (dk_at dksX4_errorOf_10 0 rfl rfl)
theorem dX4_errorOf_269 : decode cX4_errorOf 269 = .ok (.invokevirtual 211, 3) := dk_182 0 211 (dk_at dksX4_errorOf_10 1 rfl rfl)
theorem dX4_errorOf_272 : decode cX4_errorOf 272 = .ok (.iastore, 1) := dk_79 (dk_at dksX4_errorOf_10 4 rfl rfl)
theorem dX4_errorOf_273 : decode cX4_errorOf 273 = .ok (.aload_n 0, 1) := dk_42 (dk_at dksX4_errorOf_10 5 rfl rfl)
theorem dX4_errorOf_274 : decode cX4_errorOf 274 = .ok (.getfield 29, 3) := dk_180 0 29 (dk_at dksX4_errorOf_10 6 rfl rfl)
theorem dX4_errorOf_277 : decode cX4_errorOf 277 = .ok (.iload_n 1, 1) := dk_27 (dk_at dksX4_errorOf_10 9 rfl rfl)
theorem dX4_errorOf_278 : decode cX4_errorOf 278 = .ok (.iaload, 1) := dk_46 (dk_at dksX4_errorOf_10 10 rfl rfl)
theorem dX4_errorOf_279 : decode cX4_errorOf 279 = .ok (.iconst (-1), 1) := dk_2 (dk_at dksX4_errorOf_10 11 rfl rfl)
theorem dX4_errorOf_280 : decode cX4_errorOf 280 = .ok (.if_icmp .ne 7, 3) := dk_160 0 7 (dk_at dksX4_errorOf_10 12 rfl rfl)
theorem dX4_errorOf_283 : decode cX4_errorOf 283 = .ok (.iconst 3, 1) := dk_6 (dk_at dksX4_errorOf_10 15 rfl rfl)
theorem dX4_errorOf_284 : decode cX4_errorOf 284 = .ok (.goto 4, 3) := dk_167 0 4 (dk_at dksX4_errorOf_10 16 rfl rfl)
theorem dX4_errorOf_287 : decode cX4_errorOf 287 = .ok (.iconst 0, 1) := dk_3 (dk_at dksX4_errorOf_10 19 rfl rfl)
theorem dX4_errorOf_288 : decode cX4_errorOf 288 = .ok (.ireturn, 1) := dk_172 (dk_at dksX4_errorOf_10 20 rfl rfl)
theorem dX4_errorOf_289 : decode cX4_errorOf 289 = .ok (.aload_n 0, 1) := dk_42 (dk_at dksX4_errorOf_10 21 rfl rfl)
theorem dX4_errorOf_290 : decode cX4_errorOf 290 = .ok (.getfield 29, 3) := dk_180 0 29 (dk_at dksX4_errorOf_11 0 rfl rfl)
theorem dX4_errorOf_293 : decode cX4_errorOf 293 = .ok (.iconst 0, 1) := dk_3 (dk_at dksX4_errorOf_11 3 rfl rfl)
theorem dX4_errorOf_294 : decode cX4_errorOf 294 = .ok (.dup2, 1) := dk_92 (dk_at dksX4_errorOf_11 4 rfl rfl)
theorem dX4_errorOf_295 : decode cX4_errorOf 295 = .ok (.iaload, 1) := dk_46 (dk_at dksX4_errorOf_11 5 rfl rfl)
theorem dX4_errorOf_296 : decode cX4_errorOf 296 = .ok (.iconst 1, 1) := dk_4 (dk_at dksX4_errorOf_11 6 rfl rfl)
theorem dX4_errorOf_297 : decode cX4_errorOf 297 = .ok (.iadd, 1) := dk_96 (dk_at dksX4_errorOf_11 7 rfl rfl)
theorem dX4_errorOf_298 : decode cX4_errorOf 298 = .ok (.iastore, 1) := dk_79 (dk_at dksX4_errorOf_11 8 rfl rfl)
theorem dX4_errorOf_299 : decode cX4_errorOf 299 = .ok (.aload_n 0, 1) := dk_42 (dk_at dksX4_errorOf_11 9 rfl rfl)
theorem dX4_errorOf_300 : decode cX4_errorOf 300 = .ok (.getfield 29, 3) := dk_180 0 29 (dk_at dksX4_errorOf_11 10 rfl rfl)
theorem dX4_errorOf_303 : decode cX4_errorOf 303 = .ok (.iconst 0, 1) := dk_3 (dk_at dksX4_errorOf_11 13 rfl rfl)
theorem dX4_errorOf_304 : decode cX4_errorOf 304 = .ok (.iaload, 1) := dk_46 (dk_at dksX4_errorOf_11 14 rfl rfl)
theorem dX4_errorOf_305 : decode cX4_errorOf 305 = .ok (.bipush 12, 2) := dk_16 12 (dk_at dksX4_errorOf_11 15 rfl rfl)
theorem dX4_errorOf_307 : decode cX4_errorOf 307 = .ok (.if_icmp .le 7, 3) := dk_164 0 7 (dk_at dksX4_errorOf_11 17 rfl rfl)
theorem dX4_errorOf_310 : decode cX4_errorOf 310 = .ok (.iconst 4, 1) := dk_7 (dk_at dksX4_errorOf_11 20 rfl rfl)
theorem dX4_errorOf_311 : decode cX4_errorOf 311 = .ok (.goto 4, 3) := dk_167 0 4 (dk_at dksX4_errorOf_11 21 rfl rfl)
theorem dX4_errorOf_314 : decode cX4_errorOf 314 = .ok (.iconst 0, 1) := dk_3 (dk_at dksX4_errorOf_12 0 rfl rfl)
theorem dX4_errorOf_315 : decode cX4_errorOf 315 = .ok (.ireturn, 1) := dk_172 (dk_at dksX4_errorOf_12 1 rfl rfl)
theorem dX4_errorOf_316 : decode cX4_errorOf 316 = .ok (.aload_n 2, 1) := dk_44 (dk_at dksX4_errorOf_12 2 rfl rfl)
theorem dX4_errorOf_317 : decode cX4_errorOf 317 = .ok (.getfield 213, 3) := dk_180 0 213 (dk_at dksX4_errorOf_12 3 rfl rfl)
theorem dX4_errorOf_320 : decode cX4_errorOf 320 = .ok (.iload_n 3, 1) := dk_29 (dk_at dksX4_errorOf_12 6 rfl rfl)
theorem dX4_errorOf_321 : decode cX4_errorOf 321 = .ok (.iload 4, 2) := dk_21 4 (dk_at dksX4_errorOf_12 7 rfl rfl)
theorem dX4_errorOf_323 : decode cX4_errorOf 323 = .ok (.iastore, 1) := dk_79 (dk_at dksX4_errorOf_12 9 rfl rfl)
theorem dX4_errorOf_324 : decode cX4_errorOf 324 = .ok (.iload 4, 2) := dk_21 4 (dk_at dksX4_errorOf_12 10 rfl rfl)
theorem dX4_errorOf_326 : decode cX4_errorOf 326 = .ok (.iconst 1, 1) := dk_4 (dk_at dksX4_errorOf_12 12 rfl rfl)
theorem dX4_errorOf_327 : decode cX4_errorOf 327 = .ok (.bipush 20, 2) := dk_16 20 (dk_at dksX4_errorOf_12 13 rfl rfl)
theorem dX4_errorOf_329 : decode cX4_errorOf 329 = .ok (.invokestatic 60, 3) := dk_184 0 60 (dk_at dksX4_errorOf_12 15 rfl rfl)
theorem dX4_errorOf_332 : decode cX4_errorOf 332 = .ok (.ifCond .eq 7, 3) := dk_153 0 7 (dk_at dksX4_errorOf_12 18 rfl rfl)
theorem dX4_errorOf_335 : decode cX4_errorOf 335 = .ok (.iconst 0, 1) := dk_3 (dk_at dksX4_errorOf_12 21 rfl rfl)
theorem dX4_errorOf_336 : decode cX4_errorOf 336 = .ok (.goto 4, 3) := dk_167 0 4 (dk_at dksX4_errorOf_13 0 rfl rfl)
theorem dX4_errorOf_339 : decode cX4_errorOf 339 = .ok (.iconst 5, 1) := dk_8 (dk_at dksX4_errorOf_13 3 rfl rfl)
theorem dX4_errorOf_340 : decode cX4_errorOf 340 = .ok (.ireturn, 1) := dk_172 (dk_at dksX4_errorOf_13 4 rfl rfl)
theorem dX4_errorOf_341 : decode cX4_errorOf 341 = .ok (.aload_n 2, 1) := dk_44 (dk_at dksX4_errorOf_13 5 rfl rfl)
theorem dX4_errorOf_342 : decode cX4_errorOf 342 = .ok (.getfield 213, 3) := dk_180 0 213 (dk_at dksX4_errorOf_13 6 rfl rfl)
theorem dX4_errorOf_345 : decode cX4_errorOf 345 = .ok (.iload_n 3, 1) := dk_29 (dk_at dksX4_errorOf_13 9 rfl rfl)
theorem dX4_errorOf_346 : decode cX4_errorOf 346 = .ok (.iconst 1, 1) := dk_4 (dk_at dksX4_errorOf_13 10 rfl rfl)
theorem dX4_errorOf_347 : decode cX4_errorOf 347 = .ok (.iadd, 1) := dk_96 (dk_at dksX4_errorOf_13 11 rfl rfl)
theorem dX4_errorOf_348 : decode cX4_errorOf 348 = .ok (.iload 4, 2) := dk_21 4 (dk_at dksX4_errorOf_13 12 rfl rfl)
theorem dX4_errorOf_350 : decode cX4_errorOf 350 = .ok (.iastore, 1) := dk_79 (dk_at dksX4_errorOf_13 14 rfl rfl)
theorem dX4_errorOf_351 : decode cX4_errorOf 351 = .ok (.iload 4, 2) := dk_21 4 (dk_at dksX4_errorOf_13 15 rfl rfl)
theorem dX4_errorOf_353 : decode cX4_errorOf 353 = .ok (.iconst 1, 1) := dk_4 (dk_at dksX4_errorOf_13 17 rfl rfl)
theorem dX4_errorOf_354 : decode cX4_errorOf 354 = .ok (.bipush 60, 2) := dk_16 60 (dk_at dksX4_errorOf_13 18 rfl rfl)
theorem dX4_errorOf_356 : decode cX4_errorOf 356 = .ok (.invokestatic 60, 3) := dk_184 0 60 (dk_at dksX4_errorOf_13 20 rfl rfl)
theorem dX4_errorOf_359 : decode cX4_errorOf 359 = .ok (.ifCond .eq 7, 3) := dk_153 0 7 (dk_at dksX4_errorOf_14 0 rfl rfl)
theorem dX4_errorOf_362 : decode cX4_errorOf 362 = .ok (.iconst 0, 1) := dk_3 (dk_at dksX4_errorOf_14 3 rfl rfl)
theorem dX4_errorOf_363 : decode cX4_errorOf 363 = .ok (.goto 4, 3) := dk_167 0 4 (dk_at dksX4_errorOf_14 4 rfl rfl)
theorem dX4_errorOf_366 : decode cX4_errorOf 366 = .ok (.iconst 5, 1) := dk_8 (dk_at dksX4_errorOf_14 7 rfl rfl)
theorem dX4_errorOf_367 : decode cX4_errorOf 367 = .ok (.ireturn, 1) := dk_172 (dk_at dksX4_errorOf_14 8 rfl rfl)
theorem dX4_errorOf_368 : decode cX4_errorOf 368 = .ok (.aload_n 2, 1) := dk_44 (dk_at dksX4_errorOf_14 9 rfl rfl)
theorem dX4_errorOf_369 : decode cX4_errorOf 369 = .ok (.getfield 213, 3) := dk_180 0 213 (dk_at dksX4_errorOf_14 10 rfl rfl)
theorem dX4_errorOf_372 : decode cX4_errorOf 372 = .ok (.iload_n 3, 1) := dk_29 (dk_at dksX4_errorOf_14 13 rfl rfl)
theorem dX4_errorOf_373 : decode cX4_errorOf 373 = .ok (.iconst 2, 1) := dk_5 (dk_at dksX4_errorOf_14 14 rfl rfl)
theorem dX4_errorOf_374 : decode cX4_errorOf 374 = .ok (.iadd, 1) := dk_96 (dk_at dksX4_errorOf_14 15 rfl rfl)
theorem dX4_errorOf_375 : decode cX4_errorOf 375 = .ok (.iload 4, 2) := dk_21 4 (dk_at dksX4_errorOf_14 16 rfl rfl)
theorem dX4_errorOf_377 : decode cX4_errorOf 377 = .ok (.iastore, 1) := dk_79 (dk_at dksX4_errorOf_14 18 rfl rfl)
theorem dX4_errorOf_378 : decode cX4_errorOf 378 = .ok (.iload 4, 2) := dk_21 4 (dk_at dksX4_errorOf_14 19 rfl rfl)
theorem dX4_errorOf_380 : decode cX4_errorOf 380 = .ok (.iconst 0, 1) := dk_3 (dk_at dksX4_errorOf_14 21 rfl rfl)
theorem dX4_errorOf_381 : decode cX4_errorOf 381 = .ok (.sipush 359, 3) := dk_17 1 103 (dk_at dksX4_errorOf_15 0 rfl rfl)
theorem dX4_errorOf_384 : decode cX4_errorOf 384 = .ok (.invokestatic 60, 3) := dk_184 0 60 (dk_at dksX4_errorOf_15 3 rfl rfl)
theorem dX4_errorOf_387 : decode cX4_errorOf 387 = .ok (.ifCond .eq 7, 3) := dk_153 0 7 (dk_at dksX4_errorOf_15 6 rfl rfl)
theorem dX4_errorOf_390 : decode cX4_errorOf 390 = .ok (.iconst 0, 1) := dk_3 (dk_at dksX4_errorOf_15 9 rfl rfl)
theorem dX4_errorOf_391 : decode cX4_errorOf 391 = .ok (.goto 4, 3) := dk_167 0 4 (dk_at dksX4_errorOf_15 10 rfl rfl)
theorem dX4_errorOf_394 : decode cX4_errorOf 394 = .ok (.iconst 5, 1) := dk_8 (dk_at dksX4_errorOf_15 13 rfl rfl)
theorem dX4_errorOf_395 : decode cX4_errorOf 395 = .ok (.ireturn, 1) := dk_172 (dk_at dksX4_errorOf_15 14 rfl rfl)
theorem dX4_errorOf_396 : decode cX4_errorOf 396 = .ok (.aload_n 2, 1) := dk_44 (dk_at dksX4_errorOf_15 15 rfl rfl)
theorem dX4_errorOf_397 : decode cX4_errorOf 397 = .ok (.getfield 213, 3) := dk_180 0 213 (dk_at dksX4_errorOf_15 16 rfl rfl)
theorem dX4_errorOf_400 : decode cX4_errorOf 400 = .ok (.iload_n 3, 1) := dk_29 (dk_at dksX4_errorOf_15 19 rfl rfl)
theorem dX4_errorOf_401 : decode cX4_errorOf 401 = .ok (.iconst 3, 1) := dk_6 (dk_at dksX4_errorOf_15 20 rfl rfl)
theorem dX4_errorOf_402 : decode cX4_errorOf 402 = .ok (.iadd, 1) := dk_96 (dk_at dksX4_errorOf_15 21 rfl rfl)
theorem dX4_errorOf_403 : decode cX4_errorOf 403 = .ok (.iload 4, 2) := dk_21 4 (dk_at dksX4_errorOf_15 22 rfl rfl)
theorem dX4_errorOf_405 : decode cX4_errorOf 405 = .ok (.iastore, 1) := dk_79 (dk_at dksX4_errorOf_16 0 rfl rfl)
theorem dX4_errorOf_406 : decode cX4_errorOf 406 = .ok (.iload 4, 2) := dk_21 4 (dk_at dksX4_errorOf_16 1 rfl rfl)
theorem dX4_errorOf_408 : decode cX4_errorOf 408 = .ok (.iconst 0, 1) := dk_3 (dk_at dksX4_errorOf_16 3 rfl rfl)
theorem dX4_errorOf_409 : decode cX4_errorOf 409 = .ok (.bipush 29, 2) := dk_16 29 (dk_at dksX4_errorOf_16 4 rfl rfl)
theorem dX4_errorOf_411 : decode cX4_errorOf 411 = .ok (.invokestatic 60, 3) := dk_184 0 60 (dk_at dksX4_errorOf_16 6 rfl rfl)
theorem dX4_errorOf_414 : decode cX4_errorOf 414 = .ok (.ifCond .eq 7, 3) := dk_153 0 7 (dk_at dksX4_errorOf_16 9 rfl rfl)
theorem dX4_errorOf_417 : decode cX4_errorOf 417 = .ok (.iconst 0, 1) := dk_3 (dk_at dksX4_errorOf_16 12 rfl rfl)
theorem dX4_errorOf_418 : decode cX4_errorOf 418 = .ok (.goto 4, 3) := dk_167 0 4 (dk_at dksX4_errorOf_16 13 rfl rfl)
theorem dX4_errorOf_421 : decode cX4_errorOf 421 = .ok (.iconst 5, 1) := dk_8 (dk_at dksX4_errorOf_16 16 rfl rfl)
theorem dX4_errorOf_422 : decode cX4_errorOf 422 = .ok (.ireturn, 1) := dk_172 (dk_at dksX4_errorOf_16 17 rfl rfl)
theorem dX4_errorOf_423 : decode cX4_errorOf 423 = .ok (.aload_n 2, 1) := dk_44 (dk_at dksX4_errorOf_16 18 rfl rfl)
theorem dX4_errorOf_424 : decode cX4_errorOf 424 = .ok (.getfield 213, 3) := dk_180 0 213 (dk_at dksX4_errorOf_16 19 rfl rfl)
theorem dX4_errorOf_427 : decode cX4_errorOf 427 = .ok (.iload_n 3, 1) := dk_29 (dk_at dksX4_errorOf_16 22 rfl rfl)
theorem dX4_errorOf_428 : decode cX4_errorOf 428 = .ok (.iconst 4, 1) := dk_7 (dk_at dksX4_errorOf_16 23 rfl rfl)
theorem dX4_errorOf_429 : decode cX4_errorOf 429 = .ok (.iadd, 1) := dk_96 (dk_at dksX4_errorOf_17 0 rfl rfl)
theorem dX4_errorOf_430 : decode cX4_errorOf 430 = .ok (.iload 4, 2) := dk_21 4 (dk_at dksX4_errorOf_17 1 rfl rfl)
theorem dX4_errorOf_432 : decode cX4_errorOf 432 = .ok (.iastore, 1) := dk_79 (dk_at dksX4_errorOf_17 3 rfl rfl)
theorem dX4_errorOf_433 : decode cX4_errorOf 433 = .ok (.iload 4, 2) := dk_21 4 (dk_at dksX4_errorOf_17 4 rfl rfl)
theorem dX4_errorOf_435 : decode cX4_errorOf 435 = .ok (.iconst 1, 1) := dk_4 (dk_at dksX4_errorOf_17 6 rfl rfl)
theorem dX4_errorOf_436 : decode cX4_errorOf 436 = .ok (.bipush 60, 2) := dk_16 60 (dk_at dksX4_errorOf_17 7 rfl rfl)
theorem dX4_errorOf_438 : decode cX4_errorOf 438 = .ok (.invokestatic 60, 3) := dk_184 0 60 (dk_at dksX4_errorOf_17 9 rfl rfl)
theorem dX4_errorOf_441 : decode cX4_errorOf 441 = .ok (.ifCond .eq 20, 3) := dk_153 0 20 (dk_at dksX4_errorOf_17 12 rfl rfl)
theorem dX4_errorOf_444 : decode cX4_errorOf 444 = .ok (.iload 4, 2) := dk_21 4 (dk_at dksX4_errorOf_17 15 rfl rfl)
theorem dX4_errorOf_446 : decode cX4_errorOf 446 = .ok (.aload_n 2, 1) := dk_44 (dk_at dksX4_errorOf_17 17 rfl rfl)
theorem dX4_errorOf_447 : decode cX4_errorOf 447 = .ok (.getfield 213, 3) := dk_180 0 213 (dk_at dksX4_errorOf_17 18 rfl rfl)
theorem dX4_errorOf_450 : decode cX4_errorOf 450 = .ok (.iload_n 3, 1) := dk_29 (dk_at dksX4_errorOf_17 21 rfl rfl)
theorem dX4_errorOf_451 : decode cX4_errorOf 451 = .ok (.iconst 3, 1) := dk_6 (dk_at dksX4_errorOf_17 22 rfl rfl)
theorem dX4_errorOf_452 : decode cX4_errorOf 452 = .ok (.iadd, 1) := dk_96 (dk_at dksX4_errorOf_17 23 rfl rfl)
theorem dX4_errorOf_453 : decode cX4_errorOf 453 = .ok (.iaload, 1) := dk_46 (dk_at dksX4_errorOf_18 0 rfl rfl)
theorem dX4_errorOf_454 : decode cX4_errorOf 454 = .ok (.if_icmp .le 7, 3) := dk_164 0 7 (dk_at dksX4_errorOf_18 1 rfl rfl)
theorem dX4_errorOf_457 : decode cX4_errorOf 457 = .ok (.iconst 0, 1) := dk_3 (dk_at dksX4_errorOf_18 4 rfl rfl)
theorem dX4_errorOf_458 : decode cX4_errorOf 458 = .ok (.goto 4, 3) := dk_167 0 4 (dk_at dksX4_errorOf_18 5 rfl rfl)
theorem dX4_errorOf_461 : decode cX4_errorOf 461 = .ok (.iconst 5, 1) := dk_8 (dk_at dksX4_errorOf_18 8 rfl rfl)
theorem dX4_errorOf_462 : decode cX4_errorOf 462 = .ok (.ireturn, 1) := dk_172 (dk_at dksX4_errorOf_18 9 rfl rfl)
theorem dX4_errorOf_463 : decode cX4_errorOf 463 = .ok (.iconst 0, 1) := dk_3 (dk_at dksX4_errorOf_18 10 rfl rfl)
theorem dX4_errorOf_464 : decode cX4_errorOf 464 = .ok (.ireturn, 1) := dk_172 (dk_at dksX4_errorOf_18 11 rfl rfl)
abbrev cX4_told : ByteArray := prog_41_method_39_code
def yX4_told : MethodName := ⟨RX4, "told", "(II)I"⟩
def dkwX4_told_2 : List UInt8 := [2, 172]
abbrev dktX4_told_2 : List UInt8 := dkwX4_told_2 ++ []
def dkwX4_told_1 : List UInt8 := [167, 0, 18, 42, 21, 4, 27, 182, 0, 208, 153, 0, 5, 29, 172, 132, 3, 1, 132, 4, 1, 167, 255, 218]
abbrev dktX4_told_1 : List UInt8 := dkwX4_told_1 ++ dktX4_told_2
def dkwX4_told_0 : List UInt8 := [3, 62, 3, 54, 4, 21, 4, 27, 162, 0, 38, 42, 180, 0, 26, 21, 4, 46, 28, 159, 0, 6]
abbrev dktX4_told_0 : List UInt8 := dkwX4_told_0 ++ dktX4_told_1
theorem dksX4_told_0 : cX4_told.data.toList.drop 0 = dktX4_told_0 := by decide +kernel
theorem dksX4_told_1 : cX4_told.data.toList.drop 22 = dktX4_told_1 := dk_seg dksX4_told_0 22 rfl rfl
theorem dksX4_told_2 : cX4_told.data.toList.drop 46 = dktX4_told_2 := dk_seg dksX4_told_1 24 rfl rfl
theorem dX4_told_0 : decode cX4_told 0 = .ok (.iconst 0, 1) := dk_3 (dk_at dksX4_told_0 0 rfl rfl)
theorem dX4_told_1 : decode cX4_told 1 = .ok (.istore_n 3, 1) := dk_62 (dk_at dksX4_told_0 1 rfl rfl)
theorem dX4_told_2 : decode cX4_told 2 = .ok (.iconst 0, 1) := dk_3 (dk_at dksX4_told_0 2 rfl rfl)
theorem dX4_told_3 : decode cX4_told 3 = .ok (.istore 4, 2) := dk_54 4 (dk_at dksX4_told_0 3 rfl rfl)
theorem dX4_told_5 : decode cX4_told 5 = .ok (.iload 4, 2) := dk_21 4 (dk_at dksX4_told_0 5 rfl rfl)
theorem dX4_told_7 : decode cX4_told 7 = .ok (.iload_n 1, 1) := dk_27 (dk_at dksX4_told_0 7 rfl rfl)
theorem dX4_told_8 : decode cX4_told 8 = .ok (.if_icmp .ge 38, 3) := dk_162 0 38 (dk_at dksX4_told_0 8 rfl rfl)
theorem dX4_told_11 : decode cX4_told 11 = .ok (.aload_n 0, 1) := dk_42 (dk_at dksX4_told_0 11 rfl rfl)
theorem dX4_told_12 : decode cX4_told 12 = .ok (.getfield 26, 3) := dk_180 0 26 (dk_at dksX4_told_0 12 rfl rfl)
theorem dX4_told_15 : decode cX4_told 15 = .ok (.iload 4, 2) := dk_21 4 (dk_at dksX4_told_0 15 rfl rfl)
theorem dX4_told_17 : decode cX4_told 17 = .ok (.iaload, 1) := dk_46 (dk_at dksX4_told_0 17 rfl rfl)
theorem dX4_told_18 : decode cX4_told 18 = .ok (.iload_n 2, 1) := dk_28 (dk_at dksX4_told_0 18 rfl rfl)
theorem dX4_told_19 : decode cX4_told 19 = .ok (.if_icmp .eq 6, 3) := dk_159 0 6 (dk_at dksX4_told_0 19 rfl rfl)
theorem dX4_told_22 : decode cX4_told 22 = .ok (.goto 18, 3) := dk_167 0 18 (dk_at dksX4_told_1 0 rfl rfl)
theorem dX4_told_25 : decode cX4_told 25 = .ok (.aload_n 0, 1) := dk_42 (dk_at dksX4_told_1 3 rfl rfl)
theorem dX4_told_26 : decode cX4_told 26 = .ok (.iload 4, 2) := dk_21 4 (dk_at dksX4_told_1 4 rfl rfl)
theorem dX4_told_28 : decode cX4_told 28 = .ok (.iload_n 1, 1) := dk_27 (dk_at dksX4_told_1 6 rfl rfl)
theorem dX4_told_29 : decode cX4_told 29 = .ok (.invokevirtual 208, 3) := dk_182 0 208 (dk_at dksX4_told_1 7 rfl rfl)
theorem dX4_told_32 : decode cX4_told 32 = .ok (.ifCond .eq 5, 3) := dk_153 0 5 (dk_at dksX4_told_1 10 rfl rfl)
theorem dX4_told_35 : decode cX4_told 35 = .ok (.iload_n 3, 1) := dk_29 (dk_at dksX4_told_1 13 rfl rfl)
theorem dX4_told_36 : decode cX4_told 36 = .ok (.ireturn, 1) := dk_172 (dk_at dksX4_told_1 14 rfl rfl)
theorem dX4_told_37 : decode cX4_told 37 = .ok (.iinc 3 1, 3) := dk_132 3 1 (dk_at dksX4_told_1 15 rfl rfl)
theorem dX4_told_40 : decode cX4_told 40 = .ok (.iinc 4 1, 3) := dk_132 4 1 (dk_at dksX4_told_1 18 rfl rfl)
theorem dX4_told_43 : decode cX4_told 43 = .ok (.goto (-38), 3) := dk_167 255 218 (dk_at dksX4_told_1 21 rfl rfl)
theorem dX4_told_46 : decode cX4_told 46 = .ok (.iconst (-1), 1) := dk_2 (dk_at dksX4_told_2 0 rfl rfl)
theorem dX4_told_47 : decode cX4_told 47 = .ok (.ireturn, 1) := dk_172 (dk_at dksX4_told_2 1 rfl rfl)
abbrev cX4_isSame : ByteArray := prog_41_method_38_code
def yX4_isSame : MethodName := ⟨RX4, "isSame", "(II)Z"⟩
def dkwX4_isSame_2 : List UInt8 := [180, 0, 20, 28, 46, 29, 96, 46, 159, 0, 5, 3, 172, 132, 3, 1, 167, 255, 212, 4, 172]
abbrev dktX4_isSame_2 : List UInt8 := dkwX4_isSame_2 ++ []
def dkwX4_isSame_1 : List UInt8 := [27, 46, 162, 0, 40, 42, 180, 0, 9, 42, 180, 0, 20, 27, 46, 29, 96, 46, 42, 180, 0, 9, 42]
abbrev dktX4_isSame_1 : List UInt8 := dkwX4_isSame_1 ++ dktX4_isSame_2
def dkwX4_isSame_0 : List UInt8 := [42, 180, 0, 23, 27, 46, 42, 180, 0, 23, 28, 46, 159, 0, 5, 3, 172, 3, 62, 29, 42, 180, 0, 23]
abbrev dktX4_isSame_0 : List UInt8 := dkwX4_isSame_0 ++ dktX4_isSame_1
theorem dksX4_isSame_0 : cX4_isSame.data.toList.drop 0 = dktX4_isSame_0 := by decide +kernel
theorem dksX4_isSame_1 : cX4_isSame.data.toList.drop 24 = dktX4_isSame_1 := dk_seg dksX4_isSame_0 24 rfl rfl
theorem dksX4_isSame_2 : cX4_isSame.data.toList.drop 47 = dktX4_isSame_2 := dk_seg dksX4_isSame_1 23 rfl rfl
theorem dX4_isSame_0 : decode cX4_isSame 0 = .ok (.aload_n 0, 1) := dk_42 (dk_at dksX4_isSame_0 0 rfl rfl)
theorem dX4_isSame_1 : decode cX4_isSame 1 = .ok (.getfield 23, 3) := dk_180 0 23 (dk_at dksX4_isSame_0 1 rfl rfl)
theorem dX4_isSame_4 : decode cX4_isSame 4 = .ok (.iload_n 1, 1) := dk_27 (dk_at dksX4_isSame_0 4 rfl rfl)
theorem dX4_isSame_5 : decode cX4_isSame 5 = .ok (.iaload, 1) := dk_46 (dk_at dksX4_isSame_0 5 rfl rfl)
theorem dX4_isSame_6 : decode cX4_isSame 6 = .ok (.aload_n 0, 1) := dk_42 (dk_at dksX4_isSame_0 6 rfl rfl)
theorem dX4_isSame_7 : decode cX4_isSame 7 = .ok (.getfield 23, 3) := dk_180 0 23 (dk_at dksX4_isSame_0 7 rfl rfl)
theorem dX4_isSame_10 : decode cX4_isSame 10 = .ok (.iload_n 2, 1) := dk_28 (dk_at dksX4_isSame_0 10 rfl rfl)
theorem dX4_isSame_11 : decode cX4_isSame 11 = .ok (.iaload, 1) := dk_46 (dk_at dksX4_isSame_0 11 rfl rfl)
theorem dX4_isSame_12 : decode cX4_isSame 12 = .ok (.if_icmp .eq 5, 3) := dk_159 0 5 (dk_at dksX4_isSame_0 12 rfl rfl)
theorem dX4_isSame_15 : decode cX4_isSame 15 = .ok (.iconst 0, 1) := dk_3 (dk_at dksX4_isSame_0 15 rfl rfl)
theorem dX4_isSame_16 : decode cX4_isSame 16 = .ok (.ireturn, 1) := dk_172 (dk_at dksX4_isSame_0 16 rfl rfl)
theorem dX4_isSame_17 : decode cX4_isSame 17 = .ok (.iconst 0, 1) := dk_3 (dk_at dksX4_isSame_0 17 rfl rfl)
theorem dX4_isSame_18 : decode cX4_isSame 18 = .ok (.istore_n 3, 1) := dk_62 (dk_at dksX4_isSame_0 18 rfl rfl)
theorem dX4_isSame_19 : decode cX4_isSame 19 = .ok (.iload_n 3, 1) := dk_29 (dk_at dksX4_isSame_0 19 rfl rfl)
theorem dX4_isSame_20 : decode cX4_isSame 20 = .ok (.aload_n 0, 1) := dk_42 (dk_at dksX4_isSame_0 20 rfl rfl)
theorem dX4_isSame_21 : decode cX4_isSame 21 = .ok (.getfield 23, 3) := dk_180 0 23 (dk_at dksX4_isSame_0 21 rfl rfl)
theorem dX4_isSame_24 : decode cX4_isSame 24 = .ok (.iload_n 1, 1) := dk_27 (dk_at dksX4_isSame_1 0 rfl rfl)
theorem dX4_isSame_25 : decode cX4_isSame 25 = .ok (.iaload, 1) := dk_46 (dk_at dksX4_isSame_1 1 rfl rfl)
theorem dX4_isSame_26 : decode cX4_isSame 26 = .ok (.if_icmp .ge 40, 3) := dk_162 0 40 (dk_at dksX4_isSame_1 2 rfl rfl)
theorem dX4_isSame_29 : decode cX4_isSame 29 = .ok (.aload_n 0, 1) := dk_42 (dk_at dksX4_isSame_1 5 rfl rfl)
theorem dX4_isSame_30 : decode cX4_isSame 30 = .ok (.getfield 9, 3) := dk_180 0 9 (dk_at dksX4_isSame_1 6 rfl rfl)
theorem dX4_isSame_33 : decode cX4_isSame 33 = .ok (.aload_n 0, 1) := dk_42 (dk_at dksX4_isSame_1 9 rfl rfl)
theorem dX4_isSame_34 : decode cX4_isSame 34 = .ok (.getfield 20, 3) := dk_180 0 20 (dk_at dksX4_isSame_1 10 rfl rfl)
theorem dX4_isSame_37 : decode cX4_isSame 37 = .ok (.iload_n 1, 1) := dk_27 (dk_at dksX4_isSame_1 13 rfl rfl)
theorem dX4_isSame_38 : decode cX4_isSame 38 = .ok (.iaload, 1) := dk_46 (dk_at dksX4_isSame_1 14 rfl rfl)
theorem dX4_isSame_39 : decode cX4_isSame 39 = .ok (.iload_n 3, 1) := dk_29 (dk_at dksX4_isSame_1 15 rfl rfl)
theorem dX4_isSame_40 : decode cX4_isSame 40 = .ok (.iadd, 1) := dk_96 (dk_at dksX4_isSame_1 16 rfl rfl)
theorem dX4_isSame_41 : decode cX4_isSame 41 = .ok (.iaload, 1) := dk_46 (dk_at dksX4_isSame_1 17 rfl rfl)
theorem dX4_isSame_42 : decode cX4_isSame 42 = .ok (.aload_n 0, 1) := dk_42 (dk_at dksX4_isSame_1 18 rfl rfl)
theorem dX4_isSame_43 : decode cX4_isSame 43 = .ok (.getfield 9, 3) := dk_180 0 9 (dk_at dksX4_isSame_1 19 rfl rfl)
theorem dX4_isSame_46 : decode cX4_isSame 46 = .ok (.aload_n 0, 1) := dk_42 (dk_at dksX4_isSame_1 22 rfl rfl)
theorem dX4_isSame_47 : decode cX4_isSame 47 = .ok (.getfield 20, 3) := dk_180 0 20 (dk_at dksX4_isSame_2 0 rfl rfl)
theorem dX4_isSame_50 : decode cX4_isSame 50 = .ok (.iload_n 2, 1) := dk_28 (dk_at dksX4_isSame_2 3 rfl rfl)
theorem dX4_isSame_51 : decode cX4_isSame 51 = .ok (.iaload, 1) := dk_46 (dk_at dksX4_isSame_2 4 rfl rfl)
theorem dX4_isSame_52 : decode cX4_isSame 52 = .ok (.iload_n 3, 1) := dk_29 (dk_at dksX4_isSame_2 5 rfl rfl)
theorem dX4_isSame_53 : decode cX4_isSame 53 = .ok (.iadd, 1) := dk_96 (dk_at dksX4_isSame_2 6 rfl rfl)
theorem dX4_isSame_54 : decode cX4_isSame 54 = .ok (.iaload, 1) := dk_46 (dk_at dksX4_isSame_2 7 rfl rfl)
theorem dX4_isSame_55 : decode cX4_isSame 55 = .ok (.if_icmp .eq 5, 3) := dk_159 0 5 (dk_at dksX4_isSame_2 8 rfl rfl)
theorem dX4_isSame_58 : decode cX4_isSame 58 = .ok (.iconst 0, 1) := dk_3 (dk_at dksX4_isSame_2 11 rfl rfl)
theorem dX4_isSame_59 : decode cX4_isSame 59 = .ok (.ireturn, 1) := dk_172 (dk_at dksX4_isSame_2 12 rfl rfl)
theorem dX4_isSame_60 : decode cX4_isSame 60 = .ok (.iinc 3 1, 3) := dk_132 3 1 (dk_at dksX4_isSame_2 13 rfl rfl)
theorem dX4_isSame_63 : decode cX4_isSame 63 = .ok (.goto (-44), 3) := dk_167 255 212 (dk_at dksX4_isSame_2 16 rfl rfl)
theorem dX4_isSame_66 : decode cX4_isSame 66 = .ok (.iconst 1, 1) := dk_4 (dk_at dksX4_isSame_2 19 rfl rfl)
theorem dX4_isSame_67 : decode cX4_isSame 67 = .ok (.ireturn, 1) := dk_172 (dk_at dksX4_isSame_2 20 rfl rfl)
abbrev cX4_areLetters : ByteArray := prog_41_method_41_code
def yX4_areLetters : MethodName := ⟨RX4, "areLetters", "(I)Z"⟩
def dkwX4_areLetters_4 : List UInt8 := [180, 0, 222, 16, 12, 29, 104, 21, 4, 96, 21, 5, 79, 132, 4, 1, 167, 255, 176, 4, 172]
abbrev dktX4_areLetters_4 : List UInt8 := dkwX4_areLetters_4 ++ []
def dkwX4_areLetters_3 : List UInt8 := [100, 122, 4, 126, 4, 160, 0, 5, 3, 172, 28, 4, 21, 5, 16, 97, 100, 120, 128, 61, 42, 180, 0, 39]
abbrev dktX4_areLetters_3 : List UInt8 := dkwX4_areLetters_3 ++ dktX4_areLetters_4
def dkwX4_areLetters_2 : List UInt8 := [180, 0, 20, 27, 46, 21, 4, 96, 46, 54, 5, 21, 5, 184, 0, 86, 153, 0, 16, 28, 21, 5, 16, 97]
abbrev dktX4_areLetters_2 : List UInt8 := dkwX4_areLetters_2 ++ dktX4_areLetters_3
def dkwX4_areLetters_1 : List UInt8 := [27, 46, 79, 3, 54, 4, 21, 4, 42, 180, 0, 23, 27, 46, 162, 0, 75, 42, 180, 0, 9, 42]
abbrev dktX4_areLetters_1 : List UInt8 := dkwX4_areLetters_1 ++ dktX4_areLetters_2
def dkwX4_areLetters_0 : List UInt8 := [3, 61, 42, 180, 0, 39, 180, 0, 64, 4, 100, 62, 42, 180, 0, 39, 180, 0, 219, 29, 42, 180, 0, 23]
abbrev dktX4_areLetters_0 : List UInt8 := dkwX4_areLetters_0 ++ dktX4_areLetters_1
theorem dksX4_areLetters_0 : cX4_areLetters.data.toList.drop 0 = dktX4_areLetters_0 := by decide +kernel
theorem dksX4_areLetters_1 : cX4_areLetters.data.toList.drop 24 = dktX4_areLetters_1 := dk_seg dksX4_areLetters_0 24 rfl rfl
theorem dksX4_areLetters_2 : cX4_areLetters.data.toList.drop 46 = dktX4_areLetters_2 := dk_seg dksX4_areLetters_1 22 rfl rfl
theorem dksX4_areLetters_3 : cX4_areLetters.data.toList.drop 70 = dktX4_areLetters_3 := dk_seg dksX4_areLetters_2 24 rfl rfl
theorem dksX4_areLetters_4 : cX4_areLetters.data.toList.drop 94 = dktX4_areLetters_4 := dk_seg dksX4_areLetters_3 24 rfl rfl
theorem dX4_areLetters_0 : decode cX4_areLetters 0 = .ok (.iconst 0, 1) := dk_3 (dk_at dksX4_areLetters_0 0 rfl rfl)
theorem dX4_areLetters_1 : decode cX4_areLetters 1 = .ok (.istore_n 2, 1) := dk_61 (dk_at dksX4_areLetters_0 1 rfl rfl)
theorem dX4_areLetters_2 : decode cX4_areLetters 2 = .ok (.aload_n 0, 1) := dk_42 (dk_at dksX4_areLetters_0 2 rfl rfl)
theorem dX4_areLetters_3 : decode cX4_areLetters 3 = .ok (.getfield 39, 3) := dk_180 0 39 (dk_at dksX4_areLetters_0 3 rfl rfl)
theorem dX4_areLetters_6 : decode cX4_areLetters 6 = .ok (.getfield 64, 3) := dk_180 0 64 (dk_at dksX4_areLetters_0 6 rfl rfl)
theorem dX4_areLetters_9 : decode cX4_areLetters 9 = .ok (.iconst 1, 1) := dk_4 (dk_at dksX4_areLetters_0 9 rfl rfl)
theorem dX4_areLetters_10 : decode cX4_areLetters 10 = .ok (.isub, 1) := dk_100 (dk_at dksX4_areLetters_0 10 rfl rfl)
theorem dX4_areLetters_11 : decode cX4_areLetters 11 = .ok (.istore_n 3, 1) := dk_62 (dk_at dksX4_areLetters_0 11 rfl rfl)
theorem dX4_areLetters_12 : decode cX4_areLetters 12 = .ok (.aload_n 0, 1) := dk_42 (dk_at dksX4_areLetters_0 12 rfl rfl)
theorem dX4_areLetters_13 : decode cX4_areLetters 13 = .ok (.getfield 39, 3) := dk_180 0 39 (dk_at dksX4_areLetters_0 13 rfl rfl)
theorem dX4_areLetters_16 : decode cX4_areLetters 16 = .ok (.getfield 219, 3) := dk_180 0 219 (dk_at dksX4_areLetters_0 16 rfl rfl)
theorem dX4_areLetters_19 : decode cX4_areLetters 19 = .ok (.iload_n 3, 1) := dk_29 (dk_at dksX4_areLetters_0 19 rfl rfl)
theorem dX4_areLetters_20 : decode cX4_areLetters 20 = .ok (.aload_n 0, 1) := dk_42 (dk_at dksX4_areLetters_0 20 rfl rfl)
theorem dX4_areLetters_21 : decode cX4_areLetters 21 = .ok (.getfield 23, 3) := dk_180 0 23 (dk_at dksX4_areLetters_0 21 rfl rfl)
theorem dX4_areLetters_24 : decode cX4_areLetters 24 = .ok (.iload_n 1, 1) := dk_27 (dk_at dksX4_areLetters_1 0 rfl rfl)
theorem dX4_areLetters_25 : decode cX4_areLetters 25 = .ok (.iaload, 1) := dk_46 (dk_at dksX4_areLetters_1 1 rfl rfl)
theorem dX4_areLetters_26 : decode cX4_areLetters 26 = .ok (.iastore, 1) := dk_79 (dk_at dksX4_areLetters_1 2 rfl rfl)
theorem dX4_areLetters_27 : decode cX4_areLetters 27 = .ok (.iconst 0, 1) := dk_3 (dk_at dksX4_areLetters_1 3 rfl rfl)
theorem dX4_areLetters_28 : decode cX4_areLetters 28 = .ok (.istore 4, 2) := dk_54 4 (dk_at dksX4_areLetters_1 4 rfl rfl)
theorem dX4_areLetters_30 : decode cX4_areLetters 30 = .ok (.iload 4, 2) := dk_21 4 (dk_at dksX4_areLetters_1 6 rfl rfl)
theorem dX4_areLetters_32 : decode cX4_areLetters 32 = .ok (.aload_n 0, 1) := dk_42 (dk_at dksX4_areLetters_1 8 rfl rfl)
theorem dX4_areLetters_33 : decode cX4_areLetters 33 = .ok (.getfield 23, 3) := dk_180 0 23 (dk_at dksX4_areLetters_1 9 rfl rfl)
theorem dX4_areLetters_36 : decode cX4_areLetters 36 = .ok (.iload_n 1, 1) := dk_27 (dk_at dksX4_areLetters_1 12 rfl rfl)
theorem dX4_areLetters_37 : decode cX4_areLetters 37 = .ok (.iaload, 1) := dk_46 (dk_at dksX4_areLetters_1 13 rfl rfl)
theorem dX4_areLetters_38 : decode cX4_areLetters 38 = .ok (.if_icmp .ge 75, 3) := dk_162 0 75 (dk_at dksX4_areLetters_1 14 rfl rfl)
theorem dX4_areLetters_41 : decode cX4_areLetters 41 = .ok (.aload_n 0, 1) := dk_42 (dk_at dksX4_areLetters_1 17 rfl rfl)
theorem dX4_areLetters_42 : decode cX4_areLetters 42 = .ok (.getfield 9, 3) := dk_180 0 9 (dk_at dksX4_areLetters_1 18 rfl rfl)
theorem dX4_areLetters_45 : decode cX4_areLetters 45 = .ok (.aload_n 0, 1) := dk_42 (dk_at dksX4_areLetters_1 21 rfl rfl)
theorem dX4_areLetters_46 : decode cX4_areLetters 46 = .ok (.getfield 20, 3) := dk_180 0 20 (dk_at dksX4_areLetters_2 0 rfl rfl)
theorem dX4_areLetters_49 : decode cX4_areLetters 49 = .ok (.iload_n 1, 1) := dk_27 (dk_at dksX4_areLetters_2 3 rfl rfl)
theorem dX4_areLetters_50 : decode cX4_areLetters 50 = .ok (.iaload, 1) := dk_46 (dk_at dksX4_areLetters_2 4 rfl rfl)
theorem dX4_areLetters_51 : decode cX4_areLetters 51 = .ok (.iload 4, 2) := dk_21 4 (dk_at dksX4_areLetters_2 5 rfl rfl)
theorem dX4_areLetters_53 : decode cX4_areLetters 53 = .ok (.iadd, 1) := dk_96 (dk_at dksX4_areLetters_2 7 rfl rfl)
theorem dX4_areLetters_54 : decode cX4_areLetters 54 = .ok (.iaload, 1) := dk_46 (dk_at dksX4_areLetters_2 8 rfl rfl)
theorem dX4_areLetters_55 : decode cX4_areLetters 55 = .ok (.istore 5, 2) := dk_54 5 (dk_at dksX4_areLetters_2 9 rfl rfl)
theorem dX4_areLetters_57 : decode cX4_areLetters 57 = .ok (.iload 5, 2) := dk_21 5 (dk_at dksX4_areLetters_2 11 rfl rfl)
theorem dX4_areLetters_59 : decode cX4_areLetters 59 = .ok (.invokestatic 86, 3) := dk_184 0 86 (dk_at dksX4_areLetters_2 13 rfl rfl)
theorem dX4_areLetters_62 : decode cX4_areLetters 62 = .ok (.ifCond .eq 16, 3) := dk_153 0 16 (dk_at dksX4_areLetters_2 16 rfl rfl)
theorem dX4_areLetters_65 : decode cX4_areLetters 65 = .ok (.iload_n 2, 1) := dk_28 (dk_at dksX4_areLetters_2 19 rfl rfl)
theorem dX4_areLetters_66 : decode cX4_areLetters 66 = .ok (.iload 5, 2) := dk_21 5 (dk_at dksX4_areLetters_2 20 rfl rfl)
theorem dX4_areLetters_68 : decode cX4_areLetters 68 = .ok (.bipush 97, 2) := dk_16 97 (dk_at dksX4_areLetters_2 22 rfl rfl)
theorem dX4_areLetters_70 : decode cX4_areLetters 70 = .ok (.isub, 1) := dk_100 (dk_at dksX4_areLetters_3 0 rfl rfl)
theorem dX4_areLetters_71 : decode cX4_areLetters 71 = .ok (.ishr, 1) := dk_122 (dk_at dksX4_areLetters_3 1 rfl rfl)
theorem dX4_areLetters_72 : decode cX4_areLetters 72 = .ok (.iconst 1, 1) := dk_4 (dk_at dksX4_areLetters_3 2 rfl rfl)
theorem dX4_areLetters_73 : decode cX4_areLetters 73 = .ok (.iand, 1) := dk_126 (dk_at dksX4_areLetters_3 3 rfl rfl)
theorem dX4_areLetters_74 : decode cX4_areLetters 74 = .ok (.iconst 1, 1) := dk_4 (dk_at dksX4_areLetters_3 4 rfl rfl)
theorem dX4_areLetters_75 : decode cX4_areLetters 75 = .ok (.if_icmp .ne 5, 3) := dk_160 0 5 (dk_at dksX4_areLetters_3 5 rfl rfl)
theorem dX4_areLetters_78 : decode cX4_areLetters 78 = .ok (.iconst 0, 1) := dk_3 (dk_at dksX4_areLetters_3 8 rfl rfl)
theorem dX4_areLetters_79 : decode cX4_areLetters 79 = .ok (.ireturn, 1) := dk_172 (dk_at dksX4_areLetters_3 9 rfl rfl)
theorem dX4_areLetters_80 : decode cX4_areLetters 80 = .ok (.iload_n 2, 1) := dk_28 (dk_at dksX4_areLetters_3 10 rfl rfl)
theorem dX4_areLetters_81 : decode cX4_areLetters 81 = .ok (.iconst 1, 1) := dk_4 (dk_at dksX4_areLetters_3 11 rfl rfl)
theorem dX4_areLetters_82 : decode cX4_areLetters 82 = .ok (.iload 5, 2) := dk_21 5 (dk_at dksX4_areLetters_3 12 rfl rfl)
theorem dX4_areLetters_84 : decode cX4_areLetters 84 = .ok (.bipush 97, 2) := dk_16 97 (dk_at dksX4_areLetters_3 14 rfl rfl)
theorem dX4_areLetters_86 : decode cX4_areLetters 86 = .ok (.isub, 1) := dk_100 (dk_at dksX4_areLetters_3 16 rfl rfl)
theorem dX4_areLetters_87 : decode cX4_areLetters 87 = .ok (.ishl, 1) := dk_120 (dk_at dksX4_areLetters_3 17 rfl rfl)
theorem dX4_areLetters_88 : decode cX4_areLetters 88 = .ok (.ior, 1) := dk_128 (dk_at dksX4_areLetters_3 18 rfl rfl)
theorem dX4_areLetters_89 : decode cX4_areLetters 89 = .ok (.istore_n 2, 1) := dk_61 (dk_at dksX4_areLetters_3 19 rfl rfl)
theorem dX4_areLetters_90 : decode cX4_areLetters 90 = .ok (.aload_n 0, 1) := dk_42 (dk_at dksX4_areLetters_3 20 rfl rfl)
theorem dX4_areLetters_91 : decode cX4_areLetters 91 = .ok (.getfield 39, 3) := dk_180 0 39 (dk_at dksX4_areLetters_3 21 rfl rfl)
theorem dX4_areLetters_94 : decode cX4_areLetters 94 = .ok (.getfield 222, 3) := dk_180 0 222 (dk_at dksX4_areLetters_4 0 rfl rfl)
theorem dX4_areLetters_97 : decode cX4_areLetters 97 = .ok (.bipush 12, 2) := dk_16 12 (dk_at dksX4_areLetters_4 3 rfl rfl)
theorem dX4_areLetters_99 : decode cX4_areLetters 99 = .ok (.iload_n 3, 1) := dk_29 (dk_at dksX4_areLetters_4 5 rfl rfl)
theorem dX4_areLetters_100 : decode cX4_areLetters 100 = .ok (.imul, 1) := dk_104 (dk_at dksX4_areLetters_4 6 rfl rfl)
theorem dX4_areLetters_101 : decode cX4_areLetters 101 = .ok (.iload 4, 2) := dk_21 4 (dk_at dksX4_areLetters_4 7 rfl rfl)
theorem dX4_areLetters_103 : decode cX4_areLetters 103 = .ok (.iadd, 1) := dk_96 (dk_at dksX4_areLetters_4 9 rfl rfl)
theorem dX4_areLetters_104 : decode cX4_areLetters 104 = .ok (.iload 5, 2) := dk_21 5 (dk_at dksX4_areLetters_4 10 rfl rfl)
theorem dX4_areLetters_106 : decode cX4_areLetters 106 = .ok (.iastore, 1) := dk_79 (dk_at dksX4_areLetters_4 12 rfl rfl)
theorem dX4_areLetters_107 : decode cX4_areLetters 107 = .ok (.iinc 4 1, 3) := dk_132 4 1 (dk_at dksX4_areLetters_4 13 rfl rfl)
theorem dX4_areLetters_110 : decode cX4_areLetters 110 = .ok (.goto (-80), 3) := dk_167 255 176 (dk_at dksX4_areLetters_4 16 rfl rfl)
theorem dX4_areLetters_113 : decode cX4_areLetters 113 = .ok (.iconst 1, 1) := dk_4 (dk_at dksX4_areLetters_4 19 rfl rfl)
theorem dX4_areLetters_114 : decode cX4_areLetters 114 = .ok (.ireturn, 1) := dk_172 (dk_at dksX4_areLetters_4 20 rfl rfl)
abbrev cX4_errorAt : ByteArray := prog_41_method_46_code
def yX4_errorAt : MethodName := ⟨RX4, "errorAt", "()I"⟩
def dkwX4_errorAt_0 : List UInt8 := [42, 3, 181, 0, 54, 42, 180, 0, 13, 172]
abbrev dktX4_errorAt_0 : List UInt8 := dkwX4_errorAt_0 ++ []
theorem dksX4_errorAt_0 : cX4_errorAt.data.toList.drop 0 = dktX4_errorAt_0 := by decide +kernel
theorem dX4_errorAt_0 : decode cX4_errorAt 0 = .ok (.aload_n 0, 1) := dk_42 (dk_at dksX4_errorAt_0 0 rfl rfl)
theorem dX4_errorAt_1 : decode cX4_errorAt 1 = .ok (.iconst 0, 1) := dk_3 (dk_at dksX4_errorAt_0 1 rfl rfl)
theorem dX4_errorAt_2 : decode cX4_errorAt 2 = .ok (.putfield 54, 3) := dk_181 0 54 (dk_at dksX4_errorAt_0 2 rfl rfl)
theorem dX4_errorAt_5 : decode cX4_errorAt 5 = .ok (.aload_n 0, 1) := dk_42 (dk_at dksX4_errorAt_0 5 rfl rfl)
theorem dX4_errorAt_6 : decode cX4_errorAt 6 = .ok (.getfield 13, 3) := dk_180 0 13 (dk_at dksX4_errorAt_0 6 rfl rfl)
theorem dX4_errorAt_9 : decode cX4_errorAt 9 = .ok (.ireturn, 1) := dk_172 (dk_at dksX4_errorAt_0 9 rfl rfl)
abbrev cX4_count : ByteArray := prog_41_method_48_code
def yX4_count : MethodName := ⟨RX4, "count", "(I)I"⟩
def dkwX4_count_1 : List UInt8 := [4, 182, 0, 234, 172]
abbrev dktX4_count_1 : List UInt8 := dkwX4_count_1 ++ []
def dkwX4_count_0 : List UInt8 := [42, 3, 181, 0, 54, 27, 3, 16, 7, 184, 0, 60, 153, 0, 11, 42, 27, 182, 1, 6, 167, 0, 8, 42]
abbrev dktX4_count_0 : List UInt8 := dkwX4_count_0 ++ dktX4_count_1
theorem dksX4_count_0 : cX4_count.data.toList.drop 0 = dktX4_count_0 := by decide +kernel
theorem dksX4_count_1 : cX4_count.data.toList.drop 24 = dktX4_count_1 := dk_seg dksX4_count_0 24 rfl rfl
theorem dX4_count_0 : decode cX4_count 0 = .ok (.aload_n 0, 1) := dk_42 (dk_at dksX4_count_0 0 rfl rfl)
theorem dX4_count_1 : decode cX4_count 1 = .ok (.iconst 0, 1) := dk_3 (dk_at dksX4_count_0 1 rfl rfl)
theorem dX4_count_2 : decode cX4_count 2 = .ok (.putfield 54, 3) := dk_181 0 54 (dk_at dksX4_count_0 2 rfl rfl)
theorem dX4_count_5 : decode cX4_count 5 = .ok (.iload_n 1, 1) := dk_27 (dk_at dksX4_count_0 5 rfl rfl)
theorem dX4_count_6 : decode cX4_count 6 = .ok (.iconst 0, 1) := dk_3 (dk_at dksX4_count_0 6 rfl rfl)
theorem dX4_count_7 : decode cX4_count 7 = .ok (.bipush 7, 2) := dk_16 7 (dk_at dksX4_count_0 7 rfl rfl)
theorem dX4_count_9 : decode cX4_count 9 = .ok (.invokestatic 60, 3) := dk_184 0 60 (dk_at dksX4_count_0 9 rfl rfl)
theorem dX4_count_12 : decode cX4_count 12 = .ok (.ifCond .eq 11, 3) := dk_153 0 11 (dk_at dksX4_count_0 12 rfl rfl)
theorem dX4_count_15 : decode cX4_count 15 = .ok (.aload_n 0, 1) := dk_42 (dk_at dksX4_count_0 15 rfl rfl)
theorem dX4_count_16 : decode cX4_count 16 = .ok (.iload_n 1, 1) := dk_27 (dk_at dksX4_count_0 16 rfl rfl)
theorem dX4_count_17 : decode cX4_count 17 = .ok (.invokevirtual 262, 3) := dk_182 1 6 (dk_at dksX4_count_0 17 rfl rfl)
theorem dX4_count_20 : decode cX4_count 20 = .ok (.goto 8, 3) := dk_167 0 8 (dk_at dksX4_count_0 20 rfl rfl)
theorem dX4_count_23 : decode cX4_count 23 = .ok (.aload_n 0, 1) := dk_42 (dk_at dksX4_count_0 23 rfl rfl)
theorem dX4_count_24 : decode cX4_count 24 = .ok (.iconst 1, 1) := dk_4 (dk_at dksX4_count_1 0 rfl rfl)
theorem dX4_count_25 : decode cX4_count 25 = .ok (.invokevirtual 234, 3) := dk_182 0 234 (dk_at dksX4_count_1 1 rfl rfl)
theorem dX4_count_28 : decode cX4_count 28 = .ok (.ireturn, 1) := dk_172 (dk_at dksX4_count_1 4 rfl rfl)
abbrev cX4_counted : ByteArray := prog_41_method_47_code
def yX4_counted : MethodName := ⟨RX4, "counted", "(I)I"⟩
def dkwX4_counted_5 : List UInt8 := [45, 27, 46, 172]
abbrev dktX4_counted_5 : List UInt8 := dkwX4_counted_5 ++ []
def dkwX4_counted_4 : List UInt8 := [180, 0, 47, 180, 1, 0, 79, 89, 16, 6, 28, 79, 89, 16, 7, 42, 180, 0, 47, 182, 1, 3, 79, 78]
abbrev dktX4_counted_4 : List UInt8 := dkwX4_counted_4 ++ dktX4_counted_5
def dkwX4_counted_3 : List UInt8 := [180, 0, 64, 79, 89, 6, 42, 180, 0, 35, 180, 0, 155, 79, 89, 7, 42, 180, 0, 79, 79, 89, 8, 42]
abbrev dktX4_counted_3 : List UInt8 := dkwX4_counted_3 ++ dktX4_counted_4
def dkwX4_counted_2 : List UInt8 := [180, 0, 47, 180, 0, 253, 79, 89, 4, 42, 180, 0, 35, 180, 0, 57, 79, 89, 5, 42, 180, 0, 35]
abbrev dktX4_counted_2 : List UInt8 := dkwX4_counted_2 ++ dktX4_counted_3
def dkwX4_counted_1 : List UInt8 := [153, 0, 7, 4, 167, 0, 4, 3, 96, 61, 132, 3, 1, 167, 255, 223, 16, 8, 188, 10, 89, 3, 42]
abbrev dktX4_counted_1 : List UInt8 := dkwX4_counted_1 ++ dktX4_counted_2
def dkwX4_counted_0 : List UInt8 := [3, 61, 3, 62, 29, 42, 180, 0, 35, 180, 0, 57, 162, 0, 28, 28, 42, 180, 0, 47, 29, 182, 0, 250]
abbrev dktX4_counted_0 : List UInt8 := dkwX4_counted_0 ++ dktX4_counted_1
theorem dksX4_counted_0 : cX4_counted.data.toList.drop 0 = dktX4_counted_0 := by decide +kernel
theorem dksX4_counted_1 : cX4_counted.data.toList.drop 24 = dktX4_counted_1 := dk_seg dksX4_counted_0 24 rfl rfl
theorem dksX4_counted_2 : cX4_counted.data.toList.drop 47 = dktX4_counted_2 := dk_seg dksX4_counted_1 23 rfl rfl
theorem dksX4_counted_3 : cX4_counted.data.toList.drop 70 = dktX4_counted_3 := dk_seg dksX4_counted_2 23 rfl rfl
theorem dksX4_counted_4 : cX4_counted.data.toList.drop 94 = dktX4_counted_4 := dk_seg dksX4_counted_3 24 rfl rfl
theorem dksX4_counted_5 : cX4_counted.data.toList.drop 118 = dktX4_counted_5 := dk_seg dksX4_counted_4 24 rfl rfl
theorem dX4_counted_0 : decode cX4_counted 0 = .ok (.iconst 0, 1) := dk_3 (dk_at dksX4_counted_0 0 rfl rfl)
theorem dX4_counted_1 : decode cX4_counted 1 = .ok (.istore_n 2, 1) := dk_61 (dk_at dksX4_counted_0 1 rfl rfl)
theorem dX4_counted_2 : decode cX4_counted 2 = .ok (.iconst 0, 1) := dk_3 (dk_at dksX4_counted_0 2 rfl rfl)
theorem dX4_counted_3 : decode cX4_counted 3 = .ok (.istore_n 3, 1) := dk_62 (dk_at dksX4_counted_0 3 rfl rfl)
theorem dX4_counted_4 : decode cX4_counted 4 = .ok (.iload_n 3, 1) := dk_29 (dk_at dksX4_counted_0 4 rfl rfl)
theorem dX4_counted_5 : decode cX4_counted 5 = .ok (.aload_n 0, 1) := dk_42 (dk_at dksX4_counted_0 5 rfl rfl)
theorem dX4_counted_6 : decode cX4_counted 6 = .ok (.getfield 35, 3) := dk_180 0 35 (dk_at dksX4_counted_0 6 rfl rfl)
theorem dX4_counted_9 : decode cX4_counted 9 = .ok (.getfield 57, 3) := dk_180 0 57 (dk_at dksX4_counted_0 9 rfl rfl)
theorem dX4_counted_12 : decode cX4_counted 12 = .ok (.if_icmp .ge 28, 3) := dk_162 0 28 (dk_at dksX4_counted_0 12 rfl rfl)
theorem dX4_counted_15 : decode cX4_counted 15 = .ok (.iload_n 2, 1) := dk_28 (dk_at dksX4_counted_0 15 rfl rfl)
theorem dX4_counted_16 : decode cX4_counted 16 = .ok (.aload_n 0, 1) := dk_42 (dk_at dksX4_counted_0 16 rfl rfl)
theorem dX4_counted_17 : decode cX4_counted 17 = .ok (.getfield 47, 3) := dk_180 0 47 (dk_at dksX4_counted_0 17 rfl rfl)
theorem dX4_counted_20 : decode cX4_counted 20 = .ok (.iload_n 3, 1) := dk_29 (dk_at dksX4_counted_0 20 rfl rfl)
theorem dX4_counted_21 : decode cX4_counted 21 = .ok (.invokevirtual 250, 3) := dk_182 0 250 (dk_at dksX4_counted_0 21 rfl rfl)
theorem dX4_counted_24 : decode cX4_counted 24 = .ok (.ifCond .eq 7, 3) := dk_153 0 7 (dk_at dksX4_counted_1 0 rfl rfl)
theorem dX4_counted_27 : decode cX4_counted 27 = .ok (.iconst 1, 1) := dk_4 (dk_at dksX4_counted_1 3 rfl rfl)
theorem dX4_counted_28 : decode cX4_counted 28 = .ok (.goto 4, 3) := dk_167 0 4 (dk_at dksX4_counted_1 4 rfl rfl)
theorem dX4_counted_31 : decode cX4_counted 31 = .ok (.iconst 0, 1) := dk_3 (dk_at dksX4_counted_1 7 rfl rfl)
theorem dX4_counted_32 : decode cX4_counted 32 = .ok (.iadd, 1) := dk_96 (dk_at dksX4_counted_1 8 rfl rfl)
theorem dX4_counted_33 : decode cX4_counted 33 = .ok (.istore_n 2, 1) := dk_61 (dk_at dksX4_counted_1 9 rfl rfl)
theorem dX4_counted_34 : decode cX4_counted 34 = .ok (.iinc 3 1, 3) := dk_132 3 1 (dk_at dksX4_counted_1 10 rfl rfl)
theorem dX4_counted_37 : decode cX4_counted 37 = .ok (.goto (-33), 3) := dk_167 255 223 (dk_at dksX4_counted_1 13 rfl rfl)
theorem dX4_counted_40 : decode cX4_counted 40 = .ok (.bipush 8, 2) := dk_16 8 (dk_at dksX4_counted_1 16 rfl rfl)
theorem dX4_counted_42 : decode cX4_counted 42 = .ok (.newarray .int, 2) := dk_188_10 (dk_at dksX4_counted_1 18 rfl rfl)
theorem dX4_counted_44 : decode cX4_counted 44 = .ok (.dup, 1) := dk_89 (dk_at dksX4_counted_1 20 rfl rfl)
theorem dX4_counted_45 : decode cX4_counted 45 = .ok (.iconst 0, 1) := dk_3 (dk_at dksX4_counted_1 21 rfl rfl)
theorem dX4_counted_46 : decode cX4_counted 46 = .ok (.aload_n 0, 1) := dk_42 (dk_at dksX4_counted_1 22 rfl rfl)
theorem dX4_counted_47 : decode cX4_counted 47 = .ok (.getfield 47, 3) := dk_180 0 47 (dk_at dksX4_counted_2 0 rfl rfl)
theorem dX4_counted_50 : decode cX4_counted 50 = .ok (.getfield 253, 3) := dk_180 0 253 (dk_at dksX4_counted_2 3 rfl rfl)
theorem dX4_counted_53 : decode cX4_counted 53 = .ok (.iastore, 1) := dk_79 (dk_at dksX4_counted_2 6 rfl rfl)
theorem dX4_counted_54 : decode cX4_counted 54 = .ok (.dup, 1) := dk_89 (dk_at dksX4_counted_2 7 rfl rfl)
theorem dX4_counted_55 : decode cX4_counted 55 = .ok (.iconst 1, 1) := dk_4 (dk_at dksX4_counted_2 8 rfl rfl)
theorem dX4_counted_56 : decode cX4_counted 56 = .ok (.aload_n 0, 1) := dk_42 (dk_at dksX4_counted_2 9 rfl rfl)
theorem dX4_counted_57 : decode cX4_counted 57 = .ok (.getfield 35, 3) := dk_180 0 35 (dk_at dksX4_counted_2 10 rfl rfl)
theorem dX4_counted_60 : decode cX4_counted 60 = .ok (.getfield 57, 3) := dk_180 0 57 (dk_at dksX4_counted_2 13 rfl rfl)
theorem dX4_counted_63 : decode cX4_counted 63 = .ok (.iastore, 1) := dk_79 (dk_at dksX4_counted_2 16 rfl rfl)
theorem dX4_counted_64 : decode cX4_counted 64 = .ok (.dup, 1) := dk_89 (dk_at dksX4_counted_2 17 rfl rfl)
theorem dX4_counted_65 : decode cX4_counted 65 = .ok (.iconst 2, 1) := dk_5 (dk_at dksX4_counted_2 18 rfl rfl)
theorem dX4_counted_66 : decode cX4_counted 66 = .ok (.aload_n 0, 1) := dk_42 (dk_at dksX4_counted_2 19 rfl rfl)
theorem dX4_counted_67 : decode cX4_counted 67 = .ok (.getfield 35, 3) := dk_180 0 35 (dk_at dksX4_counted_2 20 rfl rfl)
theorem dX4_counted_70 : decode cX4_counted 70 = .ok (.getfield 64, 3) := dk_180 0 64 (dk_at dksX4_counted_3 0 rfl rfl)
theorem dX4_counted_73 : decode cX4_counted 73 = .ok (.iastore, 1) := dk_79 (dk_at dksX4_counted_3 3 rfl rfl)
theorem dX4_counted_74 : decode cX4_counted 74 = .ok (.dup, 1) := dk_89 (dk_at dksX4_counted_3 4 rfl rfl)
theorem dX4_counted_75 : decode cX4_counted 75 = .ok (.iconst 3, 1) := dk_6 (dk_at dksX4_counted_3 5 rfl rfl)
theorem dX4_counted_76 : decode cX4_counted 76 = .ok (.aload_n 0, 1) := dk_42 (dk_at dksX4_counted_3 6 rfl rfl)
theorem dX4_counted_77 : decode cX4_counted 77 = .ok (.getfield 35, 3) := dk_180 0 35 (dk_at dksX4_counted_3 7 rfl rfl)
theorem dX4_counted_80 : decode cX4_counted 80 = .ok (.getfield 155, 3) := dk_180 0 155 (dk_at dksX4_counted_3 10 rfl rfl)
theorem dX4_counted_83 : decode cX4_counted 83 = .ok (.iastore, 1) := dk_79 (dk_at dksX4_counted_3 13 rfl rfl)
theorem dX4_counted_84 : decode cX4_counted 84 = .ok (.dup, 1) := dk_89 (dk_at dksX4_counted_3 14 rfl rfl)
theorem dX4_counted_85 : decode cX4_counted 85 = .ok (.iconst 4, 1) := dk_7 (dk_at dksX4_counted_3 15 rfl rfl)
theorem dX4_counted_86 : decode cX4_counted 86 = .ok (.aload_n 0, 1) := dk_42 (dk_at dksX4_counted_3 16 rfl rfl)
theorem dX4_counted_87 : decode cX4_counted 87 = .ok (.getfield 79, 3) := dk_180 0 79 (dk_at dksX4_counted_3 17 rfl rfl)
theorem dX4_counted_90 : decode cX4_counted 90 = .ok (.iastore, 1) := dk_79 (dk_at dksX4_counted_3 20 rfl rfl)
theorem dX4_counted_91 : decode cX4_counted 91 = .ok (.dup, 1) := dk_89 (dk_at dksX4_counted_3 21 rfl rfl)
theorem dX4_counted_92 : decode cX4_counted 92 = .ok (.iconst 5, 1) := dk_8 (dk_at dksX4_counted_3 22 rfl rfl)
theorem dX4_counted_93 : decode cX4_counted 93 = .ok (.aload_n 0, 1) := dk_42 (dk_at dksX4_counted_3 23 rfl rfl)
theorem dX4_counted_94 : decode cX4_counted 94 = .ok (.getfield 47, 3) := dk_180 0 47 (dk_at dksX4_counted_4 0 rfl rfl)
theorem dX4_counted_97 : decode cX4_counted 97 = .ok (.getfield 256, 3) := dk_180 1 0 (dk_at dksX4_counted_4 3 rfl rfl)
theorem dX4_counted_100 : decode cX4_counted 100 = .ok (.iastore, 1) := dk_79 (dk_at dksX4_counted_4 6 rfl rfl)
theorem dX4_counted_101 : decode cX4_counted 101 = .ok (.dup, 1) := dk_89 (dk_at dksX4_counted_4 7 rfl rfl)
theorem dX4_counted_102 : decode cX4_counted 102 = .ok (.bipush 6, 2) := dk_16 6 (dk_at dksX4_counted_4 8 rfl rfl)
theorem dX4_counted_104 : decode cX4_counted 104 = .ok (.iload_n 2, 1) := dk_28 (dk_at dksX4_counted_4 10 rfl rfl)
theorem dX4_counted_105 : decode cX4_counted 105 = .ok (.iastore, 1) := dk_79 (dk_at dksX4_counted_4 11 rfl rfl)
theorem dX4_counted_106 : decode cX4_counted 106 = .ok (.dup, 1) := dk_89 (dk_at dksX4_counted_4 12 rfl rfl)
theorem dX4_counted_107 : decode cX4_counted 107 = .ok (.bipush 7, 2) := dk_16 7 (dk_at dksX4_counted_4 13 rfl rfl)
theorem dX4_counted_109 : decode cX4_counted 109 = .ok (.aload_n 0, 1) := dk_42 (dk_at dksX4_counted_4 15 rfl rfl)
theorem dX4_counted_110 : decode cX4_counted 110 = .ok (.getfield 47, 3) := dk_180 0 47 (dk_at dksX4_counted_4 16 rfl rfl)
theorem dX4_counted_113 : decode cX4_counted 113 = .ok (.invokevirtual 259, 3) := dk_182 1 3 (dk_at dksX4_counted_4 19 rfl rfl)
theorem dX4_counted_116 : decode cX4_counted 116 = .ok (.iastore, 1) := dk_79 (dk_at dksX4_counted_4 22 rfl rfl)
theorem dX4_counted_117 : decode cX4_counted 117 = .ok (.astore_n 3, 1) := dk_78 (dk_at dksX4_counted_4 23 rfl rfl)
theorem dX4_counted_118 : decode cX4_counted 118 = .ok (.aload_n 3, 1) := dk_45 (dk_at dksX4_counted_5 0 rfl rfl)
theorem dX4_counted_119 : decode cX4_counted 119 = .ok (.iload_n 1, 1) := dk_27 (dk_at dksX4_counted_5 1 rfl rfl)
theorem dX4_counted_120 : decode cX4_counted 120 = .ok (.iaload, 1) := dk_46 (dk_at dksX4_counted_5 2 rfl rfl)
theorem dX4_counted_121 : decode cX4_counted 121 = .ok (.ireturn, 1) := dk_172 (dk_at dksX4_counted_5 3 rfl rfl)
abbrev cX4_gapOf : ByteArray := prog_41_method_7_code
def yX4_gapOf : MethodName := ⟨RX4, "gapOf", "(II)I"⟩
def dkwX4_gapOf_1 : List UInt8 := [167, 0, 4, 28, 172]
abbrev dktX4_gapOf_1 : List UInt8 := dkwX4_gapOf_1 ++ []
def dkwX4_gapOf_0 : List UInt8 := [26, 27, 100, 17, 1, 104, 184, 0, 67, 61, 28, 17, 0, 180, 164, 0, 11, 28, 17, 1, 104, 100]
abbrev dktX4_gapOf_0 : List UInt8 := dkwX4_gapOf_0 ++ dktX4_gapOf_1
theorem dksX4_gapOf_0 : cX4_gapOf.data.toList.drop 0 = dktX4_gapOf_0 := by decide +kernel
theorem dksX4_gapOf_1 : cX4_gapOf.data.toList.drop 22 = dktX4_gapOf_1 := dk_seg dksX4_gapOf_0 22 rfl rfl
theorem dX4_gapOf_0 : decode cX4_gapOf 0 = .ok (.iload_n 0, 1) := dk_26 (dk_at dksX4_gapOf_0 0 rfl rfl)
theorem dX4_gapOf_1 : decode cX4_gapOf 1 = .ok (.iload_n 1, 1) := dk_27 (dk_at dksX4_gapOf_0 1 rfl rfl)
theorem dX4_gapOf_2 : decode cX4_gapOf 2 = .ok (.isub, 1) := dk_100 (dk_at dksX4_gapOf_0 2 rfl rfl)
theorem dX4_gapOf_3 : decode cX4_gapOf 3 = .ok (.sipush 360, 3) := dk_17 1 104 (dk_at dksX4_gapOf_0 3 rfl rfl)
theorem dX4_gapOf_6 : decode cX4_gapOf 6 = .ok (.invokestatic 67, 3) := dk_184 0 67 (dk_at dksX4_gapOf_0 6 rfl rfl)
theorem dX4_gapOf_9 : decode cX4_gapOf 9 = .ok (.istore_n 2, 1) := dk_61 (dk_at dksX4_gapOf_0 9 rfl rfl)
theorem dX4_gapOf_10 : decode cX4_gapOf 10 = .ok (.iload_n 2, 1) := dk_28 (dk_at dksX4_gapOf_0 10 rfl rfl)
theorem dX4_gapOf_11 : decode cX4_gapOf 11 = .ok (.sipush 180, 3) := dk_17 0 180 (dk_at dksX4_gapOf_0 11 rfl rfl)
theorem dX4_gapOf_14 : decode cX4_gapOf 14 = .ok (.if_icmp .le 11, 3) := dk_164 0 11 (dk_at dksX4_gapOf_0 14 rfl rfl)
theorem dX4_gapOf_17 : decode cX4_gapOf 17 = .ok (.iload_n 2, 1) := dk_28 (dk_at dksX4_gapOf_0 17 rfl rfl)
theorem dX4_gapOf_18 : decode cX4_gapOf 18 = .ok (.sipush 360, 3) := dk_17 1 104 (dk_at dksX4_gapOf_0 18 rfl rfl)
theorem dX4_gapOf_21 : decode cX4_gapOf 21 = .ok (.isub, 1) := dk_100 (dk_at dksX4_gapOf_0 21 rfl rfl)
theorem dX4_gapOf_22 : decode cX4_gapOf 22 = .ok (.goto 4, 3) := dk_167 0 4 (dk_at dksX4_gapOf_1 0 rfl rfl)
theorem dX4_gapOf_25 : decode cX4_gapOf 25 = .ok (.iload_n 2, 1) := dk_28 (dk_at dksX4_gapOf_1 3 rfl rfl)
theorem dX4_gapOf_26 : decode cX4_gapOf 26 = .ok (.ireturn, 1) := dk_172 (dk_at dksX4_gapOf_1 4 rfl rfl)
abbrev cX4_planet : ByteArray := prog_41_method_50_code
def yX4_planet : MethodName := ⟨RX4, "planet", "(II)I"⟩
def dkwX4_planet_1 : List UInt8 := [27, 28, 182, 1, 15, 167, 0, 8, 42, 4, 182, 0, 234, 172]
abbrev dktX4_planet_1 : List UInt8 := dkwX4_planet_1 ++ []
def dkwX4_planet_0 : List UInt8 := [42, 3, 181, 0, 54, 42, 27, 182, 1, 12, 153, 0, 22, 28, 3, 16, 6, 184, 0, 60, 153, 0, 12, 42]
abbrev dktX4_planet_0 : List UInt8 := dkwX4_planet_0 ++ dktX4_planet_1
theorem dksX4_planet_0 : cX4_planet.data.toList.drop 0 = dktX4_planet_0 := by decide +kernel
theorem dksX4_planet_1 : cX4_planet.data.toList.drop 24 = dktX4_planet_1 := dk_seg dksX4_planet_0 24 rfl rfl
theorem dX4_planet_0 : decode cX4_planet 0 = .ok (.aload_n 0, 1) := dk_42 (dk_at dksX4_planet_0 0 rfl rfl)
theorem dX4_planet_1 : decode cX4_planet 1 = .ok (.iconst 0, 1) := dk_3 (dk_at dksX4_planet_0 1 rfl rfl)
theorem dX4_planet_2 : decode cX4_planet 2 = .ok (.putfield 54, 3) := dk_181 0 54 (dk_at dksX4_planet_0 2 rfl rfl)
theorem dX4_planet_5 : decode cX4_planet 5 = .ok (.aload_n 0, 1) := dk_42 (dk_at dksX4_planet_0 5 rfl rfl)
theorem dX4_planet_6 : decode cX4_planet 6 = .ok (.iload_n 1, 1) := dk_27 (dk_at dksX4_planet_0 6 rfl rfl)
theorem dX4_planet_7 : decode cX4_planet 7 = .ok (.invokevirtual 268, 3) := dk_182 1 12 (dk_at dksX4_planet_0 7 rfl rfl)
theorem dX4_planet_10 : decode cX4_planet 10 = .ok (.ifCond .eq 22, 3) := dk_153 0 22 (dk_at dksX4_planet_0 10 rfl rfl)
theorem dX4_planet_13 : decode cX4_planet 13 = .ok (.iload_n 2, 1) := dk_28 (dk_at dksX4_planet_0 13 rfl rfl)
theorem dX4_planet_14 : decode cX4_planet 14 = .ok (.iconst 0, 1) := dk_3 (dk_at dksX4_planet_0 14 rfl rfl)
theorem dX4_planet_15 : decode cX4_planet 15 = .ok (.bipush 6, 2) := dk_16 6 (dk_at dksX4_planet_0 15 rfl rfl)
theorem dX4_planet_17 : decode cX4_planet 17 = .ok (.invokestatic 60, 3) := dk_184 0 60 (dk_at dksX4_planet_0 17 rfl rfl)
theorem dX4_planet_20 : decode cX4_planet 20 = .ok (.ifCond .eq 12, 3) := dk_153 0 12 (dk_at dksX4_planet_0 20 rfl rfl)
theorem dX4_planet_23 : decode cX4_planet 23 = .ok (.aload_n 0, 1) := dk_42 (dk_at dksX4_planet_0 23 rfl rfl)
theorem dX4_planet_24 : decode cX4_planet 24 = .ok (.iload_n 1, 1) := dk_27 (dk_at dksX4_planet_1 0 rfl rfl)
theorem dX4_planet_25 : decode cX4_planet 25 = .ok (.iload_n 2, 1) := dk_28 (dk_at dksX4_planet_1 1 rfl rfl)
theorem dX4_planet_26 : decode cX4_planet 26 = .ok (.invokevirtual 271, 3) := dk_182 1 15 (dk_at dksX4_planet_1 2 rfl rfl)
theorem dX4_planet_29 : decode cX4_planet 29 = .ok (.goto 8, 3) := dk_167 0 8 (dk_at dksX4_planet_1 5 rfl rfl)
theorem dX4_planet_32 : decode cX4_planet 32 = .ok (.aload_n 0, 1) := dk_42 (dk_at dksX4_planet_1 8 rfl rfl)
theorem dX4_planet_33 : decode cX4_planet 33 = .ok (.iconst 1, 1) := dk_4 (dk_at dksX4_planet_1 9 rfl rfl)
theorem dX4_planet_34 : decode cX4_planet 34 = .ok (.invokevirtual 234, 3) := dk_182 0 234 (dk_at dksX4_planet_1 10 rfl rfl)
theorem dX4_planet_37 : decode cX4_planet 37 = .ok (.ireturn, 1) := dk_172 (dk_at dksX4_planet_1 13 rfl rfl)
abbrev cX4_isPlanet : ByteArray := prog_41_method_5_code
def yX4_isPlanet : MethodName := ⟨RX4, "isPlanet", "(I)Z"⟩
def dkwX4_isPlanet_0 : List UInt8 := [27, 3, 42, 180, 0, 35, 180, 0, 57, 4, 100, 184, 0, 60, 172]
abbrev dktX4_isPlanet_0 : List UInt8 := dkwX4_isPlanet_0 ++ []
theorem dksX4_isPlanet_0 : cX4_isPlanet.data.toList.drop 0 = dktX4_isPlanet_0 := by decide +kernel
theorem dX4_isPlanet_0 : decode cX4_isPlanet 0 = .ok (.iload_n 1, 1) := dk_27 (dk_at dksX4_isPlanet_0 0 rfl rfl)
theorem dX4_isPlanet_1 : decode cX4_isPlanet 1 = .ok (.iconst 0, 1) := dk_3 (dk_at dksX4_isPlanet_0 1 rfl rfl)
theorem dX4_isPlanet_2 : decode cX4_isPlanet 2 = .ok (.aload_n 0, 1) := dk_42 (dk_at dksX4_isPlanet_0 2 rfl rfl)
theorem dX4_isPlanet_3 : decode cX4_isPlanet 3 = .ok (.getfield 35, 3) := dk_180 0 35 (dk_at dksX4_isPlanet_0 3 rfl rfl)
theorem dX4_isPlanet_6 : decode cX4_isPlanet 6 = .ok (.getfield 57, 3) := dk_180 0 57 (dk_at dksX4_isPlanet_0 6 rfl rfl)
theorem dX4_isPlanet_9 : decode cX4_isPlanet 9 = .ok (.iconst 1, 1) := dk_4 (dk_at dksX4_isPlanet_0 9 rfl rfl)
theorem dX4_isPlanet_10 : decode cX4_isPlanet 10 = .ok (.isub, 1) := dk_100 (dk_at dksX4_isPlanet_0 10 rfl rfl)
theorem dX4_isPlanet_11 : decode cX4_isPlanet 11 = .ok (.invokestatic 60, 3) := dk_184 0 60 (dk_at dksX4_isPlanet_0 11 rfl rfl)
theorem dX4_isPlanet_14 : decode cX4_isPlanet 14 = .ok (.ireturn, 1) := dk_172 (dk_at dksX4_isPlanet_0 14 rfl rfl)
abbrev cX4_planetTold : ByteArray := prog_41_method_49_code
def yX4_planetTold : MethodName := ⟨RX4, "planetTold", "(II)I"⟩
def dkwX4_planetTold_4 : List UInt8 := [180, 0, 47, 27, 182, 0, 250, 153, 0, 7, 4, 167, 0, 4, 3, 79, 78, 45, 28, 46, 172]
abbrev dktX4_planetTold_4 : List UInt8 := dkwX4_planetTold_4 ++ []
def dkwX4_planetTold_3 : List UInt8 := [46, 79, 89, 8, 42, 180, 0, 35, 180, 0, 213, 8, 27, 104, 7, 96, 46, 79, 89, 16, 6, 42]
abbrev dktX4_planetTold_3 : List UInt8 := dkwX4_planetTold_3 ++ dktX4_planetTold_4
def dkwX4_planetTold_2 : List UInt8 := [42, 180, 0, 47, 180, 0, 244, 27, 46, 79, 89, 7, 42, 180, 0, 35, 180, 0, 213, 8, 27, 104, 6, 96]
abbrev dktX4_planetTold_2 : List UInt8 := dkwX4_planetTold_2 ++ dktX4_planetTold_3
def dkwX4_planetTold_1 : List UInt8 := [180, 0, 213, 8, 27, 104, 4, 96, 46, 79, 89, 5, 42, 180, 0, 47, 180, 1, 9, 27, 46, 79, 89, 6]
abbrev dktX4_planetTold_1 : List UInt8 := dkwX4_planetTold_1 ++ dktX4_planetTold_2
def dkwX4_planetTold_0 : List UInt8 := [16, 7, 188, 10, 89, 3, 42, 180, 0, 35, 180, 0, 213, 8, 27, 104, 46, 79, 89, 4, 42, 180, 0, 35]
abbrev dktX4_planetTold_0 : List UInt8 := dkwX4_planetTold_0 ++ dktX4_planetTold_1
theorem dksX4_planetTold_0 : cX4_planetTold.data.toList.drop 0 = dktX4_planetTold_0 := by decide +kernel
theorem dksX4_planetTold_1 : cX4_planetTold.data.toList.drop 24 = dktX4_planetTold_1 := dk_seg dksX4_planetTold_0 24 rfl rfl
theorem dksX4_planetTold_2 : cX4_planetTold.data.toList.drop 48 = dktX4_planetTold_2 := dk_seg dksX4_planetTold_1 24 rfl rfl
theorem dksX4_planetTold_3 : cX4_planetTold.data.toList.drop 72 = dktX4_planetTold_3 := dk_seg dksX4_planetTold_2 24 rfl rfl
theorem dksX4_planetTold_4 : cX4_planetTold.data.toList.drop 94 = dktX4_planetTold_4 := dk_seg dksX4_planetTold_3 22 rfl rfl
theorem dX4_planetTold_0 : decode cX4_planetTold 0 = .ok (.bipush 7, 2) := dk_16 7 (dk_at dksX4_planetTold_0 0 rfl rfl)
theorem dX4_planetTold_2 : decode cX4_planetTold 2 = .ok (.newarray .int, 2) := dk_188_10 (dk_at dksX4_planetTold_0 2 rfl rfl)
theorem dX4_planetTold_4 : decode cX4_planetTold 4 = .ok (.dup, 1) := dk_89 (dk_at dksX4_planetTold_0 4 rfl rfl)
theorem dX4_planetTold_5 : decode cX4_planetTold 5 = .ok (.iconst 0, 1) := dk_3 (dk_at dksX4_planetTold_0 5 rfl rfl)
theorem dX4_planetTold_6 : decode cX4_planetTold 6 = .ok (.aload_n 0, 1) := dk_42 (dk_at dksX4_planetTold_0 6 rfl rfl)
theorem dX4_planetTold_7 : decode cX4_planetTold 7 = .ok (.getfield 35, 3) := dk_180 0 35 (dk_at dksX4_planetTold_0 7 rfl rfl)
theorem dX4_planetTold_10 : decode cX4_planetTold 10 = .ok (.getfield 213, 3) := dk_180 0 213 (dk_at dksX4_planetTold_0 10 rfl rfl)
theorem dX4_planetTold_13 : decode cX4_planetTold 13 = .ok (.iconst 5, 1) := dk_8 (dk_at dksX4_planetTold_0 13 rfl rfl)
theorem dX4_planetTold_14 : decode cX4_planetTold 14 = .ok (.iload_n 1, 1) := dk_27 (dk_at dksX4_planetTold_0 14 rfl rfl)
theorem dX4_planetTold_15 : decode cX4_planetTold 15 = .ok (.imul, 1) := dk_104 (dk_at dksX4_planetTold_0 15 rfl rfl)
theorem dX4_planetTold_16 : decode cX4_planetTold 16 = .ok (.iaload, 1) := dk_46 (dk_at dksX4_planetTold_0 16 rfl rfl)
theorem dX4_planetTold_17 : decode cX4_planetTold 17 = .ok (.iastore, 1) := dk_79 (dk_at dksX4_planetTold_0 17 rfl rfl)
theorem dX4_planetTold_18 : decode cX4_planetTold 18 = .ok (.dup, 1) := dk_89 (dk_at dksX4_planetTold_0 18 rfl rfl)
theorem dX4_planetTold_19 : decode cX4_planetTold 19 = .ok (.iconst 1, 1) := dk_4 (dk_at dksX4_planetTold_0 19 rfl rfl)
theorem dX4_planetTold_20 : decode cX4_planetTold 20 = .ok (.aload_n 0, 1) := dk_42 (dk_at dksX4_planetTold_0 20 rfl rfl)
theorem dX4_planetTold_21 : decode cX4_planetTold 21 = .ok (.getfield 35, 3) := dk_180 0 35 (dk_at dksX4_planetTold_0 21 rfl rfl)
theorem dX4_planetTold_24 : decode cX4_planetTold 24 = .ok (.getfield 213, 3) := dk_180 0 213 (dk_at dksX4_planetTold_1 0 rfl rfl)
theorem dX4_planetTold_27 : decode cX4_planetTold 27 = .ok (.iconst 5, 1) := dk_8 (dk_at dksX4_planetTold_1 3 rfl rfl)
theorem dX4_planetTold_28 : decode cX4_planetTold 28 = .ok (.iload_n 1, 1) := dk_27 (dk_at dksX4_planetTold_1 4 rfl rfl)
theorem dX4_planetTold_29 : decode cX4_planetTold 29 = .ok (.imul, 1) := dk_104 (dk_at dksX4_planetTold_1 5 rfl rfl)
theorem dX4_planetTold_30 : decode cX4_planetTold 30 = .ok (.iconst 1, 1) := dk_4 (dk_at dksX4_planetTold_1 6 rfl rfl)
theorem dX4_planetTold_31 : decode cX4_planetTold 31 = .ok (.iadd, 1) := dk_96 (dk_at dksX4_planetTold_1 7 rfl rfl)
theorem dX4_planetTold_32 : decode cX4_planetTold 32 = .ok (.iaload, 1) := dk_46 (dk_at dksX4_planetTold_1 8 rfl rfl)
theorem dX4_planetTold_33 : decode cX4_planetTold 33 = .ok (.iastore, 1) := dk_79 (dk_at dksX4_planetTold_1 9 rfl rfl)
theorem dX4_planetTold_34 : decode cX4_planetTold 34 = .ok (.dup, 1) := dk_89 (dk_at dksX4_planetTold_1 10 rfl rfl)
theorem dX4_planetTold_35 : decode cX4_planetTold 35 = .ok (.iconst 2, 1) := dk_5 (dk_at dksX4_planetTold_1 11 rfl rfl)
theorem dX4_planetTold_36 : decode cX4_planetTold 36 = .ok (.aload_n 0, 1) := dk_42 (dk_at dksX4_planetTold_1 12 rfl rfl)
theorem dX4_planetTold_37 : decode cX4_planetTold 37 = .ok (.getfield 47, 3) := dk_180 0 47 (dk_at dksX4_planetTold_1 13 rfl rfl)
theorem dX4_planetTold_40 : decode cX4_planetTold 40 = .ok (.getfield 265, 3) := dk_180 1 9 (dk_at dksX4_planetTold_1 16 rfl rfl)
theorem dX4_planetTold_43 : decode cX4_planetTold 43 = .ok (.iload_n 1, 1) := dk_27 (dk_at dksX4_planetTold_1 19 rfl rfl)
theorem dX4_planetTold_44 : decode cX4_planetTold 44 = .ok (.iaload, 1) := dk_46 (dk_at dksX4_planetTold_1 20 rfl rfl)
theorem dX4_planetTold_45 : decode cX4_planetTold 45 = .ok (.iastore, 1) := dk_79 (dk_at dksX4_planetTold_1 21 rfl rfl)
theorem dX4_planetTold_46 : decode cX4_planetTold 46 = .ok (.dup, 1) := dk_89 (dk_at dksX4_planetTold_1 22 rfl rfl)
theorem dX4_planetTold_47 : decode cX4_planetTold 47 = .ok (.iconst 3, 1) := dk_6 (dk_at dksX4_planetTold_1 23 rfl rfl)
theorem dX4_planetTold_48 : decode cX4_planetTold 48 = .ok (.aload_n 0, 1) := dk_42 (dk_at dksX4_planetTold_2 0 rfl rfl)
theorem dX4_planetTold_49 : decode cX4_planetTold 49 = .ok (.getfield 47, 3) := dk_180 0 47 (dk_at dksX4_planetTold_2 1 rfl rfl)
theorem dX4_planetTold_52 : decode cX4_planetTold 52 = .ok (.getfield 244, 3) := dk_180 0 244 (dk_at dksX4_planetTold_2 4 rfl rfl)
theorem dX4_planetTold_55 : decode cX4_planetTold 55 = .ok (.iload_n 1, 1) := dk_27 (dk_at dksX4_planetTold_2 7 rfl rfl)
theorem dX4_planetTold_56 : decode cX4_planetTold 56 = .ok (.iaload, 1) := dk_46 (dk_at dksX4_planetTold_2 8 rfl rfl)
theorem dX4_planetTold_57 : decode cX4_planetTold 57 = .ok (.iastore, 1) := dk_79 (dk_at dksX4_planetTold_2 9 rfl rfl)
theorem dX4_planetTold_58 : decode cX4_planetTold 58 = .ok (.dup, 1) := dk_89 (dk_at dksX4_planetTold_2 10 rfl rfl)
theorem dX4_planetTold_59 : decode cX4_planetTold 59 = .ok (.iconst 4, 1) := dk_7 (dk_at dksX4_planetTold_2 11 rfl rfl)
theorem dX4_planetTold_60 : decode cX4_planetTold 60 = .ok (.aload_n 0, 1) := dk_42 (dk_at dksX4_planetTold_2 12 rfl rfl)
theorem dX4_planetTold_61 : decode cX4_planetTold 61 = .ok (.getfield 35, 3) := dk_180 0 35 (dk_at dksX4_planetTold_2 13 rfl rfl)
theorem dX4_planetTold_64 : decode cX4_planetTold 64 = .ok (.getfield 213, 3) := dk_180 0 213 (dk_at dksX4_planetTold_2 16 rfl rfl)
theorem dX4_planetTold_67 : decode cX4_planetTold 67 = .ok (.iconst 5, 1) := dk_8 (dk_at dksX4_planetTold_2 19 rfl rfl)
theorem dX4_planetTold_68 : decode cX4_planetTold 68 = .ok (.iload_n 1, 1) := dk_27 (dk_at dksX4_planetTold_2 20 rfl rfl)
theorem dX4_planetTold_69 : decode cX4_planetTold 69 = .ok (.imul, 1) := dk_104 (dk_at dksX4_planetTold_2 21 rfl rfl)
theorem dX4_planetTold_70 : decode cX4_planetTold 70 = .ok (.iconst 3, 1) := dk_6 (dk_at dksX4_planetTold_2 22 rfl rfl)
theorem dX4_planetTold_71 : decode cX4_planetTold 71 = .ok (.iadd, 1) := dk_96 (dk_at dksX4_planetTold_2 23 rfl rfl)
theorem dX4_planetTold_72 : decode cX4_planetTold 72 = .ok (.iaload, 1) := dk_46 (dk_at dksX4_planetTold_3 0 rfl rfl)
theorem dX4_planetTold_73 : decode cX4_planetTold 73 = .ok (.iastore, 1) := dk_79 (dk_at dksX4_planetTold_3 1 rfl rfl)
theorem dX4_planetTold_74 : decode cX4_planetTold 74 = .ok (.dup, 1) := dk_89 (dk_at dksX4_planetTold_3 2 rfl rfl)
theorem dX4_planetTold_75 : decode cX4_planetTold 75 = .ok (.iconst 5, 1) := dk_8 (dk_at dksX4_planetTold_3 3 rfl rfl)
theorem dX4_planetTold_76 : decode cX4_planetTold 76 = .ok (.aload_n 0, 1) := dk_42 (dk_at dksX4_planetTold_3 4 rfl rfl)
theorem dX4_planetTold_77 : decode cX4_planetTold 77 = .ok (.getfield 35, 3) := dk_180 0 35 (dk_at dksX4_planetTold_3 5 rfl rfl)
theorem dX4_planetTold_80 : decode cX4_planetTold 80 = .ok (.getfield 213, 3) := dk_180 0 213 (dk_at dksX4_planetTold_3 8 rfl rfl)
theorem dX4_planetTold_83 : decode cX4_planetTold 83 = .ok (.iconst 5, 1) := dk_8 (dk_at dksX4_planetTold_3 11 rfl rfl)
theorem dX4_planetTold_84 : decode cX4_planetTold 84 = .ok (.iload_n 1, 1) := dk_27 (dk_at dksX4_planetTold_3 12 rfl rfl)
theorem dX4_planetTold_85 : decode cX4_planetTold 85 = .ok (.imul, 1) := dk_104 (dk_at dksX4_planetTold_3 13 rfl rfl)
theorem dX4_planetTold_86 : decode cX4_planetTold 86 = .ok (.iconst 4, 1) := dk_7 (dk_at dksX4_planetTold_3 14 rfl rfl)
theorem dX4_planetTold_87 : decode cX4_planetTold 87 = .ok (.iadd, 1) := dk_96 (dk_at dksX4_planetTold_3 15 rfl rfl)
theorem dX4_planetTold_88 : decode cX4_planetTold 88 = .ok (.iaload, 1) := dk_46 (dk_at dksX4_planetTold_3 16 rfl rfl)
theorem dX4_planetTold_89 : decode cX4_planetTold 89 = .ok (.iastore, 1) := dk_79 (dk_at dksX4_planetTold_3 17 rfl rfl)
theorem dX4_planetTold_90 : decode cX4_planetTold 90 = .ok (.dup, 1) := dk_89 (dk_at dksX4_planetTold_3 18 rfl rfl)
theorem dX4_planetTold_91 : decode cX4_planetTold 91 = .ok (.bipush 6, 2) := dk_16 6 (dk_at dksX4_planetTold_3 19 rfl rfl)
theorem dX4_planetTold_93 : decode cX4_planetTold 93 = .ok (.aload_n 0, 1) := dk_42 (dk_at dksX4_planetTold_3 21 rfl rfl)
theorem dX4_planetTold_94 : decode cX4_planetTold 94 = .ok (.getfield 47, 3) := dk_180 0 47 (dk_at dksX4_planetTold_4 0 rfl rfl)
theorem dX4_planetTold_97 : decode cX4_planetTold 97 = .ok (.iload_n 1, 1) := dk_27 (dk_at dksX4_planetTold_4 3 rfl rfl)
theorem dX4_planetTold_98 : decode cX4_planetTold 98 = .ok (.invokevirtual 250, 3) := dk_182 0 250 (dk_at dksX4_planetTold_4 4 rfl rfl)
theorem dX4_planetTold_101 : decode cX4_planetTold 101 = .ok (.ifCond .eq 7, 3) := dk_153 0 7 (dk_at dksX4_planetTold_4 7 rfl rfl)
theorem dX4_planetTold_104 : decode cX4_planetTold 104 = .ok (.iconst 1, 1) := dk_4 (dk_at dksX4_planetTold_4 10 rfl rfl)
theorem dX4_planetTold_105 : decode cX4_planetTold 105 = .ok (.goto 4, 3) := dk_167 0 4 (dk_at dksX4_planetTold_4 11 rfl rfl)
theorem dX4_planetTold_108 : decode cX4_planetTold 108 = .ok (.iconst 0, 1) := dk_3 (dk_at dksX4_planetTold_4 14 rfl rfl)
theorem dX4_planetTold_109 : decode cX4_planetTold 109 = .ok (.iastore, 1) := dk_79 (dk_at dksX4_planetTold_4 15 rfl rfl)
theorem dX4_planetTold_110 : decode cX4_planetTold 110 = .ok (.astore_n 3, 1) := dk_78 (dk_at dksX4_planetTold_4 16 rfl rfl)
theorem dX4_planetTold_111 : decode cX4_planetTold 111 = .ok (.aload_n 3, 1) := dk_45 (dk_at dksX4_planetTold_4 17 rfl rfl)
theorem dX4_planetTold_112 : decode cX4_planetTold 112 = .ok (.iload_n 2, 1) := dk_28 (dk_at dksX4_planetTold_4 18 rfl rfl)
theorem dX4_planetTold_113 : decode cX4_planetTold 113 = .ok (.iaload, 1) := dk_46 (dk_at dksX4_planetTold_4 19 rfl rfl)
theorem dX4_planetTold_114 : decode cX4_planetTold 114 = .ok (.ireturn, 1) := dk_172 (dk_at dksX4_planetTold_4 20 rfl rfl)
abbrev cX4_set : ByteArray := prog_41_method_51_code
def yX4_set : MethodName := ⟨RX4, "set", "(II)I"⟩
def dkwX4_set_2 : List UInt8 := [180, 0, 47, 27, 28, 182, 0, 240, 29, 172]
abbrev dktX4_set_2 : List UInt8 := dkwX4_set_2 ++ []
def dkwX4_set_1 : List UInt8 := [184, 0, 60, 154, 0, 9, 42, 5, 182, 0, 234, 172, 42, 180, 0, 47, 180, 1, 9, 27, 46, 62, 42]
abbrev dktX4_set_1 : List UInt8 := dkwX4_set_1 ++ dktX4_set_2
def dkwX4_set_0 : List UInt8 := [42, 3, 181, 0, 54, 42, 27, 182, 1, 12, 154, 0, 9, 42, 4, 182, 0, 234, 172, 28, 3, 17, 1, 103]
abbrev dktX4_set_0 : List UInt8 := dkwX4_set_0 ++ dktX4_set_1
theorem dksX4_set_0 : cX4_set.data.toList.drop 0 = dktX4_set_0 := by decide +kernel
theorem dksX4_set_1 : cX4_set.data.toList.drop 24 = dktX4_set_1 := dk_seg dksX4_set_0 24 rfl rfl
theorem dksX4_set_2 : cX4_set.data.toList.drop 47 = dktX4_set_2 := dk_seg dksX4_set_1 23 rfl rfl
theorem dX4_set_0 : decode cX4_set 0 = .ok (.aload_n 0, 1) := dk_42 (dk_at dksX4_set_0 0 rfl rfl)
theorem dX4_set_1 : decode cX4_set 1 = .ok (.iconst 0, 1) := dk_3 (dk_at dksX4_set_0 1 rfl rfl)
theorem dX4_set_2 : decode cX4_set 2 = .ok (.putfield 54, 3) := dk_181 0 54 (dk_at dksX4_set_0 2 rfl rfl)
theorem dX4_set_5 : decode cX4_set 5 = .ok (.aload_n 0, 1) := dk_42 (dk_at dksX4_set_0 5 rfl rfl)
theorem dX4_set_6 : decode cX4_set 6 = .ok (.iload_n 1, 1) := dk_27 (dk_at dksX4_set_0 6 rfl rfl)
theorem dX4_set_7 : decode cX4_set 7 = .ok (.invokevirtual 268, 3) := dk_182 1 12 (dk_at dksX4_set_0 7 rfl rfl)
theorem dX4_set_10 : decode cX4_set 10 = .ok (.ifCond .ne 9, 3) := dk_154 0 9 (dk_at dksX4_set_0 10 rfl rfl)
theorem dX4_set_13 : decode cX4_set 13 = .ok (.aload_n 0, 1) := dk_42 (dk_at dksX4_set_0 13 rfl rfl)
theorem dX4_set_14 : decode cX4_set 14 = .ok (.iconst 1, 1) := dk_4 (dk_at dksX4_set_0 14 rfl rfl)
theorem dX4_set_15 : decode cX4_set 15 = .ok (.invokevirtual 234, 3) := dk_182 0 234 (dk_at dksX4_set_0 15 rfl rfl)
theorem dX4_set_18 : decode cX4_set 18 = .ok (.ireturn, 1) := dk_172 (dk_at dksX4_set_0 18 rfl rfl)
theorem dX4_set_19 : decode cX4_set 19 = .ok (.iload_n 2, 1) := dk_28 (dk_at dksX4_set_0 19 rfl rfl)
theorem dX4_set_20 : decode cX4_set 20 = .ok (.iconst 0, 1) := dk_3 (dk_at dksX4_set_0 20 rfl rfl)
theorem dX4_set_21 : decode cX4_set 21 = .ok (.sipush 359, 3) := dk_17 1 103 (dk_at dksX4_set_0 21 rfl rfl)
theorem dX4_set_24 : decode cX4_set 24 = .ok (.invokestatic 60, 3) := dk_184 0 60 (dk_at dksX4_set_1 0 rfl rfl)
theorem dX4_set_27 : decode cX4_set 27 = .ok (.ifCond .ne 9, 3) := dk_154 0 9 (dk_at dksX4_set_1 3 rfl rfl)
theorem dX4_set_30 : decode cX4_set 30 = .ok (.aload_n 0, 1) := dk_42 (dk_at dksX4_set_1 6 rfl rfl)
theorem dX4_set_31 : decode cX4_set 31 = .ok (.iconst 2, 1) := dk_5 (dk_at dksX4_set_1 7 rfl rfl)
theorem dX4_set_32 : decode cX4_set 32 = .ok (.invokevirtual 234, 3) := dk_182 0 234 (dk_at dksX4_set_1 8 rfl rfl)
theorem dX4_set_35 : decode cX4_set 35 = .ok (.ireturn, 1) := dk_172 (dk_at dksX4_set_1 11 rfl rfl)
theorem dX4_set_36 : decode cX4_set 36 = .ok (.aload_n 0, 1) := dk_42 (dk_at dksX4_set_1 12 rfl rfl)
theorem dX4_set_37 : decode cX4_set 37 = .ok (.getfield 47, 3) := dk_180 0 47 (dk_at dksX4_set_1 13 rfl rfl)
theorem dX4_set_40 : decode cX4_set 40 = .ok (.getfield 265, 3) := dk_180 1 9 (dk_at dksX4_set_1 16 rfl rfl)
theorem dX4_set_43 : decode cX4_set 43 = .ok (.iload_n 1, 1) := dk_27 (dk_at dksX4_set_1 19 rfl rfl)
theorem dX4_set_44 : decode cX4_set 44 = .ok (.iaload, 1) := dk_46 (dk_at dksX4_set_1 20 rfl rfl)
theorem dX4_set_45 : decode cX4_set 45 = .ok (.istore_n 3, 1) := dk_62 (dk_at dksX4_set_1 21 rfl rfl)
theorem dX4_set_46 : decode cX4_set 46 = .ok (.aload_n 0, 1) := dk_42 (dk_at dksX4_set_1 22 rfl rfl)
theorem dX4_set_47 : decode cX4_set 47 = .ok (.getfield 47, 3) := dk_180 0 47 (dk_at dksX4_set_2 0 rfl rfl)
theorem dX4_set_50 : decode cX4_set 50 = .ok (.iload_n 1, 1) := dk_27 (dk_at dksX4_set_2 3 rfl rfl)
theorem dX4_set_51 : decode cX4_set 51 = .ok (.iload_n 2, 1) := dk_28 (dk_at dksX4_set_2 4 rfl rfl)
theorem dX4_set_52 : decode cX4_set 52 = .ok (.invokevirtual 240, 3) := dk_182 0 240 (dk_at dksX4_set_2 5 rfl rfl)
theorem dX4_set_55 : decode cX4_set 55 = .ok (.iload_n 3, 1) := dk_29 (dk_at dksX4_set_2 8 rfl rfl)
theorem dX4_set_56 : decode cX4_set 56 = .ok (.ireturn, 1) := dk_172 (dk_at dksX4_set_2 9 rfl rfl)
abbrev cX4_gap : ByteArray := prog_41_method_52_code
def yX4_gap : MethodName := ⟨RX4, "gap", "(II)I"⟩
def dkwX4_gap_2 : List UInt8 := [4, 182, 0, 234, 172]
abbrev dktX4_gap_2 : List UInt8 := dkwX4_gap_2 ++ []
def dkwX4_gap_1 : List UInt8 := [180, 0, 47, 180, 1, 9, 27, 46, 42, 180, 0, 47, 180, 1, 9, 28, 46, 184, 1, 18, 167, 0, 8, 42]
abbrev dktX4_gap_1 : List UInt8 := dkwX4_gap_1 ++ dktX4_gap_2
def dkwX4_gap_0 : List UInt8 := [42, 3, 181, 0, 54, 42, 27, 182, 1, 12, 153, 0, 35, 42, 28, 182, 1, 12, 153, 0, 27, 42]
abbrev dktX4_gap_0 : List UInt8 := dkwX4_gap_0 ++ dktX4_gap_1
theorem dksX4_gap_0 : cX4_gap.data.toList.drop 0 = dktX4_gap_0 := by decide +kernel
theorem dksX4_gap_1 : cX4_gap.data.toList.drop 22 = dktX4_gap_1 := dk_seg dksX4_gap_0 22 rfl rfl
theorem dksX4_gap_2 : cX4_gap.data.toList.drop 46 = dktX4_gap_2 := dk_seg dksX4_gap_1 24 rfl rfl
theorem dX4_gap_0 : decode cX4_gap 0 = .ok (.aload_n 0, 1) := dk_42 (dk_at dksX4_gap_0 0 rfl rfl)
theorem dX4_gap_1 : decode cX4_gap 1 = .ok (.iconst 0, 1) := dk_3 (dk_at dksX4_gap_0 1 rfl rfl)
theorem dX4_gap_2 : decode cX4_gap 2 = .ok (.putfield 54, 3) := dk_181 0 54 (dk_at dksX4_gap_0 2 rfl rfl)
theorem dX4_gap_5 : decode cX4_gap 5 = .ok (.aload_n 0, 1) := dk_42 (dk_at dksX4_gap_0 5 rfl rfl)
theorem dX4_gap_6 : decode cX4_gap 6 = .ok (.iload_n 1, 1) := dk_27 (dk_at dksX4_gap_0 6 rfl rfl)
theorem dX4_gap_7 : decode cX4_gap 7 = .ok (.invokevirtual 268, 3) := dk_182 1 12 (dk_at dksX4_gap_0 7 rfl rfl)
theorem dX4_gap_10 : decode cX4_gap 10 = .ok (.ifCond .eq 35, 3) := dk_153 0 35 (dk_at dksX4_gap_0 10 rfl rfl)
theorem dX4_gap_13 : decode cX4_gap 13 = .ok (.aload_n 0, 1) := dk_42 (dk_at dksX4_gap_0 13 rfl rfl)
theorem dX4_gap_14 : decode cX4_gap 14 = .ok (.iload_n 2, 1) := dk_28 (dk_at dksX4_gap_0 14 rfl rfl)
theorem dX4_gap_15 : decode cX4_gap 15 = .ok (.invokevirtual 268, 3) := dk_182 1 12 (dk_at dksX4_gap_0 15 rfl rfl)
theorem dX4_gap_18 : decode cX4_gap 18 = .ok (.ifCond .eq 27, 3) := dk_153 0 27 (dk_at dksX4_gap_0 18 rfl rfl)
theorem dX4_gap_21 : decode cX4_gap 21 = .ok (.aload_n 0, 1) := dk_42 (dk_at dksX4_gap_0 21 rfl rfl)
theorem dX4_gap_22 : decode cX4_gap 22 = .ok (.getfield 47, 3) := dk_180 0 47 (dk_at dksX4_gap_1 0 rfl rfl)
theorem dX4_gap_25 : decode cX4_gap 25 = .ok (.getfield 265, 3) := dk_180 1 9 (dk_at dksX4_gap_1 3 rfl rfl)
theorem dX4_gap_28 : decode cX4_gap 28 = .ok (.iload_n 1, 1) := dk_27 (dk_at dksX4_gap_1 6 rfl rfl)
theorem dX4_gap_29 : decode cX4_gap 29 = .ok (.iaload, 1) := dk_46 (dk_at dksX4_gap_1 7 rfl rfl)
theorem dX4_gap_30 : decode cX4_gap 30 = .ok (.aload_n 0, 1) := dk_42 (dk_at dksX4_gap_1 8 rfl rfl)
theorem dX4_gap_31 : decode cX4_gap 31 = .ok (.getfield 47, 3) := dk_180 0 47 (dk_at dksX4_gap_1 9 rfl rfl)
theorem dX4_gap_34 : decode cX4_gap 34 = .ok (.getfield 265, 3) := dk_180 1 9 (dk_at dksX4_gap_1 12 rfl rfl)
theorem dX4_gap_37 : decode cX4_gap 37 = .ok (.iload_n 2, 1) := dk_28 (dk_at dksX4_gap_1 15 rfl rfl)
theorem dX4_gap_38 : decode cX4_gap 38 = .ok (.iaload, 1) := dk_46 (dk_at dksX4_gap_1 16 rfl rfl)
theorem dX4_gap_39 : decode cX4_gap 39 = .ok (.invokestatic 274, 3) := dk_184 1 18 (dk_at dksX4_gap_1 17 rfl rfl)
theorem dX4_gap_42 : decode cX4_gap 42 = .ok (.goto 8, 3) := dk_167 0 8 (dk_at dksX4_gap_1 20 rfl rfl)
theorem dX4_gap_45 : decode cX4_gap 45 = .ok (.aload_n 0, 1) := dk_42 (dk_at dksX4_gap_1 23 rfl rfl)
theorem dX4_gap_46 : decode cX4_gap 46 = .ok (.iconst 1, 1) := dk_4 (dk_at dksX4_gap_2 0 rfl rfl)
theorem dX4_gap_47 : decode cX4_gap 47 = .ok (.invokevirtual 234, 3) := dk_182 0 234 (dk_at dksX4_gap_2 1 rfl rfl)
theorem dX4_gap_50 : decode cX4_gap 50 = .ok (.ireturn, 1) := dk_172 (dk_at dksX4_gap_2 4 rfl rfl)
abbrev cX4_meets : ByteArray := prog_41_method_53_code
def yX4_meets : MethodName := ⟨RX4, "meets", "(IIZ)Z"⟩
def dkwX4_meets_2 : List UInt8 := [182, 0, 234, 153, 0, 7, 4, 167, 0, 4, 3, 172]
abbrev dktX4_meets_2 : List UInt8 := dkwX4_meets_2 ++ []
def dkwX4_meets_1 : List UInt8 := [180, 0, 47, 27, 28, 29, 153, 0, 9, 17, 0, 180, 167, 0, 4, 3, 182, 1, 21, 167, 0, 16, 42, 4]
abbrev dktX4_meets_1 : List UInt8 := dkwX4_meets_1 ++ dktX4_meets_2
def dkwX4_meets_0 : List UInt8 := [42, 3, 181, 0, 54, 42, 27, 182, 1, 12, 153, 0, 34, 42, 28, 182, 1, 12, 153, 0, 26, 42]
abbrev dktX4_meets_0 : List UInt8 := dkwX4_meets_0 ++ dktX4_meets_1
theorem dksX4_meets_0 : cX4_meets.data.toList.drop 0 = dktX4_meets_0 := by decide +kernel
theorem dksX4_meets_1 : cX4_meets.data.toList.drop 22 = dktX4_meets_1 := dk_seg dksX4_meets_0 22 rfl rfl
theorem dksX4_meets_2 : cX4_meets.data.toList.drop 46 = dktX4_meets_2 := dk_seg dksX4_meets_1 24 rfl rfl
theorem dX4_meets_0 : decode cX4_meets 0 = .ok (.aload_n 0, 1) := dk_42 (dk_at dksX4_meets_0 0 rfl rfl)
theorem dX4_meets_1 : decode cX4_meets 1 = .ok (.iconst 0, 1) := dk_3 (dk_at dksX4_meets_0 1 rfl rfl)
theorem dX4_meets_2 : decode cX4_meets 2 = .ok (.putfield 54, 3) := dk_181 0 54 (dk_at dksX4_meets_0 2 rfl rfl)
theorem dX4_meets_5 : decode cX4_meets 5 = .ok (.aload_n 0, 1) := dk_42 (dk_at dksX4_meets_0 5 rfl rfl)
theorem dX4_meets_6 : decode cX4_meets 6 = .ok (.iload_n 1, 1) := dk_27 (dk_at dksX4_meets_0 6 rfl rfl)
theorem dX4_meets_7 : decode cX4_meets 7 = .ok (.invokevirtual 268, 3) := dk_182 1 12 (dk_at dksX4_meets_0 7 rfl rfl)
theorem dX4_meets_10 : decode cX4_meets 10 = .ok (.ifCond .eq 34, 3) := dk_153 0 34 (dk_at dksX4_meets_0 10 rfl rfl)
theorem dX4_meets_13 : decode cX4_meets 13 = .ok (.aload_n 0, 1) := dk_42 (dk_at dksX4_meets_0 13 rfl rfl)
theorem dX4_meets_14 : decode cX4_meets 14 = .ok (.iload_n 2, 1) := dk_28 (dk_at dksX4_meets_0 14 rfl rfl)
theorem dX4_meets_15 : decode cX4_meets 15 = .ok (.invokevirtual 268, 3) := dk_182 1 12 (dk_at dksX4_meets_0 15 rfl rfl)
theorem dX4_meets_18 : decode cX4_meets 18 = .ok (.ifCond .eq 26, 3) := dk_153 0 26 (dk_at dksX4_meets_0 18 rfl rfl)
theorem dX4_meets_21 : decode cX4_meets 21 = .ok (.aload_n 0, 1) := dk_42 (dk_at dksX4_meets_0 21 rfl rfl)
theorem dX4_meets_22 : decode cX4_meets 22 = .ok (.getfield 47, 3) := dk_180 0 47 (dk_at dksX4_meets_1 0 rfl rfl)
theorem dX4_meets_25 : decode cX4_meets 25 = .ok (.iload_n 1, 1) := dk_27 (dk_at dksX4_meets_1 3 rfl rfl)
theorem dX4_meets_26 : decode cX4_meets 26 = .ok (.iload_n 2, 1) := dk_28 (dk_at dksX4_meets_1 4 rfl rfl)
theorem dX4_meets_27 : decode cX4_meets 27 = .ok (.iload_n 3, 1) := dk_29 (dk_at dksX4_meets_1 5 rfl rfl)
theorem dX4_meets_28 : decode cX4_meets 28 = .ok (.ifCond .eq 9, 3) := dk_153 0 9 (dk_at dksX4_meets_1 6 rfl rfl)
theorem dX4_meets_31 : decode cX4_meets 31 = .ok (.sipush 180, 3) := dk_17 0 180 (dk_at dksX4_meets_1 9 rfl rfl)
theorem dX4_meets_34 : decode cX4_meets 34 = .ok (.goto 4, 3) := dk_167 0 4 (dk_at dksX4_meets_1 12 rfl rfl)
theorem dX4_meets_37 : decode cX4_meets 37 = .ok (.iconst 0, 1) := dk_3 (dk_at dksX4_meets_1 15 rfl rfl)
theorem dX4_meets_38 : decode cX4_meets 38 = .ok (.invokevirtual 277, 3) := dk_182 1 21 (dk_at dksX4_meets_1 16 rfl rfl)
theorem dX4_meets_41 : decode cX4_meets 41 = .ok (.goto 16, 3) := dk_167 0 16 (dk_at dksX4_meets_1 19 rfl rfl)
theorem dX4_meets_44 : decode cX4_meets 44 = .ok (.aload_n 0, 1) := dk_42 (dk_at dksX4_meets_1 22 rfl rfl)
theorem dX4_meets_45 : decode cX4_meets 45 = .ok (.iconst 1, 1) := dk_4 (dk_at dksX4_meets_1 23 rfl rfl)
theorem dX4_meets_46 : decode cX4_meets 46 = .ok (.invokevirtual 234, 3) := dk_182 0 234 (dk_at dksX4_meets_2 0 rfl rfl)
theorem dX4_meets_49 : decode cX4_meets 49 = .ok (.ifCond .eq 7, 3) := dk_153 0 7 (dk_at dksX4_meets_2 3 rfl rfl)
theorem dX4_meets_52 : decode cX4_meets 52 = .ok (.iconst 1, 1) := dk_4 (dk_at dksX4_meets_2 6 rfl rfl)
theorem dX4_meets_53 : decode cX4_meets 53 = .ok (.goto 4, 3) := dk_167 0 4 (dk_at dksX4_meets_2 7 rfl rfl)
theorem dX4_meets_56 : decode cX4_meets 56 = .ok (.iconst 0, 1) := dk_3 (dk_at dksX4_meets_2 10 rfl rfl)
theorem dX4_meets_57 : decode cX4_meets 57 = .ok (.ireturn, 1) := dk_172 (dk_at dksX4_meets_2 11 rfl rfl)
abbrev cX4_letter : ByteArray := prog_41_method_54_code
def yX4_letter : MethodName := ⟨RX4, "letter", "(II)I"⟩
def dkwX4_letter_2 : List UInt8 := [167, 0, 8, 42, 4, 182, 0, 234, 172]
abbrev dktX4_letter_2 : List UInt8 := dkwX4_letter_2 ++ []
def dkwX4_letter_1 : List UInt8 := [4, 100, 184, 0, 60, 153, 0, 20, 42, 180, 0, 35, 180, 0, 222, 16, 12, 27, 104, 28, 96, 46]
abbrev dktX4_letter_1 : List UInt8 := dkwX4_letter_1 ++ dktX4_letter_2
def dkwX4_letter_0 : List UInt8 := [42, 3, 181, 0, 54, 42, 27, 182, 1, 24, 153, 0, 39, 28, 3, 42, 180, 0, 35, 180, 0, 219, 27, 46]
abbrev dktX4_letter_0 : List UInt8 := dkwX4_letter_0 ++ dktX4_letter_1
theorem dksX4_letter_0 : cX4_letter.data.toList.drop 0 = dktX4_letter_0 := by decide +kernel
theorem dksX4_letter_1 : cX4_letter.data.toList.drop 24 = dktX4_letter_1 := dk_seg dksX4_letter_0 24 rfl rfl
theorem dksX4_letter_2 : cX4_letter.data.toList.drop 46 = dktX4_letter_2 := dk_seg dksX4_letter_1 22 rfl rfl
theorem dX4_letter_0 : decode cX4_letter 0 = .ok (.aload_n 0, 1) := dk_42 (dk_at dksX4_letter_0 0 rfl rfl)
theorem dX4_letter_1 : decode cX4_letter 1 = .ok (.iconst 0, 1) := dk_3 (dk_at dksX4_letter_0 1 rfl rfl)
theorem dX4_letter_2 : decode cX4_letter 2 = .ok (.putfield 54, 3) := dk_181 0 54 (dk_at dksX4_letter_0 2 rfl rfl)
theorem dX4_letter_5 : decode cX4_letter 5 = .ok (.aload_n 0, 1) := dk_42 (dk_at dksX4_letter_0 5 rfl rfl)
theorem dX4_letter_6 : decode cX4_letter 6 = .ok (.iload_n 1, 1) := dk_27 (dk_at dksX4_letter_0 6 rfl rfl)
theorem dX4_letter_7 : decode cX4_letter 7 = .ok (.invokevirtual 280, 3) := dk_182 1 24 (dk_at dksX4_letter_0 7 rfl rfl)
theorem dX4_letter_10 : decode cX4_letter 10 = .ok (.ifCond .eq 39, 3) := dk_153 0 39 (dk_at dksX4_letter_0 10 rfl rfl)
theorem dX4_letter_13 : decode cX4_letter 13 = .ok (.iload_n 2, 1) := dk_28 (dk_at dksX4_letter_0 13 rfl rfl)
theorem dX4_letter_14 : decode cX4_letter 14 = .ok (.iconst 0, 1) := dk_3 (dk_at dksX4_letter_0 14 rfl rfl)
theorem dX4_letter_15 : decode cX4_letter 15 = .ok (.aload_n 0, 1) := dk_42 (dk_at dksX4_letter_0 15 rfl rfl)
theorem dX4_letter_16 : decode cX4_letter 16 = .ok (.getfield 35, 3) := dk_180 0 35 (dk_at dksX4_letter_0 16 rfl rfl)
theorem dX4_letter_19 : decode cX4_letter 19 = .ok (.getfield 219, 3) := dk_180 0 219 (dk_at dksX4_letter_0 19 rfl rfl)
theorem dX4_letter_22 : decode cX4_letter 22 = .ok (.iload_n 1, 1) := dk_27 (dk_at dksX4_letter_0 22 rfl rfl)
theorem dX4_letter_23 : decode cX4_letter 23 = .ok (.iaload, 1) := dk_46 (dk_at dksX4_letter_0 23 rfl rfl)
theorem dX4_letter_24 : decode cX4_letter 24 = .ok (.iconst 1, 1) := dk_4 (dk_at dksX4_letter_1 0 rfl rfl)
theorem dX4_letter_25 : decode cX4_letter 25 = .ok (.isub, 1) := dk_100 (dk_at dksX4_letter_1 1 rfl rfl)
theorem dX4_letter_26 : decode cX4_letter 26 = .ok (.invokestatic 60, 3) := dk_184 0 60 (dk_at dksX4_letter_1 2 rfl rfl)
theorem dX4_letter_29 : decode cX4_letter 29 = .ok (.ifCond .eq 20, 3) := dk_153 0 20 (dk_at dksX4_letter_1 5 rfl rfl)
theorem dX4_letter_32 : decode cX4_letter 32 = .ok (.aload_n 0, 1) := dk_42 (dk_at dksX4_letter_1 8 rfl rfl)
theorem dX4_letter_33 : decode cX4_letter 33 = .ok (.getfield 35, 3) := dk_180 0 35 (dk_at dksX4_letter_1 9 rfl rfl)
theorem dX4_letter_36 : decode cX4_letter 36 = .ok (.getfield 222, 3) := dk_180 0 222 (dk_at dksX4_letter_1 12 rfl rfl)
theorem dX4_letter_39 : decode cX4_letter 39 = .ok (.bipush 12, 2) := dk_16 12 (dk_at dksX4_letter_1 15 rfl rfl)
theorem dX4_letter_41 : decode cX4_letter 41 = .ok (.iload_n 1, 1) := dk_27 (dk_at dksX4_letter_1 17 rfl rfl)
theorem dX4_letter_42 : decode cX4_letter 42 = .ok (.imul, 1) := dk_104 (dk_at dksX4_letter_1 18 rfl rfl)
theorem dX4_letter_43 : decode cX4_letter 43 = .ok (.iload_n 2, 1) := dk_28 (dk_at dksX4_letter_1 19 rfl rfl)
theorem dX4_letter_44 : decode cX4_letter 44 = .ok (.iadd, 1) := dk_96 (dk_at dksX4_letter_1 20 rfl rfl)
theorem dX4_letter_45 : decode cX4_letter 45 = .ok (.iaload, 1) := dk_46 (dk_at dksX4_letter_1 21 rfl rfl)
theorem dX4_letter_46 : decode cX4_letter 46 = .ok (.goto 8, 3) := dk_167 0 8 (dk_at dksX4_letter_2 0 rfl rfl)
theorem dX4_letter_49 : decode cX4_letter 49 = .ok (.aload_n 0, 1) := dk_42 (dk_at dksX4_letter_2 3 rfl rfl)
theorem dX4_letter_50 : decode cX4_letter 50 = .ok (.iconst 1, 1) := dk_4 (dk_at dksX4_letter_2 4 rfl rfl)
theorem dX4_letter_51 : decode cX4_letter 51 = .ok (.invokevirtual 234, 3) := dk_182 0 234 (dk_at dksX4_letter_2 5 rfl rfl)
theorem dX4_letter_54 : decode cX4_letter 54 = .ok (.ireturn, 1) := dk_172 (dk_at dksX4_letter_2 8 rfl rfl)
abbrev cX4_isAlphabet : ByteArray := prog_41_method_6_code
def yX4_isAlphabet : MethodName := ⟨RX4, "isAlphabet", "(I)Z"⟩
def dkwX4_isAlphabet_0 : List UInt8 := [27, 3, 42, 180, 0, 35, 180, 0, 64, 4, 100, 184, 0, 60, 172]
abbrev dktX4_isAlphabet_0 : List UInt8 := dkwX4_isAlphabet_0 ++ []
theorem dksX4_isAlphabet_0 : cX4_isAlphabet.data.toList.drop 0 = dktX4_isAlphabet_0 := by decide +kernel
theorem dX4_isAlphabet_0 : decode cX4_isAlphabet 0 = .ok (.iload_n 1, 1) := dk_27 (dk_at dksX4_isAlphabet_0 0 rfl rfl)
theorem dX4_isAlphabet_1 : decode cX4_isAlphabet 1 = .ok (.iconst 0, 1) := dk_3 (dk_at dksX4_isAlphabet_0 1 rfl rfl)
theorem dX4_isAlphabet_2 : decode cX4_isAlphabet 2 = .ok (.aload_n 0, 1) := dk_42 (dk_at dksX4_isAlphabet_0 2 rfl rfl)
theorem dX4_isAlphabet_3 : decode cX4_isAlphabet 3 = .ok (.getfield 35, 3) := dk_180 0 35 (dk_at dksX4_isAlphabet_0 3 rfl rfl)
theorem dX4_isAlphabet_6 : decode cX4_isAlphabet 6 = .ok (.getfield 64, 3) := dk_180 0 64 (dk_at dksX4_isAlphabet_0 6 rfl rfl)
theorem dX4_isAlphabet_9 : decode cX4_isAlphabet 9 = .ok (.iconst 1, 1) := dk_4 (dk_at dksX4_isAlphabet_0 9 rfl rfl)
theorem dX4_isAlphabet_10 : decode cX4_isAlphabet 10 = .ok (.isub, 1) := dk_100 (dk_at dksX4_isAlphabet_0 10 rfl rfl)
theorem dX4_isAlphabet_11 : decode cX4_isAlphabet 11 = .ok (.invokestatic 60, 3) := dk_184 0 60 (dk_at dksX4_isAlphabet_0 11 rfl rfl)
theorem dX4_isAlphabet_14 : decode cX4_isAlphabet 14 = .ok (.ireturn, 1) := dk_172 (dk_at dksX4_isAlphabet_0 14 rfl rfl)
abbrev cX4_wrote : ByteArray := prog_41_method_55_code
def yX4_wrote : MethodName := ⟨RX4, "wrote", "(I)I"⟩
def dkwX4_wrote_1 : List UInt8 := [180, 0, 47, 180, 0, 247, 27, 46, 167, 0, 8, 42, 4, 182, 0, 234, 172]
abbrev dktX4_wrote_1 : List UInt8 := dkwX4_wrote_1 ++ []
def dkwX4_wrote_0 : List UInt8 := [42, 3, 181, 0, 54, 27, 3, 42, 180, 0, 35, 180, 0, 155, 4, 100, 184, 0, 60, 153, 0, 15, 42]
abbrev dktX4_wrote_0 : List UInt8 := dkwX4_wrote_0 ++ dktX4_wrote_1
theorem dksX4_wrote_0 : cX4_wrote.data.toList.drop 0 = dktX4_wrote_0 := by decide +kernel
theorem dksX4_wrote_1 : cX4_wrote.data.toList.drop 23 = dktX4_wrote_1 := dk_seg dksX4_wrote_0 23 rfl rfl
theorem dX4_wrote_0 : decode cX4_wrote 0 = .ok (.aload_n 0, 1) := dk_42 (dk_at dksX4_wrote_0 0 rfl rfl)
theorem dX4_wrote_1 : decode cX4_wrote 1 = .ok (.iconst 0, 1) := dk_3 (dk_at dksX4_wrote_0 1 rfl rfl)
theorem dX4_wrote_2 : decode cX4_wrote 2 = .ok (.putfield 54, 3) := dk_181 0 54 (dk_at dksX4_wrote_0 2 rfl rfl)
theorem dX4_wrote_5 : decode cX4_wrote 5 = .ok (.iload_n 1, 1) := dk_27 (dk_at dksX4_wrote_0 5 rfl rfl)
theorem dX4_wrote_6 : decode cX4_wrote 6 = .ok (.iconst 0, 1) := dk_3 (dk_at dksX4_wrote_0 6 rfl rfl)
theorem dX4_wrote_7 : decode cX4_wrote 7 = .ok (.aload_n 0, 1) := dk_42 (dk_at dksX4_wrote_0 7 rfl rfl)
theorem dX4_wrote_8 : decode cX4_wrote 8 = .ok (.getfield 35, 3) := dk_180 0 35 (dk_at dksX4_wrote_0 8 rfl rfl)
theorem dX4_wrote_11 : decode cX4_wrote 11 = .ok (.getfield 155, 3) := dk_180 0 155 (dk_at dksX4_wrote_0 11 rfl rfl)
theorem dX4_wrote_14 : decode cX4_wrote 14 = .ok (.iconst 1, 1) := dk_4 (dk_at dksX4_wrote_0 14 rfl rfl)
theorem dX4_wrote_15 : decode cX4_wrote 15 = .ok (.isub, 1) := dk_100 (dk_at dksX4_wrote_0 15 rfl rfl)
theorem dX4_wrote_16 : decode cX4_wrote 16 = .ok (.invokestatic 60, 3) := dk_184 0 60 (dk_at dksX4_wrote_0 16 rfl rfl)
theorem dX4_wrote_19 : decode cX4_wrote 19 = .ok (.ifCond .eq 15, 3) := dk_153 0 15 (dk_at dksX4_wrote_0 19 rfl rfl)
theorem dX4_wrote_22 : decode cX4_wrote 22 = .ok (.aload_n 0, 1) := dk_42 (dk_at dksX4_wrote_0 22 rfl rfl)
theorem dX4_wrote_23 : decode cX4_wrote 23 = .ok (.getfield 47, 3) := dk_180 0 47 (dk_at dksX4_wrote_1 0 rfl rfl)
theorem dX4_wrote_26 : decode cX4_wrote 26 = .ok (.getfield 247, 3) := dk_180 0 247 (dk_at dksX4_wrote_1 3 rfl rfl)
theorem dX4_wrote_29 : decode cX4_wrote 29 = .ok (.iload_n 1, 1) := dk_27 (dk_at dksX4_wrote_1 6 rfl rfl)
theorem dX4_wrote_30 : decode cX4_wrote 30 = .ok (.iaload, 1) := dk_46 (dk_at dksX4_wrote_1 7 rfl rfl)
theorem dX4_wrote_31 : decode cX4_wrote 31 = .ok (.goto 8, 3) := dk_167 0 8 (dk_at dksX4_wrote_1 8 rfl rfl)
theorem dX4_wrote_34 : decode cX4_wrote 34 = .ok (.aload_n 0, 1) := dk_42 (dk_at dksX4_wrote_1 11 rfl rfl)
theorem dX4_wrote_35 : decode cX4_wrote 35 = .ok (.iconst 1, 1) := dk_4 (dk_at dksX4_wrote_1 12 rfl rfl)
theorem dX4_wrote_36 : decode cX4_wrote 36 = .ok (.invokevirtual 234, 3) := dk_182 0 234 (dk_at dksX4_wrote_1 13 rfl rfl)
theorem dX4_wrote_39 : decode cX4_wrote 39 = .ok (.ireturn, 1) := dk_172 (dk_at dksX4_wrote_1 16 rfl rfl)
abbrev cX4_pass : ByteArray := prog_41_method_56_code
def yX4_pass : MethodName := ⟨RX4, "pass", "(I)I"⟩
def dkwX4_pass_2 : List UInt8 := [172]
abbrev dktX4_pass_2 : List UInt8 := dkwX4_pass_2 ++ []
def dkwX4_pass_1 : List UInt8 := [3, 62, 29, 27, 162, 0, 19, 28, 42, 180, 0, 47, 182, 1, 27, 96, 61, 132, 3, 1, 167, 255, 238, 28]
abbrev dktX4_pass_1 : List UInt8 := dkwX4_pass_1 ++ dktX4_pass_2
def dkwX4_pass_0 : List UInt8 := [42, 3, 181, 0, 54, 27, 4, 17, 1, 44, 184, 0, 60, 154, 0, 9, 42, 4, 182, 0, 234, 172, 3, 61]
abbrev dktX4_pass_0 : List UInt8 := dkwX4_pass_0 ++ dktX4_pass_1
theorem dksX4_pass_0 : cX4_pass.data.toList.drop 0 = dktX4_pass_0 := by decide +kernel
theorem dksX4_pass_1 : cX4_pass.data.toList.drop 24 = dktX4_pass_1 := dk_seg dksX4_pass_0 24 rfl rfl
theorem dksX4_pass_2 : cX4_pass.data.toList.drop 48 = dktX4_pass_2 := dk_seg dksX4_pass_1 24 rfl rfl
theorem dX4_pass_0 : decode cX4_pass 0 = .ok (.aload_n 0, 1) := dk_42 (dk_at dksX4_pass_0 0 rfl rfl)
theorem dX4_pass_1 : decode cX4_pass 1 = .ok (.iconst 0, 1) := dk_3 (dk_at dksX4_pass_0 1 rfl rfl)
theorem dX4_pass_2 : decode cX4_pass 2 = .ok (.putfield 54, 3) := dk_181 0 54 (dk_at dksX4_pass_0 2 rfl rfl)
theorem dX4_pass_5 : decode cX4_pass 5 = .ok (.iload_n 1, 1) := dk_27 (dk_at dksX4_pass_0 5 rfl rfl)
theorem dX4_pass_6 : decode cX4_pass 6 = .ok (.iconst 1, 1) := dk_4 (dk_at dksX4_pass_0 6 rfl rfl)
theorem dX4_pass_7 : decode cX4_pass 7 = .ok (.sipush 300, 3) := dk_17 1 44 (dk_at dksX4_pass_0 7 rfl rfl)
theorem dX4_pass_10 : decode cX4_pass 10 = .ok (.invokestatic 60, 3) := dk_184 0 60 (dk_at dksX4_pass_0 10 rfl rfl)
theorem dX4_pass_13 : decode cX4_pass 13 = .ok (.ifCond .ne 9, 3) := dk_154 0 9 (dk_at dksX4_pass_0 13 rfl rfl)
theorem dX4_pass_16 : decode cX4_pass 16 = .ok (.aload_n 0, 1) := dk_42 (dk_at dksX4_pass_0 16 rfl rfl)
theorem dX4_pass_17 : decode cX4_pass 17 = .ok (.iconst 1, 1) := dk_4 (dk_at dksX4_pass_0 17 rfl rfl)
theorem dX4_pass_18 : decode cX4_pass 18 = .ok (.invokevirtual 234, 3) := dk_182 0 234 (dk_at dksX4_pass_0 18 rfl rfl)
theorem dX4_pass_21 : decode cX4_pass 21 = .ok (.ireturn, 1) := dk_172 (dk_at dksX4_pass_0 21 rfl rfl)
theorem dX4_pass_22 : decode cX4_pass 22 = .ok (.iconst 0, 1) := dk_3 (dk_at dksX4_pass_0 22 rfl rfl)
theorem dX4_pass_23 : decode cX4_pass 23 = .ok (.istore_n 2, 1) := dk_61 (dk_at dksX4_pass_0 23 rfl rfl)
theorem dX4_pass_24 : decode cX4_pass 24 = .ok (.iconst 0, 1) := dk_3 (dk_at dksX4_pass_1 0 rfl rfl)
theorem dX4_pass_25 : decode cX4_pass 25 = .ok (.istore_n 3, 1) := dk_62 (dk_at dksX4_pass_1 1 rfl rfl)
theorem dX4_pass_26 : decode cX4_pass 26 = .ok (.iload_n 3, 1) := dk_29 (dk_at dksX4_pass_1 2 rfl rfl)
theorem dX4_pass_27 : decode cX4_pass 27 = .ok (.iload_n 1, 1) := dk_27 (dk_at dksX4_pass_1 3 rfl rfl)
theorem dX4_pass_28 : decode cX4_pass 28 = .ok (.if_icmp .ge 19, 3) := dk_162 0 19 (dk_at dksX4_pass_1 4 rfl rfl)
theorem dX4_pass_31 : decode cX4_pass 31 = .ok (.iload_n 2, 1) := dk_28 (dk_at dksX4_pass_1 7 rfl rfl)
theorem dX4_pass_32 : decode cX4_pass 32 = .ok (.aload_n 0, 1) := dk_42 (dk_at dksX4_pass_1 8 rfl rfl)
theorem dX4_pass_33 : decode cX4_pass 33 = .ok (.getfield 47, 3) := dk_180 0 47 (dk_at dksX4_pass_1 9 rfl rfl)
theorem dX4_pass_36 : decode cX4_pass 36 = .ok (.invokevirtual 283, 3) := dk_182 1 27 (dk_at dksX4_pass_1 12 rfl rfl)
theorem dX4_pass_39 : decode cX4_pass 39 = .ok (.iadd, 1) := dk_96 (dk_at dksX4_pass_1 15 rfl rfl)
theorem dX4_pass_40 : decode cX4_pass 40 = .ok (.istore_n 2, 1) := dk_61 (dk_at dksX4_pass_1 16 rfl rfl)
theorem dX4_pass_41 : decode cX4_pass 41 = .ok (.iinc 3 1, 3) := dk_132 3 1 (dk_at dksX4_pass_1 17 rfl rfl)
theorem dX4_pass_44 : decode cX4_pass 44 = .ok (.goto (-18), 3) := dk_167 255 238 (dk_at dksX4_pass_1 20 rfl rfl)
theorem dX4_pass_47 : decode cX4_pass 47 = .ok (.iload_n 2, 1) := dk_28 (dk_at dksX4_pass_1 23 rfl rfl)
theorem dX4_pass_48 : decode cX4_pass 48 = .ok (.ireturn, 1) := dk_172 (dk_at dksX4_pass_2 0 rfl rfl)
abbrev cX4_isPushed : ByteArray := prog_41_method_8_code
def yX4_isPushed : MethodName := ⟨RX4, "isPushed", "(I)Z"⟩
def dkwX4_isPushed_1 : List UInt8 := [16, 10, 159, 0, 9, 26, 16, 11, 160, 0, 7, 4, 167, 0, 4, 3, 172]
abbrev dktX4_isPushed_1 : List UInt8 := dkwX4_isPushed_1 ++ []
def dkwX4_isPushed_0 : List UInt8 := [26, 16, 40, 159, 0, 31, 26, 16, 12, 16, 16, 184, 0, 60, 154, 0, 20, 26, 7, 159, 0, 15, 26]
abbrev dktX4_isPushed_0 : List UInt8 := dkwX4_isPushed_0 ++ dktX4_isPushed_1
theorem dksX4_isPushed_0 : cX4_isPushed.data.toList.drop 0 = dktX4_isPushed_0 := by decide +kernel
theorem dksX4_isPushed_1 : cX4_isPushed.data.toList.drop 23 = dktX4_isPushed_1 := dk_seg dksX4_isPushed_0 23 rfl rfl
theorem dX4_isPushed_0 : decode cX4_isPushed 0 = .ok (.iload_n 0, 1) := dk_26 (dk_at dksX4_isPushed_0 0 rfl rfl)
theorem dX4_isPushed_1 : decode cX4_isPushed 1 = .ok (.bipush 40, 2) := dk_16 40 (dk_at dksX4_isPushed_0 1 rfl rfl)
theorem dX4_isPushed_3 : decode cX4_isPushed 3 = .ok (.if_icmp .eq 31, 3) := dk_159 0 31 (dk_at dksX4_isPushed_0 3 rfl rfl)
theorem dX4_isPushed_6 : decode cX4_isPushed 6 = .ok (.iload_n 0, 1) := dk_26 (dk_at dksX4_isPushed_0 6 rfl rfl)
theorem dX4_isPushed_7 : decode cX4_isPushed 7 = .ok (.bipush 12, 2) := dk_16 12 (dk_at dksX4_isPushed_0 7 rfl rfl)
theorem dX4_isPushed_9 : decode cX4_isPushed 9 = .ok (.bipush 16, 2) := dk_16 16 (dk_at dksX4_isPushed_0 9 rfl rfl)
theorem dX4_isPushed_11 : decode cX4_isPushed 11 = .ok (.invokestatic 60, 3) := dk_184 0 60 (dk_at dksX4_isPushed_0 11 rfl rfl)
theorem dX4_isPushed_14 : decode cX4_isPushed 14 = .ok (.ifCond .ne 20, 3) := dk_154 0 20 (dk_at dksX4_isPushed_0 14 rfl rfl)
theorem dX4_isPushed_17 : decode cX4_isPushed 17 = .ok (.iload_n 0, 1) := dk_26 (dk_at dksX4_isPushed_0 17 rfl rfl)
theorem dX4_isPushed_18 : decode cX4_isPushed 18 = .ok (.iconst 4, 1) := dk_7 (dk_at dksX4_isPushed_0 18 rfl rfl)
theorem dX4_isPushed_19 : decode cX4_isPushed 19 = .ok (.if_icmp .eq 15, 3) := dk_159 0 15 (dk_at dksX4_isPushed_0 19 rfl rfl)
theorem dX4_isPushed_22 : decode cX4_isPushed 22 = .ok (.iload_n 0, 1) := dk_26 (dk_at dksX4_isPushed_0 22 rfl rfl)
theorem dX4_isPushed_23 : decode cX4_isPushed 23 = .ok (.bipush 10, 2) := dk_16 10 (dk_at dksX4_isPushed_1 0 rfl rfl)
theorem dX4_isPushed_25 : decode cX4_isPushed 25 = .ok (.if_icmp .eq 9, 3) := dk_159 0 9 (dk_at dksX4_isPushed_1 2 rfl rfl)
theorem dX4_isPushed_28 : decode cX4_isPushed 28 = .ok (.iload_n 0, 1) := dk_26 (dk_at dksX4_isPushed_1 5 rfl rfl)
theorem dX4_isPushed_29 : decode cX4_isPushed 29 = .ok (.bipush 11, 2) := dk_16 11 (dk_at dksX4_isPushed_1 6 rfl rfl)
theorem dX4_isPushed_31 : decode cX4_isPushed 31 = .ok (.if_icmp .ne 7, 3) := dk_160 0 7 (dk_at dksX4_isPushed_1 8 rfl rfl)
theorem dX4_isPushed_34 : decode cX4_isPushed 34 = .ok (.iconst 1, 1) := dk_4 (dk_at dksX4_isPushed_1 11 rfl rfl)
theorem dX4_isPushed_35 : decode cX4_isPushed 35 = .ok (.goto 4, 3) := dk_167 0 4 (dk_at dksX4_isPushed_1 12 rfl rfl)
theorem dX4_isPushed_38 : decode cX4_isPushed 38 = .ok (.iconst 0, 1) := dk_3 (dk_at dksX4_isPushed_1 15 rfl rfl)
theorem dX4_isPushed_39 : decode cX4_isPushed 39 = .ok (.ireturn, 1) := dk_172 (dk_at dksX4_isPushed_1 16 rfl rfl)
abbrev cX4_both : ByteArray := prog_41_method_9_code
def yX4_both : MethodName := ⟨RX4, "both", "(III)I"⟩
def dkwX4_both_6 : List UInt8 := [161, 0, 7, 4, 167, 0, 4, 3, 172, 27, 28, 126, 172, 27, 28, 128, 172]
abbrev dktX4_both_6 : List UInt8 := dkwX4_both_6 ++ []
def dkwX4_both_5 : List UInt8 := [160, 0, 7, 4, 167, 0, 4, 3, 172, 27, 28, 163, 0, 7, 4, 167, 0, 4, 3, 172, 27, 28]
abbrev dktX4_both_5 : List UInt8 := dkwX4_both_5 ++ dktX4_both_6
def dkwX4_both_4 : List UInt8 := [27, 28, 162, 0, 7, 4, 167, 0, 4, 3, 172, 27, 28, 164, 0, 7, 4, 167, 0, 4, 3, 172, 27, 28]
abbrev dktX4_both_4 : List UInt8 := dkwX4_both_4 ++ dktX4_both_5
def dkwX4_both_3 : List UInt8 := [28, 154, 0, 7, 3, 167, 0, 6, 27, 28, 112, 172, 27, 28, 184, 0, 73, 172, 27, 28, 184, 0, 76, 172]
abbrev dktX4_both_3 : List UInt8 := dkwX4_both_3 ++ dktX4_both_4
def dkwX4_both_2 : List UInt8 := [27, 28, 96, 172, 27, 28, 100, 172, 27, 28, 104, 172, 28, 154, 0, 7, 3, 167, 0, 6, 27, 28, 108, 172]
abbrev dktX4_both_2 : List UInt8 := dkwX4_both_2 ++ dktX4_both_3
def dkwX4_both_1 : List UInt8 := [170, 0, 0, 0, 0, 1, 2, 0, 0, 0, 18, 0, 0, 0, 51, 0, 0, 0, 254, 0, 0, 1, 2, 0, 0, 0, 187, 0, 0, 0, 193, 0, 0, 1, 2, 0, 0, 1, 2, 0, 0, 1, 2, 0, 0, 1, 2, 0, 0, 1, 2, 0, 0, 1, 2, 0, 0, 1, 2, 0, 0, 1, 2, 0, 0, 1, 2, 0, 0, 1, 2, 0, 0, 1, 2, 0, 0, 1, 2, 0, 0, 1, 2, 0, 0, 1, 2, 0, 0, 1, 2, 0, 0, 1, 2, 0, 0, 1, 2, 0, 0, 1, 2, 0, 0, 1, 2, 0, 0, 1, 2, 0, 0, 0, 151, 0, 0, 0, 155, 0, 0, 0, 159, 0, 0, 0, 163, 0, 0, 0, 175, 0, 0, 0, 199, 0, 0, 0, 210, 0, 0, 0, 221, 0, 0, 0, 232, 0, 0, 0, 243]
abbrev dktX4_both_1 : List UInt8 := dkwX4_both_1 ++ dktX4_both_2
def dkwX4_both_0 : List UInt8 := [26]
abbrev dktX4_both_0 : List UInt8 := dkwX4_both_0 ++ dktX4_both_1
theorem dksX4_both_0 : cX4_both.data.toList.drop 0 = dktX4_both_0 := by decide +kernel
theorem dksX4_both_1 : cX4_both.data.toList.drop 1 = dktX4_both_1 := dk_seg dksX4_both_0 1 rfl rfl
theorem dksX4_both_2 : cX4_both.data.toList.drop 152 = dktX4_both_2 := dk_seg dksX4_both_1 151 rfl rfl
theorem dksX4_both_3 : cX4_both.data.toList.drop 176 = dktX4_both_3 := dk_seg dksX4_both_2 24 rfl rfl
theorem dksX4_both_4 : cX4_both.data.toList.drop 200 = dktX4_both_4 := dk_seg dksX4_both_3 24 rfl rfl
theorem dksX4_both_5 : cX4_both.data.toList.drop 224 = dktX4_both_5 := dk_seg dksX4_both_4 24 rfl rfl
theorem dksX4_both_6 : cX4_both.data.toList.drop 246 = dktX4_both_6 := dk_seg dksX4_both_5 22 rfl rfl
theorem dX4_both_0 : decode cX4_both 0 = .ok (.iload_n 0, 1) := dk_26 (dk_at dksX4_both_0 0 rfl rfl)
theorem dX4_both_1 : decode cX4_both 1 = .ok (.tableswitch 258 18 51 #[254, 258, 187, 193, 258, 258, 258, 258, 258, 258, 258, 258, 258, 258, 258, 258, 258, 258, 258, 258, 258, 258, 258, 258, 151, 155, 159, 163, 175, 199, 210, 221, 232, 243], 151) := by decide +kernel
theorem dX4_both_152 : decode cX4_both 152 = .ok (.iload_n 1, 1) := dk_27 (dk_at dksX4_both_2 0 rfl rfl)
theorem dX4_both_153 : decode cX4_both 153 = .ok (.iload_n 2, 1) := dk_28 (dk_at dksX4_both_2 1 rfl rfl)
theorem dX4_both_154 : decode cX4_both 154 = .ok (.iadd, 1) := dk_96 (dk_at dksX4_both_2 2 rfl rfl)
theorem dX4_both_155 : decode cX4_both 155 = .ok (.ireturn, 1) := dk_172 (dk_at dksX4_both_2 3 rfl rfl)
theorem dX4_both_156 : decode cX4_both 156 = .ok (.iload_n 1, 1) := dk_27 (dk_at dksX4_both_2 4 rfl rfl)
theorem dX4_both_157 : decode cX4_both 157 = .ok (.iload_n 2, 1) := dk_28 (dk_at dksX4_both_2 5 rfl rfl)
theorem dX4_both_158 : decode cX4_both 158 = .ok (.isub, 1) := dk_100 (dk_at dksX4_both_2 6 rfl rfl)
theorem dX4_both_159 : decode cX4_both 159 = .ok (.ireturn, 1) := dk_172 (dk_at dksX4_both_2 7 rfl rfl)
theorem dX4_both_160 : decode cX4_both 160 = .ok (.iload_n 1, 1) := dk_27 (dk_at dksX4_both_2 8 rfl rfl)
theorem dX4_both_161 : decode cX4_both 161 = .ok (.iload_n 2, 1) := dk_28 (dk_at dksX4_both_2 9 rfl rfl)
theorem dX4_both_162 : decode cX4_both 162 = .ok (.imul, 1) := dk_104 (dk_at dksX4_both_2 10 rfl rfl)
theorem dX4_both_163 : decode cX4_both 163 = .ok (.ireturn, 1) := dk_172 (dk_at dksX4_both_2 11 rfl rfl)
theorem dX4_both_164 : decode cX4_both 164 = .ok (.iload_n 2, 1) := dk_28 (dk_at dksX4_both_2 12 rfl rfl)
theorem dX4_both_165 : decode cX4_both 165 = .ok (.ifCond .ne 7, 3) := dk_154 0 7 (dk_at dksX4_both_2 13 rfl rfl)
theorem dX4_both_168 : decode cX4_both 168 = .ok (.iconst 0, 1) := dk_3 (dk_at dksX4_both_2 16 rfl rfl)
theorem dX4_both_169 : decode cX4_both 169 = .ok (.goto 6, 3) := dk_167 0 6 (dk_at dksX4_both_2 17 rfl rfl)
theorem dX4_both_172 : decode cX4_both 172 = .ok (.iload_n 1, 1) := dk_27 (dk_at dksX4_both_2 20 rfl rfl)
theorem dX4_both_173 : decode cX4_both 173 = .ok (.iload_n 2, 1) := dk_28 (dk_at dksX4_both_2 21 rfl rfl)
theorem dX4_both_174 : decode cX4_both 174 = .ok (.idiv, 1) := dk_108 (dk_at dksX4_both_2 22 rfl rfl)
theorem dX4_both_175 : decode cX4_both 175 = .ok (.ireturn, 1) := dk_172 (dk_at dksX4_both_2 23 rfl rfl)
theorem dX4_both_176 : decode cX4_both 176 = .ok (.iload_n 2, 1) := dk_28 (dk_at dksX4_both_3 0 rfl rfl)
theorem dX4_both_177 : decode cX4_both 177 = .ok (.ifCond .ne 7, 3) := dk_154 0 7 (dk_at dksX4_both_3 1 rfl rfl)
theorem dX4_both_180 : decode cX4_both 180 = .ok (.iconst 0, 1) := dk_3 (dk_at dksX4_both_3 4 rfl rfl)
theorem dX4_both_181 : decode cX4_both 181 = .ok (.goto 6, 3) := dk_167 0 6 (dk_at dksX4_both_3 5 rfl rfl)
theorem dX4_both_184 : decode cX4_both 184 = .ok (.iload_n 1, 1) := dk_27 (dk_at dksX4_both_3 8 rfl rfl)
theorem dX4_both_185 : decode cX4_both 185 = .ok (.iload_n 2, 1) := dk_28 (dk_at dksX4_both_3 9 rfl rfl)
theorem dX4_both_186 : decode cX4_both 186 = .ok (.irem, 1) := dk_112 (dk_at dksX4_both_3 10 rfl rfl)
theorem dX4_both_187 : decode cX4_both 187 = .ok (.ireturn, 1) := dk_172 (dk_at dksX4_both_3 11 rfl rfl)
theorem dX4_both_188 : decode cX4_both 188 = .ok (.iload_n 1, 1) := dk_27 (dk_at dksX4_both_3 12 rfl rfl)
theorem dX4_both_189 : decode cX4_both 189 = .ok (.iload_n 2, 1) := dk_28 (dk_at dksX4_both_3 13 rfl rfl)
theorem dX4_both_190 : decode cX4_both 190 = .ok (.invokestatic 73, 3) := dk_184 0 73 (dk_at dksX4_both_3 14 rfl rfl)
theorem dX4_both_193 : decode cX4_both 193 = .ok (.ireturn, 1) := dk_172 (dk_at dksX4_both_3 17 rfl rfl)
theorem dX4_both_194 : decode cX4_both 194 = .ok (.iload_n 1, 1) := dk_27 (dk_at dksX4_both_3 18 rfl rfl)
theorem dX4_both_195 : decode cX4_both 195 = .ok (.iload_n 2, 1) := dk_28 (dk_at dksX4_both_3 19 rfl rfl)
theorem dX4_both_196 : decode cX4_both 196 = .ok (.invokestatic 76, 3) := dk_184 0 76 (dk_at dksX4_both_3 20 rfl rfl)
theorem dX4_both_199 : decode cX4_both 199 = .ok (.ireturn, 1) := dk_172 (dk_at dksX4_both_3 23 rfl rfl)
theorem dX4_both_200 : decode cX4_both 200 = .ok (.iload_n 1, 1) := dk_27 (dk_at dksX4_both_4 0 rfl rfl)
theorem dX4_both_201 : decode cX4_both 201 = .ok (.iload_n 2, 1) := dk_28 (dk_at dksX4_both_4 1 rfl rfl)
theorem dX4_both_202 : decode cX4_both 202 = .ok (.if_icmp .ge 7, 3) := dk_162 0 7 (dk_at dksX4_both_4 2 rfl rfl)
theorem dX4_both_205 : decode cX4_both 205 = .ok (.iconst 1, 1) := dk_4 (dk_at dksX4_both_4 5 rfl rfl)
theorem dX4_both_206 : decode cX4_both 206 = .ok (.goto 4, 3) := dk_167 0 4 (dk_at dksX4_both_4 6 rfl rfl)
theorem dX4_both_209 : decode cX4_both 209 = .ok (.iconst 0, 1) := dk_3 (dk_at dksX4_both_4 9 rfl rfl)
theorem dX4_both_210 : decode cX4_both 210 = .ok (.ireturn, 1) := dk_172 (dk_at dksX4_both_4 10 rfl rfl)
theorem dX4_both_211 : decode cX4_both 211 = .ok (.iload_n 1, 1) := dk_27 (dk_at dksX4_both_4 11 rfl rfl)
theorem dX4_both_212 : decode cX4_both 212 = .ok (.iload_n 2, 1) := dk_28 (dk_at dksX4_both_4 12 rfl rfl)
theorem dX4_both_213 : decode cX4_both 213 = .ok (.if_icmp .le 7, 3) := dk_164 0 7 (dk_at dksX4_both_4 13 rfl rfl)
theorem dX4_both_216 : decode cX4_both 216 = .ok (.iconst 1, 1) := dk_4 (dk_at dksX4_both_4 16 rfl rfl)
theorem dX4_both_217 : decode cX4_both 217 = .ok (.goto 4, 3) := dk_167 0 4 (dk_at dksX4_both_4 17 rfl rfl)
theorem dX4_both_220 : decode cX4_both 220 = .ok (.iconst 0, 1) := dk_3 (dk_at dksX4_both_4 20 rfl rfl)
theorem dX4_both_221 : decode cX4_both 221 = .ok (.ireturn, 1) := dk_172 (dk_at dksX4_both_4 21 rfl rfl)
theorem dX4_both_222 : decode cX4_both 222 = .ok (.iload_n 1, 1) := dk_27 (dk_at dksX4_both_4 22 rfl rfl)
theorem dX4_both_223 : decode cX4_both 223 = .ok (.iload_n 2, 1) := dk_28 (dk_at dksX4_both_4 23 rfl rfl)
theorem dX4_both_224 : decode cX4_both 224 = .ok (.if_icmp .ne 7, 3) := dk_160 0 7 (dk_at dksX4_both_5 0 rfl rfl)
theorem dX4_both_227 : decode cX4_both 227 = .ok (.iconst 1, 1) := dk_4 (dk_at dksX4_both_5 3 rfl rfl)
theorem dX4_both_228 : decode cX4_both 228 = .ok (.goto 4, 3) := dk_167 0 4 (dk_at dksX4_both_5 4 rfl rfl)
theorem dX4_both_231 : decode cX4_both 231 = .ok (.iconst 0, 1) := dk_3 (dk_at dksX4_both_5 7 rfl rfl)
theorem dX4_both_232 : decode cX4_both 232 = .ok (.ireturn, 1) := dk_172 (dk_at dksX4_both_5 8 rfl rfl)
theorem dX4_both_233 : decode cX4_both 233 = .ok (.iload_n 1, 1) := dk_27 (dk_at dksX4_both_5 9 rfl rfl)
theorem dX4_both_234 : decode cX4_both 234 = .ok (.iload_n 2, 1) := dk_28 (dk_at dksX4_both_5 10 rfl rfl)
theorem dX4_both_235 : decode cX4_both 235 = .ok (.if_icmp .gt 7, 3) := dk_163 0 7 (dk_at dksX4_both_5 11 rfl rfl)
theorem dX4_both_238 : decode cX4_both 238 = .ok (.iconst 1, 1) := dk_4 (dk_at dksX4_both_5 14 rfl rfl)
theorem dX4_both_239 : decode cX4_both 239 = .ok (.goto 4, 3) := dk_167 0 4 (dk_at dksX4_both_5 15 rfl rfl)
theorem dX4_both_242 : decode cX4_both 242 = .ok (.iconst 0, 1) := dk_3 (dk_at dksX4_both_5 18 rfl rfl)
theorem dX4_both_243 : decode cX4_both 243 = .ok (.ireturn, 1) := dk_172 (dk_at dksX4_both_5 19 rfl rfl)
theorem dX4_both_244 : decode cX4_both 244 = .ok (.iload_n 1, 1) := dk_27 (dk_at dksX4_both_5 20 rfl rfl)
theorem dX4_both_245 : decode cX4_both 245 = .ok (.iload_n 2, 1) := dk_28 (dk_at dksX4_both_5 21 rfl rfl)
theorem dX4_both_246 : decode cX4_both 246 = .ok (.if_icmp .lt 7, 3) := dk_161 0 7 (dk_at dksX4_both_6 0 rfl rfl)
theorem dX4_both_249 : decode cX4_both 249 = .ok (.iconst 1, 1) := dk_4 (dk_at dksX4_both_6 3 rfl rfl)
theorem dX4_both_250 : decode cX4_both 250 = .ok (.goto 4, 3) := dk_167 0 4 (dk_at dksX4_both_6 4 rfl rfl)
theorem dX4_both_253 : decode cX4_both 253 = .ok (.iconst 0, 1) := dk_3 (dk_at dksX4_both_6 7 rfl rfl)
theorem dX4_both_254 : decode cX4_both 254 = .ok (.ireturn, 1) := dk_172 (dk_at dksX4_both_6 8 rfl rfl)
theorem dX4_both_255 : decode cX4_both 255 = .ok (.iload_n 1, 1) := dk_27 (dk_at dksX4_both_6 9 rfl rfl)
theorem dX4_both_256 : decode cX4_both 256 = .ok (.iload_n 2, 1) := dk_28 (dk_at dksX4_both_6 10 rfl rfl)
theorem dX4_both_257 : decode cX4_both 257 = .ok (.iand, 1) := dk_126 (dk_at dksX4_both_6 11 rfl rfl)
theorem dX4_both_258 : decode cX4_both 258 = .ok (.ireturn, 1) := dk_172 (dk_at dksX4_both_6 12 rfl rfl)
theorem dX4_both_259 : decode cX4_both 259 = .ok (.iload_n 1, 1) := dk_27 (dk_at dksX4_both_6 13 rfl rfl)
theorem dX4_both_260 : decode cX4_both 260 = .ok (.iload_n 2, 1) := dk_28 (dk_at dksX4_both_6 14 rfl rfl)
theorem dX4_both_261 : decode cX4_both 261 = .ok (.ior, 1) := dk_128 (dk_at dksX4_both_6 15 rfl rfl)
theorem dX4_both_262 : decode cX4_both 262 = .ok (.ireturn, 1) := dk_172 (dk_at dksX4_both_6 16 rfl rfl)
abbrev cX4_byteAt : ByteArray := prog_41_method_57_code
def yX4_byteAt : MethodName := ⟨RX4, "byteAt", "(I)I"⟩
def dkwX4_byteAt_1 : List UInt8 := [180, 0, 47, 180, 1, 30, 27, 46, 167, 0, 8, 42, 4, 182, 0, 234, 172]
abbrev dktX4_byteAt_1 : List UInt8 := dkwX4_byteAt_1 ++ []
def dkwX4_byteAt_0 : List UInt8 := [42, 3, 181, 0, 54, 27, 3, 42, 180, 0, 47, 180, 1, 0, 4, 100, 184, 0, 60, 153, 0, 15, 42]
abbrev dktX4_byteAt_0 : List UInt8 := dkwX4_byteAt_0 ++ dktX4_byteAt_1
theorem dksX4_byteAt_0 : cX4_byteAt.data.toList.drop 0 = dktX4_byteAt_0 := by decide +kernel
theorem dksX4_byteAt_1 : cX4_byteAt.data.toList.drop 23 = dktX4_byteAt_1 := dk_seg dksX4_byteAt_0 23 rfl rfl
theorem dX4_byteAt_0 : decode cX4_byteAt 0 = .ok (.aload_n 0, 1) := dk_42 (dk_at dksX4_byteAt_0 0 rfl rfl)
theorem dX4_byteAt_1 : decode cX4_byteAt 1 = .ok (.iconst 0, 1) := dk_3 (dk_at dksX4_byteAt_0 1 rfl rfl)
theorem dX4_byteAt_2 : decode cX4_byteAt 2 = .ok (.putfield 54, 3) := dk_181 0 54 (dk_at dksX4_byteAt_0 2 rfl rfl)
theorem dX4_byteAt_5 : decode cX4_byteAt 5 = .ok (.iload_n 1, 1) := dk_27 (dk_at dksX4_byteAt_0 5 rfl rfl)
theorem dX4_byteAt_6 : decode cX4_byteAt 6 = .ok (.iconst 0, 1) := dk_3 (dk_at dksX4_byteAt_0 6 rfl rfl)
theorem dX4_byteAt_7 : decode cX4_byteAt 7 = .ok (.aload_n 0, 1) := dk_42 (dk_at dksX4_byteAt_0 7 rfl rfl)
theorem dX4_byteAt_8 : decode cX4_byteAt 8 = .ok (.getfield 47, 3) := dk_180 0 47 (dk_at dksX4_byteAt_0 8 rfl rfl)
theorem dX4_byteAt_11 : decode cX4_byteAt 11 = .ok (.getfield 256, 3) := dk_180 1 0 (dk_at dksX4_byteAt_0 11 rfl rfl)
theorem dX4_byteAt_14 : decode cX4_byteAt 14 = .ok (.iconst 1, 1) := dk_4 (dk_at dksX4_byteAt_0 14 rfl rfl)
theorem dX4_byteAt_15 : decode cX4_byteAt 15 = .ok (.isub, 1) := dk_100 (dk_at dksX4_byteAt_0 15 rfl rfl)
theorem dX4_byteAt_16 : decode cX4_byteAt 16 = .ok (.invokestatic 60, 3) := dk_184 0 60 (dk_at dksX4_byteAt_0 16 rfl rfl)
theorem dX4_byteAt_19 : decode cX4_byteAt 19 = .ok (.ifCond .eq 15, 3) := dk_153 0 15 (dk_at dksX4_byteAt_0 19 rfl rfl)
theorem dX4_byteAt_22 : decode cX4_byteAt 22 = .ok (.aload_n 0, 1) := dk_42 (dk_at dksX4_byteAt_0 22 rfl rfl)
theorem dX4_byteAt_23 : decode cX4_byteAt 23 = .ok (.getfield 47, 3) := dk_180 0 47 (dk_at dksX4_byteAt_1 0 rfl rfl)
theorem dX4_byteAt_26 : decode cX4_byteAt 26 = .ok (.getfield 286, 3) := dk_180 1 30 (dk_at dksX4_byteAt_1 3 rfl rfl)
theorem dX4_byteAt_29 : decode cX4_byteAt 29 = .ok (.iload_n 1, 1) := dk_27 (dk_at dksX4_byteAt_1 6 rfl rfl)
theorem dX4_byteAt_30 : decode cX4_byteAt 30 = .ok (.iaload, 1) := dk_46 (dk_at dksX4_byteAt_1 7 rfl rfl)
theorem dX4_byteAt_31 : decode cX4_byteAt 31 = .ok (.goto 8, 3) := dk_167 0 8 (dk_at dksX4_byteAt_1 8 rfl rfl)
theorem dX4_byteAt_34 : decode cX4_byteAt 34 = .ok (.aload_n 0, 1) := dk_42 (dk_at dksX4_byteAt_1 11 rfl rfl)
theorem dX4_byteAt_35 : decode cX4_byteAt 35 = .ok (.iconst 1, 1) := dk_4 (dk_at dksX4_byteAt_1 12 rfl rfl)
theorem dX4_byteAt_36 : decode cX4_byteAt 36 = .ok (.invokevirtual 234, 3) := dk_182 0 234 (dk_at dksX4_byteAt_1 13 rfl rfl)
theorem dX4_byteAt_39 : decode cX4_byteAt 39 = .ok (.ireturn, 1) := dk_172 (dk_at dksX4_byteAt_1 16 rfl rfl)
abbrev cX4_clear : ByteArray := prog_41_method_58_code
def yX4_clear : MethodName := ⟨RX4, "clear", "()I"⟩
def dkwX4_clear_0 : List UInt8 := [42, 3, 181, 0, 54, 42, 180, 0, 47, 180, 1, 0, 60, 42, 180, 0, 47, 3, 181, 1, 0, 27, 172]
abbrev dktX4_clear_0 : List UInt8 := dkwX4_clear_0 ++ []
theorem dksX4_clear_0 : cX4_clear.data.toList.drop 0 = dktX4_clear_0 := by decide +kernel
theorem dX4_clear_0 : decode cX4_clear 0 = .ok (.aload_n 0, 1) := dk_42 (dk_at dksX4_clear_0 0 rfl rfl)
theorem dX4_clear_1 : decode cX4_clear 1 = .ok (.iconst 0, 1) := dk_3 (dk_at dksX4_clear_0 1 rfl rfl)
theorem dX4_clear_2 : decode cX4_clear 2 = .ok (.putfield 54, 3) := dk_181 0 54 (dk_at dksX4_clear_0 2 rfl rfl)
theorem dX4_clear_5 : decode cX4_clear 5 = .ok (.aload_n 0, 1) := dk_42 (dk_at dksX4_clear_0 5 rfl rfl)
theorem dX4_clear_6 : decode cX4_clear 6 = .ok (.getfield 47, 3) := dk_180 0 47 (dk_at dksX4_clear_0 6 rfl rfl)
theorem dX4_clear_9 : decode cX4_clear 9 = .ok (.getfield 256, 3) := dk_180 1 0 (dk_at dksX4_clear_0 9 rfl rfl)
theorem dX4_clear_12 : decode cX4_clear 12 = .ok (.istore_n 1, 1) := dk_60 (dk_at dksX4_clear_0 12 rfl rfl)
theorem dX4_clear_13 : decode cX4_clear 13 = .ok (.aload_n 0, 1) := dk_42 (dk_at dksX4_clear_0 13 rfl rfl)
theorem dX4_clear_14 : decode cX4_clear 14 = .ok (.getfield 47, 3) := dk_180 0 47 (dk_at dksX4_clear_0 14 rfl rfl)
theorem dX4_clear_17 : decode cX4_clear 17 = .ok (.iconst 0, 1) := dk_3 (dk_at dksX4_clear_0 17 rfl rfl)
theorem dX4_clear_18 : decode cX4_clear 18 = .ok (.putfield 256, 3) := dk_181 1 0 (dk_at dksX4_clear_0 18 rfl rfl)
theorem dX4_clear_21 : decode cX4_clear 21 = .ok (.iload_n 1, 1) := dk_27 (dk_at dksX4_clear_0 21 rfl rfl)
theorem dX4_clear_22 : decode cX4_clear 22 = .ok (.ireturn, 1) := dk_172 (dk_at dksX4_clear_0 22 rfl rfl)
abbrev cX4_find : ByteArray := prog_41_method_59_code
def yX4_find : MethodName := ⟨RX4, "find", "()I"⟩
def dkwX4_find_0 : List UInt8 := [42, 3, 181, 0, 54, 42, 180, 0, 47, 3, 182, 1, 33, 172]
abbrev dktX4_find_0 : List UInt8 := dkwX4_find_0 ++ []
theorem dksX4_find_0 : cX4_find.data.toList.drop 0 = dktX4_find_0 := by decide +kernel
theorem dX4_find_0 : decode cX4_find 0 = .ok (.aload_n 0, 1) := dk_42 (dk_at dksX4_find_0 0 rfl rfl)
theorem dX4_find_1 : decode cX4_find 1 = .ok (.iconst 0, 1) := dk_3 (dk_at dksX4_find_0 1 rfl rfl)
theorem dX4_find_2 : decode cX4_find 2 = .ok (.putfield 54, 3) := dk_181 0 54 (dk_at dksX4_find_0 2 rfl rfl)
theorem dX4_find_5 : decode cX4_find 5 = .ok (.aload_n 0, 1) := dk_42 (dk_at dksX4_find_0 5 rfl rfl)
theorem dX4_find_6 : decode cX4_find 6 = .ok (.getfield 47, 3) := dk_180 0 47 (dk_at dksX4_find_0 6 rfl rfl)
theorem dX4_find_9 : decode cX4_find 9 = .ok (.iconst 0, 1) := dk_3 (dk_at dksX4_find_0 9 rfl rfl)
theorem dX4_find_10 : decode cX4_find 10 = .ok (.invokevirtual 289, 3) := dk_182 1 33 (dk_at dksX4_find_0 10 rfl rfl)
theorem dX4_find_13 : decode cX4_find 13 = .ok (.ireturn, 1) := dk_172 (dk_at dksX4_find_0 13 rfl rfl)
abbrev cX4_translate : ByteArray := prog_41_method_61_code
def yX4_translate : MethodName := ⟨RX4, "translate", "(II)I"⟩
def dkwX4_translate_6 : List UInt8 := [29, 172]
abbrev dktX4_translate_6 : List UInt8 := dkwX4_translate_6 ++ []
def dkwX4_translate_5 : List UInt8 := [167, 0, 4, 4, 96, 62, 42, 180, 0, 47, 180, 1, 30, 21, 4, 21, 6, 79, 132, 4, 1, 167, 255, 149]
abbrev dktX4_translate_5 : List UInt8 := dkwX4_translate_5 ++ dktX4_translate_6
def dkwX4_translate_4 : List UInt8 := [104, 21, 5, 96, 46, 54, 6, 29, 21, 6, 42, 180, 0, 47, 180, 1, 30, 21, 4, 46, 160, 0, 7, 3]
abbrev dktX4_translate_4 : List UInt8 := dkwX4_translate_4 ++ dktX4_translate_5
def dkwX4_translate_3 : List UInt8 := [180, 0, 35, 180, 0, 219, 28, 46, 161, 0, 6, 167, 0, 55, 42, 180, 0, 35, 180, 0, 222, 16, 12, 28]
abbrev dktX4_translate_3 : List UInt8 := dkwX4_translate_3 ++ dktX4_translate_4
def dkwX4_translate_2 : List UInt8 := [180, 0, 47, 180, 1, 30, 21, 4, 46, 182, 1, 36, 54, 5, 21, 5, 2, 159, 0, 72, 21, 5, 42]
abbrev dktX4_translate_2 : List UInt8 := dkwX4_translate_2 ++ dktX4_translate_3
def dkwX4_translate_1 : List UInt8 := [182, 0, 234, 172, 3, 62, 3, 54, 4, 21, 4, 42, 180, 0, 47, 180, 1, 0, 162, 0, 101, 42, 27, 42]
abbrev dktX4_translate_1 : List UInt8 := dkwX4_translate_1 ++ dktX4_translate_2
def dkwX4_translate_0 : List UInt8 := [42, 3, 181, 0, 54, 42, 27, 182, 1, 24, 153, 0, 11, 42, 28, 182, 1, 24, 154, 0, 9, 42, 4]
abbrev dktX4_translate_0 : List UInt8 := dkwX4_translate_0 ++ dktX4_translate_1
theorem dksX4_translate_0 : cX4_translate.data.toList.drop 0 = dktX4_translate_0 := by decide +kernel
theorem dksX4_translate_1 : cX4_translate.data.toList.drop 23 = dktX4_translate_1 := dk_seg dksX4_translate_0 23 rfl rfl
theorem dksX4_translate_2 : cX4_translate.data.toList.drop 47 = dktX4_translate_2 := dk_seg dksX4_translate_1 24 rfl rfl
theorem dksX4_translate_3 : cX4_translate.data.toList.drop 70 = dktX4_translate_3 := dk_seg dksX4_translate_2 23 rfl rfl
theorem dksX4_translate_4 : cX4_translate.data.toList.drop 94 = dktX4_translate_4 := dk_seg dksX4_translate_3 24 rfl rfl
theorem dksX4_translate_5 : cX4_translate.data.toList.drop 118 = dktX4_translate_5 := dk_seg dksX4_translate_4 24 rfl rfl
theorem dksX4_translate_6 : cX4_translate.data.toList.drop 142 = dktX4_translate_6 := dk_seg dksX4_translate_5 24 rfl rfl
theorem dX4_translate_0 : decode cX4_translate 0 = .ok (.aload_n 0, 1) := dk_42 (dk_at dksX4_translate_0 0 rfl rfl)
theorem dX4_translate_1 : decode cX4_translate 1 = .ok (.iconst 0, 1) := dk_3 (dk_at dksX4_translate_0 1 rfl rfl)
theorem dX4_translate_2 : decode cX4_translate 2 = .ok (.putfield 54, 3) := dk_181 0 54 (dk_at dksX4_translate_0 2 rfl rfl)
theorem dX4_translate_5 : decode cX4_translate 5 = .ok (.aload_n 0, 1) := dk_42 (dk_at dksX4_translate_0 5 rfl rfl)
theorem dX4_translate_6 : decode cX4_translate 6 = .ok (.iload_n 1, 1) := dk_27 (dk_at dksX4_translate_0 6 rfl rfl)
theorem dX4_translate_7 : decode cX4_translate 7 = .ok (.invokevirtual 280, 3) := dk_182 1 24 (dk_at dksX4_translate_0 7 rfl rfl)
theorem dX4_translate_10 : decode cX4_translate 10 = .ok (.ifCond .eq 11, 3) := dk_153 0 11 (dk_at dksX4_translate_0 10 rfl rfl)
theorem dX4_translate_13 : decode cX4_translate 13 = .ok (.aload_n 0, 1) := dk_42 (dk_at dksX4_translate_0 13 rfl rfl)
theorem dX4_translate_14 : decode cX4_translate 14 = .ok (.iload_n 2, 1) := dk_28 (dk_at dksX4_translate_0 14 rfl rfl)
theorem dX4_translate_15 : decode cX4_translate 15 = .ok (.invokevirtual 280, 3) := dk_182 1 24 (dk_at dksX4_translate_0 15 rfl rfl)
theorem dX4_translate_18 : decode cX4_translate 18 = .ok (.ifCond .ne 9, 3) := dk_154 0 9 (dk_at dksX4_translate_0 18 rfl rfl)
theorem dX4_translate_21 : decode cX4_translate 21 = .ok (.aload_n 0, 1) := dk_42 (dk_at dksX4_translate_0 21 rfl rfl)
theorem dX4_translate_22 : decode cX4_translate 22 = .ok (.iconst 1, 1) := dk_4 (dk_at dksX4_translate_0 22 rfl rfl)
theorem dX4_translate_23 : decode cX4_translate 23 = .ok (.invokevirtual 234, 3) := dk_182 0 234 (dk_at dksX4_translate_1 0 rfl rfl)
theorem dX4_translate_26 : decode cX4_translate 26 = .ok (.ireturn, 1) := dk_172 (dk_at dksX4_translate_1 3 rfl rfl)
theorem dX4_translate_27 : decode cX4_translate 27 = .ok (.iconst 0, 1) := dk_3 (dk_at dksX4_translate_1 4 rfl rfl)
theorem dX4_translate_28 : decode cX4_translate 28 = .ok (.istore_n 3, 1) := dk_62 (dk_at dksX4_translate_1 5 rfl rfl)
theorem dX4_translate_29 : decode cX4_translate 29 = .ok (.iconst 0, 1) := dk_3 (dk_at dksX4_translate_1 6 rfl rfl)
theorem dX4_translate_30 : decode cX4_translate 30 = .ok (.istore 4, 2) := dk_54 4 (dk_at dksX4_translate_1 7 rfl rfl)
theorem dX4_translate_32 : decode cX4_translate 32 = .ok (.iload 4, 2) := dk_21 4 (dk_at dksX4_translate_1 9 rfl rfl)
theorem dX4_translate_34 : decode cX4_translate 34 = .ok (.aload_n 0, 1) := dk_42 (dk_at dksX4_translate_1 11 rfl rfl)
theorem dX4_translate_35 : decode cX4_translate 35 = .ok (.getfield 47, 3) := dk_180 0 47 (dk_at dksX4_translate_1 12 rfl rfl)
theorem dX4_translate_38 : decode cX4_translate 38 = .ok (.getfield 256, 3) := dk_180 1 0 (dk_at dksX4_translate_1 15 rfl rfl)
theorem dX4_translate_41 : decode cX4_translate 41 = .ok (.if_icmp .ge 101, 3) := dk_162 0 101 (dk_at dksX4_translate_1 18 rfl rfl)
theorem dX4_translate_44 : decode cX4_translate 44 = .ok (.aload_n 0, 1) := dk_42 (dk_at dksX4_translate_1 21 rfl rfl)
theorem dX4_translate_45 : decode cX4_translate 45 = .ok (.iload_n 1, 1) := dk_27 (dk_at dksX4_translate_1 22 rfl rfl)
theorem dX4_translate_46 : decode cX4_translate 46 = .ok (.aload_n 0, 1) := dk_42 (dk_at dksX4_translate_1 23 rfl rfl)
theorem dX4_translate_47 : decode cX4_translate 47 = .ok (.getfield 47, 3) := dk_180 0 47 (dk_at dksX4_translate_2 0 rfl rfl)
theorem dX4_translate_50 : decode cX4_translate 50 = .ok (.getfield 286, 3) := dk_180 1 30 (dk_at dksX4_translate_2 3 rfl rfl)
theorem dX4_translate_53 : decode cX4_translate 53 = .ok (.iload 4, 2) := dk_21 4 (dk_at dksX4_translate_2 6 rfl rfl)
theorem dX4_translate_55 : decode cX4_translate 55 = .ok (.iaload, 1) := dk_46 (dk_at dksX4_translate_2 8 rfl rfl)
theorem dX4_translate_56 : decode cX4_translate 56 = .ok (.invokevirtual 292, 3) := dk_182 1 36 (dk_at dksX4_translate_2 9 rfl rfl)
theorem dX4_translate_59 : decode cX4_translate 59 = .ok (.istore 5, 2) := dk_54 5 (dk_at dksX4_translate_2 12 rfl rfl)
theorem dX4_translate_61 : decode cX4_translate 61 = .ok (.iload 5, 2) := dk_21 5 (dk_at dksX4_translate_2 14 rfl rfl)
theorem dX4_translate_63 : decode cX4_translate 63 = .ok (.iconst (-1), 1) := dk_2 (dk_at dksX4_translate_2 16 rfl rfl)
theorem dX4_translate_64 : decode cX4_translate 64 = .ok (.if_icmp .eq 72, 3) := dk_159 0 72 (dk_at dksX4_translate_2 17 rfl rfl)
theorem dX4_translate_67 : decode cX4_translate 67 = .ok (.iload 5, 2) := dk_21 5 (dk_at dksX4_translate_2 20 rfl rfl)
theorem dX4_translate_69 : decode cX4_translate 69 = .ok (.aload_n 0, 1) := dk_42 (dk_at dksX4_translate_2 22 rfl rfl)
theorem dX4_translate_70 : decode cX4_translate 70 = .ok (.getfield 35, 3) := dk_180 0 35 (dk_at dksX4_translate_3 0 rfl rfl)
theorem dX4_translate_73 : decode cX4_translate 73 = .ok (.getfield 219, 3) := dk_180 0 219 (dk_at dksX4_translate_3 3 rfl rfl)
theorem dX4_translate_76 : decode cX4_translate 76 = .ok (.iload_n 2, 1) := dk_28 (dk_at dksX4_translate_3 6 rfl rfl)
theorem dX4_translate_77 : decode cX4_translate 77 = .ok (.iaload, 1) := dk_46 (dk_at dksX4_translate_3 7 rfl rfl)
theorem dX4_translate_78 : decode cX4_translate 78 = .ok (.if_icmp .lt 6, 3) := dk_161 0 6 (dk_at dksX4_translate_3 8 rfl rfl)
theorem dX4_translate_81 : decode cX4_translate 81 = .ok (.goto 55, 3) := dk_167 0 55 (dk_at dksX4_translate_3 11 rfl rfl)
theorem dX4_translate_84 : decode cX4_translate 84 = .ok (.aload_n 0, 1) := dk_42 (dk_at dksX4_translate_3 14 rfl rfl)
theorem dX4_translate_85 : decode cX4_translate 85 = .ok (.getfield 35, 3) := dk_180 0 35 (dk_at dksX4_translate_3 15 rfl rfl)
theorem dX4_translate_88 : decode cX4_translate 88 = .ok (.getfield 222, 3) := dk_180 0 222 (dk_at dksX4_translate_3 18 rfl rfl)
theorem dX4_translate_91 : decode cX4_translate 91 = .ok (.bipush 12, 2) := dk_16 12 (dk_at dksX4_translate_3 21 rfl rfl)
theorem dX4_translate_93 : decode cX4_translate 93 = .ok (.iload_n 2, 1) := dk_28 (dk_at dksX4_translate_3 23 rfl rfl)
theorem dX4_translate_94 : decode cX4_translate 94 = .ok (.imul, 1) := dk_104 (dk_at dksX4_translate_4 0 rfl rfl)
theorem dX4_translate_95 : decode cX4_translate 95 = .ok (.iload 5, 2) := dk_21 5 (dk_at dksX4_translate_4 1 rfl rfl)
theorem dX4_translate_97 : decode cX4_translate 97 = .ok (.iadd, 1) := dk_96 (dk_at dksX4_translate_4 3 rfl rfl)
theorem dX4_translate_98 : decode cX4_translate 98 = .ok (.iaload, 1) := dk_46 (dk_at dksX4_translate_4 4 rfl rfl)
theorem dX4_translate_99 : decode cX4_translate 99 = .ok (.istore 6, 2) := dk_54 6 (dk_at dksX4_translate_4 5 rfl rfl)
theorem dX4_translate_101 : decode cX4_translate 101 = .ok (.iload_n 3, 1) := dk_29 (dk_at dksX4_translate_4 7 rfl rfl)
theorem dX4_translate_102 : decode cX4_translate 102 = .ok (.iload 6, 2) := dk_21 6 (dk_at dksX4_translate_4 8 rfl rfl)
theorem dX4_translate_104 : decode cX4_translate 104 = .ok (.aload_n 0, 1) := dk_42 (dk_at dksX4_translate_4 10 rfl rfl)
theorem dX4_translate_105 : decode cX4_translate 105 = .ok (.getfield 47, 3) := dk_180 0 47 (dk_at dksX4_translate_4 11 rfl rfl)
theorem dX4_translate_108 : decode cX4_translate 108 = .ok (.getfield 286, 3) := dk_180 1 30 (dk_at dksX4_translate_4 14 rfl rfl)
theorem dX4_translate_111 : decode cX4_translate 111 = .ok (.iload 4, 2) := dk_21 4 (dk_at dksX4_translate_4 17 rfl rfl)
theorem dX4_translate_113 : decode cX4_translate 113 = .ok (.iaload, 1) := dk_46 (dk_at dksX4_translate_4 19 rfl rfl)
theorem dX4_translate_114 : decode cX4_translate 114 = .ok (.if_icmp .ne 7, 3) := dk_160 0 7 (dk_at dksX4_translate_4 20 rfl rfl)
theorem dX4_translate_117 : decode cX4_translate 117 = .ok (.iconst 0, 1) := dk_3 (dk_at dksX4_translate_4 23 rfl rfl)
theorem dX4_translate_118 : decode cX4_translate 118 = .ok (.goto 4, 3) := dk_167 0 4 (dk_at dksX4_translate_5 0 rfl rfl)
theorem dX4_translate_121 : decode cX4_translate 121 = .ok (.iconst 1, 1) := dk_4 (dk_at dksX4_translate_5 3 rfl rfl)
theorem dX4_translate_122 : decode cX4_translate 122 = .ok (.iadd, 1) := dk_96 (dk_at dksX4_translate_5 4 rfl rfl)
theorem dX4_translate_123 : decode cX4_translate 123 = .ok (.istore_n 3, 1) := dk_62 (dk_at dksX4_translate_5 5 rfl rfl)
theorem dX4_translate_124 : decode cX4_translate 124 = .ok (.aload_n 0, 1) := dk_42 (dk_at dksX4_translate_5 6 rfl rfl)
theorem dX4_translate_125 : decode cX4_translate 125 = .ok (.getfield 47, 3) := dk_180 0 47 (dk_at dksX4_translate_5 7 rfl rfl)
theorem dX4_translate_128 : decode cX4_translate 128 = .ok (.getfield 286, 3) := dk_180 1 30 (dk_at dksX4_translate_5 10 rfl rfl)
theorem dX4_translate_131 : decode cX4_translate 131 = .ok (.iload 4, 2) := dk_21 4 (dk_at dksX4_translate_5 13 rfl rfl)
theorem dX4_translate_133 : decode cX4_translate 133 = .ok (.iload 6, 2) := dk_21 6 (dk_at dksX4_translate_5 15 rfl rfl)
theorem dX4_translate_135 : decode cX4_translate 135 = .ok (.iastore, 1) := dk_79 (dk_at dksX4_translate_5 17 rfl rfl)
theorem dX4_translate_136 : decode cX4_translate 136 = .ok (.iinc 4 1, 3) := dk_132 4 1 (dk_at dksX4_translate_5 18 rfl rfl)
theorem dX4_translate_139 : decode cX4_translate 139 = .ok (.goto (-107), 3) := dk_167 255 149 (dk_at dksX4_translate_5 21 rfl rfl)
theorem dX4_translate_142 : decode cX4_translate 142 = .ok (.iload_n 3, 1) := dk_29 (dk_at dksX4_translate_6 0 rfl rfl)
theorem dX4_translate_143 : decode cX4_translate 143 = .ok (.ireturn, 1) := dk_172 (dk_at dksX4_translate_6 1 rfl rfl)
abbrev cX4_numberOf : ByteArray := prog_41_method_60_code
def yX4_numberOf : MethodName := ⟨RX4, "numberOf", "(II)I"⟩
def dkwX4_numberOf_1 : List UInt8 := [27, 104, 29, 96, 46, 28, 160, 0, 5, 29, 172, 132, 3, 1, 167, 255, 220, 2, 172]
abbrev dktX4_numberOf_1 : List UInt8 := dkwX4_numberOf_1 ++ []
def dkwX4_numberOf_0 : List UInt8 := [3, 62, 29, 42, 180, 0, 35, 180, 0, 219, 27, 46, 162, 0, 29, 42, 180, 0, 35, 180, 0, 222, 16, 12]
abbrev dktX4_numberOf_0 : List UInt8 := dkwX4_numberOf_0 ++ dktX4_numberOf_1
theorem dksX4_numberOf_0 : cX4_numberOf.data.toList.drop 0 = dktX4_numberOf_0 := by decide +kernel
theorem dksX4_numberOf_1 : cX4_numberOf.data.toList.drop 24 = dktX4_numberOf_1 := dk_seg dksX4_numberOf_0 24 rfl rfl
theorem dX4_numberOf_0 : decode cX4_numberOf 0 = .ok (.iconst 0, 1) := dk_3 (dk_at dksX4_numberOf_0 0 rfl rfl)
theorem dX4_numberOf_1 : decode cX4_numberOf 1 = .ok (.istore_n 3, 1) := dk_62 (dk_at dksX4_numberOf_0 1 rfl rfl)
theorem dX4_numberOf_2 : decode cX4_numberOf 2 = .ok (.iload_n 3, 1) := dk_29 (dk_at dksX4_numberOf_0 2 rfl rfl)
theorem dX4_numberOf_3 : decode cX4_numberOf 3 = .ok (.aload_n 0, 1) := dk_42 (dk_at dksX4_numberOf_0 3 rfl rfl)
theorem dX4_numberOf_4 : decode cX4_numberOf 4 = .ok (.getfield 35, 3) := dk_180 0 35 (dk_at dksX4_numberOf_0 4 rfl rfl)
theorem dX4_numberOf_7 : decode cX4_numberOf 7 = .ok (.getfield 219, 3) := dk_180 0 219 (dk_at dksX4_numberOf_0 7 rfl rfl)
theorem dX4_numberOf_10 : decode cX4_numberOf 10 = .ok (.iload_n 1, 1) := dk_27 (dk_at dksX4_numberOf_0 10 rfl rfl)
theorem dX4_numberOf_11 : decode cX4_numberOf 11 = .ok (.iaload, 1) := dk_46 (dk_at dksX4_numberOf_0 11 rfl rfl)
theorem dX4_numberOf_12 : decode cX4_numberOf 12 = .ok (.if_icmp .ge 29, 3) := dk_162 0 29 (dk_at dksX4_numberOf_0 12 rfl rfl)
theorem dX4_numberOf_15 : decode cX4_numberOf 15 = .ok (.aload_n 0, 1) := dk_42 (dk_at dksX4_numberOf_0 15 rfl rfl)
theorem dX4_numberOf_16 : decode cX4_numberOf 16 = .ok (.getfield 35, 3) := dk_180 0 35 (dk_at dksX4_numberOf_0 16 rfl rfl)
theorem dX4_numberOf_19 : decode cX4_numberOf 19 = .ok (.getfield 222, 3) := dk_180 0 222 (dk_at dksX4_numberOf_0 19 rfl rfl)
theorem dX4_numberOf_22 : decode cX4_numberOf 22 = .ok (.bipush 12, 2) := dk_16 12 (dk_at dksX4_numberOf_0 22 rfl rfl)
theorem dX4_numberOf_24 : decode cX4_numberOf 24 = .ok (.iload_n 1, 1) := dk_27 (dk_at dksX4_numberOf_1 0 rfl rfl)
theorem dX4_numberOf_25 : decode cX4_numberOf 25 = .ok (.imul, 1) := dk_104 (dk_at dksX4_numberOf_1 1 rfl rfl)
theorem dX4_numberOf_26 : decode cX4_numberOf 26 = .ok (.iload_n 3, 1) := dk_29 (dk_at dksX4_numberOf_1 2 rfl rfl)
theorem dX4_numberOf_27 : decode cX4_numberOf 27 = .ok (.iadd, 1) := dk_96 (dk_at dksX4_numberOf_1 3 rfl rfl)
theorem dX4_numberOf_28 : decode cX4_numberOf 28 = .ok (.iaload, 1) := dk_46 (dk_at dksX4_numberOf_1 4 rfl rfl)
theorem dX4_numberOf_29 : decode cX4_numberOf 29 = .ok (.iload_n 2, 1) := dk_28 (dk_at dksX4_numberOf_1 5 rfl rfl)
theorem dX4_numberOf_30 : decode cX4_numberOf 30 = .ok (.if_icmp .ne 5, 3) := dk_160 0 5 (dk_at dksX4_numberOf_1 6 rfl rfl)
theorem dX4_numberOf_33 : decode cX4_numberOf 33 = .ok (.iload_n 3, 1) := dk_29 (dk_at dksX4_numberOf_1 9 rfl rfl)
theorem dX4_numberOf_34 : decode cX4_numberOf 34 = .ok (.ireturn, 1) := dk_172 (dk_at dksX4_numberOf_1 10 rfl rfl)
theorem dX4_numberOf_35 : decode cX4_numberOf 35 = .ok (.iinc 3 1, 3) := dk_132 3 1 (dk_at dksX4_numberOf_1 11 rfl rfl)
theorem dX4_numberOf_38 : decode cX4_numberOf 38 = .ok (.goto (-36), 3) := dk_167 255 220 (dk_at dksX4_numberOf_1 14 rfl rfl)
theorem dX4_numberOf_41 : decode cX4_numberOf 41 = .ok (.iconst (-1), 1) := dk_2 (dk_at dksX4_numberOf_1 17 rfl rfl)
theorem dX4_numberOf_42 : decode cX4_numberOf 42 = .ok (.ireturn, 1) := dk_172 (dk_at dksX4_numberOf_1 18 rfl rfl)
abbrev cX4_foresee : ByteArray := prog_41_method_62_code
def yX4_foresee : MethodName := ⟨RX4, "foresee", "(II)I"⟩
def dkwX4_foresee_4 : List UInt8 := [167, 0, 10, 42, 180, 0, 51, 182, 1, 43, 172]
abbrev dktX4_foresee_4 : List UInt8 := dkwX4_foresee_4 ++ []
def dkwX4_foresee_3 : List UInt8 := [167, 255, 237, 28, 154, 0, 7, 29, 167, 0, 25, 28, 4, 160, 0, 13, 42, 180, 0, 51, 182, 1, 3]
abbrev dktX4_foresee_3 : List UInt8 := dkwX4_foresee_3 ++ dktX4_foresee_4
def dkwX4_foresee_2 : List UInt8 := [3, 62, 3, 54, 4, 21, 4, 27, 162, 0, 19, 29, 42, 180, 0, 51, 182, 1, 27, 96, 62, 132, 4, 1]
abbrev dktX4_foresee_2 : List UInt8 := dkwX4_foresee_2 ++ dktX4_foresee_3
def dkwX4_foresee_1 : List UInt8 := [5, 184, 0, 60, 154, 0, 9, 42, 5, 182, 0, 234, 172, 42, 180, 0, 51, 42, 180, 0, 47, 182, 1, 39]
abbrev dktX4_foresee_1 : List UInt8 := dkwX4_foresee_1 ++ dktX4_foresee_2
def dkwX4_foresee_0 : List UInt8 := [42, 3, 181, 0, 54, 27, 4, 17, 1, 44, 184, 0, 60, 154, 0, 9, 42, 4, 182, 0, 234, 172, 28, 3]
abbrev dktX4_foresee_0 : List UInt8 := dkwX4_foresee_0 ++ dktX4_foresee_1
theorem dksX4_foresee_0 : cX4_foresee.data.toList.drop 0 = dktX4_foresee_0 := by decide +kernel
theorem dksX4_foresee_1 : cX4_foresee.data.toList.drop 24 = dktX4_foresee_1 := dk_seg dksX4_foresee_0 24 rfl rfl
theorem dksX4_foresee_2 : cX4_foresee.data.toList.drop 48 = dktX4_foresee_2 := dk_seg dksX4_foresee_1 24 rfl rfl
theorem dksX4_foresee_3 : cX4_foresee.data.toList.drop 72 = dktX4_foresee_3 := dk_seg dksX4_foresee_2 24 rfl rfl
theorem dksX4_foresee_4 : cX4_foresee.data.toList.drop 95 = dktX4_foresee_4 := dk_seg dksX4_foresee_3 23 rfl rfl
theorem dX4_foresee_0 : decode cX4_foresee 0 = .ok (.aload_n 0, 1) := dk_42 (dk_at dksX4_foresee_0 0 rfl rfl)
theorem dX4_foresee_1 : decode cX4_foresee 1 = .ok (.iconst 0, 1) := dk_3 (dk_at dksX4_foresee_0 1 rfl rfl)
theorem dX4_foresee_2 : decode cX4_foresee 2 = .ok (.putfield 54, 3) := dk_181 0 54 (dk_at dksX4_foresee_0 2 rfl rfl)
theorem dX4_foresee_5 : decode cX4_foresee 5 = .ok (.iload_n 1, 1) := dk_27 (dk_at dksX4_foresee_0 5 rfl rfl)
theorem dX4_foresee_6 : decode cX4_foresee 6 = .ok (.iconst 1, 1) := dk_4 (dk_at dksX4_foresee_0 6 rfl rfl)
theorem dX4_foresee_7 : decode cX4_foresee 7 = .ok (.sipush 300, 3) := dk_17 1 44 (dk_at dksX4_foresee_0 7 rfl rfl)
theorem dX4_foresee_10 : decode cX4_foresee 10 = .ok (.invokestatic 60, 3) := dk_184 0 60 (dk_at dksX4_foresee_0 10 rfl rfl)
theorem dX4_foresee_13 : decode cX4_foresee 13 = .ok (.ifCond .ne 9, 3) := dk_154 0 9 (dk_at dksX4_foresee_0 13 rfl rfl)
theorem dX4_foresee_16 : decode cX4_foresee 16 = .ok (.aload_n 0, 1) := dk_42 (dk_at dksX4_foresee_0 16 rfl rfl)
theorem dX4_foresee_17 : decode cX4_foresee 17 = .ok (.iconst 1, 1) := dk_4 (dk_at dksX4_foresee_0 17 rfl rfl)
theorem dX4_foresee_18 : decode cX4_foresee 18 = .ok (.invokevirtual 234, 3) := dk_182 0 234 (dk_at dksX4_foresee_0 18 rfl rfl)
theorem dX4_foresee_21 : decode cX4_foresee 21 = .ok (.ireturn, 1) := dk_172 (dk_at dksX4_foresee_0 21 rfl rfl)
theorem dX4_foresee_22 : decode cX4_foresee 22 = .ok (.iload_n 2, 1) := dk_28 (dk_at dksX4_foresee_0 22 rfl rfl)
theorem dX4_foresee_23 : decode cX4_foresee 23 = .ok (.iconst 0, 1) := dk_3 (dk_at dksX4_foresee_0 23 rfl rfl)
theorem dX4_foresee_24 : decode cX4_foresee 24 = .ok (.iconst 2, 1) := dk_5 (dk_at dksX4_foresee_1 0 rfl rfl)
theorem dX4_foresee_25 : decode cX4_foresee 25 = .ok (.invokestatic 60, 3) := dk_184 0 60 (dk_at dksX4_foresee_1 1 rfl rfl)
theorem dX4_foresee_28 : decode cX4_foresee 28 = .ok (.ifCond .ne 9, 3) := dk_154 0 9 (dk_at dksX4_foresee_1 4 rfl rfl)
theorem dX4_foresee_31 : decode cX4_foresee 31 = .ok (.aload_n 0, 1) := dk_42 (dk_at dksX4_foresee_1 7 rfl rfl)
theorem dX4_foresee_32 : decode cX4_foresee 32 = .ok (.iconst 2, 1) := dk_5 (dk_at dksX4_foresee_1 8 rfl rfl)
theorem dX4_foresee_33 : decode cX4_foresee 33 = .ok (.invokevirtual 234, 3) := dk_182 0 234 (dk_at dksX4_foresee_1 9 rfl rfl)
theorem dX4_foresee_36 : decode cX4_foresee 36 = .ok (.ireturn, 1) := dk_172 (dk_at dksX4_foresee_1 12 rfl rfl)
theorem dX4_foresee_37 : decode cX4_foresee 37 = .ok (.aload_n 0, 1) := dk_42 (dk_at dksX4_foresee_1 13 rfl rfl)
theorem dX4_foresee_38 : decode cX4_foresee 38 = .ok (.getfield 51, 3) := dk_180 0 51 (dk_at dksX4_foresee_1 14 rfl rfl)
theorem dX4_foresee_41 : decode cX4_foresee 41 = .ok (.aload_n 0, 1) := dk_42 (dk_at dksX4_foresee_1 17 rfl rfl)
theorem dX4_foresee_42 : decode cX4_foresee 42 = .ok (.getfield 47, 3) := dk_180 0 47 (dk_at dksX4_foresee_1 18 rfl rfl)
theorem dX4_foresee_45 : decode cX4_foresee 45 = .ok (.invokevirtual 295, 3) := dk_182 1 39 (dk_at dksX4_foresee_1 21 rfl rfl)
theorem dX4_foresee_48 : decode cX4_foresee 48 = .ok (.iconst 0, 1) := dk_3 (dk_at dksX4_foresee_2 0 rfl rfl)
theorem dX4_foresee_49 : decode cX4_foresee 49 = .ok (.istore_n 3, 1) := dk_62 (dk_at dksX4_foresee_2 1 rfl rfl)
theorem dX4_foresee_50 : decode cX4_foresee 50 = .ok (.iconst 0, 1) := dk_3 (dk_at dksX4_foresee_2 2 rfl rfl)
theorem dX4_foresee_51 : decode cX4_foresee 51 = .ok (.istore 4, 2) := dk_54 4 (dk_at dksX4_foresee_2 3 rfl rfl)
theorem dX4_foresee_53 : decode cX4_foresee 53 = .ok (.iload 4, 2) := dk_21 4 (dk_at dksX4_foresee_2 5 rfl rfl)
theorem dX4_foresee_55 : decode cX4_foresee 55 = .ok (.iload_n 1, 1) := dk_27 (dk_at dksX4_foresee_2 7 rfl rfl)
theorem dX4_foresee_56 : decode cX4_foresee 56 = .ok (.if_icmp .ge 19, 3) := dk_162 0 19 (dk_at dksX4_foresee_2 8 rfl rfl)
theorem dX4_foresee_59 : decode cX4_foresee 59 = .ok (.iload_n 3, 1) := dk_29 (dk_at dksX4_foresee_2 11 rfl rfl)
theorem dX4_foresee_60 : decode cX4_foresee 60 = .ok (.aload_n 0, 1) := dk_42 (dk_at dksX4_foresee_2 12 rfl rfl)
theorem dX4_foresee_61 : decode cX4_foresee 61 = .ok (.getfield 51, 3) := dk_180 0 51 (dk_at dksX4_foresee_2 13 rfl rfl)
theorem dX4_foresee_64 : decode cX4_foresee 64 = .ok (.invokevirtual 283, 3) := dk_182 1 27 (dk_at dksX4_foresee_2 16 rfl rfl)
theorem dX4_foresee_67 : decode cX4_foresee 67 = .ok (.iadd, 1) := dk_96 (dk_at dksX4_foresee_2 19 rfl rfl)
theorem dX4_foresee_68 : decode cX4_foresee 68 = .ok (.istore_n 3, 1) := dk_62 (dk_at dksX4_foresee_2 20 rfl rfl)
theorem dX4_foresee_69 : decode cX4_foresee 69 = .ok (.iinc 4 1, 3) := dk_132 4 1 (dk_at dksX4_foresee_2 21 rfl rfl)
theorem dX4_foresee_72 : decode cX4_foresee 72 = .ok (.goto (-19), 3) := dk_167 255 237 (dk_at dksX4_foresee_3 0 rfl rfl)
theorem dX4_foresee_75 : decode cX4_foresee 75 = .ok (.iload_n 2, 1) := dk_28 (dk_at dksX4_foresee_3 3 rfl rfl)
theorem dX4_foresee_76 : decode cX4_foresee 76 = .ok (.ifCond .ne 7, 3) := dk_154 0 7 (dk_at dksX4_foresee_3 4 rfl rfl)
theorem dX4_foresee_79 : decode cX4_foresee 79 = .ok (.iload_n 3, 1) := dk_29 (dk_at dksX4_foresee_3 7 rfl rfl)
theorem dX4_foresee_80 : decode cX4_foresee 80 = .ok (.goto 25, 3) := dk_167 0 25 (dk_at dksX4_foresee_3 8 rfl rfl)
theorem dX4_foresee_83 : decode cX4_foresee 83 = .ok (.iload_n 2, 1) := dk_28 (dk_at dksX4_foresee_3 11 rfl rfl)
theorem dX4_foresee_84 : decode cX4_foresee 84 = .ok (.iconst 1, 1) := dk_4 (dk_at dksX4_foresee_3 12 rfl rfl)
theorem dX4_foresee_85 : decode cX4_foresee 85 = .ok (.if_icmp .ne 13, 3) := dk_160 0 13 (dk_at dksX4_foresee_3 13 rfl rfl)
theorem dX4_foresee_88 : decode cX4_foresee 88 = .ok (.aload_n 0, 1) := dk_42 (dk_at dksX4_foresee_3 16 rfl rfl)
theorem dX4_foresee_89 : decode cX4_foresee 89 = .ok (.getfield 51, 3) := dk_180 0 51 (dk_at dksX4_foresee_3 17 rfl rfl)
theorem dX4_foresee_92 : decode cX4_foresee 92 = .ok (.invokevirtual 259, 3) := dk_182 1 3 (dk_at dksX4_foresee_3 20 rfl rfl)
theorem dX4_foresee_95 : decode cX4_foresee 95 = .ok (.goto 10, 3) := dk_167 0 10 (dk_at dksX4_foresee_4 0 rfl rfl)
theorem dX4_foresee_98 : decode cX4_foresee 98 = .ok (.aload_n 0, 1) := dk_42 (dk_at dksX4_foresee_4 3 rfl rfl)
theorem dX4_foresee_99 : decode cX4_foresee 99 = .ok (.getfield 51, 3) := dk_180 0 51 (dk_at dksX4_foresee_4 4 rfl rfl)
theorem dX4_foresee_102 : decode cX4_foresee 102 = .ok (.invokevirtual 299, 3) := dk_182 1 43 (dk_at dksX4_foresee_4 7 rfl rfl)
theorem dX4_foresee_105 : decode cX4_foresee 105 = .ok (.ireturn, 1) := dk_172 (dk_at dksX4_foresee_4 10 rfl rfl)
abbrev cX4_next : ByteArray := prog_41_method_63_code
def yX4_next : MethodName := ⟨RX4, "next", "(IIZ)I"⟩
def dkwX4_next_3 : List UInt8 := [167, 0, 4, 3, 182, 1, 21, 153, 0, 6, 21, 4, 172, 132, 4, 1, 167, 255, 212, 2, 172]
abbrev dktX4_next_3 : List UInt8 := dkwX4_next_3 ++ []
def dkwX4_next_2 : List UInt8 := [163, 0, 42, 42, 180, 0, 51, 182, 1, 46, 42, 180, 0, 51, 27, 28, 29, 153, 0, 9, 17, 0, 180]
abbrev dktX4_next_2 : List UInt8 := dkwX4_next_2 ++ dktX4_next_3
def dkwX4_next_1 : List UInt8 := [182, 0, 234, 172, 42, 180, 0, 51, 42, 180, 0, 47, 182, 1, 39, 4, 54, 4, 21, 4, 17, 3, 232]
abbrev dktX4_next_1 : List UInt8 := dkwX4_next_1 ++ dktX4_next_2
def dkwX4_next_0 : List UInt8 := [42, 3, 181, 0, 54, 42, 27, 182, 1, 12, 153, 0, 11, 42, 28, 182, 1, 12, 154, 0, 9, 42, 4]
abbrev dktX4_next_0 : List UInt8 := dkwX4_next_0 ++ dktX4_next_1
theorem dksX4_next_0 : cX4_next.data.toList.drop 0 = dktX4_next_0 := by decide +kernel
theorem dksX4_next_1 : cX4_next.data.toList.drop 23 = dktX4_next_1 := dk_seg dksX4_next_0 23 rfl rfl
theorem dksX4_next_2 : cX4_next.data.toList.drop 46 = dktX4_next_2 := dk_seg dksX4_next_1 23 rfl rfl
theorem dksX4_next_3 : cX4_next.data.toList.drop 69 = dktX4_next_3 := dk_seg dksX4_next_2 23 rfl rfl
theorem dX4_next_0 : decode cX4_next 0 = .ok (.aload_n 0, 1) := dk_42 (dk_at dksX4_next_0 0 rfl rfl)
theorem dX4_next_1 : decode cX4_next 1 = .ok (.iconst 0, 1) := dk_3 (dk_at dksX4_next_0 1 rfl rfl)
theorem dX4_next_2 : decode cX4_next 2 = .ok (.putfield 54, 3) := dk_181 0 54 (dk_at dksX4_next_0 2 rfl rfl)
theorem dX4_next_5 : decode cX4_next 5 = .ok (.aload_n 0, 1) := dk_42 (dk_at dksX4_next_0 5 rfl rfl)
theorem dX4_next_6 : decode cX4_next 6 = .ok (.iload_n 1, 1) := dk_27 (dk_at dksX4_next_0 6 rfl rfl)
theorem dX4_next_7 : decode cX4_next 7 = .ok (.invokevirtual 268, 3) := dk_182 1 12 (dk_at dksX4_next_0 7 rfl rfl)
theorem dX4_next_10 : decode cX4_next 10 = .ok (.ifCond .eq 11, 3) := dk_153 0 11 (dk_at dksX4_next_0 10 rfl rfl)
theorem dX4_next_13 : decode cX4_next 13 = .ok (.aload_n 0, 1) := dk_42 (dk_at dksX4_next_0 13 rfl rfl)
theorem dX4_next_14 : decode cX4_next 14 = .ok (.iload_n 2, 1) := dk_28 (dk_at dksX4_next_0 14 rfl rfl)
theorem dX4_next_15 : decode cX4_next 15 = .ok (.invokevirtual 268, 3) := dk_182 1 12 (dk_at dksX4_next_0 15 rfl rfl)
theorem dX4_next_18 : decode cX4_next 18 = .ok (.ifCond .ne 9, 3) := dk_154 0 9 (dk_at dksX4_next_0 18 rfl rfl)
theorem dX4_next_21 : decode cX4_next 21 = .ok (.aload_n 0, 1) := dk_42 (dk_at dksX4_next_0 21 rfl rfl)
theorem dX4_next_22 : decode cX4_next 22 = .ok (.iconst 1, 1) := dk_4 (dk_at dksX4_next_0 22 rfl rfl)
theorem dX4_next_23 : decode cX4_next 23 = .ok (.invokevirtual 234, 3) := dk_182 0 234 (dk_at dksX4_next_1 0 rfl rfl)
theorem dX4_next_26 : decode cX4_next 26 = .ok (.ireturn, 1) := dk_172 (dk_at dksX4_next_1 3 rfl rfl)
theorem dX4_next_27 : decode cX4_next 27 = .ok (.aload_n 0, 1) := dk_42 (dk_at dksX4_next_1 4 rfl rfl)
theorem dX4_next_28 : decode cX4_next 28 = .ok (.getfield 51, 3) := dk_180 0 51 (dk_at dksX4_next_1 5 rfl rfl)
theorem dX4_next_31 : decode cX4_next 31 = .ok (.aload_n 0, 1) := dk_42 (dk_at dksX4_next_1 8 rfl rfl)
theorem dX4_next_32 : decode cX4_next 32 = .ok (.getfield 47, 3) := dk_180 0 47 (dk_at dksX4_next_1 9 rfl rfl)
theorem dX4_next_35 : decode cX4_next 35 = .ok (.invokevirtual 295, 3) := dk_182 1 39 (dk_at dksX4_next_1 12 rfl rfl)
theorem dX4_next_38 : decode cX4_next 38 = .ok (.iconst 1, 1) := dk_4 (dk_at dksX4_next_1 15 rfl rfl)
theorem dX4_next_39 : decode cX4_next 39 = .ok (.istore 4, 2) := dk_54 4 (dk_at dksX4_next_1 16 rfl rfl)
theorem dX4_next_41 : decode cX4_next 41 = .ok (.iload 4, 2) := dk_21 4 (dk_at dksX4_next_1 18 rfl rfl)
theorem dX4_next_43 : decode cX4_next 43 = .ok (.sipush 1000, 3) := dk_17 3 232 (dk_at dksX4_next_1 20 rfl rfl)
theorem dX4_next_46 : decode cX4_next 46 = .ok (.if_icmp .gt 42, 3) := dk_163 0 42 (dk_at dksX4_next_2 0 rfl rfl)
theorem dX4_next_49 : decode cX4_next 49 = .ok (.aload_n 0, 1) := dk_42 (dk_at dksX4_next_2 3 rfl rfl)
theorem dX4_next_50 : decode cX4_next 50 = .ok (.getfield 51, 3) := dk_180 0 51 (dk_at dksX4_next_2 4 rfl rfl)
theorem dX4_next_53 : decode cX4_next 53 = .ok (.invokevirtual 302, 3) := dk_182 1 46 (dk_at dksX4_next_2 7 rfl rfl)
theorem dX4_next_56 : decode cX4_next 56 = .ok (.aload_n 0, 1) := dk_42 (dk_at dksX4_next_2 10 rfl rfl)
theorem dX4_next_57 : decode cX4_next 57 = .ok (.getfield 51, 3) := dk_180 0 51 (dk_at dksX4_next_2 11 rfl rfl)
theorem dX4_next_60 : decode cX4_next 60 = .ok (.iload_n 1, 1) := dk_27 (dk_at dksX4_next_2 14 rfl rfl)
theorem dX4_next_61 : decode cX4_next 61 = .ok (.iload_n 2, 1) := dk_28 (dk_at dksX4_next_2 15 rfl rfl)
theorem dX4_next_62 : decode cX4_next 62 = .ok (.iload_n 3, 1) := dk_29 (dk_at dksX4_next_2 16 rfl rfl)
theorem dX4_next_63 : decode cX4_next 63 = .ok (.ifCond .eq 9, 3) := dk_153 0 9 (dk_at dksX4_next_2 17 rfl rfl)
theorem dX4_next_66 : decode cX4_next 66 = .ok (.sipush 180, 3) := dk_17 0 180 (dk_at dksX4_next_2 20 rfl rfl)
theorem dX4_next_69 : decode cX4_next 69 = .ok (.goto 4, 3) := dk_167 0 4 (dk_at dksX4_next_3 0 rfl rfl)
theorem dX4_next_72 : decode cX4_next 72 = .ok (.iconst 0, 1) := dk_3 (dk_at dksX4_next_3 3 rfl rfl)
theorem dX4_next_73 : decode cX4_next 73 = .ok (.invokevirtual 277, 3) := dk_182 1 21 (dk_at dksX4_next_3 4 rfl rfl)
theorem dX4_next_76 : decode cX4_next 76 = .ok (.ifCond .eq 6, 3) := dk_153 0 6 (dk_at dksX4_next_3 7 rfl rfl)
theorem dX4_next_79 : decode cX4_next 79 = .ok (.iload 4, 2) := dk_21 4 (dk_at dksX4_next_3 10 rfl rfl)
theorem dX4_next_81 : decode cX4_next 81 = .ok (.ireturn, 1) := dk_172 (dk_at dksX4_next_3 12 rfl rfl)
theorem dX4_next_82 : decode cX4_next 82 = .ok (.iinc 4 1, 3) := dk_132 4 1 (dk_at dksX4_next_3 13 rfl rfl)
theorem dX4_next_85 : decode cX4_next 85 = .ok (.goto (-44), 3) := dk_167 255 212 (dk_at dksX4_next_3 16 rfl rfl)
theorem dX4_next_88 : decode cX4_next 88 = .ok (.iconst (-1), 1) := dk_2 (dk_at dksX4_next_3 19 rfl rfl)
theorem dX4_next_89 : decode cX4_next 89 = .ok (.ireturn, 1) := dk_172 (dk_at dksX4_next_3 20 rfl rfl)
abbrev cX4_spells : ByteArray := prog_41_method_64_code
def yX4_spells : MethodName := ⟨RX4, "spells", "()I"⟩
def dkwX4_spells_3 : List UInt8 := [42, 180, 0, 51, 182, 1, 27, 87, 132, 2, 1, 167, 255, 205, 2, 172]
abbrev dktX4_spells_3 : List UInt8 := dkwX4_spells_3 ++ []
def dkwX4_spells_2 : List UInt8 := [159, 0, 5, 28, 172, 3, 42, 180, 0, 51, 180, 1, 0, 42, 180, 0, 79, 100, 4, 96, 184, 0, 76, 60]
abbrev dktX4_spells_2 : List UInt8 := dkwX4_spells_2 ++ dktX4_spells_3
def dkwX4_spells_1 : List UInt8 := [182, 1, 39, 3, 60, 3, 61, 28, 17, 1, 144, 163, 0, 50, 42, 180, 0, 51, 27, 182, 1, 33, 2]
abbrev dktX4_spells_1 : List UInt8 := dkwX4_spells_1 ++ dktX4_spells_2
def dkwX4_spells_0 : List UInt8 := [42, 3, 181, 0, 54, 42, 180, 0, 79, 154, 0, 5, 2, 172, 42, 180, 0, 51, 42, 180, 0, 47]
abbrev dktX4_spells_0 : List UInt8 := dkwX4_spells_0 ++ dktX4_spells_1
theorem dksX4_spells_0 : cX4_spells.data.toList.drop 0 = dktX4_spells_0 := by decide +kernel
theorem dksX4_spells_1 : cX4_spells.data.toList.drop 22 = dktX4_spells_1 := dk_seg dksX4_spells_0 22 rfl rfl
theorem dksX4_spells_2 : cX4_spells.data.toList.drop 45 = dktX4_spells_2 := dk_seg dksX4_spells_1 23 rfl rfl
theorem dksX4_spells_3 : cX4_spells.data.toList.drop 69 = dktX4_spells_3 := dk_seg dksX4_spells_2 24 rfl rfl
theorem dX4_spells_0 : decode cX4_spells 0 = .ok (.aload_n 0, 1) := dk_42 (dk_at dksX4_spells_0 0 rfl rfl)
theorem dX4_spells_1 : decode cX4_spells 1 = .ok (.iconst 0, 1) := dk_3 (dk_at dksX4_spells_0 1 rfl rfl)
theorem dX4_spells_2 : decode cX4_spells 2 = .ok (.putfield 54, 3) := dk_181 0 54 (dk_at dksX4_spells_0 2 rfl rfl)
theorem dX4_spells_5 : decode cX4_spells 5 = .ok (.aload_n 0, 1) := dk_42 (dk_at dksX4_spells_0 5 rfl rfl)
theorem dX4_spells_6 : decode cX4_spells 6 = .ok (.getfield 79, 3) := dk_180 0 79 (dk_at dksX4_spells_0 6 rfl rfl)
theorem dX4_spells_9 : decode cX4_spells 9 = .ok (.ifCond .ne 5, 3) := dk_154 0 5 (dk_at dksX4_spells_0 9 rfl rfl)
theorem dX4_spells_12 : decode cX4_spells 12 = .ok (.iconst (-1), 1) := dk_2 (dk_at dksX4_spells_0 12 rfl rfl)
theorem dX4_spells_13 : decode cX4_spells 13 = .ok (.ireturn, 1) := dk_172 (dk_at dksX4_spells_0 13 rfl rfl)
theorem dX4_spells_14 : decode cX4_spells 14 = .ok (.aload_n 0, 1) := dk_42 (dk_at dksX4_spells_0 14 rfl rfl)
theorem dX4_spells_15 : decode cX4_spells 15 = .ok (.getfield 51, 3) := dk_180 0 51 (dk_at dksX4_spells_0 15 rfl rfl)
theorem dX4_spells_18 : decode cX4_spells 18 = .ok (.aload_n 0, 1) := dk_42 (dk_at dksX4_spells_0 18 rfl rfl)
theorem dX4_spells_19 : decode cX4_spells 19 = .ok (.getfield 47, 3) := dk_180 0 47 (dk_at dksX4_spells_0 19 rfl rfl)
theorem dX4_spells_22 : decode cX4_spells 22 = .ok (.invokevirtual 295, 3) := dk_182 1 39 (dk_at dksX4_spells_1 0 rfl rfl)
theorem dX4_spells_25 : decode cX4_spells 25 = .ok (.iconst 0, 1) := dk_3 (dk_at dksX4_spells_1 3 rfl rfl)
theorem dX4_spells_26 : decode cX4_spells 26 = .ok (.istore_n 1, 1) := dk_60 (dk_at dksX4_spells_1 4 rfl rfl)
theorem dX4_spells_27 : decode cX4_spells 27 = .ok (.iconst 0, 1) := dk_3 (dk_at dksX4_spells_1 5 rfl rfl)
theorem dX4_spells_28 : decode cX4_spells 28 = .ok (.istore_n 2, 1) := dk_61 (dk_at dksX4_spells_1 6 rfl rfl)
theorem dX4_spells_29 : decode cX4_spells 29 = .ok (.iload_n 2, 1) := dk_28 (dk_at dksX4_spells_1 7 rfl rfl)
theorem dX4_spells_30 : decode cX4_spells 30 = .ok (.sipush 400, 3) := dk_17 1 144 (dk_at dksX4_spells_1 8 rfl rfl)
theorem dX4_spells_33 : decode cX4_spells 33 = .ok (.if_icmp .gt 50, 3) := dk_163 0 50 (dk_at dksX4_spells_1 11 rfl rfl)
theorem dX4_spells_36 : decode cX4_spells 36 = .ok (.aload_n 0, 1) := dk_42 (dk_at dksX4_spells_1 14 rfl rfl)
theorem dX4_spells_37 : decode cX4_spells 37 = .ok (.getfield 51, 3) := dk_180 0 51 (dk_at dksX4_spells_1 15 rfl rfl)
theorem dX4_spells_40 : decode cX4_spells 40 = .ok (.iload_n 1, 1) := dk_27 (dk_at dksX4_spells_1 18 rfl rfl)
theorem dX4_spells_41 : decode cX4_spells 41 = .ok (.invokevirtual 289, 3) := dk_182 1 33 (dk_at dksX4_spells_1 19 rfl rfl)
theorem dX4_spells_44 : decode cX4_spells 44 = .ok (.iconst (-1), 1) := dk_2 (dk_at dksX4_spells_1 22 rfl rfl)
theorem dX4_spells_45 : decode cX4_spells 45 = .ok (.if_icmp .eq 5, 3) := dk_159 0 5 (dk_at dksX4_spells_2 0 rfl rfl)
theorem dX4_spells_48 : decode cX4_spells 48 = .ok (.iload_n 2, 1) := dk_28 (dk_at dksX4_spells_2 3 rfl rfl)
theorem dX4_spells_49 : decode cX4_spells 49 = .ok (.ireturn, 1) := dk_172 (dk_at dksX4_spells_2 4 rfl rfl)
theorem dX4_spells_50 : decode cX4_spells 50 = .ok (.iconst 0, 1) := dk_3 (dk_at dksX4_spells_2 5 rfl rfl)
theorem dX4_spells_51 : decode cX4_spells 51 = .ok (.aload_n 0, 1) := dk_42 (dk_at dksX4_spells_2 6 rfl rfl)
theorem dX4_spells_52 : decode cX4_spells 52 = .ok (.getfield 51, 3) := dk_180 0 51 (dk_at dksX4_spells_2 7 rfl rfl)
theorem dX4_spells_55 : decode cX4_spells 55 = .ok (.getfield 256, 3) := dk_180 1 0 (dk_at dksX4_spells_2 10 rfl rfl)
theorem dX4_spells_58 : decode cX4_spells 58 = .ok (.aload_n 0, 1) := dk_42 (dk_at dksX4_spells_2 13 rfl rfl)
theorem dX4_spells_59 : decode cX4_spells 59 = .ok (.getfield 79, 3) := dk_180 0 79 (dk_at dksX4_spells_2 14 rfl rfl)
theorem dX4_spells_62 : decode cX4_spells 62 = .ok (.isub, 1) := dk_100 (dk_at dksX4_spells_2 17 rfl rfl)
theorem dX4_spells_63 : decode cX4_spells 63 = .ok (.iconst 1, 1) := dk_4 (dk_at dksX4_spells_2 18 rfl rfl)
theorem dX4_spells_64 : decode cX4_spells 64 = .ok (.iadd, 1) := dk_96 (dk_at dksX4_spells_2 19 rfl rfl)
theorem dX4_spells_65 : decode cX4_spells 65 = .ok (.invokestatic 76, 3) := dk_184 0 76 (dk_at dksX4_spells_2 20 rfl rfl)
theorem dX4_spells_68 : decode cX4_spells 68 = .ok (.istore_n 1, 1) := dk_60 (dk_at dksX4_spells_2 23 rfl rfl)
theorem dX4_spells_69 : decode cX4_spells 69 = .ok (.aload_n 0, 1) := dk_42 (dk_at dksX4_spells_3 0 rfl rfl)
theorem dX4_spells_70 : decode cX4_spells 70 = .ok (.getfield 51, 3) := dk_180 0 51 (dk_at dksX4_spells_3 1 rfl rfl)
theorem dX4_spells_73 : decode cX4_spells 73 = .ok (.invokevirtual 283, 3) := dk_182 1 27 (dk_at dksX4_spells_3 4 rfl rfl)
theorem dX4_spells_76 : decode cX4_spells 76 = .ok (.pop, 1) := dk_87 (dk_at dksX4_spells_3 7 rfl rfl)
theorem dX4_spells_77 : decode cX4_spells 77 = .ok (.iinc 2 1, 3) := dk_132 2 1 (dk_at dksX4_spells_3 8 rfl rfl)
theorem dX4_spells_80 : decode cX4_spells 80 = .ok (.goto (-51), 3) := dk_167 255 205 (dk_at dksX4_spells_3 11 rfl rfl)
theorem dX4_spells_83 : decode cX4_spells 83 = .ok (.iconst (-1), 1) := dk_2 (dk_at dksX4_spells_3 14 rfl rfl)
theorem dX4_spells_84 : decode cX4_spells 84 = .ok (.ireturn, 1) := dk_172 (dk_at dksX4_spells_3 15 rfl rfl)
abbrev cX4_again : ByteArray := prog_41_method_65_code
def yX4_again : MethodName := ⟨RX4, "again", "(I)I"⟩
def dkwX4_again_5 : List UInt8 := [132, 2, 1, 167, 255, 171, 2, 172]
abbrev dktX4_again_5 : List UInt8 := dkwX4_again_5 ++ []
def dkwX4_again_4 : List UInt8 := [160, 0, 7, 4, 167, 0, 4, 3, 126, 62, 132, 4, 1, 167, 255, 210, 29, 153, 0, 5, 28, 172]
abbrev dktX4_again_4 : List UInt8 := dkwX4_again_4 ++ dktX4_again_5
def dkwX4_again_3 : List UInt8 := [162, 0, 40, 29, 42, 180, 0, 51, 180, 1, 9, 21, 4, 46, 42, 180, 0, 47, 180, 1, 9, 21, 4, 46]
abbrev dktX4_again_3 : List UInt8 := dkwX4_again_3 ++ dktX4_again_4
def dkwX4_again_2 : List UInt8 := [158, 0, 76, 42, 180, 0, 51, 182, 1, 46, 4, 62, 3, 54, 4, 21, 4, 42, 180, 0, 35, 180, 0, 57]
abbrev dktX4_again_2 : List UInt8 := dkwX4_again_2 ++ dktX4_again_3
def dkwX4_again_1 : List UInt8 := [180, 0, 51, 42, 180, 0, 47, 182, 1, 39, 4, 61, 28, 27, 163, 0, 86, 42, 180, 0, 35, 180, 0, 57]
abbrev dktX4_again_1 : List UInt8 := dkwX4_again_1 ++ dktX4_again_2
def dkwX4_again_0 : List UInt8 := [42, 3, 181, 0, 54, 27, 4, 17, 7, 208, 184, 0, 60, 154, 0, 9, 42, 4, 182, 0, 234, 172, 42]
abbrev dktX4_again_0 : List UInt8 := dkwX4_again_0 ++ dktX4_again_1
theorem dksX4_again_0 : cX4_again.data.toList.drop 0 = dktX4_again_0 := by decide +kernel
theorem dksX4_again_1 : cX4_again.data.toList.drop 23 = dktX4_again_1 := dk_seg dksX4_again_0 23 rfl rfl
theorem dksX4_again_2 : cX4_again.data.toList.drop 47 = dktX4_again_2 := dk_seg dksX4_again_1 24 rfl rfl
theorem dksX4_again_3 : cX4_again.data.toList.drop 71 = dktX4_again_3 := dk_seg dksX4_again_2 24 rfl rfl
theorem dksX4_again_4 : cX4_again.data.toList.drop 95 = dktX4_again_4 := dk_seg dksX4_again_3 24 rfl rfl
theorem dksX4_again_5 : cX4_again.data.toList.drop 117 = dktX4_again_5 := dk_seg dksX4_again_4 22 rfl rfl
theorem dX4_again_0 : decode cX4_again 0 = .ok (.aload_n 0, 1) := dk_42 (dk_at dksX4_again_0 0 rfl rfl)
theorem dX4_again_1 : decode cX4_again 1 = .ok (.iconst 0, 1) := dk_3 (dk_at dksX4_again_0 1 rfl rfl)
theorem dX4_again_2 : decode cX4_again 2 = .ok (.putfield 54, 3) := dk_181 0 54 (dk_at dksX4_again_0 2 rfl rfl)
theorem dX4_again_5 : decode cX4_again 5 = .ok (.iload_n 1, 1) := dk_27 (dk_at dksX4_again_0 5 rfl rfl)
theorem dX4_again_6 : decode cX4_again 6 = .ok (.iconst 1, 1) := dk_4 (dk_at dksX4_again_0 6 rfl rfl)
theorem dX4_again_7 : decode cX4_again 7 = .ok (.sipush 2000, 3) := dk_17 7 208 (dk_at dksX4_again_0 7 rfl rfl)
theorem dX4_again_10 : decode cX4_again 10 = .ok (.invokestatic 60, 3) := dk_184 0 60 (dk_at dksX4_again_0 10 rfl rfl)
theorem dX4_again_13 : decode cX4_again 13 = .ok (.ifCond .ne 9, 3) := dk_154 0 9 (dk_at dksX4_again_0 13 rfl rfl)
theorem dX4_again_16 : decode cX4_again 16 = .ok (.aload_n 0, 1) := dk_42 (dk_at dksX4_again_0 16 rfl rfl)
theorem dX4_again_17 : decode cX4_again 17 = .ok (.iconst 1, 1) := dk_4 (dk_at dksX4_again_0 17 rfl rfl)
theorem dX4_again_18 : decode cX4_again 18 = .ok (.invokevirtual 234, 3) := dk_182 0 234 (dk_at dksX4_again_0 18 rfl rfl)
theorem dX4_again_21 : decode cX4_again 21 = .ok (.ireturn, 1) := dk_172 (dk_at dksX4_again_0 21 rfl rfl)
theorem dX4_again_22 : decode cX4_again 22 = .ok (.aload_n 0, 1) := dk_42 (dk_at dksX4_again_0 22 rfl rfl)
theorem dX4_again_23 : decode cX4_again 23 = .ok (.getfield 51, 3) := dk_180 0 51 (dk_at dksX4_again_1 0 rfl rfl)
theorem dX4_again_26 : decode cX4_again 26 = .ok (.aload_n 0, 1) := dk_42 (dk_at dksX4_again_1 3 rfl rfl)
theorem dX4_again_27 : decode cX4_again 27 = .ok (.getfield 47, 3) := dk_180 0 47 (dk_at dksX4_again_1 4 rfl rfl)
theorem dX4_again_30 : decode cX4_again 30 = .ok (.invokevirtual 295, 3) := dk_182 1 39 (dk_at dksX4_again_1 7 rfl rfl)
theorem dX4_again_33 : decode cX4_again 33 = .ok (.iconst 1, 1) := dk_4 (dk_at dksX4_again_1 10 rfl rfl)
theorem dX4_again_34 : decode cX4_again 34 = .ok (.istore_n 2, 1) := dk_61 (dk_at dksX4_again_1 11 rfl rfl)
theorem dX4_again_35 : decode cX4_again 35 = .ok (.iload_n 2, 1) := dk_28 (dk_at dksX4_again_1 12 rfl rfl)
theorem dX4_again_36 : decode cX4_again 36 = .ok (.iload_n 1, 1) := dk_27 (dk_at dksX4_again_1 13 rfl rfl)
theorem dX4_again_37 : decode cX4_again 37 = .ok (.if_icmp .gt 86, 3) := dk_163 0 86 (dk_at dksX4_again_1 14 rfl rfl)
theorem dX4_again_40 : decode cX4_again 40 = .ok (.aload_n 0, 1) := dk_42 (dk_at dksX4_again_1 17 rfl rfl)
theorem dX4_again_41 : decode cX4_again 41 = .ok (.getfield 35, 3) := dk_180 0 35 (dk_at dksX4_again_1 18 rfl rfl)
theorem dX4_again_44 : decode cX4_again 44 = .ok (.getfield 57, 3) := dk_180 0 57 (dk_at dksX4_again_1 21 rfl rfl)
theorem dX4_again_47 : decode cX4_again 47 = .ok (.ifCond .le 76, 3) := dk_158 0 76 (dk_at dksX4_again_2 0 rfl rfl)
theorem dX4_again_50 : decode cX4_again 50 = .ok (.aload_n 0, 1) := dk_42 (dk_at dksX4_again_2 3 rfl rfl)
theorem dX4_again_51 : decode cX4_again 51 = .ok (.getfield 51, 3) := dk_180 0 51 (dk_at dksX4_again_2 4 rfl rfl)
theorem dX4_again_54 : decode cX4_again 54 = .ok (.invokevirtual 302, 3) := dk_182 1 46 (dk_at dksX4_again_2 7 rfl rfl)
theorem dX4_again_57 : decode cX4_again 57 = .ok (.iconst 1, 1) := dk_4 (dk_at dksX4_again_2 10 rfl rfl)
theorem dX4_again_58 : decode cX4_again 58 = .ok (.istore_n 3, 1) := dk_62 (dk_at dksX4_again_2 11 rfl rfl)
theorem dX4_again_59 : decode cX4_again 59 = .ok (.iconst 0, 1) := dk_3 (dk_at dksX4_again_2 12 rfl rfl)
theorem dX4_again_60 : decode cX4_again 60 = .ok (.istore 4, 2) := dk_54 4 (dk_at dksX4_again_2 13 rfl rfl)
theorem dX4_again_62 : decode cX4_again 62 = .ok (.iload 4, 2) := dk_21 4 (dk_at dksX4_again_2 15 rfl rfl)
theorem dX4_again_64 : decode cX4_again 64 = .ok (.aload_n 0, 1) := dk_42 (dk_at dksX4_again_2 17 rfl rfl)
theorem dX4_again_65 : decode cX4_again 65 = .ok (.getfield 35, 3) := dk_180 0 35 (dk_at dksX4_again_2 18 rfl rfl)
theorem dX4_again_68 : decode cX4_again 68 = .ok (.getfield 57, 3) := dk_180 0 57 (dk_at dksX4_again_2 21 rfl rfl)
theorem dX4_again_71 : decode cX4_again 71 = .ok (.if_icmp .ge 40, 3) := dk_162 0 40 (dk_at dksX4_again_3 0 rfl rfl)
theorem dX4_again_74 : decode cX4_again 74 = .ok (.iload_n 3, 1) := dk_29 (dk_at dksX4_again_3 3 rfl rfl)
theorem dX4_again_75 : decode cX4_again 75 = .ok (.aload_n 0, 1) := dk_42 (dk_at dksX4_again_3 4 rfl rfl)
theorem dX4_again_76 : decode cX4_again 76 = .ok (.getfield 51, 3) := dk_180 0 51 (dk_at dksX4_again_3 5 rfl rfl)
theorem dX4_again_79 : decode cX4_again 79 = .ok (.getfield 265, 3) := dk_180 1 9 (dk_at dksX4_again_3 8 rfl rfl)
theorem dX4_again_82 : decode cX4_again 82 = .ok (.iload 4, 2) := dk_21 4 (dk_at dksX4_again_3 11 rfl rfl)
theorem dX4_again_84 : decode cX4_again 84 = .ok (.iaload, 1) := dk_46 (dk_at dksX4_again_3 13 rfl rfl)
theorem dX4_again_85 : decode cX4_again 85 = .ok (.aload_n 0, 1) := dk_42 (dk_at dksX4_again_3 14 rfl rfl)
theorem dX4_again_86 : decode cX4_again 86 = .ok (.getfield 47, 3) := dk_180 0 47 (dk_at dksX4_again_3 15 rfl rfl)
theorem dX4_again_89 : decode cX4_again 89 = .ok (.getfield 265, 3) := dk_180 1 9 (dk_at dksX4_again_3 18 rfl rfl)
theorem dX4_again_92 : decode cX4_again 92 = .ok (.iload 4, 2) := dk_21 4 (dk_at dksX4_again_3 21 rfl rfl)
theorem dX4_again_94 : decode cX4_again 94 = .ok (.iaload, 1) := dk_46 (dk_at dksX4_again_3 23 rfl rfl)
theorem dX4_again_95 : decode cX4_again 95 = .ok (.if_icmp .ne 7, 3) := dk_160 0 7 (dk_at dksX4_again_4 0 rfl rfl)
theorem dX4_again_98 : decode cX4_again 98 = .ok (.iconst 1, 1) := dk_4 (dk_at dksX4_again_4 3 rfl rfl)
theorem dX4_again_99 : decode cX4_again 99 = .ok (.goto 4, 3) := dk_167 0 4 (dk_at dksX4_again_4 4 rfl rfl)
theorem dX4_again_102 : decode cX4_again 102 = .ok (.iconst 0, 1) := dk_3 (dk_at dksX4_again_4 7 rfl rfl)
theorem dX4_again_103 : decode cX4_again 103 = .ok (.iand, 1) := dk_126 (dk_at dksX4_again_4 8 rfl rfl)
theorem dX4_again_104 : decode cX4_again 104 = .ok (.istore_n 3, 1) := dk_62 (dk_at dksX4_again_4 9 rfl rfl)
theorem dX4_again_105 : decode cX4_again 105 = .ok (.iinc 4 1, 3) := dk_132 4 1 (dk_at dksX4_again_4 10 rfl rfl)
theorem dX4_again_108 : decode cX4_again 108 = .ok (.goto (-46), 3) := dk_167 255 210 (dk_at dksX4_again_4 13 rfl rfl)
theorem dX4_again_111 : decode cX4_again 111 = .ok (.iload_n 3, 1) := dk_29 (dk_at dksX4_again_4 16 rfl rfl)
theorem dX4_again_112 : decode cX4_again 112 = .ok (.ifCond .eq 5, 3) := dk_153 0 5 (dk_at dksX4_again_4 17 rfl rfl)
theorem dX4_again_115 : decode cX4_again 115 = .ok (.iload_n 2, 1) := dk_28 (dk_at dksX4_again_4 20 rfl rfl)
theorem dX4_again_116 : decode cX4_again 116 = .ok (.ireturn, 1) := dk_172 (dk_at dksX4_again_4 21 rfl rfl)
theorem dX4_again_117 : decode cX4_again 117 = .ok (.iinc 2 1, 3) := dk_132 2 1 (dk_at dksX4_again_5 0 rfl rfl)
theorem dX4_again_120 : decode cX4_again 120 = .ok (.goto (-85), 3) := dk_167 255 171 (dk_at dksX4_again_5 3 rfl rfl)
theorem dX4_again_123 : decode cX4_again 123 = .ok (.iconst (-1), 1) := dk_2 (dk_at dksX4_again_5 6 rfl rfl)
theorem dX4_again_124 : decode cX4_again 124 = .ok (.ireturn, 1) := dk_172 (dk_at dksX4_again_5 7 rfl rfl)
abbrev cX4_advise : ByteArray := prog_41_method_66_code
def yX4_advise : MethodName := ⟨RX4, "advise", "(II)I"⟩
def dkwX4_advise_6 : List UInt8 := [172]
abbrev dktX4_advise_6 : List UInt8 := dkwX4_advise_6 ++ []
def dkwX4_advise_5 : List UInt8 := [21, 6, 21, 4, 163, 0, 6, 167, 0, 10, 21, 6, 54, 4, 21, 5, 62, 132, 5, 1, 167, 255, 161, 29]
abbrev dktX4_advise_5 : List UInt8 := dkwX4_advise_5 ++ dktX4_advise_6
def dkwX4_advise_4 : List UInt8 := [21, 7, 28, 162, 0, 21, 21, 6, 42, 180, 0, 51, 182, 1, 27, 96, 54, 6, 132, 7, 1, 167, 255, 235]
abbrev dktX4_advise_4 : List UInt8 := dkwX4_advise_4 ++ dktX4_advise_5
def dkwX4_advise_3 : List UInt8 := [180, 1, 9, 27, 46, 16, 10, 21, 5, 104, 96, 17, 1, 104, 112, 182, 0, 240, 3, 54, 6, 3, 54, 7]
abbrev dktX4_advise_3 : List UInt8 := dkwX4_advise_3 ++ dktX4_advise_4
def dkwX4_advise_2 : List UInt8 := [162, 0, 94, 42, 180, 0, 51, 42, 180, 0, 47, 182, 1, 39, 42, 180, 0, 51, 27, 42, 180, 0, 47]
abbrev dktX4_advise_2 : List UInt8 := dkwX4_advise_2 ++ dktX4_advise_3
def dkwX4_advise_1 : List UInt8 := [184, 0, 60, 154, 0, 9, 42, 5, 182, 0, 234, 172, 3, 62, 2, 54, 4, 3, 54, 5, 21, 5, 16, 36]
abbrev dktX4_advise_1 : List UInt8 := dkwX4_advise_1 ++ dktX4_advise_2
def dkwX4_advise_0 : List UInt8 := [42, 3, 181, 0, 54, 42, 27, 182, 1, 12, 154, 0, 9, 42, 4, 182, 0, 234, 172, 28, 4, 16, 60]
abbrev dktX4_advise_0 : List UInt8 := dkwX4_advise_0 ++ dktX4_advise_1
theorem dksX4_advise_0 : cX4_advise.data.toList.drop 0 = dktX4_advise_0 := by decide +kernel
theorem dksX4_advise_1 : cX4_advise.data.toList.drop 23 = dktX4_advise_1 := dk_seg dksX4_advise_0 23 rfl rfl
theorem dksX4_advise_2 : cX4_advise.data.toList.drop 47 = dktX4_advise_2 := dk_seg dksX4_advise_1 24 rfl rfl
theorem dksX4_advise_3 : cX4_advise.data.toList.drop 70 = dktX4_advise_3 := dk_seg dksX4_advise_2 23 rfl rfl
theorem dksX4_advise_4 : cX4_advise.data.toList.drop 94 = dktX4_advise_4 := dk_seg dksX4_advise_3 24 rfl rfl
theorem dksX4_advise_5 : cX4_advise.data.toList.drop 118 = dktX4_advise_5 := dk_seg dksX4_advise_4 24 rfl rfl
theorem dksX4_advise_6 : cX4_advise.data.toList.drop 142 = dktX4_advise_6 := dk_seg dksX4_advise_5 24 rfl rfl
theorem dX4_advise_0 : decode cX4_advise 0 = .ok (.aload_n 0, 1) := dk_42 (dk_at dksX4_advise_0 0 rfl rfl)
theorem dX4_advise_1 : decode cX4_advise 1 = .ok (.iconst 0, 1) := dk_3 (dk_at dksX4_advise_0 1 rfl rfl)
theorem dX4_advise_2 : decode cX4_advise 2 = .ok (.putfield 54, 3) := dk_181 0 54 (dk_at dksX4_advise_0 2 rfl rfl)
theorem dX4_advise_5 : decode cX4_advise 5 = .ok (.aload_n 0, 1) := dk_42 (dk_at dksX4_advise_0 5 rfl rfl)
theorem dX4_advise_6 : decode cX4_advise 6 = .ok (.iload_n 1, 1) := dk_27 (dk_at dksX4_advise_0 6 rfl rfl)
theorem dX4_advise_7 : decode cX4_advise 7 = .ok (.invokevirtual 268, 3) := dk_182 1 12 (dk_at dksX4_advise_0 7 rfl rfl)
theorem dX4_advise_10 : decode cX4_advise 10 = .ok (.ifCond .ne 9, 3) := dk_154 0 9 (dk_at dksX4_advise_0 10 rfl rfl)
theorem dX4_advise_13 : decode cX4_advise 13 = .ok (.aload_n 0, 1) := dk_42 (dk_at dksX4_advise_0 13 rfl rfl)
theorem dX4_advise_14 : decode cX4_advise 14 = .ok (.iconst 1, 1) := dk_4 (dk_at dksX4_advise_0 14 rfl rfl)
theorem dX4_advise_15 : decode cX4_advise 15 = .ok (.invokevirtual 234, 3) := dk_182 0 234 (dk_at dksX4_advise_0 15 rfl rfl)
theorem dX4_advise_18 : decode cX4_advise 18 = .ok (.ireturn, 1) := dk_172 (dk_at dksX4_advise_0 18 rfl rfl)
theorem dX4_advise_19 : decode cX4_advise 19 = .ok (.iload_n 2, 1) := dk_28 (dk_at dksX4_advise_0 19 rfl rfl)
theorem dX4_advise_20 : decode cX4_advise 20 = .ok (.iconst 1, 1) := dk_4 (dk_at dksX4_advise_0 20 rfl rfl)
theorem dX4_advise_21 : decode cX4_advise 21 = .ok (.bipush 60, 2) := dk_16 60 (dk_at dksX4_advise_0 21 rfl rfl)
theorem dX4_advise_23 : decode cX4_advise 23 = .ok (.invokestatic 60, 3) := dk_184 0 60 (dk_at dksX4_advise_1 0 rfl rfl)
theorem dX4_advise_26 : decode cX4_advise 26 = .ok (.ifCond .ne 9, 3) := dk_154 0 9 (dk_at dksX4_advise_1 3 rfl rfl)
theorem dX4_advise_29 : decode cX4_advise 29 = .ok (.aload_n 0, 1) := dk_42 (dk_at dksX4_advise_1 6 rfl rfl)
theorem dX4_advise_30 : decode cX4_advise 30 = .ok (.iconst 2, 1) := dk_5 (dk_at dksX4_advise_1 7 rfl rfl)
theorem dX4_advise_31 : decode cX4_advise 31 = .ok (.invokevirtual 234, 3) := dk_182 0 234 (dk_at dksX4_advise_1 8 rfl rfl)
theorem dX4_advise_34 : decode cX4_advise 34 = .ok (.ireturn, 1) := dk_172 (dk_at dksX4_advise_1 11 rfl rfl)
theorem dX4_advise_35 : decode cX4_advise 35 = .ok (.iconst 0, 1) := dk_3 (dk_at dksX4_advise_1 12 rfl rfl)
theorem dX4_advise_36 : decode cX4_advise 36 = .ok (.istore_n 3, 1) := dk_62 (dk_at dksX4_advise_1 13 rfl rfl)
theorem dX4_advise_37 : decode cX4_advise 37 = .ok (.iconst (-1), 1) := dk_2 (dk_at dksX4_advise_1 14 rfl rfl)
theorem dX4_advise_38 : decode cX4_advise 38 = .ok (.istore 4, 2) := dk_54 4 (dk_at dksX4_advise_1 15 rfl rfl)
theorem dX4_advise_40 : decode cX4_advise 40 = .ok (.iconst 0, 1) := dk_3 (dk_at dksX4_advise_1 17 rfl rfl)
theorem dX4_advise_41 : decode cX4_advise 41 = .ok (.istore 5, 2) := dk_54 5 (dk_at dksX4_advise_1 18 rfl rfl)
theorem dX4_advise_43 : decode cX4_advise 43 = .ok (.iload 5, 2) := dk_21 5 (dk_at dksX4_advise_1 20 rfl rfl)
theorem dX4_advise_45 : decode cX4_advise 45 = .ok (.bipush 36, 2) := dk_16 36 (dk_at dksX4_advise_1 22 rfl rfl)
theorem dX4_advise_47 : decode cX4_advise 47 = .ok (.if_icmp .ge 94, 3) := dk_162 0 94 (dk_at dksX4_advise_2 0 rfl rfl)
theorem dX4_advise_50 : decode cX4_advise 50 = .ok (.aload_n 0, 1) := dk_42 (dk_at dksX4_advise_2 3 rfl rfl)
theorem dX4_advise_51 : decode cX4_advise 51 = .ok (.getfield 51, 3) := dk_180 0 51 (dk_at dksX4_advise_2 4 rfl rfl)
theorem dX4_advise_54 : decode cX4_advise 54 = .ok (.aload_n 0, 1) := dk_42 (dk_at dksX4_advise_2 7 rfl rfl)
theorem dX4_advise_55 : decode cX4_advise 55 = .ok (.getfield 47, 3) := dk_180 0 47 (dk_at dksX4_advise_2 8 rfl rfl)
theorem dX4_advise_58 : decode cX4_advise 58 = .ok (.invokevirtual 295, 3) := dk_182 1 39 (dk_at dksX4_advise_2 11 rfl rfl)
theorem dX4_advise_61 : decode cX4_advise 61 = .ok (.aload_n 0, 1) := dk_42 (dk_at dksX4_advise_2 14 rfl rfl)
theorem dX4_advise_62 : decode cX4_advise 62 = .ok (.getfield 51, 3) := dk_180 0 51 (dk_at dksX4_advise_2 15 rfl rfl)
theorem dX4_advise_65 : decode cX4_advise 65 = .ok (.iload_n 1, 1) := dk_27 (dk_at dksX4_advise_2 18 rfl rfl)
theorem dX4_advise_66 : decode cX4_advise 66 = .ok (.aload_n 0, 1) := dk_42 (dk_at dksX4_advise_2 19 rfl rfl)
theorem dX4_advise_67 : decode cX4_advise 67 = .ok (.getfield 47, 3) := dk_180 0 47 (dk_at dksX4_advise_2 20 rfl rfl)
theorem dX4_advise_70 : decode cX4_advise 70 = .ok (.getfield 265, 3) := dk_180 1 9 (dk_at dksX4_advise_3 0 rfl rfl)
theorem dX4_advise_73 : decode cX4_advise 73 = .ok (.iload_n 1, 1) := dk_27 (dk_at dksX4_advise_3 3 rfl rfl)
theorem dX4_advise_74 : decode cX4_advise 74 = .ok (.iaload, 1) := dk_46 (dk_at dksX4_advise_3 4 rfl rfl)
theorem dX4_advise_75 : decode cX4_advise 75 = .ok (.bipush 10, 2) := dk_16 10 (dk_at dksX4_advise_3 5 rfl rfl)
theorem dX4_advise_77 : decode cX4_advise 77 = .ok (.iload 5, 2) := dk_21 5 (dk_at dksX4_advise_3 7 rfl rfl)
theorem dX4_advise_79 : decode cX4_advise 79 = .ok (.imul, 1) := dk_104 (dk_at dksX4_advise_3 9 rfl rfl)
theorem dX4_advise_80 : decode cX4_advise 80 = .ok (.iadd, 1) := dk_96 (dk_at dksX4_advise_3 10 rfl rfl)
theorem dX4_advise_81 : decode cX4_advise 81 = .ok (.sipush 360, 3) := dk_17 1 104 (dk_at dksX4_advise_3 11 rfl rfl)
theorem dX4_advise_84 : decode cX4_advise 84 = .ok (.irem, 1) := dk_112 (dk_at dksX4_advise_3 14 rfl rfl)
theorem dX4_advise_85 : decode cX4_advise 85 = .ok (.invokevirtual 240, 3) := dk_182 0 240 (dk_at dksX4_advise_3 15 rfl rfl)
theorem dX4_advise_88 : decode cX4_advise 88 = .ok (.iconst 0, 1) := dk_3 (dk_at dksX4_advise_3 18 rfl rfl)
theorem dX4_advise_89 : decode cX4_advise 89 = .ok (.istore 6, 2) := dk_54 6 (dk_at dksX4_advise_3 19 rfl rfl)
theorem dX4_advise_91 : decode cX4_advise 91 = .ok (.iconst 0, 1) := dk_3 (dk_at dksX4_advise_3 21 rfl rfl)
theorem dX4_advise_92 : decode cX4_advise 92 = .ok (.istore 7, 2) := dk_54 7 (dk_at dksX4_advise_3 22 rfl rfl)
theorem dX4_advise_94 : decode cX4_advise 94 = .ok (.iload 7, 2) := dk_21 7 (dk_at dksX4_advise_4 0 rfl rfl)
theorem dX4_advise_96 : decode cX4_advise 96 = .ok (.iload_n 2, 1) := dk_28 (dk_at dksX4_advise_4 2 rfl rfl)
theorem dX4_advise_97 : decode cX4_advise 97 = .ok (.if_icmp .ge 21, 3) := dk_162 0 21 (dk_at dksX4_advise_4 3 rfl rfl)
theorem dX4_advise_100 : decode cX4_advise 100 = .ok (.iload 6, 2) := dk_21 6 (dk_at dksX4_advise_4 6 rfl rfl)
theorem dX4_advise_102 : decode cX4_advise 102 = .ok (.aload_n 0, 1) := dk_42 (dk_at dksX4_advise_4 8 rfl rfl)
theorem dX4_advise_103 : decode cX4_advise 103 = .ok (.getfield 51, 3) := dk_180 0 51 (dk_at dksX4_advise_4 9 rfl rfl)
theorem dX4_advise_106 : decode cX4_advise 106 = .ok (.invokevirtual 283, 3) := dk_182 1 27 (dk_at dksX4_advise_4 12 rfl rfl)
theorem dX4_advise_109 : decode cX4_advise 109 = .ok (.iadd, 1) := dk_96 (dk_at dksX4_advise_4 15 rfl rfl)
theorem dX4_advise_110 : decode cX4_advise 110 = .ok (.istore 6, 2) := dk_54 6 (dk_at dksX4_advise_4 16 rfl rfl)
theorem dX4_advise_112 : decode cX4_advise 112 = .ok (.iinc 7 1, 3) := dk_132 7 1 (dk_at dksX4_advise_4 18 rfl rfl)
theorem dX4_advise_115 : decode cX4_advise 115 = .ok (.goto (-21), 3) := dk_167 255 235 (dk_at dksX4_advise_4 21 rfl rfl)
theorem dX4_advise_118 : decode cX4_advise 118 = .ok (.iload 6, 2) := dk_21 6 (dk_at dksX4_advise_5 0 rfl rfl)
theorem dX4_advise_120 : decode cX4_advise 120 = .ok (.iload 4, 2) := dk_21 4 (dk_at dksX4_advise_5 2 rfl rfl)
theorem dX4_advise_122 : decode cX4_advise 122 = .ok (.if_icmp .gt 6, 3) := dk_163 0 6 (dk_at dksX4_advise_5 4 rfl rfl)
theorem dX4_advise_125 : decode cX4_advise 125 = .ok (.goto 10, 3) := dk_167 0 10 (dk_at dksX4_advise_5 7 rfl rfl)
theorem dX4_advise_128 : decode cX4_advise 128 = .ok (.iload 6, 2) := dk_21 6 (dk_at dksX4_advise_5 10 rfl rfl)
theorem dX4_advise_130 : decode cX4_advise 130 = .ok (.istore 4, 2) := dk_54 4 (dk_at dksX4_advise_5 12 rfl rfl)
theorem dX4_advise_132 : decode cX4_advise 132 = .ok (.iload 5, 2) := dk_21 5 (dk_at dksX4_advise_5 14 rfl rfl)
theorem dX4_advise_134 : decode cX4_advise 134 = .ok (.istore_n 3, 1) := dk_62 (dk_at dksX4_advise_5 16 rfl rfl)
theorem dX4_advise_135 : decode cX4_advise 135 = .ok (.iinc 5 1, 3) := dk_132 5 1 (dk_at dksX4_advise_5 17 rfl rfl)
theorem dX4_advise_138 : decode cX4_advise 138 = .ok (.goto (-95), 3) := dk_167 255 161 (dk_at dksX4_advise_5 20 rfl rfl)
theorem dX4_advise_141 : decode cX4_advise 141 = .ok (.iload_n 3, 1) := dk_29 (dk_at dksX4_advise_5 23 rfl rfl)
theorem dX4_advise_142 : decode cX4_advise 142 = .ok (.ireturn, 1) := dk_172 (dk_at dksX4_advise_6 0 rfl rfl)
abbrev cX4_mean : ByteArray := prog_41_method_68_code
def yX4_mean : MethodName := ⟨RX4, "mean", "()D"⟩
def dkwX4_mean_1 : List UInt8 := [42, 180, 0, 47, 180, 0, 253, 135, 111, 175]
abbrev dktX4_mean_1 : List UInt8 := dkwX4_mean_1 ++ []
def dkwX4_mean_0 : List UInt8 := [42, 3, 181, 0, 54, 42, 180, 0, 47, 180, 0, 253, 154, 0, 7, 14, 167, 0, 17, 42, 182, 1, 49, 135]
abbrev dktX4_mean_0 : List UInt8 := dkwX4_mean_0 ++ dktX4_mean_1
theorem dksX4_mean_0 : cX4_mean.data.toList.drop 0 = dktX4_mean_0 := by decide +kernel
theorem dksX4_mean_1 : cX4_mean.data.toList.drop 24 = dktX4_mean_1 := dk_seg dksX4_mean_0 24 rfl rfl
theorem dX4_mean_0 : decode cX4_mean 0 = .ok (.aload_n 0, 1) := dk_42 (dk_at dksX4_mean_0 0 rfl rfl)
theorem dX4_mean_1 : decode cX4_mean 1 = .ok (.iconst 0, 1) := dk_3 (dk_at dksX4_mean_0 1 rfl rfl)
theorem dX4_mean_2 : decode cX4_mean 2 = .ok (.putfield 54, 3) := dk_181 0 54 (dk_at dksX4_mean_0 2 rfl rfl)
theorem dX4_mean_5 : decode cX4_mean 5 = .ok (.aload_n 0, 1) := dk_42 (dk_at dksX4_mean_0 5 rfl rfl)
theorem dX4_mean_6 : decode cX4_mean 6 = .ok (.getfield 47, 3) := dk_180 0 47 (dk_at dksX4_mean_0 6 rfl rfl)
theorem dX4_mean_9 : decode cX4_mean 9 = .ok (.getfield 253, 3) := dk_180 0 253 (dk_at dksX4_mean_0 9 rfl rfl)
theorem dX4_mean_12 : decode cX4_mean 12 = .ok (.ifCond .ne 7, 3) := dk_154 0 7 (dk_at dksX4_mean_0 12 rfl rfl)
theorem dX4_mean_15 : decode cX4_mean 15 = .ok (.dconst 0, 1) := dk_14 (dk_at dksX4_mean_0 15 rfl rfl)
theorem dX4_mean_16 : decode cX4_mean 16 = .ok (.goto 17, 3) := dk_167 0 17 (dk_at dksX4_mean_0 16 rfl rfl)
theorem dX4_mean_19 : decode cX4_mean 19 = .ok (.aload_n 0, 1) := dk_42 (dk_at dksX4_mean_0 19 rfl rfl)
theorem dX4_mean_20 : decode cX4_mean 20 = .ok (.invokevirtual 305, 3) := dk_182 1 49 (dk_at dksX4_mean_0 20 rfl rfl)
theorem dX4_mean_23 : decode cX4_mean 23 = .ok (.i2d, 1) := dk_135 (dk_at dksX4_mean_0 23 rfl rfl)
theorem dX4_mean_24 : decode cX4_mean 24 = .ok (.aload_n 0, 1) := dk_42 (dk_at dksX4_mean_1 0 rfl rfl)
theorem dX4_mean_25 : decode cX4_mean 25 = .ok (.getfield 47, 3) := dk_180 0 47 (dk_at dksX4_mean_1 1 rfl rfl)
theorem dX4_mean_28 : decode cX4_mean 28 = .ok (.getfield 253, 3) := dk_180 0 253 (dk_at dksX4_mean_1 4 rfl rfl)
theorem dX4_mean_31 : decode cX4_mean 31 = .ok (.i2d, 1) := dk_135 (dk_at dksX4_mean_1 7 rfl rfl)
theorem dX4_mean_32 : decode cX4_mean 32 = .ok (.ddiv, 1) := dk_111 (dk_at dksX4_mean_1 8 rfl rfl)
theorem dX4_mean_33 : decode cX4_mean 33 = .ok (.dreturn, 1) := dk_175 (dk_at dksX4_mean_1 9 rfl rfl)
abbrev cX4_wroteInAll : ByteArray := prog_41_method_67_code
def yX4_wroteInAll : MethodName := ⟨RX4, "wroteInAll", "()I"⟩
def dkwX4_wroteInAll_1 : List UInt8 := [46, 96, 60, 132, 2, 1, 167, 255, 230, 27, 172]
abbrev dktX4_wroteInAll_1 : List UInt8 := dkwX4_wroteInAll_1 ++ []
def dkwX4_wroteInAll_0 : List UInt8 := [3, 60, 3, 61, 28, 42, 180, 0, 35, 180, 0, 155, 162, 0, 21, 27, 42, 180, 0, 47, 180, 0, 247, 28]
abbrev dktX4_wroteInAll_0 : List UInt8 := dkwX4_wroteInAll_0 ++ dktX4_wroteInAll_1
theorem dksX4_wroteInAll_0 : cX4_wroteInAll.data.toList.drop 0 = dktX4_wroteInAll_0 := by decide +kernel
theorem dksX4_wroteInAll_1 : cX4_wroteInAll.data.toList.drop 24 = dktX4_wroteInAll_1 := dk_seg dksX4_wroteInAll_0 24 rfl rfl
theorem dX4_wroteInAll_0 : decode cX4_wroteInAll 0 = .ok (.iconst 0, 1) := dk_3 (dk_at dksX4_wroteInAll_0 0 rfl rfl)
theorem dX4_wroteInAll_1 : decode cX4_wroteInAll 1 = .ok (.istore_n 1, 1) := dk_60 (dk_at dksX4_wroteInAll_0 1 rfl rfl)
theorem dX4_wroteInAll_2 : decode cX4_wroteInAll 2 = .ok (.iconst 0, 1) := dk_3 (dk_at dksX4_wroteInAll_0 2 rfl rfl)
theorem dX4_wroteInAll_3 : decode cX4_wroteInAll 3 = .ok (.istore_n 2, 1) := dk_61 (dk_at dksX4_wroteInAll_0 3 rfl rfl)
theorem dX4_wroteInAll_4 : decode cX4_wroteInAll 4 = .ok (.iload_n 2, 1) := dk_28 (dk_at dksX4_wroteInAll_0 4 rfl rfl)
theorem dX4_wroteInAll_5 : decode cX4_wroteInAll 5 = .ok (.aload_n 0, 1) := dk_42 (dk_at dksX4_wroteInAll_0 5 rfl rfl)
theorem dX4_wroteInAll_6 : decode cX4_wroteInAll 6 = .ok (.getfield 35, 3) := dk_180 0 35 (dk_at dksX4_wroteInAll_0 6 rfl rfl)
theorem dX4_wroteInAll_9 : decode cX4_wroteInAll 9 = .ok (.getfield 155, 3) := dk_180 0 155 (dk_at dksX4_wroteInAll_0 9 rfl rfl)
theorem dX4_wroteInAll_12 : decode cX4_wroteInAll 12 = .ok (.if_icmp .ge 21, 3) := dk_162 0 21 (dk_at dksX4_wroteInAll_0 12 rfl rfl)
theorem dX4_wroteInAll_15 : decode cX4_wroteInAll 15 = .ok (.iload_n 1, 1) := dk_27 (dk_at dksX4_wroteInAll_0 15 rfl rfl)
theorem dX4_wroteInAll_16 : decode cX4_wroteInAll 16 = .ok (.aload_n 0, 1) := dk_42 (dk_at dksX4_wroteInAll_0 16 rfl rfl)
theorem dX4_wroteInAll_17 : decode cX4_wroteInAll 17 = .ok (.getfield 47, 3) := dk_180 0 47 (dk_at dksX4_wroteInAll_0 17 rfl rfl)
theorem dX4_wroteInAll_20 : decode cX4_wroteInAll 20 = .ok (.getfield 247, 3) := dk_180 0 247 (dk_at dksX4_wroteInAll_0 20 rfl rfl)
theorem dX4_wroteInAll_23 : decode cX4_wroteInAll 23 = .ok (.iload_n 2, 1) := dk_28 (dk_at dksX4_wroteInAll_0 23 rfl rfl)
theorem dX4_wroteInAll_24 : decode cX4_wroteInAll 24 = .ok (.iaload, 1) := dk_46 (dk_at dksX4_wroteInAll_1 0 rfl rfl)
theorem dX4_wroteInAll_25 : decode cX4_wroteInAll 25 = .ok (.iadd, 1) := dk_96 (dk_at dksX4_wroteInAll_1 1 rfl rfl)
theorem dX4_wroteInAll_26 : decode cX4_wroteInAll 26 = .ok (.istore_n 1, 1) := dk_60 (dk_at dksX4_wroteInAll_1 2 rfl rfl)
theorem dX4_wroteInAll_27 : decode cX4_wroteInAll 27 = .ok (.iinc 2 1, 3) := dk_132 2 1 (dk_at dksX4_wroteInAll_1 3 rfl rfl)
theorem dX4_wroteInAll_30 : decode cX4_wroteInAll 30 = .ok (.goto (-26), 3) := dk_167 255 230 (dk_at dksX4_wroteInAll_1 6 rfl rfl)
theorem dX4_wroteInAll_33 : decode cX4_wroteInAll 33 = .ok (.iload_n 1, 1) := dk_27 (dk_at dksX4_wroteInAll_1 9 rfl rfl)
theorem dX4_wroteInAll_34 : decode cX4_wroteInAll 34 = .ok (.ireturn, 1) := dk_172 (dk_at dksX4_wroteInAll_1 10 rfl rfl)
abbrev cX4_digest : ByteArray := prog_41_method_69_code
def yX4_digest : MethodName := ⟨RX4, "digest", "()J"⟩
def dkwX4_digest_10 : List UInt8 := [97, 64, 132, 3, 1, 167, 255, 225, 31, 173]
abbrev dktX4_digest_10 : List UInt8 := dkwX4_digest_10 ++ []
def dkwX4_digest_9 : List UInt8 := [180, 0, 47, 180, 1, 0, 162, 0, 26, 31, 20, 1, 54, 105, 42, 180, 0, 47, 180, 1, 30, 29, 46, 133]
abbrev dktX4_digest_9 : List UInt8 := dkwX4_digest_9 ++ dktX4_digest_10
def dkwX4_digest_8 : List UInt8 := [42, 180, 0, 47, 180, 0, 247, 29, 46, 133, 97, 64, 132, 3, 1, 167, 255, 225, 3, 62, 29, 42]
abbrev dktX4_digest_8 : List UInt8 := dkwX4_digest_8 ++ dktX4_digest_9
def dkwX4_digest_7 : List UInt8 := [132, 3, 1, 167, 255, 179, 3, 62, 29, 42, 180, 0, 35, 180, 0, 155, 162, 0, 26, 31, 20, 1, 54, 105]
abbrev dktX4_digest_7 : List UInt8 := dkwX4_digest_7 ++ dktX4_digest_8
def dkwX4_digest_6 : List UInt8 := [42, 180, 0, 35, 180, 0, 222, 16, 12, 29, 104, 21, 4, 96, 46, 133, 97, 64, 132, 4, 1, 167, 255, 216]
abbrev dktX4_digest_6 : List UInt8 := dkwX4_digest_6 ++ dktX4_digest_7
def dkwX4_digest_5 : List UInt8 := [97, 64, 3, 54, 4, 21, 4, 42, 180, 0, 35, 180, 0, 219, 29, 46, 162, 0, 32, 31, 20, 1, 54, 105]
abbrev dktX4_digest_5 : List UInt8 := dkwX4_digest_5 ++ dktX4_digest_6
def dkwX4_digest_4 : List UInt8 := [180, 0, 35, 180, 0, 64, 162, 0, 72, 31, 20, 1, 54, 105, 42, 180, 0, 35, 180, 0, 219, 29, 46, 133]
abbrev dktX4_digest_4 : List UInt8 := dkwX4_digest_4 ++ dktX4_digest_5
def dkwX4_digest_3 : List UInt8 := [182, 1, 15, 133, 97, 64, 132, 4, 1, 167, 255, 231, 132, 3, 1, 167, 255, 211, 3, 62, 29, 42]
abbrev dktX4_digest_3 : List UInt8 := dkwX4_digest_3 ++ dktX4_digest_4
def dkwX4_digest_2 : List UInt8 := [162, 0, 40, 3, 54, 4, 21, 4, 16, 7, 162, 0, 24, 31, 20, 1, 54, 105, 42, 29, 21, 4]
abbrev dktX4_digest_2 : List UInt8 := dkwX4_digest_2 ++ dktX4_digest_3
def dkwX4_digest_1 : List UInt8 := [182, 1, 6, 133, 97, 64, 132, 3, 1, 167, 255, 234, 3, 62, 29, 42, 180, 0, 35, 180, 0, 57]
abbrev dktX4_digest_1 : List UInt8 := dkwX4_digest_1 ++ dktX4_digest_2
def dkwX4_digest_0 : List UInt8 := [42, 3, 181, 0, 54, 20, 1, 52, 64, 3, 62, 29, 16, 8, 162, 0, 22, 31, 20, 1, 54, 105, 42, 29]
abbrev dktX4_digest_0 : List UInt8 := dkwX4_digest_0 ++ dktX4_digest_1
theorem dksX4_digest_0 : cX4_digest.data.toList.drop 0 = dktX4_digest_0 := by decide +kernel
theorem dksX4_digest_1 : cX4_digest.data.toList.drop 24 = dktX4_digest_1 := dk_seg dksX4_digest_0 24 rfl rfl
theorem dksX4_digest_2 : cX4_digest.data.toList.drop 46 = dktX4_digest_2 := dk_seg dksX4_digest_1 22 rfl rfl
theorem dksX4_digest_3 : cX4_digest.data.toList.drop 68 = dktX4_digest_3 := dk_seg dksX4_digest_2 22 rfl rfl
theorem dksX4_digest_4 : cX4_digest.data.toList.drop 90 = dktX4_digest_4 := dk_seg dksX4_digest_3 22 rfl rfl
theorem dksX4_digest_5 : cX4_digest.data.toList.drop 114 = dktX4_digest_5 := dk_seg dksX4_digest_4 24 rfl rfl
theorem dksX4_digest_6 : cX4_digest.data.toList.drop 138 = dktX4_digest_6 := dk_seg dksX4_digest_5 24 rfl rfl
theorem dksX4_digest_7 : cX4_digest.data.toList.drop 162 = dktX4_digest_7 := dk_seg dksX4_digest_6 24 rfl rfl
theorem dksX4_digest_8 : cX4_digest.data.toList.drop 186 = dktX4_digest_8 := dk_seg dksX4_digest_7 24 rfl rfl
theorem dksX4_digest_9 : cX4_digest.data.toList.drop 208 = dktX4_digest_9 := dk_seg dksX4_digest_8 22 rfl rfl
theorem dksX4_digest_10 : cX4_digest.data.toList.drop 232 = dktX4_digest_10 := dk_seg dksX4_digest_9 24 rfl rfl
theorem dX4_digest_0 : decode cX4_digest 0 = .ok (.aload_n 0, 1) := dk_42 (dk_at dksX4_digest_0 0 rfl rfl)
theorem dX4_digest_1 : decode cX4_digest 1 = .ok (.iconst 0, 1) := dk_3 (dk_at dksX4_digest_0 1 rfl rfl)
theorem dX4_digest_2 : decode cX4_digest 2 = .ok (.putfield 54, 3) := dk_181 0 54 (dk_at dksX4_digest_0 2 rfl rfl)
theorem dX4_digest_5 : decode cX4_digest 5 = .ok (.ldc2_w 308, 3) := dk_20 1 52 (dk_at dksX4_digest_0 5 rfl rfl)
theorem dX4_digest_8 : decode cX4_digest 8 = .ok (.lstore_n 1, 1) := dk_64 (dk_at dksX4_digest_0 8 rfl rfl)
theorem dX4_digest_9 : decode cX4_digest 9 = .ok (.iconst 0, 1) := dk_3 (dk_at dksX4_digest_0 9 rfl rfl)
theorem dX4_digest_10 : decode cX4_digest 10 = .ok (.istore_n 3, 1) := dk_62 (dk_at dksX4_digest_0 10 rfl rfl)
theorem dX4_digest_11 : decode cX4_digest 11 = .ok (.iload_n 3, 1) := dk_29 (dk_at dksX4_digest_0 11 rfl rfl)
theorem dX4_digest_12 : decode cX4_digest 12 = .ok (.bipush 8, 2) := dk_16 8 (dk_at dksX4_digest_0 12 rfl rfl)
theorem dX4_digest_14 : decode cX4_digest 14 = .ok (.if_icmp .ge 22, 3) := dk_162 0 22 (dk_at dksX4_digest_0 14 rfl rfl)
theorem dX4_digest_17 : decode cX4_digest 17 = .ok (.lload_n 1, 1) := dk_31 (dk_at dksX4_digest_0 17 rfl rfl)
theorem dX4_digest_18 : decode cX4_digest 18 = .ok (.ldc2_w 310, 3) := dk_20 1 54 (dk_at dksX4_digest_0 18 rfl rfl)
theorem dX4_digest_21 : decode cX4_digest 21 = .ok (.lmul, 1) := dk_105 (dk_at dksX4_digest_0 21 rfl rfl)
theorem dX4_digest_22 : decode cX4_digest 22 = .ok (.aload_n 0, 1) := dk_42 (dk_at dksX4_digest_0 22 rfl rfl)
theorem dX4_digest_23 : decode cX4_digest 23 = .ok (.iload_n 3, 1) := dk_29 (dk_at dksX4_digest_0 23 rfl rfl)
theorem dX4_digest_24 : decode cX4_digest 24 = .ok (.invokevirtual 262, 3) := dk_182 1 6 (dk_at dksX4_digest_1 0 rfl rfl)
theorem dX4_digest_27 : decode cX4_digest 27 = .ok (.i2l, 1) := dk_133 (dk_at dksX4_digest_1 3 rfl rfl)
theorem dX4_digest_28 : decode cX4_digest 28 = .ok (.ladd, 1) := dk_97 (dk_at dksX4_digest_1 4 rfl rfl)
theorem dX4_digest_29 : decode cX4_digest 29 = .ok (.lstore_n 1, 1) := dk_64 (dk_at dksX4_digest_1 5 rfl rfl)
theorem dX4_digest_30 : decode cX4_digest 30 = .ok (.iinc 3 1, 3) := dk_132 3 1 (dk_at dksX4_digest_1 6 rfl rfl)
theorem dX4_digest_33 : decode cX4_digest 33 = .ok (.goto (-22), 3) := dk_167 255 234 (dk_at dksX4_digest_1 9 rfl rfl)
theorem dX4_digest_36 : decode cX4_digest 36 = .ok (.iconst 0, 1) := dk_3 (dk_at dksX4_digest_1 12 rfl rfl)
theorem dX4_digest_37 : decode cX4_digest 37 = .ok (.istore_n 3, 1) := dk_62 (dk_at dksX4_digest_1 13 rfl rfl)
theorem dX4_digest_38 : decode cX4_digest 38 = .ok (.iload_n 3, 1) := dk_29 (dk_at dksX4_digest_1 14 rfl rfl)
theorem dX4_digest_39 : decode cX4_digest 39 = .ok (.aload_n 0, 1) := dk_42 (dk_at dksX4_digest_1 15 rfl rfl)
theorem dX4_digest_40 : decode cX4_digest 40 = .ok (.getfield 35, 3) := dk_180 0 35 (dk_at dksX4_digest_1 16 rfl rfl)
theorem dX4_digest_43 : decode cX4_digest 43 = .ok (.getfield 57, 3) := dk_180 0 57 (dk_at dksX4_digest_1 19 rfl rfl)
theorem dX4_digest_46 : decode cX4_digest 46 = .ok (.if_icmp .ge 40, 3) := dk_162 0 40 (dk_at dksX4_digest_2 0 rfl rfl)
theorem dX4_digest_49 : decode cX4_digest 49 = .ok (.iconst 0, 1) := dk_3 (dk_at dksX4_digest_2 3 rfl rfl)
theorem dX4_digest_50 : decode cX4_digest 50 = .ok (.istore 4, 2) := dk_54 4 (dk_at dksX4_digest_2 4 rfl rfl)
theorem dX4_digest_52 : decode cX4_digest 52 = .ok (.iload 4, 2) := dk_21 4 (dk_at dksX4_digest_2 6 rfl rfl)
theorem dX4_digest_54 : decode cX4_digest 54 = .ok (.bipush 7, 2) := dk_16 7 (dk_at dksX4_digest_2 8 rfl rfl)
theorem dX4_digest_56 : decode cX4_digest 56 = .ok (.if_icmp .ge 24, 3) := dk_162 0 24 (dk_at dksX4_digest_2 10 rfl rfl)
theorem dX4_digest_59 : decode cX4_digest 59 = .ok (.lload_n 1, 1) := dk_31 (dk_at dksX4_digest_2 13 rfl rfl)
theorem dX4_digest_60 : decode cX4_digest 60 = .ok (.ldc2_w 310, 3) := dk_20 1 54 (dk_at dksX4_digest_2 14 rfl rfl)
theorem dX4_digest_63 : decode cX4_digest 63 = .ok (.lmul, 1) := dk_105 (dk_at dksX4_digest_2 17 rfl rfl)
theorem dX4_digest_64 : decode cX4_digest 64 = .ok (.aload_n 0, 1) := dk_42 (dk_at dksX4_digest_2 18 rfl rfl)
theorem dX4_digest_65 : decode cX4_digest 65 = .ok (.iload_n 3, 1) := dk_29 (dk_at dksX4_digest_2 19 rfl rfl)
theorem dX4_digest_66 : decode cX4_digest 66 = .ok (.iload 4, 2) := dk_21 4 (dk_at dksX4_digest_2 20 rfl rfl)
theorem dX4_digest_68 : decode cX4_digest 68 = .ok (.invokevirtual 271, 3) := dk_182 1 15 (dk_at dksX4_digest_3 0 rfl rfl)
theorem dX4_digest_71 : decode cX4_digest 71 = .ok (.i2l, 1) := dk_133 (dk_at dksX4_digest_3 3 rfl rfl)
theorem dX4_digest_72 : decode cX4_digest 72 = .ok (.ladd, 1) := dk_97 (dk_at dksX4_digest_3 4 rfl rfl)
theorem dX4_digest_73 : decode cX4_digest 73 = .ok (.lstore_n 1, 1) := dk_64 (dk_at dksX4_digest_3 5 rfl rfl)
theorem dX4_digest_74 : decode cX4_digest 74 = .ok (.iinc 4 1, 3) := dk_132 4 1 (dk_at dksX4_digest_3 6 rfl rfl)
theorem dX4_digest_77 : decode cX4_digest 77 = .ok (.goto (-25), 3) := dk_167 255 231 (dk_at dksX4_digest_3 9 rfl rfl)
theorem dX4_digest_80 : decode cX4_digest 80 = .ok (.iinc 3 1, 3) := dk_132 3 1 (dk_at dksX4_digest_3 12 rfl rfl)
theorem dX4_digest_83 : decode cX4_digest 83 = .ok (.goto (-45), 3) := dk_167 255 211 (dk_at dksX4_digest_3 15 rfl rfl)
theorem dX4_digest_86 : decode cX4_digest 86 = .ok (.iconst 0, 1) := dk_3 (dk_at dksX4_digest_3 18 rfl rfl)
theorem dX4_digest_87 : decode cX4_digest 87 = .ok (.istore_n 3, 1) := dk_62 (dk_at dksX4_digest_3 19 rfl rfl)
theorem dX4_digest_88 : decode cX4_digest 88 = .ok (.iload_n 3, 1) := dk_29 (dk_at dksX4_digest_3 20 rfl rfl)
theorem dX4_digest_89 : decode cX4_digest 89 = .ok (.aload_n 0, 1) := dk_42 (dk_at dksX4_digest_3 21 rfl rfl)
theorem dX4_digest_90 : decode cX4_digest 90 = .ok (.getfield 35, 3) := dk_180 0 35 (dk_at dksX4_digest_4 0 rfl rfl)
theorem dX4_digest_93 : decode cX4_digest 93 = .ok (.getfield 64, 3) := dk_180 0 64 (dk_at dksX4_digest_4 3 rfl rfl)
theorem dX4_digest_96 : decode cX4_digest 96 = .ok (.if_icmp .ge 72, 3) := dk_162 0 72 (dk_at dksX4_digest_4 6 rfl rfl)
theorem dX4_digest_99 : decode cX4_digest 99 = .ok (.lload_n 1, 1) := dk_31 (dk_at dksX4_digest_4 9 rfl rfl)
theorem dX4_digest_100 : decode cX4_digest 100 = .ok (.ldc2_w 310, 3) := dk_20 1 54 (dk_at dksX4_digest_4 10 rfl rfl)
theorem dX4_digest_103 : decode cX4_digest 103 = .ok (.lmul, 1) := dk_105 (dk_at dksX4_digest_4 13 rfl rfl)
theorem dX4_digest_104 : decode cX4_digest 104 = .ok (.aload_n 0, 1) := dk_42 (dk_at dksX4_digest_4 14 rfl rfl)
theorem dX4_digest_105 : decode cX4_digest 105 = .ok (.getfield 35, 3) := dk_180 0 35 (dk_at dksX4_digest_4 15 rfl rfl)
theorem dX4_digest_108 : decode cX4_digest 108 = .ok (.getfield 219, 3) := dk_180 0 219 (dk_at dksX4_digest_4 18 rfl rfl)
theorem dX4_digest_111 : decode cX4_digest 111 = .ok (.iload_n 3, 1) := dk_29 (dk_at dksX4_digest_4 21 rfl rfl)
theorem dX4_digest_112 : decode cX4_digest 112 = .ok (.iaload, 1) := dk_46 (dk_at dksX4_digest_4 22 rfl rfl)
theorem dX4_digest_113 : decode cX4_digest 113 = .ok (.i2l, 1) := dk_133 (dk_at dksX4_digest_4 23 rfl rfl)
theorem dX4_digest_114 : decode cX4_digest 114 = .ok (.ladd, 1) := dk_97 (dk_at dksX4_digest_5 0 rfl rfl)
theorem dX4_digest_115 : decode cX4_digest 115 = .ok (.lstore_n 1, 1) := dk_64 (dk_at dksX4_digest_5 1 rfl rfl)
theorem dX4_digest_116 : decode cX4_digest 116 = .ok (.iconst 0, 1) := dk_3 (dk_at dksX4_digest_5 2 rfl rfl)
theorem dX4_digest_117 : decode cX4_digest 117 = .ok (.istore 4, 2) := dk_54 4 (dk_at dksX4_digest_5 3 rfl rfl)
theorem dX4_digest_119 : decode cX4_digest 119 = .ok (.iload 4, 2) := dk_21 4 (dk_at dksX4_digest_5 5 rfl rfl)
theorem dX4_digest_121 : decode cX4_digest 121 = .ok (.aload_n 0, 1) := dk_42 (dk_at dksX4_digest_5 7 rfl rfl)
theorem dX4_digest_122 : decode cX4_digest 122 = .ok (.getfield 35, 3) := dk_180 0 35 (dk_at dksX4_digest_5 8 rfl rfl)
theorem dX4_digest_125 : decode cX4_digest 125 = .ok (.getfield 219, 3) := dk_180 0 219 (dk_at dksX4_digest_5 11 rfl rfl)
theorem dX4_digest_128 : decode cX4_digest 128 = .ok (.iload_n 3, 1) := dk_29 (dk_at dksX4_digest_5 14 rfl rfl)
theorem dX4_digest_129 : decode cX4_digest 129 = .ok (.iaload, 1) := dk_46 (dk_at dksX4_digest_5 15 rfl rfl)
theorem dX4_digest_130 : decode cX4_digest 130 = .ok (.if_icmp .ge 32, 3) := dk_162 0 32 (dk_at dksX4_digest_5 16 rfl rfl)
theorem dX4_digest_133 : decode cX4_digest 133 = .ok (.lload_n 1, 1) := dk_31 (dk_at dksX4_digest_5 19 rfl rfl)
theorem dX4_digest_134 : decode cX4_digest 134 = .ok (.ldc2_w 310, 3) := dk_20 1 54 (dk_at dksX4_digest_5 20 rfl rfl)
theorem dX4_digest_137 : decode cX4_digest 137 = .ok (.lmul, 1) := dk_105 (dk_at dksX4_digest_5 23 rfl rfl)
theorem dX4_digest_138 : decode cX4_digest 138 = .ok (.aload_n 0, 1) := dk_42 (dk_at dksX4_digest_6 0 rfl rfl)
theorem dX4_digest_139 : decode cX4_digest 139 = .ok (.getfield 35, 3) := dk_180 0 35 (dk_at dksX4_digest_6 1 rfl rfl)
theorem dX4_digest_142 : decode cX4_digest 142 = .ok (.getfield 222, 3) := dk_180 0 222 (dk_at dksX4_digest_6 4 rfl rfl)
theorem dX4_digest_145 : decode cX4_digest 145 = .ok (.bipush 12, 2) := dk_16 12 (dk_at dksX4_digest_6 7 rfl rfl)
theorem dX4_digest_147 : decode cX4_digest 147 = .ok (.iload_n 3, 1) := dk_29 (dk_at dksX4_digest_6 9 rfl rfl)
theorem dX4_digest_148 : decode cX4_digest 148 = .ok (.imul, 1) := dk_104 (dk_at dksX4_digest_6 10 rfl rfl)
theorem dX4_digest_149 : decode cX4_digest 149 = .ok (.iload 4, 2) := dk_21 4 (dk_at dksX4_digest_6 11 rfl rfl)
theorem dX4_digest_151 : decode cX4_digest 151 = .ok (.iadd, 1) := dk_96 (dk_at dksX4_digest_6 13 rfl rfl)
theorem dX4_digest_152 : decode cX4_digest 152 = .ok (.iaload, 1) := dk_46 (dk_at dksX4_digest_6 14 rfl rfl)
theorem dX4_digest_153 : decode cX4_digest 153 = .ok (.i2l, 1) := dk_133 (dk_at dksX4_digest_6 15 rfl rfl)
theorem dX4_digest_154 : decode cX4_digest 154 = .ok (.ladd, 1) := dk_97 (dk_at dksX4_digest_6 16 rfl rfl)
theorem dX4_digest_155 : decode cX4_digest 155 = .ok (.lstore_n 1, 1) := dk_64 (dk_at dksX4_digest_6 17 rfl rfl)
theorem dX4_digest_156 : decode cX4_digest 156 = .ok (.iinc 4 1, 3) := dk_132 4 1 (dk_at dksX4_digest_6 18 rfl rfl)
theorem dX4_digest_159 : decode cX4_digest 159 = .ok (.goto (-40), 3) := dk_167 255 216 (dk_at dksX4_digest_6 21 rfl rfl)
theorem dX4_digest_162 : decode cX4_digest 162 = .ok (.iinc 3 1, 3) := dk_132 3 1 (dk_at dksX4_digest_7 0 rfl rfl)
theorem dX4_digest_165 : decode cX4_digest 165 = .ok (.goto (-77), 3) := dk_167 255 179 (dk_at dksX4_digest_7 3 rfl rfl)
theorem dX4_digest_168 : decode cX4_digest 168 = .ok (.iconst 0, 1) := dk_3 (dk_at dksX4_digest_7 6 rfl rfl)
theorem dX4_digest_169 : decode cX4_digest 169 = .ok (.istore_n 3, 1) := dk_62 (dk_at dksX4_digest_7 7 rfl rfl)
theorem dX4_digest_170 : decode cX4_digest 170 = .ok (.iload_n 3, 1) := dk_29 (dk_at dksX4_digest_7 8 rfl rfl)
theorem dX4_digest_171 : decode cX4_digest 171 = .ok (.aload_n 0, 1) := dk_42 (dk_at dksX4_digest_7 9 rfl rfl)
theorem dX4_digest_172 : decode cX4_digest 172 = .ok (.getfield 35, 3) := dk_180 0 35 (dk_at dksX4_digest_7 10 rfl rfl)
theorem dX4_digest_175 : decode cX4_digest 175 = .ok (.getfield 155, 3) := dk_180 0 155 (dk_at dksX4_digest_7 13 rfl rfl)
theorem dX4_digest_178 : decode cX4_digest 178 = .ok (.if_icmp .ge 26, 3) := dk_162 0 26 (dk_at dksX4_digest_7 16 rfl rfl)
theorem dX4_digest_181 : decode cX4_digest 181 = .ok (.lload_n 1, 1) := dk_31 (dk_at dksX4_digest_7 19 rfl rfl)
theorem dX4_digest_182 : decode cX4_digest 182 = .ok (.ldc2_w 310, 3) := dk_20 1 54 (dk_at dksX4_digest_7 20 rfl rfl)
theorem dX4_digest_185 : decode cX4_digest 185 = .ok (.lmul, 1) := dk_105 (dk_at dksX4_digest_7 23 rfl rfl)
theorem dX4_digest_186 : decode cX4_digest 186 = .ok (.aload_n 0, 1) := dk_42 (dk_at dksX4_digest_8 0 rfl rfl)
theorem dX4_digest_187 : decode cX4_digest 187 = .ok (.getfield 47, 3) := dk_180 0 47 (dk_at dksX4_digest_8 1 rfl rfl)
theorem dX4_digest_190 : decode cX4_digest 190 = .ok (.getfield 247, 3) := dk_180 0 247 (dk_at dksX4_digest_8 4 rfl rfl)
theorem dX4_digest_193 : decode cX4_digest 193 = .ok (.iload_n 3, 1) := dk_29 (dk_at dksX4_digest_8 7 rfl rfl)
theorem dX4_digest_194 : decode cX4_digest 194 = .ok (.iaload, 1) := dk_46 (dk_at dksX4_digest_8 8 rfl rfl)
theorem dX4_digest_195 : decode cX4_digest 195 = .ok (.i2l, 1) := dk_133 (dk_at dksX4_digest_8 9 rfl rfl)
theorem dX4_digest_196 : decode cX4_digest 196 = .ok (.ladd, 1) := dk_97 (dk_at dksX4_digest_8 10 rfl rfl)
theorem dX4_digest_197 : decode cX4_digest 197 = .ok (.lstore_n 1, 1) := dk_64 (dk_at dksX4_digest_8 11 rfl rfl)
theorem dX4_digest_198 : decode cX4_digest 198 = .ok (.iinc 3 1, 3) := dk_132 3 1 (dk_at dksX4_digest_8 12 rfl rfl)
theorem dX4_digest_201 : decode cX4_digest 201 = .ok (.goto (-31), 3) := dk_167 255 225 (dk_at dksX4_digest_8 15 rfl rfl)
theorem dX4_digest_204 : decode cX4_digest 204 = .ok (.iconst 0, 1) := dk_3 (dk_at dksX4_digest_8 18 rfl rfl)
theorem dX4_digest_205 : decode cX4_digest 205 = .ok (.istore_n 3, 1) := dk_62 (dk_at dksX4_digest_8 19 rfl rfl)
theorem dX4_digest_206 : decode cX4_digest 206 = .ok (.iload_n 3, 1) := dk_29 (dk_at dksX4_digest_8 20 rfl rfl)
theorem dX4_digest_207 : decode cX4_digest 207 = .ok (.aload_n 0, 1) := dk_42 (dk_at dksX4_digest_8 21 rfl rfl)
theorem dX4_digest_208 : decode cX4_digest 208 = .ok (.getfield 47, 3) := dk_180 0 47 (dk_at dksX4_digest_9 0 rfl rfl)
theorem dX4_digest_211 : decode cX4_digest 211 = .ok (.getfield 256, 3) := dk_180 1 0 (dk_at dksX4_digest_9 3 rfl rfl)
theorem dX4_digest_214 : decode cX4_digest 214 = .ok (.if_icmp .ge 26, 3) := dk_162 0 26 (dk_at dksX4_digest_9 6 rfl rfl)
theorem dX4_digest_217 : decode cX4_digest 217 = .ok (.lload_n 1, 1) := dk_31 (dk_at dksX4_digest_9 9 rfl rfl)
theorem dX4_digest_218 : decode cX4_digest 218 = .ok (.ldc2_w 310, 3) := dk_20 1 54 (dk_at dksX4_digest_9 10 rfl rfl)
theorem dX4_digest_221 : decode cX4_digest 221 = .ok (.lmul, 1) := dk_105 (dk_at dksX4_digest_9 13 rfl rfl)
theorem dX4_digest_222 : decode cX4_digest 222 = .ok (.aload_n 0, 1) := dk_42 (dk_at dksX4_digest_9 14 rfl rfl)
theorem dX4_digest_223 : decode cX4_digest 223 = .ok (.getfield 47, 3) := dk_180 0 47 (dk_at dksX4_digest_9 15 rfl rfl)
theorem dX4_digest_226 : decode cX4_digest 226 = .ok (.getfield 286, 3) := dk_180 1 30 (dk_at dksX4_digest_9 18 rfl rfl)
theorem dX4_digest_229 : decode cX4_digest 229 = .ok (.iload_n 3, 1) := dk_29 (dk_at dksX4_digest_9 21 rfl rfl)
theorem dX4_digest_230 : decode cX4_digest 230 = .ok (.iaload, 1) := dk_46 (dk_at dksX4_digest_9 22 rfl rfl)
theorem dX4_digest_231 : decode cX4_digest 231 = .ok (.i2l, 1) := dk_133 (dk_at dksX4_digest_9 23 rfl rfl)
theorem dX4_digest_232 : decode cX4_digest 232 = .ok (.ladd, 1) := dk_97 (dk_at dksX4_digest_10 0 rfl rfl)
theorem dX4_digest_233 : decode cX4_digest 233 = .ok (.lstore_n 1, 1) := dk_64 (dk_at dksX4_digest_10 1 rfl rfl)
theorem dX4_digest_234 : decode cX4_digest 234 = .ok (.iinc 3 1, 3) := dk_132 3 1 (dk_at dksX4_digest_10 2 rfl rfl)
theorem dX4_digest_237 : decode cX4_digest 237 = .ok (.goto (-31), 3) := dk_167 255 225 (dk_at dksX4_digest_10 5 rfl rfl)
theorem dX4_digest_240 : decode cX4_digest 240 = .ok (.lload_n 1, 1) := dk_31 (dk_at dksX4_digest_10 8 rfl rfl)
theorem dX4_digest_241 : decode cX4_digest 241 = .ok (.lreturn, 1) := dk_173 (dk_at dksX4_digest_10 9 rfl rfl)
theorem q82 : (Jvm.Cond.initialized "ShadowSpellModel") ∈ lw_all := lw_g (lw_at lw_m1 11 rfl) rfl
theorem q782 : (Jvm.Cond.selects "ShadowSpellModel" ({ cls := "java/lang/Object", name := "getClass", desc := "()Ljava/lang/Class;" } : Jvm.MethodName) ({ cls := "java/lang/Object", name := "getClass", desc := "()Ljava/lang/Class;" } : Jvm.MethodName)) ∈ lw_all := lw_g (lw_at lw_m3 231 rfl) rfl
theorem q1013 : (Jvm.Cond.selects "ShadowSpellModel" ({ cls := "java/lang/Object", name := "hashCode", desc := "()I" } : Jvm.MethodName) ({ cls := "java/lang/Object", name := "hashCode", desc := "()I" } : Jvm.MethodName)) ∈ lw_all := lw_g (lw_at lw_m4 222 rfl) rfl
theorem q1127 : (Jvm.Cond.selects "ShadowSpellModel" ({ cls := "java/lang/Object", name := "equals", desc := "(Ljava/lang/Object;)Z" } : Jvm.MethodName) ({ cls := "java/lang/Object", name := "equals", desc := "(Ljava/lang/Object;)Z" } : Jvm.MethodName)) ∈ lw_all := lw_g (lw_at lw_m5 96 rfl) rfl
theorem q2685 : (Jvm.Cond.instantiable "ShadowSpellModel" (15 : Nat)) ∈ lw_all := lw_g (lw_at lw_m11 214 rfl) rfl
theorem q2687 : (Jvm.Cond.instanceMethod ({ cls := "ShadowSpellModel", name := "<init>", desc := "()V" } : Jvm.MethodName)) ∈ lw_all := lw_g (lw_at lw_m11 216 rfl) rfl
theorem q2688 : (Jvm.Cond.code ({ cls := "ShadowSpellModel", name := "<init>", desc := "()V" } : Jvm.MethodName) prog_41_method_1_code (1 : Nat) (Option.none : Option Jvm.ClassFile.FieldType)) ∈ lw_all := lw_g (lw_at lw_m11 217 rfl) rfl
theorem q2689 : (Jvm.Cond.methodLink "ShadowSpellModel" (1 : Nat) ({ cls := "java/lang/Object", name := "<init>", desc := "()V" } : Jvm.MethodName)) ∈ lw_all := lw_g (lw_at lw_m11 218 rfl) rfl
theorem q2690 : (Jvm.Cond.classLink "ShadowSpellModel" (32 : Nat) "ShadowSpellModel$Told") ∈ lw_all := lw_g (lw_at lw_m11 219 rfl) rfl
theorem q2692 : (Jvm.Cond.methodLinkNest "ShadowSpellModel" (34 : Nat) ({ cls := "ShadowSpellModel$Told", name := "<init>", desc := "()V" } : Jvm.MethodName) "ShadowSpellModel") ∈ lw_tbl := lw_at lw_m11 221 rfl
theorem q2696 : (Jvm.Cond.fieldLinkNest "ShadowSpellModel" (57 : Nat) "ShadowSpellModel$Told" "planets" "I" "ShadowSpellModel") ∈ lw_tbl := lw_at lw_m11 225 rfl
theorem q2700 : (Jvm.Cond.fieldLinkNest "ShadowSpellModel" (213 : Nat) "ShadowSpellModel$Told" "planet" "[I" "ShadowSpellModel") ∈ lw_tbl := lw_at lw_m11 229 rfl
theorem q2701 : (Jvm.Cond.fieldLinkNest "ShadowSpellModel" (64 : Nat) "ShadowSpellModel$Told" "alphabets" "I" "ShadowSpellModel") ∈ lw_tbl := lw_at lw_m11 230 rfl
theorem q2704 : (Jvm.Cond.fieldLinkNest "ShadowSpellModel" (219 : Nat) "ShadowSpellModel$Told" "letters" "[I" "ShadowSpellModel") ∈ lw_tbl := lw_at lw_m11 233 rfl
theorem q2707 : (Jvm.Cond.fieldLinkNest "ShadowSpellModel" (222 : Nat) "ShadowSpellModel$Told" "letter" "[I" "ShadowSpellModel") ∈ lw_tbl := lw_at lw_m11 236 rfl
theorem q2709 : (Jvm.Cond.fieldLinkNest "ShadowSpellModel" (155 : Nat) "ShadowSpellModel$Told" "rules" "I" "ShadowSpellModel") ∈ lw_tbl := lw_at lw_m11 238 rfl
theorem q2712 : (Jvm.Cond.fieldLinkNest "ShadowSpellModel" (158 : Nat) "ShadowSpellModel$Told" "test" "[I" "ShadowSpellModel") ∈ lw_tbl := lw_at lw_m12 1 rfl
theorem q2715 : (Jvm.Cond.fieldLinkNest "ShadowSpellModel" (164 : Nat) "ShadowSpellModel$Told" "sum" "[I" "ShadowSpellModel") ∈ lw_tbl := lw_at lw_m12 4 rfl
theorem q2718 : (Jvm.Cond.fieldLinkNest "ShadowSpellModel" (170 : Nat) "ShadowSpellModel$Told" "of" "[I" "ShadowSpellModel") ∈ lw_tbl := lw_at lw_m12 7 rfl
theorem q2721 : (Jvm.Cond.fieldLinkNest "ShadowSpellModel" (122 : Nat) "ShadowSpellModel$Told" "code" "[I" "ShadowSpellModel") ∈ lw_tbl := lw_at lw_m12 10 rfl
theorem q2722 : (Jvm.Cond.fieldLinkNest "ShadowSpellModel" (125 : Nat) "ShadowSpellModel$Told" "length" "I" "ShadowSpellModel") ∈ lw_tbl := lw_at lw_m12 11 rfl
theorem q2724 : (Jvm.Cond.fieldLinkNest "ShadowSpellModel" (127 : Nat) "ShadowSpellModel$Told" "open" "[I" "ShadowSpellModel") ∈ lw_tbl := lw_at lw_m12 13 rfl
theorem q2725 : (Jvm.Cond.fieldLinkNest "ShadowSpellModel" (130 : Nat) "ShadowSpellModel$Told" "opens" "I" "ShadowSpellModel") ∈ lw_tbl := lw_at lw_m12 14 rfl
theorem q2754 : (Jvm.Cond.classLink "ShadowSpellModel" (42 : Nat) "ShadowSpellModel$State") ∈ lw_all := lw_g (lw_at lw_m12 43 rfl) rfl
theorem q2756 : (Jvm.Cond.methodLinkNest "ShadowSpellModel" (44 : Nat) ({ cls := "ShadowSpellModel$State", name := "<init>", desc := "(LShadowSpellModel;)V" } : Jvm.MethodName) "ShadowSpellModel") ∈ lw_tbl := lw_at lw_m12 45 rfl
theorem q2761 : (Jvm.Cond.fieldLinkNest "ShadowSpellModel" (253 : Nat) "ShadowSpellModel$State" "day" "I" "ShadowSpellModel") ∈ lw_tbl := lw_at lw_m12 50 rfl
theorem q2763 : (Jvm.Cond.fieldLinkNest "ShadowSpellModel" (265 : Nat) "ShadowSpellModel$State" "angle" "[I" "ShadowSpellModel") ∈ lw_tbl := lw_at lw_m12 52 rfl
theorem q2766 : (Jvm.Cond.fieldLinkNest "ShadowSpellModel" (244 : Nat) "ShadowSpellModel$State" "lap" "[I" "ShadowSpellModel") ∈ lw_tbl := lw_at lw_m12 55 rfl
theorem q2768 : (Jvm.Cond.fieldLinkNest "ShadowSpellModel" (247 : Nat) "ShadowSpellModel$State" "wrote" "[I" "ShadowSpellModel") ∈ lw_tbl := lw_at lw_m12 57 rfl
theorem q2770 : (Jvm.Cond.fieldLinkNest "ShadowSpellModel" (286 : Nat) "ShadowSpellModel$State" "paper" "[I" "ShadowSpellModel") ∈ lw_tbl := lw_at lw_m12 59 rfl
theorem q2772 : (Jvm.Cond.fieldLinkNest "ShadowSpellModel" (256 : Nat) "ShadowSpellModel$State" "bytes" "I" "ShadowSpellModel") ∈ lw_tbl := lw_at lw_m12 61 rfl
theorem q2794 : (Jvm.Cond.fieldLink "ShadowSpellModel" (54 : Nat) "ShadowSpellModel" "thrown" "I") ∈ lw_all := lw_g (lw_at lw_m12 83 rfl) rfl
theorem q2795 : (Jvm.Cond.fieldLink "ShadowSpellModel" (9 : Nat) "ShadowSpellModel" "tape" "[I") ∈ lw_all := lw_g (lw_at lw_m12 84 rfl) rfl
theorem q2797 : (Jvm.Cond.fieldLink "ShadowSpellModel" (79 : Nat) "ShadowSpellModel" "size" "I") ∈ lw_all := lw_g (lw_at lw_m12 86 rfl) rfl
theorem q2799 : (Jvm.Cond.fieldLink "ShadowSpellModel" (13 : Nat) "ShadowSpellModel" "errorAt" "I") ∈ lw_all := lw_g (lw_at lw_m12 88 rfl) rfl
theorem q2800 : (Jvm.Cond.fieldLink "ShadowSpellModel" (17 : Nat) "ShadowSpellModel" "kind" "[I") ∈ lw_all := lw_g (lw_at lw_m12 89 rfl) rfl
theorem q2801 : (Jvm.Cond.fieldLink "ShadowSpellModel" (20 : Nat) "ShadowSpellModel" "from" "[I") ∈ lw_all := lw_g (lw_at lw_m12 90 rfl) rfl
theorem q2802 : (Jvm.Cond.fieldLink "ShadowSpellModel" (23 : Nat) "ShadowSpellModel" "many" "[I") ∈ lw_all := lw_g (lw_at lw_m12 91 rfl) rfl
theorem q2803 : (Jvm.Cond.fieldLink "ShadowSpellModel" (26 : Nat) "ShadowSpellModel" "role" "[I") ∈ lw_all := lw_g (lw_at lw_m12 92 rfl) rfl
theorem q2804 : (Jvm.Cond.fieldLink "ShadowSpellModel" (29 : Nat) "ShadowSpellModel" "meant" "[I") ∈ lw_all := lw_g (lw_at lw_m12 93 rfl) rfl
theorem q2805 : (Jvm.Cond.fieldLink "ShadowSpellModel" (113 : Nat) "ShadowSpellModel" "token" "I") ∈ lw_all := lw_g (lw_at lw_m12 94 rfl) rfl
theorem q2806 : (Jvm.Cond.fieldLink "ShadowSpellModel" (179 : Nat) "ShadowSpellModel" "depth" "I") ∈ lw_all := lw_g (lw_at lw_m12 95 rfl) rfl
theorem q2807 : (Jvm.Cond.fieldLink "ShadowSpellModel" (35 : Nat) "ShadowSpellModel" "told" "LShadowSpellModel$Told;") ∈ lw_all := lw_g (lw_at lw_m12 96 rfl) rfl
theorem q2809 : (Jvm.Cond.fieldLink "ShadowSpellModel" (39 : Nat) "ShadowSpellModel" "reading" "LShadowSpellModel$Told;") ∈ lw_all := lw_g (lw_at lw_m12 98 rfl) rfl
theorem q2810 : (Jvm.Cond.fieldLink "ShadowSpellModel" (47 : Nat) "ShadowSpellModel" "s" "LShadowSpellModel$State;") ∈ lw_all := lw_g (lw_at lw_m12 99 rfl) rfl
theorem q2811 : (Jvm.Cond.fieldLink "ShadowSpellModel" (51 : Nat) "ShadowSpellModel" "ahead" "LShadowSpellModel$State;") ∈ lw_all := lw_g (lw_at lw_m12 100 rfl) rfl
theorem q2812 : (Jvm.Cond.lays "ShadowSpellModel" "ShadowSpellModel" "thrown" "I") ∈ lw_all := lw_g (lw_at lw_m12 101 rfl) rfl
theorem q2813 : (Jvm.Cond.soleField "ShadowSpellModel" "thrown") ∈ lw_all := lw_g (lw_at lw_m12 102 rfl) rfl
theorem q2814 : (Jvm.Cond.laysFinal "ShadowSpellModel" "ShadowSpellModel" "tape" "[I") ∈ lw_all := lw_g (lw_at lw_m12 103 rfl) rfl
theorem q2815 : (Jvm.Cond.soleField "ShadowSpellModel" "tape") ∈ lw_all := lw_g (lw_at lw_m12 104 rfl) rfl
theorem q2816 : (Jvm.Cond.lays "ShadowSpellModel" "ShadowSpellModel" "size" "I") ∈ lw_all := lw_g (lw_at lw_m12 105 rfl) rfl
theorem q2817 : (Jvm.Cond.soleField "ShadowSpellModel" "size") ∈ lw_all := lw_g (lw_at lw_m12 106 rfl) rfl
theorem q2818 : (Jvm.Cond.lays "ShadowSpellModel" "ShadowSpellModel" "errorAt" "I") ∈ lw_all := lw_g (lw_at lw_m12 107 rfl) rfl
theorem q2819 : (Jvm.Cond.soleField "ShadowSpellModel" "errorAt") ∈ lw_all := lw_g (lw_at lw_m12 108 rfl) rfl
theorem q2820 : (Jvm.Cond.laysFinal "ShadowSpellModel" "ShadowSpellModel" "kind" "[I") ∈ lw_all := lw_g (lw_at lw_m12 109 rfl) rfl
theorem q2821 : (Jvm.Cond.soleField "ShadowSpellModel" "kind") ∈ lw_all := lw_g (lw_at lw_m12 110 rfl) rfl
theorem q2822 : (Jvm.Cond.laysFinal "ShadowSpellModel" "ShadowSpellModel" "from" "[I") ∈ lw_all := lw_g (lw_at lw_m12 111 rfl) rfl
theorem q2823 : (Jvm.Cond.soleField "ShadowSpellModel" "from") ∈ lw_all := lw_g (lw_at lw_m12 112 rfl) rfl
theorem q2824 : (Jvm.Cond.laysFinal "ShadowSpellModel" "ShadowSpellModel" "many" "[I") ∈ lw_all := lw_g (lw_at lw_m12 113 rfl) rfl
theorem q2825 : (Jvm.Cond.soleField "ShadowSpellModel" "many") ∈ lw_all := lw_g (lw_at lw_m12 114 rfl) rfl
theorem q2826 : (Jvm.Cond.laysFinal "ShadowSpellModel" "ShadowSpellModel" "role" "[I") ∈ lw_all := lw_g (lw_at lw_m12 115 rfl) rfl
theorem q2827 : (Jvm.Cond.soleField "ShadowSpellModel" "role") ∈ lw_all := lw_g (lw_at lw_m12 116 rfl) rfl
theorem q2828 : (Jvm.Cond.laysFinal "ShadowSpellModel" "ShadowSpellModel" "meant" "[I") ∈ lw_all := lw_g (lw_at lw_m12 117 rfl) rfl
theorem q2829 : (Jvm.Cond.soleField "ShadowSpellModel" "meant") ∈ lw_all := lw_g (lw_at lw_m12 118 rfl) rfl
theorem q2830 : (Jvm.Cond.lays "ShadowSpellModel" "ShadowSpellModel" "token" "I") ∈ lw_all := lw_g (lw_at lw_m12 119 rfl) rfl
theorem q2831 : (Jvm.Cond.soleField "ShadowSpellModel" "token") ∈ lw_all := lw_g (lw_at lw_m12 120 rfl) rfl
theorem q2832 : (Jvm.Cond.lays "ShadowSpellModel" "ShadowSpellModel" "depth" "I") ∈ lw_all := lw_g (lw_at lw_m12 121 rfl) rfl
theorem q2833 : (Jvm.Cond.soleField "ShadowSpellModel" "depth") ∈ lw_all := lw_g (lw_at lw_m12 122 rfl) rfl
theorem q2834 : (Jvm.Cond.lays "ShadowSpellModel" "ShadowSpellModel" "told" "LShadowSpellModel$Told;") ∈ lw_all := lw_g (lw_at lw_m12 123 rfl) rfl
theorem q2835 : (Jvm.Cond.soleField "ShadowSpellModel" "told") ∈ lw_all := lw_g (lw_at lw_m12 124 rfl) rfl
theorem q2836 : (Jvm.Cond.lays "ShadowSpellModel" "ShadowSpellModel" "reading" "LShadowSpellModel$Told;") ∈ lw_all := lw_g (lw_at lw_m12 125 rfl) rfl
theorem q2837 : (Jvm.Cond.soleField "ShadowSpellModel" "reading") ∈ lw_all := lw_g (lw_at lw_m12 126 rfl) rfl
theorem q2838 : (Jvm.Cond.laysFinal "ShadowSpellModel" "ShadowSpellModel" "s" "LShadowSpellModel$State;") ∈ lw_all := lw_g (lw_at lw_m12 127 rfl) rfl
theorem q2839 : (Jvm.Cond.soleField "ShadowSpellModel" "s") ∈ lw_all := lw_g (lw_at lw_m12 128 rfl) rfl
theorem q2840 : (Jvm.Cond.laysFinal "ShadowSpellModel" "ShadowSpellModel" "ahead" "LShadowSpellModel$State;") ∈ lw_all := lw_g (lw_at lw_m12 129 rfl) rfl
theorem q2841 : (Jvm.Cond.soleField "ShadowSpellModel" "ahead") ∈ lw_all := lw_g (lw_at lw_m12 130 rfl) rfl
theorem q2842 : (Jvm.Cond.superclass "ShadowSpellModel" "java/lang/Object") ∈ lw_all := lw_g (lw_at lw_m12 131 rfl) rfl
theorem q2844 : (Jvm.Cond.instanceMethod ({ cls := "ShadowSpellModel", name := "thrown", desc := "()I" } : Jvm.MethodName)) ∈ lw_all := lw_g (lw_at lw_m12 133 rfl) rfl
theorem q2845 : (Jvm.Cond.selects "ShadowSpellModel" ({ cls := "ShadowSpellModel", name := "thrown", desc := "()I" } : Jvm.MethodName) ({ cls := "ShadowSpellModel", name := "thrown", desc := "()I" } : Jvm.MethodName)) ∈ lw_all := lw_g (lw_at lw_m12 134 rfl) rfl
theorem q2846 : (Jvm.Cond.code ({ cls := "ShadowSpellModel", name := "thrown", desc := "()I" } : Jvm.MethodName) prog_41_method_2_code (1 : Nat) (Option.some Jvm.ClassFile.FieldType.int)) ∈ lw_all := lw_g (lw_at lw_m12 135 rfl) rfl
theorem q2848 : (Jvm.Cond.instanceMethod ({ cls := "ShadowSpellModel", name := "feed", desc := "(IIIII)I" } : Jvm.MethodName)) ∈ lw_all := lw_g (lw_at lw_m12 137 rfl) rfl
theorem q2849 : (Jvm.Cond.selects "ShadowSpellModel" ({ cls := "ShadowSpellModel", name := "feed", desc := "(IIIII)I" } : Jvm.MethodName) ({ cls := "ShadowSpellModel", name := "feed", desc := "(IIIII)I" } : Jvm.MethodName)) ∈ lw_all := lw_g (lw_at lw_m12 138 rfl) rfl
theorem q2850 : (Jvm.Cond.code ({ cls := "ShadowSpellModel", name := "feed", desc := "(IIIII)I" } : Jvm.MethodName) prog_41_method_43_code (8 : Nat) (Option.some Jvm.ClassFile.FieldType.int)) ∈ lw_all := lw_g (lw_at lw_m12 139 rfl) rfl
theorem q2851 : (Jvm.Cond.methodLink "ShadowSpellModel" (234 : Nat) ({ cls := "ShadowSpellModel", name := "no", desc := "(I)I" } : Jvm.MethodName)) ∈ lw_all := lw_g (lw_at lw_m12 140 rfl) rfl
theorem q2852 : (Jvm.Cond.privateMethod ({ cls := "ShadowSpellModel", name := "no", desc := "(I)I" } : Jvm.MethodName)) ∈ lw_tbl := lw_at lw_m12 141 rfl
theorem q2853 : (Jvm.Cond.instanceMethod ({ cls := "ShadowSpellModel", name := "no", desc := "(I)I" } : Jvm.MethodName)) ∈ lw_all := lw_g (lw_at lw_m12 142 rfl) rfl
theorem q2854 : (Jvm.Cond.code ({ cls := "ShadowSpellModel", name := "no", desc := "(I)I" } : Jvm.MethodName) prog_41_method_3_code (2 : Nat) (Option.some Jvm.ClassFile.FieldType.int)) ∈ lw_all := lw_g (lw_at lw_m12 143 rfl) rfl
theorem q2856 : (Jvm.Cond.instanceMethod ({ cls := "ShadowSpellModel", name := "trim", desc := "(I)I" } : Jvm.MethodName)) ∈ lw_all := lw_g (lw_at lw_m12 145 rfl) rfl
theorem q2857 : (Jvm.Cond.selects "ShadowSpellModel" ({ cls := "ShadowSpellModel", name := "trim", desc := "(I)I" } : Jvm.MethodName) ({ cls := "ShadowSpellModel", name := "trim", desc := "(I)I" } : Jvm.MethodName)) ∈ lw_all := lw_g (lw_at lw_m12 146 rfl) rfl
theorem q2858 : (Jvm.Cond.code ({ cls := "ShadowSpellModel", name := "trim", desc := "(I)I" } : Jvm.MethodName) prog_41_method_44_code (2 : Nat) (Option.some Jvm.ClassFile.FieldType.int)) ∈ lw_all := lw_g (lw_at lw_m12 147 rfl) rfl
theorem q2859 : (Jvm.Cond.methodLink "ShadowSpellModel" (60 : Nat) ({ cls := "ShadowSpellModel", name := "isIn", desc := "(III)Z" } : Jvm.MethodName)) ∈ lw_all := lw_g (lw_at lw_m12 148 rfl) rfl
theorem q2860 : (Jvm.Cond.static ({ cls := "ShadowSpellModel", name := "isIn", desc := "(III)Z" } : Jvm.MethodName)) ∈ lw_all := lw_g (lw_at lw_m12 149 rfl) rfl
theorem q2861 : (Jvm.Cond.code ({ cls := "ShadowSpellModel", name := "isIn", desc := "(III)Z" } : Jvm.MethodName) prog_41_method_4_code (3 : Nat) (Option.some Jvm.ClassFile.FieldType.boolean)) ∈ lw_all := lw_g (lw_at lw_m12 150 rfl) rfl
theorem q2863 : (Jvm.Cond.instanceMethod ({ cls := "ShadowSpellModel", name := "teach", desc := "()I" } : Jvm.MethodName)) ∈ lw_all := lw_g (lw_at lw_m12 152 rfl) rfl
theorem q2864 : (Jvm.Cond.selects "ShadowSpellModel" ({ cls := "ShadowSpellModel", name := "teach", desc := "()I" } : Jvm.MethodName) ({ cls := "ShadowSpellModel", name := "teach", desc := "()I" } : Jvm.MethodName)) ∈ lw_all := lw_g (lw_at lw_m12 153 rfl) rfl
theorem q2865 : (Jvm.Cond.code ({ cls := "ShadowSpellModel", name := "teach", desc := "()I" } : Jvm.MethodName) prog_41_method_45_code (3 : Nat) (Option.some Jvm.ClassFile.FieldType.int)) ∈ lw_all := lw_g (lw_at lw_m12 154 rfl) rfl
theorem q2866 : (Jvm.Cond.methodLink "ShadowSpellModel" (237 : Nat) ({ cls := "ShadowSpellModel", name := "read", desc := "()I" } : Jvm.MethodName)) ∈ lw_all := lw_g (lw_at lw_m12 155 rfl) rfl
theorem q2867 : (Jvm.Cond.privateMethod ({ cls := "ShadowSpellModel", name := "read", desc := "()I" } : Jvm.MethodName)) ∈ lw_tbl := lw_at lw_m12 156 rfl
theorem q2868 : (Jvm.Cond.instanceMethod ({ cls := "ShadowSpellModel", name := "read", desc := "()I" } : Jvm.MethodName)) ∈ lw_all := lw_g (lw_at lw_m12 157 rfl) rfl
theorem q2869 : (Jvm.Cond.code ({ cls := "ShadowSpellModel", name := "read", desc := "()I" } : Jvm.MethodName) prog_41_method_42_code (3 : Nat) (Option.some Jvm.ClassFile.FieldType.int)) ∈ lw_all := lw_g (lw_at lw_m12 158 rfl) rfl
theorem q2870 : (Jvm.Cond.methodLink "ShadowSpellModel" (225 : Nat) ({ cls := "ShadowSpellModel", name := "cutIntoTokens", desc := "()V" } : Jvm.MethodName)) ∈ lw_all := lw_g (lw_at lw_m12 159 rfl) rfl
theorem q2871 : (Jvm.Cond.privateMethod ({ cls := "ShadowSpellModel", name := "cutIntoTokens", desc := "()V" } : Jvm.MethodName)) ∈ lw_tbl := lw_at lw_m12 160 rfl
theorem q2872 : (Jvm.Cond.instanceMethod ({ cls := "ShadowSpellModel", name := "cutIntoTokens", desc := "()V" } : Jvm.MethodName)) ∈ lw_all := lw_g (lw_at lw_m12 161 rfl) rfl
theorem q2873 : (Jvm.Cond.code ({ cls := "ShadowSpellModel", name := "cutIntoTokens", desc := "()V" } : Jvm.MethodName) prog_41_method_15_code (3 : Nat) (Option.none : Option Jvm.ClassFile.FieldType)) ∈ lw_all := lw_g (lw_at lw_m12 162 rfl) rfl
theorem q2874 : (Jvm.Cond.methodLink "ShadowSpellModel" (82 : Nat) ({ cls := "ShadowSpellModel", name := "byteOf", desc := "(I)I" } : Jvm.MethodName)) ∈ lw_all := lw_g (lw_at lw_m12 163 rfl) rfl
theorem q2875 : (Jvm.Cond.privateMethod ({ cls := "ShadowSpellModel", name := "byteOf", desc := "(I)I" } : Jvm.MethodName)) ∈ lw_tbl := lw_at lw_m12 164 rfl
theorem q2876 : (Jvm.Cond.instanceMethod ({ cls := "ShadowSpellModel", name := "byteOf", desc := "(I)I" } : Jvm.MethodName)) ∈ lw_all := lw_g (lw_at lw_m12 165 rfl) rfl
theorem q2877 : (Jvm.Cond.code ({ cls := "ShadowSpellModel", name := "byteOf", desc := "(I)I" } : Jvm.MethodName) prog_41_method_12_code (2 : Nat) (Option.some Jvm.ClassFile.FieldType.int)) ∈ lw_all := lw_g (lw_at lw_m12 166 rfl) rfl
theorem q2878 : (Jvm.Cond.methodLink "ShadowSpellModel" (110 : Nat) ({ cls := "ShadowSpellModel", name := "kindAt", desc := "(II)I" } : Jvm.MethodName)) ∈ lw_all := lw_g (lw_at lw_m12 167 rfl) rfl
theorem q2879 : (Jvm.Cond.privateMethod ({ cls := "ShadowSpellModel", name := "kindAt", desc := "(II)I" } : Jvm.MethodName)) ∈ lw_tbl := lw_at lw_m12 168 rfl
theorem q2880 : (Jvm.Cond.instanceMethod ({ cls := "ShadowSpellModel", name := "kindAt", desc := "(II)I" } : Jvm.MethodName)) ∈ lw_all := lw_g (lw_at lw_m12 169 rfl) rfl
theorem q2881 : (Jvm.Cond.code ({ cls := "ShadowSpellModel", name := "kindAt", desc := "(II)I" } : Jvm.MethodName) prog_41_method_13_code (6 : Nat) (Option.some Jvm.ClassFile.FieldType.int)) ∈ lw_all := lw_g (lw_at lw_m12 170 rfl) rfl
theorem q2882 : (Jvm.Cond.methodLink "ShadowSpellModel" (86 : Nat) ({ cls := "ShadowSpellModel", name := "isLetter", desc := "(I)Z" } : Jvm.MethodName)) ∈ lw_all := lw_g (lw_at lw_m12 171 rfl) rfl
theorem q2883 : (Jvm.Cond.static ({ cls := "ShadowSpellModel", name := "isLetter", desc := "(I)Z" } : Jvm.MethodName)) ∈ lw_all := lw_g (lw_at lw_m12 172 rfl) rfl
theorem q2884 : (Jvm.Cond.code ({ cls := "ShadowSpellModel", name := "isLetter", desc := "(I)Z" } : Jvm.MethodName) prog_41_method_10_code (1 : Nat) (Option.some Jvm.ClassFile.FieldType.boolean)) ∈ lw_all := lw_g (lw_at lw_m12 173 rfl) rfl
theorem q2885 : (Jvm.Cond.methodLink "ShadowSpellModel" (90 : Nat) ({ cls := "ShadowSpellModel", name := "isDigit", desc := "(I)Z" } : Jvm.MethodName)) ∈ lw_all := lw_g (lw_at lw_m12 174 rfl) rfl
theorem q2886 : (Jvm.Cond.static ({ cls := "ShadowSpellModel", name := "isDigit", desc := "(I)Z" } : Jvm.MethodName)) ∈ lw_all := lw_g (lw_at lw_m12 175 rfl) rfl
theorem q2887 : (Jvm.Cond.code ({ cls := "ShadowSpellModel", name := "isDigit", desc := "(I)Z" } : Jvm.MethodName) prog_41_method_11_code (1 : Nat) (Option.some Jvm.ClassFile.FieldType.boolean)) ∈ lw_all := lw_g (lw_at lw_m12 176 rfl) rfl
theorem q2888 : (Jvm.Cond.methodLink "ShadowSpellModel" (93 : Nat) ({ cls := "ShadowSpellModel", name := "word", desc := "(II)I" } : Jvm.MethodName)) ∈ lw_all := lw_g (lw_at lw_m12 177 rfl) rfl
theorem q2889 : (Jvm.Cond.privateMethod ({ cls := "ShadowSpellModel", name := "word", desc := "(II)I" } : Jvm.MethodName)) ∈ lw_tbl := lw_at lw_m12 178 rfl
theorem q2890 : (Jvm.Cond.instanceMethod ({ cls := "ShadowSpellModel", name := "word", desc := "(II)I" } : Jvm.MethodName)) ∈ lw_all := lw_g (lw_at lw_m12 179 rfl) rfl
theorem q2891 : (Jvm.Cond.code ({ cls := "ShadowSpellModel", name := "word", desc := "(II)I" } : Jvm.MethodName) prog_41_method_14_code (6 : Nat) (Option.some Jvm.ClassFile.FieldType.int)) ∈ lw_all := lw_g (lw_at lw_m12 180 rfl) rfl
theorem q2892 : (Jvm.Cond.fieldLink "ShadowSpellModel" (96 : Nat) "ShadowSpellModel" "WORDS" "[Ljava/lang/String;") ∈ lw_all := lw_g (lw_at lw_m12 181 rfl) rfl
theorem q2893 : (Jvm.Cond.laysStatic "ShadowSpellModel" "WORDS" "[Ljava/lang/String;") ∈ lw_tbl := lw_at lw_m12 182 rfl
theorem q2894 : (Jvm.Cond.methodLink "ShadowSpellModel" (100 : Nat) ({ cls := "java/lang/String", name := "length", desc := "()I" } : Jvm.MethodName)) ∈ lw_all := lw_g (lw_at lw_m12 183 rfl) rfl
theorem q2895 : (Jvm.Cond.methodLink "ShadowSpellModel" (106 : Nat) ({ cls := "java/lang/String", name := "charAt", desc := "(I)C" } : Jvm.MethodName)) ∈ lw_all := lw_g (lw_at lw_m12 184 rfl) rfl
theorem q2896 : (Jvm.Cond.methodLink "ShadowSpellModel" (228 : Nat) ({ cls := "ShadowSpellModel", name := "isText", desc := "()Z" } : Jvm.MethodName)) ∈ lw_all := lw_g (lw_at lw_m12 185 rfl) rfl
theorem q2897 : (Jvm.Cond.privateMethod ({ cls := "ShadowSpellModel", name := "isText", desc := "()Z" } : Jvm.MethodName)) ∈ lw_tbl := lw_at lw_m12 186 rfl
theorem q2898 : (Jvm.Cond.instanceMethod ({ cls := "ShadowSpellModel", name := "isText", desc := "()Z" } : Jvm.MethodName)) ∈ lw_all := lw_g (lw_at lw_m12 187 rfl) rfl
theorem q2899 : (Jvm.Cond.code ({ cls := "ShadowSpellModel", name := "isText", desc := "()Z" } : Jvm.MethodName) prog_41_method_23_code (2 : Nat) (Option.some Jvm.ClassFile.FieldType.boolean)) ∈ lw_all := lw_g (lw_at lw_m12 188 rfl) rfl
theorem q2900 : (Jvm.Cond.methodLink "ShadowSpellModel" (116 : Nat) ({ cls := "ShadowSpellModel", name := "is", desc := "(I)Z" } : Jvm.MethodName)) ∈ lw_all := lw_g (lw_at lw_m12 189 rfl) rfl
theorem q2901 : (Jvm.Cond.privateMethod ({ cls := "ShadowSpellModel", name := "is", desc := "(I)Z" } : Jvm.MethodName)) ∈ lw_tbl := lw_at lw_m12 190 rfl
theorem q2902 : (Jvm.Cond.instanceMethod ({ cls := "ShadowSpellModel", name := "is", desc := "(I)Z" } : Jvm.MethodName)) ∈ lw_all := lw_g (lw_at lw_m12 191 rfl) rfl
theorem q2903 : (Jvm.Cond.code ({ cls := "ShadowSpellModel", name := "is", desc := "(I)Z" } : Jvm.MethodName) prog_41_method_16_code (2 : Nat) (Option.some Jvm.ClassFile.FieldType.boolean)) ∈ lw_all := lw_g (lw_at lw_m12 192 rfl) rfl
theorem q2904 : (Jvm.Cond.methodLink "ShadowSpellModel" (137 : Nat) ({ cls := "ShadowSpellModel", name := "isPlanetLine", desc := "()Z" } : Jvm.MethodName)) ∈ lw_all := lw_g (lw_at lw_m12 193 rfl) rfl
theorem q2905 : (Jvm.Cond.privateMethod ({ cls := "ShadowSpellModel", name := "isPlanetLine", desc := "()Z" } : Jvm.MethodName)) ∈ lw_tbl := lw_at lw_m12 194 rfl
theorem q2906 : (Jvm.Cond.instanceMethod ({ cls := "ShadowSpellModel", name := "isPlanetLine", desc := "()Z" } : Jvm.MethodName)) ∈ lw_all := lw_g (lw_at lw_m12 195 rfl) rfl
theorem q2907 : (Jvm.Cond.code ({ cls := "ShadowSpellModel", name := "isPlanetLine", desc := "()Z" } : Jvm.MethodName) prog_41_method_24_code (1 : Nat) (Option.some Jvm.ClassFile.FieldType.boolean)) ∈ lw_all := lw_g (lw_at lw_m12 196 rfl) rfl
theorem q2908 : (Jvm.Cond.methodLink "ShadowSpellModel" (147 : Nat) ({ cls := "ShadowSpellModel", name := "eatAs", desc := "(II)Z" } : Jvm.MethodName)) ∈ lw_all := lw_g (lw_at lw_m12 197 rfl) rfl
theorem q2909 : (Jvm.Cond.privateMethod ({ cls := "ShadowSpellModel", name := "eatAs", desc := "(II)Z" } : Jvm.MethodName)) ∈ lw_tbl := lw_at lw_m12 198 rfl
theorem q2910 : (Jvm.Cond.instanceMethod ({ cls := "ShadowSpellModel", name := "eatAs", desc := "(II)Z" } : Jvm.MethodName)) ∈ lw_all := lw_g (lw_at lw_m12 199 rfl) rfl
theorem q2911 : (Jvm.Cond.code ({ cls := "ShadowSpellModel", name := "eatAs", desc := "(II)Z" } : Jvm.MethodName) prog_41_method_20_code (3 : Nat) (Option.some Jvm.ClassFile.FieldType.boolean)) ∈ lw_all := lw_g (lw_at lw_m12 200 rfl) rfl
theorem q2912 : (Jvm.Cond.methodLink "ShadowSpellModel" (119 : Nat) ({ cls := "ShadowSpellModel", name := "eat", desc := "(I)Z" } : Jvm.MethodName)) ∈ lw_all := lw_g (lw_at lw_m12 201 rfl) rfl
theorem q2913 : (Jvm.Cond.privateMethod ({ cls := "ShadowSpellModel", name := "eat", desc := "(I)Z" } : Jvm.MethodName)) ∈ lw_tbl := lw_at lw_m12 202 rfl
theorem q2914 : (Jvm.Cond.instanceMethod ({ cls := "ShadowSpellModel", name := "eat", desc := "(I)Z" } : Jvm.MethodName)) ∈ lw_all := lw_g (lw_at lw_m12 203 rfl) rfl
theorem q2915 : (Jvm.Cond.code ({ cls := "ShadowSpellModel", name := "eat", desc := "(I)Z" } : Jvm.MethodName) prog_41_method_18_code (2 : Nat) (Option.some Jvm.ClassFile.FieldType.boolean)) ∈ lw_all := lw_g (lw_at lw_m12 204 rfl) rfl
theorem q2916 : (Jvm.Cond.methodLink "ShadowSpellModel" (151 : Nat) ({ cls := "ShadowSpellModel", name := "eatSign", desc := "(C)Z" } : Jvm.MethodName)) ∈ lw_all := lw_g (lw_at lw_m12 205 rfl) rfl
theorem q2917 : (Jvm.Cond.privateMethod ({ cls := "ShadowSpellModel", name := "eatSign", desc := "(C)Z" } : Jvm.MethodName)) ∈ lw_tbl := lw_at lw_m12 206 rfl
theorem q2918 : (Jvm.Cond.instanceMethod ({ cls := "ShadowSpellModel", name := "eatSign", desc := "(C)Z" } : Jvm.MethodName)) ∈ lw_all := lw_g (lw_at lw_m12 207 rfl) rfl
theorem q2919 : (Jvm.Cond.code ({ cls := "ShadowSpellModel", name := "eatSign", desc := "(C)Z" } : Jvm.MethodName) prog_41_method_19_code (2 : Nat) (Option.some Jvm.ClassFile.FieldType.boolean)) ∈ lw_all := lw_g (lw_at lw_m12 208 rfl) rfl
theorem q2920 : (Jvm.Cond.methodLink "ShadowSpellModel" (141 : Nat) ({ cls := "ShadowSpellModel", name := "isAlphabetLine", desc := "()Z" } : Jvm.MethodName)) ∈ lw_all := lw_g (lw_at lw_m12 209 rfl) rfl
theorem q2921 : (Jvm.Cond.privateMethod ({ cls := "ShadowSpellModel", name := "isAlphabetLine", desc := "()Z" } : Jvm.MethodName)) ∈ lw_tbl := lw_at lw_m12 210 rfl
theorem q2922 : (Jvm.Cond.instanceMethod ({ cls := "ShadowSpellModel", name := "isAlphabetLine", desc := "()Z" } : Jvm.MethodName)) ∈ lw_all := lw_g (lw_at lw_m12 211 rfl) rfl
theorem q2923 : (Jvm.Cond.code ({ cls := "ShadowSpellModel", name := "isAlphabetLine", desc := "()Z" } : Jvm.MethodName) prog_41_method_25_code (1 : Nat) (Option.some Jvm.ClassFile.FieldType.boolean)) ∈ lw_all := lw_g (lw_at lw_m12 212 rfl) rfl
theorem q2924 : (Jvm.Cond.methodLink "ShadowSpellModel" (144 : Nat) ({ cls := "ShadowSpellModel", name := "isRule", desc := "()Z" } : Jvm.MethodName)) ∈ lw_all := lw_g (lw_at lw_m12 213 rfl) rfl
theorem q2925 : (Jvm.Cond.privateMethod ({ cls := "ShadowSpellModel", name := "isRule", desc := "()Z" } : Jvm.MethodName)) ∈ lw_tbl := lw_at lw_m12 214 rfl
theorem q2926 : (Jvm.Cond.instanceMethod ({ cls := "ShadowSpellModel", name := "isRule", desc := "()Z" } : Jvm.MethodName)) ∈ lw_all := lw_g (lw_at lw_m12 215 rfl) rfl
theorem q2927 : (Jvm.Cond.code ({ cls := "ShadowSpellModel", name := "isRule", desc := "()Z" } : Jvm.MethodName) prog_41_method_26_code (2 : Nat) (Option.some Jvm.ClassFile.FieldType.boolean)) ∈ lw_all := lw_g (lw_at lw_m12 216 rfl) rfl
theorem q2928 : (Jvm.Cond.methodLink "ShadowSpellModel" (73 : Nat) ({ cls := "java/lang/Math", name := "min", desc := "(II)I" } : Jvm.MethodName)) ∈ lw_all := lw_g (lw_at lw_m12 217 rfl) rfl
theorem q2929 : (Jvm.Cond.methodLink "ShadowSpellModel" (161 : Nat) ({ cls := "ShadowSpellModel", name := "isTest", desc := "()Z" } : Jvm.MethodName)) ∈ lw_all := lw_g (lw_at lw_m12 218 rfl) rfl
theorem q2930 : (Jvm.Cond.privateMethod ({ cls := "ShadowSpellModel", name := "isTest", desc := "()Z" } : Jvm.MethodName)) ∈ lw_tbl := lw_at lw_m12 219 rfl
theorem q2931 : (Jvm.Cond.instanceMethod ({ cls := "ShadowSpellModel", name := "isTest", desc := "()Z" } : Jvm.MethodName)) ∈ lw_all := lw_g (lw_at lw_m12 220 rfl) rfl
theorem q2932 : (Jvm.Cond.code ({ cls := "ShadowSpellModel", name := "isTest", desc := "()Z" } : Jvm.MethodName) prog_41_method_27_code (1 : Nat) (Option.some Jvm.ClassFile.FieldType.boolean)) ∈ lw_all := lw_g (lw_at lw_m12 221 rfl) rfl
theorem q2933 : (Jvm.Cond.methodLink "ShadowSpellModel" (173 : Nat) ({ cls := "ShadowSpellModel", name := "isBoth", desc := "()Z" } : Jvm.MethodName)) ∈ lw_all := lw_g (lw_at lw_m12 222 rfl) rfl
theorem q2934 : (Jvm.Cond.privateMethod ({ cls := "ShadowSpellModel", name := "isBoth", desc := "()Z" } : Jvm.MethodName)) ∈ lw_tbl := lw_at lw_m12 223 rfl
theorem q2935 : (Jvm.Cond.instanceMethod ({ cls := "ShadowSpellModel", name := "isBoth", desc := "()Z" } : Jvm.MethodName)) ∈ lw_all := lw_g (lw_at lw_m12 224 rfl) rfl
theorem q2936 : (Jvm.Cond.code ({ cls := "ShadowSpellModel", name := "isBoth", desc := "()Z" } : Jvm.MethodName) prog_41_method_28_code (1 : Nat) (Option.some Jvm.ClassFile.FieldType.boolean)) ∈ lw_all := lw_g (lw_at lw_m12 225 rfl) rfl
theorem q2937 : (Jvm.Cond.methodLink "ShadowSpellModel" (176 : Nat) ({ cls := "ShadowSpellModel", name := "isSingle", desc := "()Z" } : Jvm.MethodName)) ∈ lw_all := lw_g (lw_at lw_m12 226 rfl) rfl
theorem q2938 : (Jvm.Cond.privateMethod ({ cls := "ShadowSpellModel", name := "isSingle", desc := "()Z" } : Jvm.MethodName)) ∈ lw_tbl := lw_at lw_m12 227 rfl
theorem q2939 : (Jvm.Cond.instanceMethod ({ cls := "ShadowSpellModel", name := "isSingle", desc := "()Z" } : Jvm.MethodName)) ∈ lw_all := lw_g (lw_at lw_m12 228 rfl) rfl
theorem q2940 : (Jvm.Cond.code ({ cls := "ShadowSpellModel", name := "isSingle", desc := "()Z" } : Jvm.MethodName) prog_41_method_32_code (1 : Nat) (Option.some Jvm.ClassFile.FieldType.boolean)) ∈ lw_all := lw_g (lw_at lw_m12 229 rfl) rfl
theorem q2941 : (Jvm.Cond.methodLink "ShadowSpellModel" (185 : Nat) ({ cls := "ShadowSpellModel", name := "isIn", desc := "()Z" } : Jvm.MethodName)) ∈ lw_all := lw_g (lw_at lw_m12 230 rfl) rfl
theorem q2942 : (Jvm.Cond.privateMethod ({ cls := "ShadowSpellModel", name := "isIn", desc := "()Z" } : Jvm.MethodName)) ∈ lw_tbl := lw_at lw_m12 231 rfl
theorem q2943 : (Jvm.Cond.instanceMethod ({ cls := "ShadowSpellModel", name := "isIn", desc := "()Z" } : Jvm.MethodName)) ∈ lw_all := lw_g (lw_at lw_m12 232 rfl) rfl
theorem q2944 : (Jvm.Cond.code ({ cls := "ShadowSpellModel", name := "isIn", desc := "()Z" } : Jvm.MethodName) prog_41_method_29_code (1 : Nat) (Option.some Jvm.ClassFile.FieldType.boolean)) ∈ lw_all := lw_g (lw_at lw_m12 233 rfl) rfl
theorem q2945 : (Jvm.Cond.methodLink "ShadowSpellModel" (133 : Nat) ({ cls := "ShadowSpellModel", name := "put", desc := "(I)V" } : Jvm.MethodName)) ∈ lw_all := lw_g (lw_at lw_m12 234 rfl) rfl
theorem q2946 : (Jvm.Cond.privateMethod ({ cls := "ShadowSpellModel", name := "put", desc := "(I)V" } : Jvm.MethodName)) ∈ lw_tbl := lw_at lw_m12 235 rfl
theorem q2947 : (Jvm.Cond.instanceMethod ({ cls := "ShadowSpellModel", name := "put", desc := "(I)V" } : Jvm.MethodName)) ∈ lw_all := lw_g (lw_at lw_m12 236 rfl) rfl
theorem q2948 : (Jvm.Cond.code ({ cls := "ShadowSpellModel", name := "put", desc := "(I)V" } : Jvm.MethodName) prog_41_method_21_code (2 : Nat) (Option.none : Option Jvm.ClassFile.FieldType)) ∈ lw_all := lw_g (lw_at lw_m12 237 rfl) rfl
theorem q2949 : (Jvm.Cond.methodLink "ShadowSpellModel" (187 : Nat) ({ cls := "ShadowSpellModel", name := "isSign", desc := "(C)Z" } : Jvm.MethodName)) ∈ lw_all := lw_g (lw_at lw_m12 238 rfl) rfl
theorem q2950 : (Jvm.Cond.privateMethod ({ cls := "ShadowSpellModel", name := "isSign", desc := "(C)Z" } : Jvm.MethodName)) ∈ lw_tbl := lw_at lw_m12 239 rfl
theorem q2951 : (Jvm.Cond.instanceMethod ({ cls := "ShadowSpellModel", name := "isSign", desc := "(C)Z" } : Jvm.MethodName)) ∈ lw_all := lw_g (lw_at lw_m13 0 rfl) rfl
theorem q2952 : (Jvm.Cond.code ({ cls := "ShadowSpellModel", name := "isSign", desc := "(C)Z" } : Jvm.MethodName) prog_41_method_17_code (2 : Nat) (Option.some Jvm.ClassFile.FieldType.boolean)) ∈ lw_all := lw_g (lw_at lw_m13 1 rfl) rfl
theorem q2953 : (Jvm.Cond.methodLink "ShadowSpellModel" (190 : Nat) ({ cls := "ShadowSpellModel", name := "isPair", desc := "(I)Z" } : Jvm.MethodName)) ∈ lw_all := lw_g (lw_at lw_m13 2 rfl) rfl
theorem q2954 : (Jvm.Cond.privateMethod ({ cls := "ShadowSpellModel", name := "isPair", desc := "(I)Z" } : Jvm.MethodName)) ∈ lw_tbl := lw_at lw_m13 3 rfl
theorem q2955 : (Jvm.Cond.instanceMethod ({ cls := "ShadowSpellModel", name := "isPair", desc := "(I)Z" } : Jvm.MethodName)) ∈ lw_all := lw_g (lw_at lw_m13 4 rfl) rfl
theorem q2956 : (Jvm.Cond.code ({ cls := "ShadowSpellModel", name := "isPair", desc := "(I)Z" } : Jvm.MethodName) prog_41_method_30_code (2 : Nat) (Option.some Jvm.ClassFile.FieldType.boolean)) ∈ lw_all := lw_g (lw_at lw_m13 5 rfl) rfl
theorem q2957 : (Jvm.Cond.methodLink "ShadowSpellModel" (182 : Nat) ({ cls := "ShadowSpellModel", name := "putToken", desc := "(I)V" } : Jvm.MethodName)) ∈ lw_all := lw_g (lw_at lw_m13 6 rfl) rfl
theorem q2958 : (Jvm.Cond.privateMethod ({ cls := "ShadowSpellModel", name := "putToken", desc := "(I)V" } : Jvm.MethodName)) ∈ lw_tbl := lw_at lw_m13 7 rfl
theorem q2959 : (Jvm.Cond.instanceMethod ({ cls := "ShadowSpellModel", name := "putToken", desc := "(I)V" } : Jvm.MethodName)) ∈ lw_all := lw_g (lw_at lw_m13 8 rfl) rfl
theorem q2960 : (Jvm.Cond.code ({ cls := "ShadowSpellModel", name := "putToken", desc := "(I)V" } : Jvm.MethodName) prog_41_method_22_code (2 : Nat) (Option.none : Option Jvm.ClassFile.FieldType)) ∈ lw_all := lw_g (lw_at lw_m13 9 rfl) rfl
theorem q2961 : (Jvm.Cond.methodLink "ShadowSpellModel" (193 : Nat) ({ cls := "ShadowSpellModel", name := "isOne", desc := "(I)Z" } : Jvm.MethodName)) ∈ lw_all := lw_g (lw_at lw_m13 10 rfl) rfl
theorem q2962 : (Jvm.Cond.privateMethod ({ cls := "ShadowSpellModel", name := "isOne", desc := "(I)Z" } : Jvm.MethodName)) ∈ lw_tbl := lw_at lw_m13 11 rfl
theorem q2963 : (Jvm.Cond.instanceMethod ({ cls := "ShadowSpellModel", name := "isOne", desc := "(I)Z" } : Jvm.MethodName)) ∈ lw_all := lw_g (lw_at lw_m13 12 rfl) rfl
theorem q2964 : (Jvm.Cond.code ({ cls := "ShadowSpellModel", name := "isOne", desc := "(I)Z" } : Jvm.MethodName) prog_41_method_31_code (2 : Nat) (Option.some Jvm.ClassFile.FieldType.boolean)) ∈ lw_all := lw_g (lw_at lw_m13 13 rfl) rfl
theorem q2965 : (Jvm.Cond.methodLink "ShadowSpellModel" (196 : Nat) ({ cls := "ShadowSpellModel", name := "isCompared", desc := "()Z" } : Jvm.MethodName)) ∈ lw_all := lw_g (lw_at lw_m13 14 rfl) rfl
theorem q2966 : (Jvm.Cond.privateMethod ({ cls := "ShadowSpellModel", name := "isCompared", desc := "()Z" } : Jvm.MethodName)) ∈ lw_tbl := lw_at lw_m13 15 rfl
theorem q2967 : (Jvm.Cond.instanceMethod ({ cls := "ShadowSpellModel", name := "isCompared", desc := "()Z" } : Jvm.MethodName)) ∈ lw_all := lw_g (lw_at lw_m13 16 rfl) rfl
theorem q2968 : (Jvm.Cond.code ({ cls := "ShadowSpellModel", name := "isCompared", desc := "()Z" } : Jvm.MethodName) prog_41_method_33_code (2 : Nat) (Option.some Jvm.ClassFile.FieldType.boolean)) ∈ lw_all := lw_g (lw_at lw_m13 17 rfl) rfl
theorem q2969 : (Jvm.Cond.methodLink "ShadowSpellModel" (167 : Nat) ({ cls := "ShadowSpellModel", name := "isSum", desc := "()Z" } : Jvm.MethodName)) ∈ lw_all := lw_g (lw_at lw_m13 18 rfl) rfl
theorem q2970 : (Jvm.Cond.privateMethod ({ cls := "ShadowSpellModel", name := "isSum", desc := "()Z" } : Jvm.MethodName)) ∈ lw_tbl := lw_at lw_m13 19 rfl
theorem q2971 : (Jvm.Cond.instanceMethod ({ cls := "ShadowSpellModel", name := "isSum", desc := "()Z" } : Jvm.MethodName)) ∈ lw_all := lw_g (lw_at lw_m13 20 rfl) rfl
theorem q2972 : (Jvm.Cond.code ({ cls := "ShadowSpellModel", name := "isSum", desc := "()Z" } : Jvm.MethodName) prog_41_method_34_code (2 : Nat) (Option.some Jvm.ClassFile.FieldType.boolean)) ∈ lw_all := lw_g (lw_at lw_m13 21 rfl) rfl
theorem q2973 : (Jvm.Cond.methodLink "ShadowSpellModel" (199 : Nat) ({ cls := "ShadowSpellModel", name := "isProduct", desc := "()Z" } : Jvm.MethodName)) ∈ lw_all := lw_g (lw_at lw_m13 22 rfl) rfl
theorem q2974 : (Jvm.Cond.privateMethod ({ cls := "ShadowSpellModel", name := "isProduct", desc := "()Z" } : Jvm.MethodName)) ∈ lw_tbl := lw_at lw_m13 23 rfl
theorem q2975 : (Jvm.Cond.instanceMethod ({ cls := "ShadowSpellModel", name := "isProduct", desc := "()Z" } : Jvm.MethodName)) ∈ lw_all := lw_g (lw_at lw_m13 24 rfl) rfl
theorem q2976 : (Jvm.Cond.code ({ cls := "ShadowSpellModel", name := "isProduct", desc := "()Z" } : Jvm.MethodName) prog_41_method_35_code (2 : Nat) (Option.some Jvm.ClassFile.FieldType.boolean)) ∈ lw_all := lw_g (lw_at lw_m13 25 rfl) rfl
theorem q2977 : (Jvm.Cond.methodLink "ShadowSpellModel" (202 : Nat) ({ cls := "ShadowSpellModel", name := "isValue", desc := "()Z" } : Jvm.MethodName)) ∈ lw_all := lw_g (lw_at lw_m13 26 rfl) rfl
theorem q2978 : (Jvm.Cond.privateMethod ({ cls := "ShadowSpellModel", name := "isValue", desc := "()Z" } : Jvm.MethodName)) ∈ lw_tbl := lw_at lw_m13 27 rfl
theorem q2979 : (Jvm.Cond.instanceMethod ({ cls := "ShadowSpellModel", name := "isValue", desc := "()Z" } : Jvm.MethodName)) ∈ lw_all := lw_g (lw_at lw_m13 28 rfl) rfl
theorem q2980 : (Jvm.Cond.code ({ cls := "ShadowSpellModel", name := "isValue", desc := "()Z" } : Jvm.MethodName) prog_41_method_36_code (3 : Nat) (Option.some Jvm.ClassFile.FieldType.boolean)) ∈ lw_all := lw_g (lw_at lw_m13 29 rfl) rfl
theorem q2981 : (Jvm.Cond.methodLink "ShadowSpellModel" (205 : Nat) ({ cls := "ShadowSpellModel", name := "numberAt", desc := "(I)I" } : Jvm.MethodName)) ∈ lw_all := lw_g (lw_at lw_m13 30 rfl) rfl
theorem q2982 : (Jvm.Cond.privateMethod ({ cls := "ShadowSpellModel", name := "numberAt", desc := "(I)I" } : Jvm.MethodName)) ∈ lw_tbl := lw_at lw_m13 31 rfl
theorem q2983 : (Jvm.Cond.instanceMethod ({ cls := "ShadowSpellModel", name := "numberAt", desc := "(I)I" } : Jvm.MethodName)) ∈ lw_all := lw_g (lw_at lw_m13 32 rfl) rfl
theorem q2984 : (Jvm.Cond.code ({ cls := "ShadowSpellModel", name := "numberAt", desc := "(I)I" } : Jvm.MethodName) prog_41_method_37_code (4 : Nat) (Option.some Jvm.ClassFile.FieldType.int)) ∈ lw_all := lw_g (lw_at lw_m13 33 rfl) rfl
theorem q2985 : (Jvm.Cond.methodLink "ShadowSpellModel" (231 : Nat) ({ cls := "ShadowSpellModel", name := "errorOf", desc := "(I)I" } : Jvm.MethodName)) ∈ lw_all := lw_g (lw_at lw_m13 34 rfl) rfl
theorem q2986 : (Jvm.Cond.privateMethod ({ cls := "ShadowSpellModel", name := "errorOf", desc := "(I)I" } : Jvm.MethodName)) ∈ lw_tbl := lw_at lw_m13 35 rfl
theorem q2987 : (Jvm.Cond.instanceMethod ({ cls := "ShadowSpellModel", name := "errorOf", desc := "(I)I" } : Jvm.MethodName)) ∈ lw_all := lw_g (lw_at lw_m13 36 rfl) rfl
theorem q2988 : (Jvm.Cond.code ({ cls := "ShadowSpellModel", name := "errorOf", desc := "(I)I" } : Jvm.MethodName) prog_41_method_40_code (5 : Nat) (Option.some Jvm.ClassFile.FieldType.int)) ∈ lw_all := lw_g (lw_at lw_m13 37 rfl) rfl
theorem q2989 : (Jvm.Cond.methodLink "ShadowSpellModel" (211 : Nat) ({ cls := "ShadowSpellModel", name := "told", desc := "(II)I" } : Jvm.MethodName)) ∈ lw_all := lw_g (lw_at lw_m13 38 rfl) rfl
theorem q2990 : (Jvm.Cond.privateMethod ({ cls := "ShadowSpellModel", name := "told", desc := "(II)I" } : Jvm.MethodName)) ∈ lw_tbl := lw_at lw_m13 39 rfl
theorem q2991 : (Jvm.Cond.instanceMethod ({ cls := "ShadowSpellModel", name := "told", desc := "(II)I" } : Jvm.MethodName)) ∈ lw_all := lw_g (lw_at lw_m13 40 rfl) rfl
theorem q2992 : (Jvm.Cond.code ({ cls := "ShadowSpellModel", name := "told", desc := "(II)I" } : Jvm.MethodName) prog_41_method_39_code (5 : Nat) (Option.some Jvm.ClassFile.FieldType.int)) ∈ lw_all := lw_g (lw_at lw_m13 41 rfl) rfl
theorem q2993 : (Jvm.Cond.methodLink "ShadowSpellModel" (208 : Nat) ({ cls := "ShadowSpellModel", name := "isSame", desc := "(II)Z" } : Jvm.MethodName)) ∈ lw_all := lw_g (lw_at lw_m13 42 rfl) rfl
theorem q2994 : (Jvm.Cond.privateMethod ({ cls := "ShadowSpellModel", name := "isSame", desc := "(II)Z" } : Jvm.MethodName)) ∈ lw_tbl := lw_at lw_m13 43 rfl
theorem q2995 : (Jvm.Cond.instanceMethod ({ cls := "ShadowSpellModel", name := "isSame", desc := "(II)Z" } : Jvm.MethodName)) ∈ lw_all := lw_g (lw_at lw_m13 44 rfl) rfl
theorem q2996 : (Jvm.Cond.code ({ cls := "ShadowSpellModel", name := "isSame", desc := "(II)Z" } : Jvm.MethodName) prog_41_method_38_code (4 : Nat) (Option.some Jvm.ClassFile.FieldType.boolean)) ∈ lw_all := lw_g (lw_at lw_m13 45 rfl) rfl
theorem q2997 : (Jvm.Cond.methodLink "ShadowSpellModel" (216 : Nat) ({ cls := "ShadowSpellModel", name := "areLetters", desc := "(I)Z" } : Jvm.MethodName)) ∈ lw_all := lw_g (lw_at lw_m13 46 rfl) rfl
theorem q2998 : (Jvm.Cond.privateMethod ({ cls := "ShadowSpellModel", name := "areLetters", desc := "(I)Z" } : Jvm.MethodName)) ∈ lw_tbl := lw_at lw_m13 47 rfl
theorem q2999 : (Jvm.Cond.instanceMethod ({ cls := "ShadowSpellModel", name := "areLetters", desc := "(I)Z" } : Jvm.MethodName)) ∈ lw_all := lw_g (lw_at lw_m13 48 rfl) rfl
theorem q3000 : (Jvm.Cond.code ({ cls := "ShadowSpellModel", name := "areLetters", desc := "(I)Z" } : Jvm.MethodName) prog_41_method_41_code (6 : Nat) (Option.some Jvm.ClassFile.FieldType.boolean)) ∈ lw_all := lw_g (lw_at lw_m13 49 rfl) rfl
theorem q3001 : (Jvm.Cond.methodLink "ShadowSpellModel" (240 : Nat) ({ cls := "ShadowSpellModel$State", name := "set", desc := "(II)V" } : Jvm.MethodName)) ∈ lw_all := lw_g (lw_at lw_m13 50 rfl) rfl
theorem q3006 : (Jvm.Cond.instanceMethod ({ cls := "ShadowSpellModel", name := "errorAt", desc := "()I" } : Jvm.MethodName)) ∈ lw_all := lw_g (lw_at lw_m13 55 rfl) rfl
theorem q3007 : (Jvm.Cond.selects "ShadowSpellModel" ({ cls := "ShadowSpellModel", name := "errorAt", desc := "()I" } : Jvm.MethodName) ({ cls := "ShadowSpellModel", name := "errorAt", desc := "()I" } : Jvm.MethodName)) ∈ lw_all := lw_g (lw_at lw_m13 56 rfl) rfl
theorem q3008 : (Jvm.Cond.code ({ cls := "ShadowSpellModel", name := "errorAt", desc := "()I" } : Jvm.MethodName) prog_41_method_46_code (1 : Nat) (Option.some Jvm.ClassFile.FieldType.int)) ∈ lw_all := lw_g (lw_at lw_m13 57 rfl) rfl
theorem q3010 : (Jvm.Cond.instanceMethod ({ cls := "ShadowSpellModel", name := "count", desc := "(I)I" } : Jvm.MethodName)) ∈ lw_all := lw_g (lw_at lw_m13 59 rfl) rfl
theorem q3011 : (Jvm.Cond.selects "ShadowSpellModel" ({ cls := "ShadowSpellModel", name := "count", desc := "(I)I" } : Jvm.MethodName) ({ cls := "ShadowSpellModel", name := "count", desc := "(I)I" } : Jvm.MethodName)) ∈ lw_all := lw_g (lw_at lw_m13 60 rfl) rfl
theorem q3012 : (Jvm.Cond.code ({ cls := "ShadowSpellModel", name := "count", desc := "(I)I" } : Jvm.MethodName) prog_41_method_48_code (2 : Nat) (Option.some Jvm.ClassFile.FieldType.int)) ∈ lw_all := lw_g (lw_at lw_m13 61 rfl) rfl
theorem q3013 : (Jvm.Cond.methodLink "ShadowSpellModel" (262 : Nat) ({ cls := "ShadowSpellModel", name := "counted", desc := "(I)I" } : Jvm.MethodName)) ∈ lw_all := lw_g (lw_at lw_m13 62 rfl) rfl
theorem q3014 : (Jvm.Cond.privateMethod ({ cls := "ShadowSpellModel", name := "counted", desc := "(I)I" } : Jvm.MethodName)) ∈ lw_tbl := lw_at lw_m13 63 rfl
theorem q3015 : (Jvm.Cond.instanceMethod ({ cls := "ShadowSpellModel", name := "counted", desc := "(I)I" } : Jvm.MethodName)) ∈ lw_all := lw_g (lw_at lw_m13 64 rfl) rfl
theorem q3016 : (Jvm.Cond.code ({ cls := "ShadowSpellModel", name := "counted", desc := "(I)I" } : Jvm.MethodName) prog_41_method_47_code (4 : Nat) (Option.some Jvm.ClassFile.FieldType.int)) ∈ lw_all := lw_g (lw_at lw_m13 65 rfl) rfl
theorem q3017 : (Jvm.Cond.methodLink "ShadowSpellModel" (250 : Nat) ({ cls := "ShadowSpellModel$State", name := "isRetro", desc := "(I)Z" } : Jvm.MethodName)) ∈ lw_all := lw_g (lw_at lw_m13 66 rfl) rfl
theorem q3021 : (Jvm.Cond.methodLink "ShadowSpellModel" (259 : Nat) ({ cls := "ShadowSpellModel$State", name := "pairs", desc := "()I" } : Jvm.MethodName)) ∈ lw_all := lw_g (lw_at lw_m13 70 rfl) rfl
theorem q3030 : (Jvm.Cond.static ({ cls := "ShadowSpellModel", name := "gapOf", desc := "(II)I" } : Jvm.MethodName)) ∈ lw_all := lw_g (lw_at lw_m13 79 rfl) rfl
theorem q3031 : (Jvm.Cond.code ({ cls := "ShadowSpellModel", name := "gapOf", desc := "(II)I" } : Jvm.MethodName) prog_41_method_7_code (3 : Nat) (Option.some Jvm.ClassFile.FieldType.int)) ∈ lw_all := lw_g (lw_at lw_m13 80 rfl) rfl
theorem q3032 : (Jvm.Cond.methodLink "ShadowSpellModel" (67 : Nat) ({ cls := "java/lang/Math", name := "floorMod", desc := "(II)I" } : Jvm.MethodName)) ∈ lw_all := lw_g (lw_at lw_m13 81 rfl) rfl
theorem q3035 : (Jvm.Cond.instanceMethod ({ cls := "ShadowSpellModel", name := "planet", desc := "(II)I" } : Jvm.MethodName)) ∈ lw_all := lw_g (lw_at lw_m13 84 rfl) rfl
theorem q3036 : (Jvm.Cond.selects "ShadowSpellModel" ({ cls := "ShadowSpellModel", name := "planet", desc := "(II)I" } : Jvm.MethodName) ({ cls := "ShadowSpellModel", name := "planet", desc := "(II)I" } : Jvm.MethodName)) ∈ lw_all := lw_g (lw_at lw_m13 85 rfl) rfl
theorem q3037 : (Jvm.Cond.code ({ cls := "ShadowSpellModel", name := "planet", desc := "(II)I" } : Jvm.MethodName) prog_41_method_50_code (3 : Nat) (Option.some Jvm.ClassFile.FieldType.int)) ∈ lw_all := lw_g (lw_at lw_m13 86 rfl) rfl
theorem q3038 : (Jvm.Cond.methodLink "ShadowSpellModel" (268 : Nat) ({ cls := "ShadowSpellModel", name := "isPlanet", desc := "(I)Z" } : Jvm.MethodName)) ∈ lw_all := lw_g (lw_at lw_m13 87 rfl) rfl
theorem q3039 : (Jvm.Cond.privateMethod ({ cls := "ShadowSpellModel", name := "isPlanet", desc := "(I)Z" } : Jvm.MethodName)) ∈ lw_tbl := lw_at lw_m13 88 rfl
theorem q3040 : (Jvm.Cond.instanceMethod ({ cls := "ShadowSpellModel", name := "isPlanet", desc := "(I)Z" } : Jvm.MethodName)) ∈ lw_all := lw_g (lw_at lw_m13 89 rfl) rfl
theorem q3041 : (Jvm.Cond.code ({ cls := "ShadowSpellModel", name := "isPlanet", desc := "(I)Z" } : Jvm.MethodName) prog_41_method_5_code (2 : Nat) (Option.some Jvm.ClassFile.FieldType.boolean)) ∈ lw_all := lw_g (lw_at lw_m13 90 rfl) rfl
theorem q3042 : (Jvm.Cond.methodLink "ShadowSpellModel" (271 : Nat) ({ cls := "ShadowSpellModel", name := "planetTold", desc := "(II)I" } : Jvm.MethodName)) ∈ lw_all := lw_g (lw_at lw_m13 91 rfl) rfl
theorem q3043 : (Jvm.Cond.privateMethod ({ cls := "ShadowSpellModel", name := "planetTold", desc := "(II)I" } : Jvm.MethodName)) ∈ lw_tbl := lw_at lw_m13 92 rfl
theorem q3044 : (Jvm.Cond.instanceMethod ({ cls := "ShadowSpellModel", name := "planetTold", desc := "(II)I" } : Jvm.MethodName)) ∈ lw_all := lw_g (lw_at lw_m13 93 rfl) rfl
theorem q3045 : (Jvm.Cond.code ({ cls := "ShadowSpellModel", name := "planetTold", desc := "(II)I" } : Jvm.MethodName) prog_41_method_49_code (4 : Nat) (Option.some Jvm.ClassFile.FieldType.int)) ∈ lw_all := lw_g (lw_at lw_m13 94 rfl) rfl
theorem q3047 : (Jvm.Cond.instanceMethod ({ cls := "ShadowSpellModel", name := "set", desc := "(II)I" } : Jvm.MethodName)) ∈ lw_all := lw_g (lw_at lw_m13 96 rfl) rfl
theorem q3048 : (Jvm.Cond.selects "ShadowSpellModel" ({ cls := "ShadowSpellModel", name := "set", desc := "(II)I" } : Jvm.MethodName) ({ cls := "ShadowSpellModel", name := "set", desc := "(II)I" } : Jvm.MethodName)) ∈ lw_all := lw_g (lw_at lw_m13 97 rfl) rfl
theorem q3049 : (Jvm.Cond.code ({ cls := "ShadowSpellModel", name := "set", desc := "(II)I" } : Jvm.MethodName) prog_41_method_51_code (4 : Nat) (Option.some Jvm.ClassFile.FieldType.int)) ∈ lw_all := lw_g (lw_at lw_m13 98 rfl) rfl
theorem q3051 : (Jvm.Cond.instanceMethod ({ cls := "ShadowSpellModel", name := "gap", desc := "(II)I" } : Jvm.MethodName)) ∈ lw_all := lw_g (lw_at lw_m13 100 rfl) rfl
theorem q3052 : (Jvm.Cond.selects "ShadowSpellModel" ({ cls := "ShadowSpellModel", name := "gap", desc := "(II)I" } : Jvm.MethodName) ({ cls := "ShadowSpellModel", name := "gap", desc := "(II)I" } : Jvm.MethodName)) ∈ lw_all := lw_g (lw_at lw_m13 101 rfl) rfl
theorem q3053 : (Jvm.Cond.code ({ cls := "ShadowSpellModel", name := "gap", desc := "(II)I" } : Jvm.MethodName) prog_41_method_52_code (3 : Nat) (Option.some Jvm.ClassFile.FieldType.int)) ∈ lw_all := lw_g (lw_at lw_m13 102 rfl) rfl
theorem q3054 : (Jvm.Cond.methodLink "ShadowSpellModel" (274 : Nat) ({ cls := "ShadowSpellModel", name := "gapOf", desc := "(II)I" } : Jvm.MethodName)) ∈ lw_all := lw_g (lw_at lw_m13 103 rfl) rfl
theorem q3056 : (Jvm.Cond.instanceMethod ({ cls := "ShadowSpellModel", name := "meets", desc := "(IIZ)Z" } : Jvm.MethodName)) ∈ lw_all := lw_g (lw_at lw_m13 105 rfl) rfl
theorem q3057 : (Jvm.Cond.selects "ShadowSpellModel" ({ cls := "ShadowSpellModel", name := "meets", desc := "(IIZ)Z" } : Jvm.MethodName) ({ cls := "ShadowSpellModel", name := "meets", desc := "(IIZ)Z" } : Jvm.MethodName)) ∈ lw_all := lw_g (lw_at lw_m13 106 rfl) rfl
theorem q3058 : (Jvm.Cond.code ({ cls := "ShadowSpellModel", name := "meets", desc := "(IIZ)Z" } : Jvm.MethodName) prog_41_method_53_code (4 : Nat) (Option.some Jvm.ClassFile.FieldType.boolean)) ∈ lw_all := lw_g (lw_at lw_m13 107 rfl) rfl
theorem q3059 : (Jvm.Cond.methodLink "ShadowSpellModel" (277 : Nat) ({ cls := "ShadowSpellModel$State", name := "meets", desc := "(III)Z" } : Jvm.MethodName)) ∈ lw_all := lw_g (lw_at lw_m13 108 rfl) rfl
theorem q3061 : (Jvm.Cond.instanceMethod ({ cls := "ShadowSpellModel", name := "letter", desc := "(II)I" } : Jvm.MethodName)) ∈ lw_all := lw_g (lw_at lw_m13 110 rfl) rfl
theorem q3062 : (Jvm.Cond.selects "ShadowSpellModel" ({ cls := "ShadowSpellModel", name := "letter", desc := "(II)I" } : Jvm.MethodName) ({ cls := "ShadowSpellModel", name := "letter", desc := "(II)I" } : Jvm.MethodName)) ∈ lw_all := lw_g (lw_at lw_m13 111 rfl) rfl
theorem q3063 : (Jvm.Cond.code ({ cls := "ShadowSpellModel", name := "letter", desc := "(II)I" } : Jvm.MethodName) prog_41_method_54_code (3 : Nat) (Option.some Jvm.ClassFile.FieldType.int)) ∈ lw_all := lw_g (lw_at lw_m13 112 rfl) rfl
theorem q3064 : (Jvm.Cond.methodLink "ShadowSpellModel" (280 : Nat) ({ cls := "ShadowSpellModel", name := "isAlphabet", desc := "(I)Z" } : Jvm.MethodName)) ∈ lw_all := lw_g (lw_at lw_m13 113 rfl) rfl
theorem q3065 : (Jvm.Cond.privateMethod ({ cls := "ShadowSpellModel", name := "isAlphabet", desc := "(I)Z" } : Jvm.MethodName)) ∈ lw_tbl := lw_at lw_m13 114 rfl
theorem q3066 : (Jvm.Cond.instanceMethod ({ cls := "ShadowSpellModel", name := "isAlphabet", desc := "(I)Z" } : Jvm.MethodName)) ∈ lw_all := lw_g (lw_at lw_m13 115 rfl) rfl
theorem q3067 : (Jvm.Cond.code ({ cls := "ShadowSpellModel", name := "isAlphabet", desc := "(I)Z" } : Jvm.MethodName) prog_41_method_6_code (2 : Nat) (Option.some Jvm.ClassFile.FieldType.boolean)) ∈ lw_all := lw_g (lw_at lw_m13 116 rfl) rfl
theorem q3069 : (Jvm.Cond.instanceMethod ({ cls := "ShadowSpellModel", name := "wrote", desc := "(I)I" } : Jvm.MethodName)) ∈ lw_all := lw_g (lw_at lw_m13 118 rfl) rfl
theorem q3070 : (Jvm.Cond.selects "ShadowSpellModel" ({ cls := "ShadowSpellModel", name := "wrote", desc := "(I)I" } : Jvm.MethodName) ({ cls := "ShadowSpellModel", name := "wrote", desc := "(I)I" } : Jvm.MethodName)) ∈ lw_all := lw_g (lw_at lw_m13 119 rfl) rfl
theorem q3071 : (Jvm.Cond.code ({ cls := "ShadowSpellModel", name := "wrote", desc := "(I)I" } : Jvm.MethodName) prog_41_method_55_code (2 : Nat) (Option.some Jvm.ClassFile.FieldType.int)) ∈ lw_all := lw_g (lw_at lw_m13 120 rfl) rfl
theorem q3073 : (Jvm.Cond.instanceMethod ({ cls := "ShadowSpellModel", name := "pass", desc := "(I)I" } : Jvm.MethodName)) ∈ lw_all := lw_g (lw_at lw_m13 122 rfl) rfl
theorem q3074 : (Jvm.Cond.selects "ShadowSpellModel" ({ cls := "ShadowSpellModel", name := "pass", desc := "(I)I" } : Jvm.MethodName) ({ cls := "ShadowSpellModel", name := "pass", desc := "(I)I" } : Jvm.MethodName)) ∈ lw_all := lw_g (lw_at lw_m13 123 rfl) rfl
theorem q3075 : (Jvm.Cond.code ({ cls := "ShadowSpellModel", name := "pass", desc := "(I)I" } : Jvm.MethodName) prog_41_method_56_code (4 : Nat) (Option.some Jvm.ClassFile.FieldType.int)) ∈ lw_all := lw_g (lw_at lw_m13 124 rfl) rfl
theorem q3076 : (Jvm.Cond.methodLink "ShadowSpellModel" (283 : Nat) ({ cls := "ShadowSpellModel$State", name := "pass", desc := "()I" } : Jvm.MethodName)) ∈ lw_all := lw_g (lw_at lw_m13 125 rfl) rfl
theorem q3090 : (Jvm.Cond.static ({ cls := "ShadowSpellModel", name := "isPushed", desc := "(I)Z" } : Jvm.MethodName)) ∈ lw_all := lw_g (lw_at lw_m13 139 rfl) rfl
theorem q3091 : (Jvm.Cond.code ({ cls := "ShadowSpellModel", name := "isPushed", desc := "(I)Z" } : Jvm.MethodName) prog_41_method_8_code (1 : Nat) (Option.some Jvm.ClassFile.FieldType.boolean)) ∈ lw_all := lw_g (lw_at lw_m13 140 rfl) rfl
theorem q3097 : (Jvm.Cond.static ({ cls := "ShadowSpellModel", name := "both", desc := "(III)I" } : Jvm.MethodName)) ∈ lw_all := lw_g (lw_at lw_m13 146 rfl) rfl
theorem q3098 : (Jvm.Cond.code ({ cls := "ShadowSpellModel", name := "both", desc := "(III)I" } : Jvm.MethodName) prog_41_method_9_code (3 : Nat) (Option.some Jvm.ClassFile.FieldType.int)) ∈ lw_all := lw_g (lw_at lw_m13 147 rfl) rfl
theorem q3099 : (Jvm.Cond.methodLink "ShadowSpellModel" (76 : Nat) ({ cls := "java/lang/Math", name := "max", desc := "(II)I" } : Jvm.MethodName)) ∈ lw_all := lw_g (lw_at lw_m13 148 rfl) rfl
theorem q3102 : (Jvm.Cond.instanceMethod ({ cls := "ShadowSpellModel", name := "byteAt", desc := "(I)I" } : Jvm.MethodName)) ∈ lw_all := lw_g (lw_at lw_m13 151 rfl) rfl
theorem q3103 : (Jvm.Cond.selects "ShadowSpellModel" ({ cls := "ShadowSpellModel", name := "byteAt", desc := "(I)I" } : Jvm.MethodName) ({ cls := "ShadowSpellModel", name := "byteAt", desc := "(I)I" } : Jvm.MethodName)) ∈ lw_all := lw_g (lw_at lw_m13 152 rfl) rfl
theorem q3104 : (Jvm.Cond.code ({ cls := "ShadowSpellModel", name := "byteAt", desc := "(I)I" } : Jvm.MethodName) prog_41_method_57_code (2 : Nat) (Option.some Jvm.ClassFile.FieldType.int)) ∈ lw_all := lw_g (lw_at lw_m13 153 rfl) rfl
theorem q3106 : (Jvm.Cond.instanceMethod ({ cls := "ShadowSpellModel", name := "clear", desc := "()I" } : Jvm.MethodName)) ∈ lw_all := lw_g (lw_at lw_m13 155 rfl) rfl
theorem q3107 : (Jvm.Cond.selects "ShadowSpellModel" ({ cls := "ShadowSpellModel", name := "clear", desc := "()I" } : Jvm.MethodName) ({ cls := "ShadowSpellModel", name := "clear", desc := "()I" } : Jvm.MethodName)) ∈ lw_all := lw_g (lw_at lw_m13 156 rfl) rfl
theorem q3108 : (Jvm.Cond.code ({ cls := "ShadowSpellModel", name := "clear", desc := "()I" } : Jvm.MethodName) prog_41_method_58_code (2 : Nat) (Option.some Jvm.ClassFile.FieldType.int)) ∈ lw_all := lw_g (lw_at lw_m13 157 rfl) rfl
theorem q3110 : (Jvm.Cond.instanceMethod ({ cls := "ShadowSpellModel", name := "find", desc := "()I" } : Jvm.MethodName)) ∈ lw_all := lw_g (lw_at lw_m13 159 rfl) rfl
theorem q3111 : (Jvm.Cond.selects "ShadowSpellModel" ({ cls := "ShadowSpellModel", name := "find", desc := "()I" } : Jvm.MethodName) ({ cls := "ShadowSpellModel", name := "find", desc := "()I" } : Jvm.MethodName)) ∈ lw_all := lw_g (lw_at lw_m13 160 rfl) rfl
theorem q3112 : (Jvm.Cond.code ({ cls := "ShadowSpellModel", name := "find", desc := "()I" } : Jvm.MethodName) prog_41_method_59_code (1 : Nat) (Option.some Jvm.ClassFile.FieldType.int)) ∈ lw_all := lw_g (lw_at lw_m13 161 rfl) rfl
theorem q3113 : (Jvm.Cond.methodLink "ShadowSpellModel" (289 : Nat) ({ cls := "ShadowSpellModel$State", name := "find", desc := "(I)I" } : Jvm.MethodName)) ∈ lw_all := lw_g (lw_at lw_m13 162 rfl) rfl
theorem q3118 : (Jvm.Cond.instanceMethod ({ cls := "ShadowSpellModel", name := "translate", desc := "(II)I" } : Jvm.MethodName)) ∈ lw_all := lw_g (lw_at lw_m13 167 rfl) rfl
theorem q3119 : (Jvm.Cond.selects "ShadowSpellModel" ({ cls := "ShadowSpellModel", name := "translate", desc := "(II)I" } : Jvm.MethodName) ({ cls := "ShadowSpellModel", name := "translate", desc := "(II)I" } : Jvm.MethodName)) ∈ lw_all := lw_g (lw_at lw_m13 168 rfl) rfl
theorem q3120 : (Jvm.Cond.code ({ cls := "ShadowSpellModel", name := "translate", desc := "(II)I" } : Jvm.MethodName) prog_41_method_61_code (7 : Nat) (Option.some Jvm.ClassFile.FieldType.int)) ∈ lw_all := lw_g (lw_at lw_m13 169 rfl) rfl
theorem q3121 : (Jvm.Cond.methodLink "ShadowSpellModel" (292 : Nat) ({ cls := "ShadowSpellModel", name := "numberOf", desc := "(II)I" } : Jvm.MethodName)) ∈ lw_all := lw_g (lw_at lw_m13 170 rfl) rfl
theorem q3122 : (Jvm.Cond.privateMethod ({ cls := "ShadowSpellModel", name := "numberOf", desc := "(II)I" } : Jvm.MethodName)) ∈ lw_tbl := lw_at lw_m13 171 rfl
theorem q3123 : (Jvm.Cond.instanceMethod ({ cls := "ShadowSpellModel", name := "numberOf", desc := "(II)I" } : Jvm.MethodName)) ∈ lw_all := lw_g (lw_at lw_m13 172 rfl) rfl
theorem q3124 : (Jvm.Cond.code ({ cls := "ShadowSpellModel", name := "numberOf", desc := "(II)I" } : Jvm.MethodName) prog_41_method_60_code (4 : Nat) (Option.some Jvm.ClassFile.FieldType.int)) ∈ lw_all := lw_g (lw_at lw_m13 173 rfl) rfl
theorem q3126 : (Jvm.Cond.instanceMethod ({ cls := "ShadowSpellModel", name := "foresee", desc := "(II)I" } : Jvm.MethodName)) ∈ lw_all := lw_g (lw_at lw_m13 175 rfl) rfl
theorem q3127 : (Jvm.Cond.selects "ShadowSpellModel" ({ cls := "ShadowSpellModel", name := "foresee", desc := "(II)I" } : Jvm.MethodName) ({ cls := "ShadowSpellModel", name := "foresee", desc := "(II)I" } : Jvm.MethodName)) ∈ lw_all := lw_g (lw_at lw_m13 176 rfl) rfl
theorem q3128 : (Jvm.Cond.code ({ cls := "ShadowSpellModel", name := "foresee", desc := "(II)I" } : Jvm.MethodName) prog_41_method_62_code (5 : Nat) (Option.some Jvm.ClassFile.FieldType.int)) ∈ lw_all := lw_g (lw_at lw_m13 177 rfl) rfl
theorem q3129 : (Jvm.Cond.methodLink "ShadowSpellModel" (295 : Nat) ({ cls := "ShadowSpellModel$State", name := "become", desc := "(LShadowSpellModel$State;)V" } : Jvm.MethodName)) ∈ lw_all := lw_g (lw_at lw_m13 178 rfl) rfl
theorem q3138 : (Jvm.Cond.methodLink "ShadowSpellModel" (299 : Nat) ({ cls := "ShadowSpellModel$State", name := "laps", desc := "()I" } : Jvm.MethodName)) ∈ lw_all := lw_g (lw_at lw_m13 187 rfl) rfl
theorem q3143 : (Jvm.Cond.instanceMethod ({ cls := "ShadowSpellModel", name := "next", desc := "(IIZ)I" } : Jvm.MethodName)) ∈ lw_all := lw_g (lw_at lw_m13 192 rfl) rfl
theorem q3144 : (Jvm.Cond.selects "ShadowSpellModel" ({ cls := "ShadowSpellModel", name := "next", desc := "(IIZ)I" } : Jvm.MethodName) ({ cls := "ShadowSpellModel", name := "next", desc := "(IIZ)I" } : Jvm.MethodName)) ∈ lw_all := lw_g (lw_at lw_m13 193 rfl) rfl
theorem q3145 : (Jvm.Cond.code ({ cls := "ShadowSpellModel", name := "next", desc := "(IIZ)I" } : Jvm.MethodName) prog_41_method_63_code (5 : Nat) (Option.some Jvm.ClassFile.FieldType.int)) ∈ lw_all := lw_g (lw_at lw_m13 194 rfl) rfl
theorem q3146 : (Jvm.Cond.methodLink "ShadowSpellModel" (302 : Nat) ({ cls := "ShadowSpellModel$State", name := "move", desc := "()V" } : Jvm.MethodName)) ∈ lw_all := lw_g (lw_at lw_m13 195 rfl) rfl
theorem q3148 : (Jvm.Cond.instanceMethod ({ cls := "ShadowSpellModel", name := "spells", desc := "()I" } : Jvm.MethodName)) ∈ lw_all := lw_g (lw_at lw_m13 197 rfl) rfl
theorem q3149 : (Jvm.Cond.selects "ShadowSpellModel" ({ cls := "ShadowSpellModel", name := "spells", desc := "()I" } : Jvm.MethodName) ({ cls := "ShadowSpellModel", name := "spells", desc := "()I" } : Jvm.MethodName)) ∈ lw_all := lw_g (lw_at lw_m13 198 rfl) rfl
theorem q3150 : (Jvm.Cond.code ({ cls := "ShadowSpellModel", name := "spells", desc := "()I" } : Jvm.MethodName) prog_41_method_64_code (3 : Nat) (Option.some Jvm.ClassFile.FieldType.int)) ∈ lw_all := lw_g (lw_at lw_m13 199 rfl) rfl
theorem q3152 : (Jvm.Cond.instanceMethod ({ cls := "ShadowSpellModel", name := "again", desc := "(I)I" } : Jvm.MethodName)) ∈ lw_all := lw_g (lw_at lw_m13 201 rfl) rfl
theorem q3153 : (Jvm.Cond.selects "ShadowSpellModel" ({ cls := "ShadowSpellModel", name := "again", desc := "(I)I" } : Jvm.MethodName) ({ cls := "ShadowSpellModel", name := "again", desc := "(I)I" } : Jvm.MethodName)) ∈ lw_all := lw_g (lw_at lw_m13 202 rfl) rfl
theorem q3154 : (Jvm.Cond.code ({ cls := "ShadowSpellModel", name := "again", desc := "(I)I" } : Jvm.MethodName) prog_41_method_65_code (5 : Nat) (Option.some Jvm.ClassFile.FieldType.int)) ∈ lw_all := lw_g (lw_at lw_m13 203 rfl) rfl
theorem q3156 : (Jvm.Cond.instanceMethod ({ cls := "ShadowSpellModel", name := "advise", desc := "(II)I" } : Jvm.MethodName)) ∈ lw_all := lw_g (lw_at lw_m13 205 rfl) rfl
theorem q3157 : (Jvm.Cond.selects "ShadowSpellModel" ({ cls := "ShadowSpellModel", name := "advise", desc := "(II)I" } : Jvm.MethodName) ({ cls := "ShadowSpellModel", name := "advise", desc := "(II)I" } : Jvm.MethodName)) ∈ lw_all := lw_g (lw_at lw_m13 206 rfl) rfl
theorem q3158 : (Jvm.Cond.code ({ cls := "ShadowSpellModel", name := "advise", desc := "(II)I" } : Jvm.MethodName) prog_41_method_66_code (8 : Nat) (Option.some Jvm.ClassFile.FieldType.int)) ∈ lw_all := lw_g (lw_at lw_m13 207 rfl) rfl
theorem q3160 : (Jvm.Cond.instanceMethod ({ cls := "ShadowSpellModel", name := "mean", desc := "()D" } : Jvm.MethodName)) ∈ lw_all := lw_g (lw_at lw_m13 209 rfl) rfl
theorem q3161 : (Jvm.Cond.selects "ShadowSpellModel" ({ cls := "ShadowSpellModel", name := "mean", desc := "()D" } : Jvm.MethodName) ({ cls := "ShadowSpellModel", name := "mean", desc := "()D" } : Jvm.MethodName)) ∈ lw_all := lw_g (lw_at lw_m13 210 rfl) rfl
theorem q3162 : (Jvm.Cond.code ({ cls := "ShadowSpellModel", name := "mean", desc := "()D" } : Jvm.MethodName) prog_41_method_68_code (1 : Nat) (Option.some Jvm.ClassFile.FieldType.double)) ∈ lw_all := lw_g (lw_at lw_m13 211 rfl) rfl
theorem q3163 : (Jvm.Cond.methodLink "ShadowSpellModel" (305 : Nat) ({ cls := "ShadowSpellModel", name := "wroteInAll", desc := "()I" } : Jvm.MethodName)) ∈ lw_all := lw_g (lw_at lw_m13 212 rfl) rfl
theorem q3164 : (Jvm.Cond.privateMethod ({ cls := "ShadowSpellModel", name := "wroteInAll", desc := "()I" } : Jvm.MethodName)) ∈ lw_tbl := lw_at lw_m13 213 rfl
theorem q3165 : (Jvm.Cond.instanceMethod ({ cls := "ShadowSpellModel", name := "wroteInAll", desc := "()I" } : Jvm.MethodName)) ∈ lw_all := lw_g (lw_at lw_m13 214 rfl) rfl
theorem q3166 : (Jvm.Cond.code ({ cls := "ShadowSpellModel", name := "wroteInAll", desc := "()I" } : Jvm.MethodName) prog_41_method_67_code (3 : Nat) (Option.some Jvm.ClassFile.FieldType.int)) ∈ lw_all := lw_g (lw_at lw_m13 215 rfl) rfl
theorem q3168 : (Jvm.Cond.instanceMethod ({ cls := "ShadowSpellModel", name := "digest", desc := "()J" } : Jvm.MethodName)) ∈ lw_all := lw_g (lw_at lw_m13 217 rfl) rfl
theorem q3169 : (Jvm.Cond.selects "ShadowSpellModel" ({ cls := "ShadowSpellModel", name := "digest", desc := "()J" } : Jvm.MethodName) ({ cls := "ShadowSpellModel", name := "digest", desc := "()J" } : Jvm.MethodName)) ∈ lw_all := lw_g (lw_at lw_m13 218 rfl) rfl
theorem q3170 : (Jvm.Cond.code ({ cls := "ShadowSpellModel", name := "digest", desc := "()J" } : Jvm.MethodName) prog_41_method_69_code (5 : Nat) (Option.some Jvm.ClassFile.FieldType.long)) ∈ lw_all := lw_g (lw_at lw_m13 219 rfl) rfl
theorem q3171 : (Jvm.Cond.constantLong "ShadowSpellModel" (308 : Nat) (727 : Int64)) ∈ lw_all := lw_g (lw_at lw_m13 220 rfl) rfl
theorem q3172 : (Jvm.Cond.constantLong "ShadowSpellModel" (310 : Nat) (31 : Int64)) ∈ lw_all := lw_g (lw_at lw_m13 221 rfl) rfl
theorem q3222 : (Jvm.Cond.castable "ShadowSpellModel" "java/lang/Object") ∈ lw_tbl := lw_at lw_m14 31 rfl
theorem q3324 : (Jvm.Cond.stringRef "ShadowSpellModel" (312 : Nat) "planet") ∈ lw_tbl := lw_at lw_m14 133 rfl
theorem q3325 : (Jvm.Cond.stringRef "ShadowSpellModel" (313 : Nat) "rail") ∈ lw_tbl := lw_at lw_m14 134 rfl
theorem q3326 : (Jvm.Cond.stringRef "ShadowSpellModel" (315 : Nat) "speed") ∈ lw_tbl := lw_at lw_m14 135 rfl
theorem q3327 : (Jvm.Cond.stringRef "ShadowSpellModel" (317 : Nat) "from") ∈ lw_tbl := lw_at lw_m14 136 rfl
theorem q3328 : (Jvm.Cond.stringRef "ShadowSpellModel" (318 : Nat) "retro") ∈ lw_tbl := lw_at lw_m14 137 rfl
theorem q3329 : (Jvm.Cond.stringRef "ShadowSpellModel" (320 : Nat) "every") ∈ lw_tbl := lw_at lw_m14 138 rfl
theorem q3330 : (Jvm.Cond.stringRef "ShadowSpellModel" (322 : Nat) "alphabet") ∈ lw_tbl := lw_at lw_m14 139 rfl
theorem q3331 : (Jvm.Cond.stringRef "ShadowSpellModel" (324 : Nat) "when") ∈ lw_tbl := lw_at lw_m14 140 rfl
theorem q3332 : (Jvm.Cond.stringRef "ShadowSpellModel" (326 : Nat) "write") ∈ lw_tbl := lw_at lw_m14 141 rfl
theorem q3333 : (Jvm.Cond.stringRef "ShadowSpellModel" (328 : Nat) "of") ∈ lw_tbl := lw_at lw_m14 142 rfl
theorem q3334 : (Jvm.Cond.stringRef "ShadowSpellModel" (329 : Nat) "transit") ∈ lw_tbl := lw_at lw_m14 143 rfl
theorem q3335 : (Jvm.Cond.stringRef "ShadowSpellModel" (331 : Nat) "opposite") ∈ lw_tbl := lw_at lw_m14 144 rfl
theorem q3336 : (Jvm.Cond.stringRef "ShadowSpellModel" (333 : Nat) "at") ∈ lw_tbl := lw_at lw_m14 145 rfl
theorem q3337 : (Jvm.Cond.stringRef "ShadowSpellModel" (335 : Nat) "lap") ∈ lw_tbl := lw_at lw_m14 146 rfl
theorem q3338 : (Jvm.Cond.stringRef "ShadowSpellModel" (336 : Nat) "gap") ∈ lw_tbl := lw_at lw_m14 147 rfl
theorem q3339 : (Jvm.Cond.stringRef "ShadowSpellModel" (338 : Nat) "day") ∈ lw_tbl := lw_at lw_m14 148 rfl
theorem q3340 : (Jvm.Cond.stringRef "ShadowSpellModel" (339 : Nat) "length") ∈ lw_tbl := lw_at lw_m14 149 rfl
theorem q3341 : (Jvm.Cond.stringRef "ShadowSpellModel" (340 : Nat) "not") ∈ lw_tbl := lw_at lw_m14 150 rfl
theorem q3342 : (Jvm.Cond.stringRef "ShadowSpellModel" (342 : Nat) "and") ∈ lw_tbl := lw_at lw_m14 151 rfl
theorem q3343 : (Jvm.Cond.stringRef "ShadowSpellModel" (344 : Nat) "or") ∈ lw_tbl := lw_at lw_m14 152 rfl
theorem q3344 : (Jvm.Cond.stringRef "ShadowSpellModel" (346 : Nat) "min") ∈ lw_tbl := lw_at lw_m14 153 rfl
theorem q3345 : (Jvm.Cond.stringRef "ShadowSpellModel" (347 : Nat) "max") ∈ lw_tbl := lw_at lw_m14 154 rfl
theorem in_X4 : ∀ w ∈ wsX40, w ∈ lw_all := lw_in wsX40 [2812, 2814, 2816, 2818, 2820, 2822, 2824, 2826, 2828, 2830, 2832, 2834, 2836, 2838, 2840] (by decide +kernel) (by decide +kernel)

/-! ShadowSpellModel$Told -/
set_option maxRecDepth 100000
def RX5 : String := "ShadowSpellModel$Told"
def TX5 : u_T := fun k => match k with
  | 0 => ("ShadowSpellModel$Told", "planets", "I", false)
  | 1 => ("ShadowSpellModel$Told", "planet", "[I", true)
  | 2 => ("ShadowSpellModel$Told", "alphabets", "I", false)
  | 3 => ("ShadowSpellModel$Told", "letters", "[I", true)
  | 4 => ("ShadowSpellModel$Told", "letter", "[I", true)
  | 5 => ("ShadowSpellModel$Told", "rules", "I", false)
  | 6 => ("ShadowSpellModel$Told", "test", "[I", true)
  | 7 => ("ShadowSpellModel$Told", "sum", "[I", true)
  | 8 => ("ShadowSpellModel$Told", "of", "[I", true)
  | 9 => ("ShadowSpellModel$Told", "code", "[I", true)
  | 10 => ("ShadowSpellModel$Told", "length", "I", false)
  | 11 => ("ShadowSpellModel$Told", "open", "[I", true)
  | _ => ("ShadowSpellModel$Told", "opens", "I", false)
def tyX5 : Nat → FieldType := fun k => match k with
  | 0 => .int
  | 1 => .array .int
  | 2 => .int
  | 3 => .array .int
  | 4 => .array .int
  | 5 => .int
  | 6 => .array .int
  | 7 => .array .int
  | 8 => .array .int
  | 9 => .array .int
  | 10 => .int
  | 11 => .array .int
  | _ => .int
abbrev wsX50 : List Cond := u_ws RX5 TX5 13
set_option maxRecDepth 100000 in
theorem nmX5 : ∀ a, a < 13 → ∀ b, b < 13 → a ≠ b → (TX5 a).2.1 ≠ (TX5 b).2.1 := by decide +kernel
set_option maxRecDepth 100000 in
theorem tyX5_ok : ∀ k, k < 13 → parseFieldDescriptor (TX5 k).2.2.1 = some (tyX5 k) := by decide +kernel
abbrev cX5_init : ByteArray := prog_43_method_1_code
def yX5_init : MethodName := ⟨RX5, "<init>", "()V"⟩
def dkwX5_init_2 : List UInt8 := [188, 10, 181, 0, 27, 42, 17, 4, 176, 188, 10, 181, 0, 30, 42, 17, 1, 144, 188, 10, 181, 0, 33, 177]
abbrev dktX5_init_2 : List UInt8 := dkwX5_init_2 ++ []
def dkwX5_init_1 : List UInt8 := [188, 10, 181, 0, 18, 42, 16, 13, 188, 10, 181, 0, 21, 42, 16, 13, 188, 10, 181, 0, 24, 42, 16, 13]
abbrev dktX5_init_1 : List UInt8 := dkwX5_init_1 ++ dktX5_init_2
def dkwX5_init_0 : List UInt8 := [42, 183, 0, 3, 42, 16, 40, 188, 10, 181, 0, 9, 42, 16, 6, 188, 10, 181, 0, 15, 42, 16, 72]
abbrev dktX5_init_0 : List UInt8 := dkwX5_init_0 ++ dktX5_init_1
theorem dksX5_init_0 : cX5_init.data.toList.drop 0 = dktX5_init_0 := by decide +kernel
theorem dksX5_init_1 : cX5_init.data.toList.drop 23 = dktX5_init_1 := dk_seg dksX5_init_0 23 rfl rfl
theorem dksX5_init_2 : cX5_init.data.toList.drop 47 = dktX5_init_2 := dk_seg dksX5_init_1 24 rfl rfl
theorem dX5_init_0 : decode cX5_init 0 = .ok (.aload_n 0, 1) := dk_42 (dk_at dksX5_init_0 0 rfl rfl)
theorem dX5_init_1 : decode cX5_init 1 = .ok (.invokespecial 3, 3) := dk_183 0 3 (dk_at dksX5_init_0 1 rfl rfl)
theorem dX5_init_4 : decode cX5_init 4 = .ok (.aload_n 0, 1) := dk_42 (dk_at dksX5_init_0 4 rfl rfl)
theorem dX5_init_5 : decode cX5_init 5 = .ok (.bipush 40, 2) := dk_16 40 (dk_at dksX5_init_0 5 rfl rfl)
theorem dX5_init_7 : decode cX5_init 7 = .ok (.newarray .int, 2) := dk_188_10 (dk_at dksX5_init_0 7 rfl rfl)
theorem dX5_init_9 : decode cX5_init 9 = .ok (.putfield 9, 3) := dk_181 0 9 (dk_at dksX5_init_0 9 rfl rfl)
theorem dX5_init_12 : decode cX5_init 12 = .ok (.aload_n 0, 1) := dk_42 (dk_at dksX5_init_0 12 rfl rfl)
theorem dX5_init_13 : decode cX5_init 13 = .ok (.bipush 6, 2) := dk_16 6 (dk_at dksX5_init_0 13 rfl rfl)
theorem dX5_init_15 : decode cX5_init 15 = .ok (.newarray .int, 2) := dk_188_10 (dk_at dksX5_init_0 15 rfl rfl)
theorem dX5_init_17 : decode cX5_init 17 = .ok (.putfield 15, 3) := dk_181 0 15 (dk_at dksX5_init_0 17 rfl rfl)
theorem dX5_init_20 : decode cX5_init 20 = .ok (.aload_n 0, 1) := dk_42 (dk_at dksX5_init_0 20 rfl rfl)
theorem dX5_init_21 : decode cX5_init 21 = .ok (.bipush 72, 2) := dk_16 72 (dk_at dksX5_init_0 21 rfl rfl)
theorem dX5_init_23 : decode cX5_init 23 = .ok (.newarray .int, 2) := dk_188_10 (dk_at dksX5_init_1 0 rfl rfl)
theorem dX5_init_25 : decode cX5_init 25 = .ok (.putfield 18, 3) := dk_181 0 18 (dk_at dksX5_init_1 2 rfl rfl)
theorem dX5_init_28 : decode cX5_init 28 = .ok (.aload_n 0, 1) := dk_42 (dk_at dksX5_init_1 5 rfl rfl)
theorem dX5_init_29 : decode cX5_init 29 = .ok (.bipush 13, 2) := dk_16 13 (dk_at dksX5_init_1 6 rfl rfl)
theorem dX5_init_31 : decode cX5_init 31 = .ok (.newarray .int, 2) := dk_188_10 (dk_at dksX5_init_1 8 rfl rfl)
theorem dX5_init_33 : decode cX5_init 33 = .ok (.putfield 21, 3) := dk_181 0 21 (dk_at dksX5_init_1 10 rfl rfl)
theorem dX5_init_36 : decode cX5_init 36 = .ok (.aload_n 0, 1) := dk_42 (dk_at dksX5_init_1 13 rfl rfl)
theorem dX5_init_37 : decode cX5_init 37 = .ok (.bipush 13, 2) := dk_16 13 (dk_at dksX5_init_1 14 rfl rfl)
theorem dX5_init_39 : decode cX5_init 39 = .ok (.newarray .int, 2) := dk_188_10 (dk_at dksX5_init_1 16 rfl rfl)
theorem dX5_init_41 : decode cX5_init 41 = .ok (.putfield 24, 3) := dk_181 0 24 (dk_at dksX5_init_1 18 rfl rfl)
theorem dX5_init_44 : decode cX5_init 44 = .ok (.aload_n 0, 1) := dk_42 (dk_at dksX5_init_1 21 rfl rfl)
theorem dX5_init_45 : decode cX5_init 45 = .ok (.bipush 13, 2) := dk_16 13 (dk_at dksX5_init_1 22 rfl rfl)
theorem dX5_init_47 : decode cX5_init 47 = .ok (.newarray .int, 2) := dk_188_10 (dk_at dksX5_init_2 0 rfl rfl)
theorem dX5_init_49 : decode cX5_init 49 = .ok (.putfield 27, 3) := dk_181 0 27 (dk_at dksX5_init_2 2 rfl rfl)
theorem dX5_init_52 : decode cX5_init 52 = .ok (.aload_n 0, 1) := dk_42 (dk_at dksX5_init_2 5 rfl rfl)
theorem dX5_init_53 : decode cX5_init 53 = .ok (.sipush 1200, 3) := dk_17 4 176 (dk_at dksX5_init_2 6 rfl rfl)
theorem dX5_init_56 : decode cX5_init 56 = .ok (.newarray .int, 2) := dk_188_10 (dk_at dksX5_init_2 9 rfl rfl)
theorem dX5_init_58 : decode cX5_init 58 = .ok (.putfield 30, 3) := dk_181 0 30 (dk_at dksX5_init_2 11 rfl rfl)
theorem dX5_init_61 : decode cX5_init 61 = .ok (.aload_n 0, 1) := dk_42 (dk_at dksX5_init_2 14 rfl rfl)
theorem dX5_init_62 : decode cX5_init 62 = .ok (.sipush 400, 3) := dk_17 1 144 (dk_at dksX5_init_2 15 rfl rfl)
theorem dX5_init_65 : decode cX5_init 65 = .ok (.newarray .int, 2) := dk_188_10 (dk_at dksX5_init_2 18 rfl rfl)
theorem dX5_init_67 : decode cX5_init 67 = .ok (.putfield 33, 3) := dk_181 0 33 (dk_at dksX5_init_2 20 rfl rfl)
theorem dX5_init_70 : decode cX5_init 70 = .ok (.return_, 1) := dk_177 (dk_at dksX5_init_2 23 rfl rfl)
theorem q83 : (Jvm.Cond.initialized "ShadowSpellModel$Told") ∈ lw_all := lw_g (lw_at lw_m1 12 rfl) rfl
theorem q784 : (Jvm.Cond.selects "ShadowSpellModel$Told" ({ cls := "java/lang/Object", name := "getClass", desc := "()Ljava/lang/Class;" } : Jvm.MethodName) ({ cls := "java/lang/Object", name := "getClass", desc := "()Ljava/lang/Class;" } : Jvm.MethodName)) ∈ lw_all := lw_g (lw_at lw_m3 233 rfl) rfl
theorem q1015 : (Jvm.Cond.selects "ShadowSpellModel$Told" ({ cls := "java/lang/Object", name := "hashCode", desc := "()I" } : Jvm.MethodName) ({ cls := "java/lang/Object", name := "hashCode", desc := "()I" } : Jvm.MethodName)) ∈ lw_all := lw_g (lw_at lw_m4 224 rfl) rfl
theorem q1129 : (Jvm.Cond.selects "ShadowSpellModel$Told" ({ cls := "java/lang/Object", name := "equals", desc := "(Ljava/lang/Object;)Z" } : Jvm.MethodName) ({ cls := "java/lang/Object", name := "equals", desc := "(Ljava/lang/Object;)Z" } : Jvm.MethodName)) ∈ lw_all := lw_g (lw_at lw_m5 98 rfl) rfl
theorem q2691 : (Jvm.Cond.instantiable "ShadowSpellModel$Told" (13 : Nat)) ∈ lw_all := lw_g (lw_at lw_m11 220 rfl) rfl
theorem q2693 : (Jvm.Cond.instanceMethod ({ cls := "ShadowSpellModel$Told", name := "<init>", desc := "()V" } : Jvm.MethodName)) ∈ lw_all := lw_g (lw_at lw_m11 222 rfl) rfl
theorem q2694 : (Jvm.Cond.code ({ cls := "ShadowSpellModel$Told", name := "<init>", desc := "()V" } : Jvm.MethodName) prog_43_method_1_code (1 : Nat) (Option.none : Option Jvm.ClassFile.FieldType)) ∈ lw_all := lw_g (lw_at lw_m11 223 rfl) rfl
theorem q2695 : (Jvm.Cond.methodLink "ShadowSpellModel$Told" (3 : Nat) ({ cls := "java/lang/Object", name := "<init>", desc := "()V" } : Jvm.MethodName)) ∈ lw_all := lw_g (lw_at lw_m11 224 rfl) rfl
theorem q2698 : (Jvm.Cond.fieldLink "ShadowSpellModel$Told" (9 : Nat) "ShadowSpellModel$Told" "planet" "[I") ∈ lw_all := lw_g (lw_at lw_m11 227 rfl) rfl
theorem q2702 : (Jvm.Cond.fieldLink "ShadowSpellModel$Told" (15 : Nat) "ShadowSpellModel$Told" "letters" "[I") ∈ lw_all := lw_g (lw_at lw_m11 231 rfl) rfl
theorem q2705 : (Jvm.Cond.fieldLink "ShadowSpellModel$Told" (18 : Nat) "ShadowSpellModel$Told" "letter" "[I") ∈ lw_all := lw_g (lw_at lw_m11 234 rfl) rfl
theorem q2710 : (Jvm.Cond.fieldLink "ShadowSpellModel$Told" (21 : Nat) "ShadowSpellModel$Told" "test" "[I") ∈ lw_all := lw_g (lw_at lw_m11 239 rfl) rfl
theorem q2713 : (Jvm.Cond.fieldLink "ShadowSpellModel$Told" (24 : Nat) "ShadowSpellModel$Told" "sum" "[I") ∈ lw_all := lw_g (lw_at lw_m12 2 rfl) rfl
theorem q2716 : (Jvm.Cond.fieldLink "ShadowSpellModel$Told" (27 : Nat) "ShadowSpellModel$Told" "of" "[I") ∈ lw_all := lw_g (lw_at lw_m12 5 rfl) rfl
theorem q2719 : (Jvm.Cond.fieldLink "ShadowSpellModel$Told" (30 : Nat) "ShadowSpellModel$Told" "code" "[I") ∈ lw_all := lw_g (lw_at lw_m12 8 rfl) rfl
theorem q2723 : (Jvm.Cond.fieldLink "ShadowSpellModel$Told" (33 : Nat) "ShadowSpellModel$Told" "open" "[I") ∈ lw_all := lw_g (lw_at lw_m12 12 rfl) rfl
theorem q2726 : (Jvm.Cond.lays "ShadowSpellModel$Told" "ShadowSpellModel$Told" "planets" "I") ∈ lw_all := lw_g (lw_at lw_m12 15 rfl) rfl
theorem q2727 : (Jvm.Cond.soleField "ShadowSpellModel$Told" "planets") ∈ lw_all := lw_g (lw_at lw_m12 16 rfl) rfl
theorem q2728 : (Jvm.Cond.laysFinal "ShadowSpellModel$Told" "ShadowSpellModel$Told" "planet" "[I") ∈ lw_all := lw_g (lw_at lw_m12 17 rfl) rfl
theorem q2729 : (Jvm.Cond.soleField "ShadowSpellModel$Told" "planet") ∈ lw_all := lw_g (lw_at lw_m12 18 rfl) rfl
theorem q2730 : (Jvm.Cond.lays "ShadowSpellModel$Told" "ShadowSpellModel$Told" "alphabets" "I") ∈ lw_all := lw_g (lw_at lw_m12 19 rfl) rfl
theorem q2731 : (Jvm.Cond.soleField "ShadowSpellModel$Told" "alphabets") ∈ lw_all := lw_g (lw_at lw_m12 20 rfl) rfl
theorem q2732 : (Jvm.Cond.laysFinal "ShadowSpellModel$Told" "ShadowSpellModel$Told" "letters" "[I") ∈ lw_all := lw_g (lw_at lw_m12 21 rfl) rfl
theorem q2733 : (Jvm.Cond.soleField "ShadowSpellModel$Told" "letters") ∈ lw_all := lw_g (lw_at lw_m12 22 rfl) rfl
theorem q2734 : (Jvm.Cond.laysFinal "ShadowSpellModel$Told" "ShadowSpellModel$Told" "letter" "[I") ∈ lw_all := lw_g (lw_at lw_m12 23 rfl) rfl
theorem q2735 : (Jvm.Cond.soleField "ShadowSpellModel$Told" "letter") ∈ lw_all := lw_g (lw_at lw_m12 24 rfl) rfl
theorem q2736 : (Jvm.Cond.lays "ShadowSpellModel$Told" "ShadowSpellModel$Told" "rules" "I") ∈ lw_all := lw_g (lw_at lw_m12 25 rfl) rfl
theorem q2737 : (Jvm.Cond.soleField "ShadowSpellModel$Told" "rules") ∈ lw_all := lw_g (lw_at lw_m12 26 rfl) rfl
theorem q2738 : (Jvm.Cond.laysFinal "ShadowSpellModel$Told" "ShadowSpellModel$Told" "test" "[I") ∈ lw_all := lw_g (lw_at lw_m12 27 rfl) rfl
theorem q2739 : (Jvm.Cond.soleField "ShadowSpellModel$Told" "test") ∈ lw_all := lw_g (lw_at lw_m12 28 rfl) rfl
theorem q2740 : (Jvm.Cond.laysFinal "ShadowSpellModel$Told" "ShadowSpellModel$Told" "sum" "[I") ∈ lw_all := lw_g (lw_at lw_m12 29 rfl) rfl
theorem q2741 : (Jvm.Cond.soleField "ShadowSpellModel$Told" "sum") ∈ lw_all := lw_g (lw_at lw_m12 30 rfl) rfl
theorem q2742 : (Jvm.Cond.laysFinal "ShadowSpellModel$Told" "ShadowSpellModel$Told" "of" "[I") ∈ lw_all := lw_g (lw_at lw_m12 31 rfl) rfl
theorem q2743 : (Jvm.Cond.soleField "ShadowSpellModel$Told" "of") ∈ lw_all := lw_g (lw_at lw_m12 32 rfl) rfl
theorem q2744 : (Jvm.Cond.laysFinal "ShadowSpellModel$Told" "ShadowSpellModel$Told" "code" "[I") ∈ lw_all := lw_g (lw_at lw_m12 33 rfl) rfl
theorem q2745 : (Jvm.Cond.soleField "ShadowSpellModel$Told" "code") ∈ lw_all := lw_g (lw_at lw_m12 34 rfl) rfl
theorem q2746 : (Jvm.Cond.lays "ShadowSpellModel$Told" "ShadowSpellModel$Told" "length" "I") ∈ lw_all := lw_g (lw_at lw_m12 35 rfl) rfl
theorem q2747 : (Jvm.Cond.soleField "ShadowSpellModel$Told" "length") ∈ lw_all := lw_g (lw_at lw_m12 36 rfl) rfl
theorem q2748 : (Jvm.Cond.laysFinal "ShadowSpellModel$Told" "ShadowSpellModel$Told" "open" "[I") ∈ lw_all := lw_g (lw_at lw_m12 37 rfl) rfl
theorem q2749 : (Jvm.Cond.soleField "ShadowSpellModel$Told" "open") ∈ lw_all := lw_g (lw_at lw_m12 38 rfl) rfl
theorem q2750 : (Jvm.Cond.lays "ShadowSpellModel$Told" "ShadowSpellModel$Told" "opens" "I") ∈ lw_all := lw_g (lw_at lw_m12 39 rfl) rfl
theorem q2751 : (Jvm.Cond.soleField "ShadowSpellModel$Told" "opens") ∈ lw_all := lw_g (lw_at lw_m12 40 rfl) rfl
theorem q2752 : (Jvm.Cond.superclass "ShadowSpellModel$Told" "java/lang/Object") ∈ lw_all := lw_g (lw_at lw_m12 41 rfl) rfl
theorem q3223 : (Jvm.Cond.castable "ShadowSpellModel$Told" "java/lang/Object") ∈ lw_tbl := lw_at lw_m14 32 rfl
theorem in_X5 : ∀ w ∈ wsX50, w ∈ lw_all := lw_in wsX50 [2726, 2728, 2730, 2732, 2734, 2736, 2738, 2740, 2742, 2744, 2746, 2748, 2750] (by decide +kernel) (by decide +kernel)

/-! ShadowSpellModel$State -/
set_option maxRecDepth 100000
def RX6 : String := "ShadowSpellModel$State"
def TX6 : u_T := fun k => match k with
  | 0 => ("ShadowSpellModel$State", "day", "I", false)
  | 1 => ("ShadowSpellModel$State", "angle", "[I", true)
  | 2 => ("ShadowSpellModel$State", "before", "[I", true)
  | 3 => ("ShadowSpellModel$State", "lap", "[I", true)
  | 4 => ("ShadowSpellModel$State", "wrote", "[I", true)
  | 5 => ("ShadowSpellModel$State", "paper", "[I", true)
  | 6 => ("ShadowSpellModel$State", "bytes", "I", false)
  | 7 => ("ShadowSpellModel$State", "stack", "[I", true)
  | _ => ("ShadowSpellModel$State", "this$0", "LShadowSpellModel;", true)
def tyX6 : Nat → FieldType := fun k => match k with
  | 0 => .int
  | 1 => .array .int
  | 2 => .array .int
  | 3 => .array .int
  | 4 => .array .int
  | 5 => .array .int
  | 6 => .int
  | 7 => .array .int
  | _ => .object "ShadowSpellModel"
abbrev wsX60 : List Cond := u_ws RX6 TX6 9
theorem nmX6 : ∀ a, a < 9 → ∀ b, b < 9 → a ≠ b → (TX6 a).2.1 ≠ (TX6 b).2.1 := by decide +kernel
theorem tyX6_ok : ∀ k, k < 9 → parseFieldDescriptor (TX6 k).2.2.1 = some (tyX6 k) := by decide +kernel
abbrev cX6_init : ByteArray := prog_42_method_1_code
def yX6_init : MethodName := ⟨RX6, "<init>", "(LShadowSpellModel;)V"⟩
def dkwX6_init_2 : List UInt8 := [188, 10, 181, 0, 28, 42, 17, 1, 144, 188, 10, 181, 0, 31, 177]
abbrev dktX6_init_2 : List UInt8 := dkwX6_init_2 ++ []
def dkwX6_init_1 : List UInt8 := [181, 0, 19, 42, 16, 8, 188, 10, 181, 0, 22, 42, 16, 12, 188, 10, 181, 0, 25, 42, 17, 2, 88]
abbrev dktX6_init_1 : List UInt8 := dkwX6_init_1 ++ dktX6_init_2
def dkwX6_init_0 : List UInt8 := [42, 43, 181, 0, 3, 42, 183, 0, 9, 42, 16, 8, 188, 10, 181, 0, 15, 42, 16, 8, 188, 10]
abbrev dktX6_init_0 : List UInt8 := dkwX6_init_0 ++ dktX6_init_1
theorem dksX6_init_0 : cX6_init.data.toList.drop 0 = dktX6_init_0 := by decide +kernel
theorem dksX6_init_1 : cX6_init.data.toList.drop 22 = dktX6_init_1 := dk_seg dksX6_init_0 22 rfl rfl
theorem dksX6_init_2 : cX6_init.data.toList.drop 45 = dktX6_init_2 := dk_seg dksX6_init_1 23 rfl rfl
theorem dX6_init_0 : decode cX6_init 0 = .ok (.aload_n 0, 1) := dk_42 (dk_at dksX6_init_0 0 rfl rfl)
theorem dX6_init_1 : decode cX6_init 1 = .ok (.aload_n 1, 1) := dk_43 (dk_at dksX6_init_0 1 rfl rfl)
theorem dX6_init_2 : decode cX6_init 2 = .ok (.putfield 3, 3) := dk_181 0 3 (dk_at dksX6_init_0 2 rfl rfl)
theorem dX6_init_5 : decode cX6_init 5 = .ok (.aload_n 0, 1) := dk_42 (dk_at dksX6_init_0 5 rfl rfl)
theorem dX6_init_6 : decode cX6_init 6 = .ok (.invokespecial 9, 3) := dk_183 0 9 (dk_at dksX6_init_0 6 rfl rfl)
theorem dX6_init_9 : decode cX6_init 9 = .ok (.aload_n 0, 1) := dk_42 (dk_at dksX6_init_0 9 rfl rfl)
theorem dX6_init_10 : decode cX6_init 10 = .ok (.bipush 8, 2) := dk_16 8 (dk_at dksX6_init_0 10 rfl rfl)
theorem dX6_init_12 : decode cX6_init 12 = .ok (.newarray .int, 2) := dk_188_10 (dk_at dksX6_init_0 12 rfl rfl)
theorem dX6_init_14 : decode cX6_init 14 = .ok (.putfield 15, 3) := dk_181 0 15 (dk_at dksX6_init_0 14 rfl rfl)
theorem dX6_init_17 : decode cX6_init 17 = .ok (.aload_n 0, 1) := dk_42 (dk_at dksX6_init_0 17 rfl rfl)
theorem dX6_init_18 : decode cX6_init 18 = .ok (.bipush 8, 2) := dk_16 8 (dk_at dksX6_init_0 18 rfl rfl)
theorem dX6_init_20 : decode cX6_init 20 = .ok (.newarray .int, 2) := dk_188_10 (dk_at dksX6_init_0 20 rfl rfl)
theorem dX6_init_22 : decode cX6_init 22 = .ok (.putfield 19, 3) := dk_181 0 19 (dk_at dksX6_init_1 0 rfl rfl)
theorem dX6_init_25 : decode cX6_init 25 = .ok (.aload_n 0, 1) := dk_42 (dk_at dksX6_init_1 3 rfl rfl)
theorem dX6_init_26 : decode cX6_init 26 = .ok (.bipush 8, 2) := dk_16 8 (dk_at dksX6_init_1 4 rfl rfl)
theorem dX6_init_28 : decode cX6_init 28 = .ok (.newarray .int, 2) := dk_188_10 (dk_at dksX6_init_1 6 rfl rfl)
theorem dX6_init_30 : decode cX6_init 30 = .ok (.putfield 22, 3) := dk_181 0 22 (dk_at dksX6_init_1 8 rfl rfl)
theorem dX6_init_33 : decode cX6_init 33 = .ok (.aload_n 0, 1) := dk_42 (dk_at dksX6_init_1 11 rfl rfl)
theorem dX6_init_34 : decode cX6_init 34 = .ok (.bipush 12, 2) := dk_16 12 (dk_at dksX6_init_1 12 rfl rfl)
theorem dX6_init_36 : decode cX6_init 36 = .ok (.newarray .int, 2) := dk_188_10 (dk_at dksX6_init_1 14 rfl rfl)
theorem dX6_init_38 : decode cX6_init 38 = .ok (.putfield 25, 3) := dk_181 0 25 (dk_at dksX6_init_1 16 rfl rfl)
theorem dX6_init_41 : decode cX6_init 41 = .ok (.aload_n 0, 1) := dk_42 (dk_at dksX6_init_1 19 rfl rfl)
theorem dX6_init_42 : decode cX6_init 42 = .ok (.sipush 600, 3) := dk_17 2 88 (dk_at dksX6_init_1 20 rfl rfl)
theorem dX6_init_45 : decode cX6_init 45 = .ok (.newarray .int, 2) := dk_188_10 (dk_at dksX6_init_2 0 rfl rfl)
theorem dX6_init_47 : decode cX6_init 47 = .ok (.putfield 28, 3) := dk_181 0 28 (dk_at dksX6_init_2 2 rfl rfl)
theorem dX6_init_50 : decode cX6_init 50 = .ok (.aload_n 0, 1) := dk_42 (dk_at dksX6_init_2 5 rfl rfl)
theorem dX6_init_51 : decode cX6_init 51 = .ok (.sipush 400, 3) := dk_17 1 144 (dk_at dksX6_init_2 6 rfl rfl)
theorem dX6_init_54 : decode cX6_init 54 = .ok (.newarray .int, 2) := dk_188_10 (dk_at dksX6_init_2 9 rfl rfl)
theorem dX6_init_56 : decode cX6_init 56 = .ok (.putfield 31, 3) := dk_181 0 31 (dk_at dksX6_init_2 11 rfl rfl)
theorem dX6_init_59 : decode cX6_init 59 = .ok (.return_, 1) := dk_177 (dk_at dksX6_init_2 14 rfl rfl)
abbrev cX6_set : ByteArray := prog_42_method_5_code
def yX6_set : MethodName := ⟨RX6, "set", "(II)V"⟩
def dkwX6_set_0 : List UInt8 := [42, 180, 0, 15, 27, 28, 79, 42, 180, 0, 19, 27, 28, 79, 177]
abbrev dktX6_set_0 : List UInt8 := dkwX6_set_0 ++ []
theorem dksX6_set_0 : cX6_set.data.toList.drop 0 = dktX6_set_0 := by decide +kernel
theorem dX6_set_0 : decode cX6_set 0 = .ok (.aload_n 0, 1) := dk_42 (dk_at dksX6_set_0 0 rfl rfl)
theorem dX6_set_1 : decode cX6_set 1 = .ok (.getfield 15, 3) := dk_180 0 15 (dk_at dksX6_set_0 1 rfl rfl)
theorem dX6_set_4 : decode cX6_set 4 = .ok (.iload_n 1, 1) := dk_27 (dk_at dksX6_set_0 4 rfl rfl)
theorem dX6_set_5 : decode cX6_set 5 = .ok (.iload_n 2, 1) := dk_28 (dk_at dksX6_set_0 5 rfl rfl)
theorem dX6_set_6 : decode cX6_set 6 = .ok (.iastore, 1) := dk_79 (dk_at dksX6_set_0 6 rfl rfl)
theorem dX6_set_7 : decode cX6_set 7 = .ok (.aload_n 0, 1) := dk_42 (dk_at dksX6_set_0 7 rfl rfl)
theorem dX6_set_8 : decode cX6_set 8 = .ok (.getfield 19, 3) := dk_180 0 19 (dk_at dksX6_set_0 8 rfl rfl)
theorem dX6_set_11 : decode cX6_set 11 = .ok (.iload_n 1, 1) := dk_27 (dk_at dksX6_set_0 11 rfl rfl)
theorem dX6_set_12 : decode cX6_set 12 = .ok (.iload_n 2, 1) := dk_28 (dk_at dksX6_set_0 12 rfl rfl)
theorem dX6_set_13 : decode cX6_set 13 = .ok (.iastore, 1) := dk_79 (dk_at dksX6_set_0 13 rfl rfl)
theorem dX6_set_14 : decode cX6_set 14 = .ok (.return_, 1) := dk_177 (dk_at dksX6_set_0 14 rfl rfl)
abbrev cX6_isRetro : ByteArray := prog_42_method_4_code
def yX6_isRetro : MethodName := ⟨RX6, "isRetro", "(I)Z"⟩
def dkwX6_isRetro_1 : List UInt8 := [180, 0, 3, 180, 0, 51, 180, 0, 55, 8, 27, 104, 6, 96, 46, 162, 0, 7, 4, 167, 0, 4, 3, 172]
abbrev dktX6_isRetro_1 : List UInt8 := dkwX6_isRetro_1 ++ []
def dkwX6_isRetro_0 : List UInt8 := [42, 180, 0, 40, 42, 180, 0, 3, 180, 0, 51, 180, 0, 55, 8, 27, 104, 7, 96, 46, 112, 42]
abbrev dktX6_isRetro_0 : List UInt8 := dkwX6_isRetro_0 ++ dktX6_isRetro_1
theorem dksX6_isRetro_0 : cX6_isRetro.data.toList.drop 0 = dktX6_isRetro_0 := by decide +kernel
theorem dksX6_isRetro_1 : cX6_isRetro.data.toList.drop 22 = dktX6_isRetro_1 := dk_seg dksX6_isRetro_0 22 rfl rfl
theorem dX6_isRetro_0 : decode cX6_isRetro 0 = .ok (.aload_n 0, 1) := dk_42 (dk_at dksX6_isRetro_0 0 rfl rfl)
theorem dX6_isRetro_1 : decode cX6_isRetro 1 = .ok (.getfield 40, 3) := dk_180 0 40 (dk_at dksX6_isRetro_0 1 rfl rfl)
theorem dX6_isRetro_4 : decode cX6_isRetro 4 = .ok (.aload_n 0, 1) := dk_42 (dk_at dksX6_isRetro_0 4 rfl rfl)
theorem dX6_isRetro_5 : decode cX6_isRetro 5 = .ok (.getfield 3, 3) := dk_180 0 3 (dk_at dksX6_isRetro_0 5 rfl rfl)
theorem dX6_isRetro_8 : decode cX6_isRetro 8 = .ok (.getfield 51, 3) := dk_180 0 51 (dk_at dksX6_isRetro_0 8 rfl rfl)
theorem dX6_isRetro_11 : decode cX6_isRetro 11 = .ok (.getfield 55, 3) := dk_180 0 55 (dk_at dksX6_isRetro_0 11 rfl rfl)
theorem dX6_isRetro_14 : decode cX6_isRetro 14 = .ok (.iconst 5, 1) := dk_8 (dk_at dksX6_isRetro_0 14 rfl rfl)
theorem dX6_isRetro_15 : decode cX6_isRetro 15 = .ok (.iload_n 1, 1) := dk_27 (dk_at dksX6_isRetro_0 15 rfl rfl)
theorem dX6_isRetro_16 : decode cX6_isRetro 16 = .ok (.imul, 1) := dk_104 (dk_at dksX6_isRetro_0 16 rfl rfl)
theorem dX6_isRetro_17 : decode cX6_isRetro 17 = .ok (.iconst 4, 1) := dk_7 (dk_at dksX6_isRetro_0 17 rfl rfl)
theorem dX6_isRetro_18 : decode cX6_isRetro 18 = .ok (.iadd, 1) := dk_96 (dk_at dksX6_isRetro_0 18 rfl rfl)
theorem dX6_isRetro_19 : decode cX6_isRetro 19 = .ok (.iaload, 1) := dk_46 (dk_at dksX6_isRetro_0 19 rfl rfl)
theorem dX6_isRetro_20 : decode cX6_isRetro 20 = .ok (.irem, 1) := dk_112 (dk_at dksX6_isRetro_0 20 rfl rfl)
theorem dX6_isRetro_21 : decode cX6_isRetro 21 = .ok (.aload_n 0, 1) := dk_42 (dk_at dksX6_isRetro_0 21 rfl rfl)
theorem dX6_isRetro_22 : decode cX6_isRetro 22 = .ok (.getfield 3, 3) := dk_180 0 3 (dk_at dksX6_isRetro_1 0 rfl rfl)
theorem dX6_isRetro_25 : decode cX6_isRetro 25 = .ok (.getfield 51, 3) := dk_180 0 51 (dk_at dksX6_isRetro_1 3 rfl rfl)
theorem dX6_isRetro_28 : decode cX6_isRetro 28 = .ok (.getfield 55, 3) := dk_180 0 55 (dk_at dksX6_isRetro_1 6 rfl rfl)
theorem dX6_isRetro_31 : decode cX6_isRetro 31 = .ok (.iconst 5, 1) := dk_8 (dk_at dksX6_isRetro_1 9 rfl rfl)
theorem dX6_isRetro_32 : decode cX6_isRetro 32 = .ok (.iload_n 1, 1) := dk_27 (dk_at dksX6_isRetro_1 10 rfl rfl)
theorem dX6_isRetro_33 : decode cX6_isRetro 33 = .ok (.imul, 1) := dk_104 (dk_at dksX6_isRetro_1 11 rfl rfl)
theorem dX6_isRetro_34 : decode cX6_isRetro 34 = .ok (.iconst 3, 1) := dk_6 (dk_at dksX6_isRetro_1 12 rfl rfl)
theorem dX6_isRetro_35 : decode cX6_isRetro 35 = .ok (.iadd, 1) := dk_96 (dk_at dksX6_isRetro_1 13 rfl rfl)
theorem dX6_isRetro_36 : decode cX6_isRetro 36 = .ok (.iaload, 1) := dk_46 (dk_at dksX6_isRetro_1 14 rfl rfl)
theorem dX6_isRetro_37 : decode cX6_isRetro 37 = .ok (.if_icmp .ge 7, 3) := dk_162 0 7 (dk_at dksX6_isRetro_1 15 rfl rfl)
theorem dX6_isRetro_40 : decode cX6_isRetro 40 = .ok (.iconst 1, 1) := dk_4 (dk_at dksX6_isRetro_1 18 rfl rfl)
theorem dX6_isRetro_41 : decode cX6_isRetro 41 = .ok (.goto 4, 3) := dk_167 0 4 (dk_at dksX6_isRetro_1 19 rfl rfl)
theorem dX6_isRetro_44 : decode cX6_isRetro 44 = .ok (.iconst 0, 1) := dk_3 (dk_at dksX6_isRetro_1 22 rfl rfl)
theorem dX6_isRetro_45 : decode cX6_isRetro 45 = .ok (.ireturn, 1) := dk_172 (dk_at dksX6_isRetro_1 23 rfl rfl)
abbrev cX6_pairs : ByteArray := prog_42_method_7_code
def yX6_pairs : MethodName := ⟨RX6, "pairs", "()I"⟩
def dkwX6_pairs_2 : List UInt8 := [167, 0, 4, 3, 96, 60, 132, 3, 1, 167, 255, 221, 132, 2, 1, 167, 255, 197, 27, 172]
abbrev dktX6_pairs_2 : List UInt8 := dkwX6_pairs_2 ++ []
def dkwX6_pairs_1 : List UInt8 := [180, 0, 3, 180, 0, 51, 180, 0, 70, 162, 0, 27, 27, 42, 28, 29, 3, 182, 0, 73, 153, 0, 7, 4]
abbrev dktX6_pairs_1 : List UInt8 := dkwX6_pairs_1 ++ dktX6_pairs_2
def dkwX6_pairs_0 : List UInt8 := [3, 60, 3, 61, 28, 42, 180, 0, 3, 180, 0, 51, 180, 0, 70, 162, 0, 51, 28, 4, 96, 62, 29, 42]
abbrev dktX6_pairs_0 : List UInt8 := dkwX6_pairs_0 ++ dktX6_pairs_1
theorem dksX6_pairs_0 : cX6_pairs.data.toList.drop 0 = dktX6_pairs_0 := by decide +kernel
theorem dksX6_pairs_1 : cX6_pairs.data.toList.drop 24 = dktX6_pairs_1 := dk_seg dksX6_pairs_0 24 rfl rfl
theorem dksX6_pairs_2 : cX6_pairs.data.toList.drop 48 = dktX6_pairs_2 := dk_seg dksX6_pairs_1 24 rfl rfl
theorem dX6_pairs_0 : decode cX6_pairs 0 = .ok (.iconst 0, 1) := dk_3 (dk_at dksX6_pairs_0 0 rfl rfl)
theorem dX6_pairs_1 : decode cX6_pairs 1 = .ok (.istore_n 1, 1) := dk_60 (dk_at dksX6_pairs_0 1 rfl rfl)
theorem dX6_pairs_2 : decode cX6_pairs 2 = .ok (.iconst 0, 1) := dk_3 (dk_at dksX6_pairs_0 2 rfl rfl)
theorem dX6_pairs_3 : decode cX6_pairs 3 = .ok (.istore_n 2, 1) := dk_61 (dk_at dksX6_pairs_0 3 rfl rfl)
theorem dX6_pairs_4 : decode cX6_pairs 4 = .ok (.iload_n 2, 1) := dk_28 (dk_at dksX6_pairs_0 4 rfl rfl)
theorem dX6_pairs_5 : decode cX6_pairs 5 = .ok (.aload_n 0, 1) := dk_42 (dk_at dksX6_pairs_0 5 rfl rfl)
theorem dX6_pairs_6 : decode cX6_pairs 6 = .ok (.getfield 3, 3) := dk_180 0 3 (dk_at dksX6_pairs_0 6 rfl rfl)
theorem dX6_pairs_9 : decode cX6_pairs 9 = .ok (.getfield 51, 3) := dk_180 0 51 (dk_at dksX6_pairs_0 9 rfl rfl)
theorem dX6_pairs_12 : decode cX6_pairs 12 = .ok (.getfield 70, 3) := dk_180 0 70 (dk_at dksX6_pairs_0 12 rfl rfl)
theorem dX6_pairs_15 : decode cX6_pairs 15 = .ok (.if_icmp .ge 51, 3) := dk_162 0 51 (dk_at dksX6_pairs_0 15 rfl rfl)
theorem dX6_pairs_18 : decode cX6_pairs 18 = .ok (.iload_n 2, 1) := dk_28 (dk_at dksX6_pairs_0 18 rfl rfl)
theorem dX6_pairs_19 : decode cX6_pairs 19 = .ok (.iconst 1, 1) := dk_4 (dk_at dksX6_pairs_0 19 rfl rfl)
theorem dX6_pairs_20 : decode cX6_pairs 20 = .ok (.iadd, 1) := dk_96 (dk_at dksX6_pairs_0 20 rfl rfl)
theorem dX6_pairs_21 : decode cX6_pairs 21 = .ok (.istore_n 3, 1) := dk_62 (dk_at dksX6_pairs_0 21 rfl rfl)
theorem dX6_pairs_22 : decode cX6_pairs 22 = .ok (.iload_n 3, 1) := dk_29 (dk_at dksX6_pairs_0 22 rfl rfl)
theorem dX6_pairs_23 : decode cX6_pairs 23 = .ok (.aload_n 0, 1) := dk_42 (dk_at dksX6_pairs_0 23 rfl rfl)
theorem dX6_pairs_24 : decode cX6_pairs 24 = .ok (.getfield 3, 3) := dk_180 0 3 (dk_at dksX6_pairs_1 0 rfl rfl)
theorem dX6_pairs_27 : decode cX6_pairs 27 = .ok (.getfield 51, 3) := dk_180 0 51 (dk_at dksX6_pairs_1 3 rfl rfl)
theorem dX6_pairs_30 : decode cX6_pairs 30 = .ok (.getfield 70, 3) := dk_180 0 70 (dk_at dksX6_pairs_1 6 rfl rfl)
theorem dX6_pairs_33 : decode cX6_pairs 33 = .ok (.if_icmp .ge 27, 3) := dk_162 0 27 (dk_at dksX6_pairs_1 9 rfl rfl)
theorem dX6_pairs_36 : decode cX6_pairs 36 = .ok (.iload_n 1, 1) := dk_27 (dk_at dksX6_pairs_1 12 rfl rfl)
theorem dX6_pairs_37 : decode cX6_pairs 37 = .ok (.aload_n 0, 1) := dk_42 (dk_at dksX6_pairs_1 13 rfl rfl)
theorem dX6_pairs_38 : decode cX6_pairs 38 = .ok (.iload_n 2, 1) := dk_28 (dk_at dksX6_pairs_1 14 rfl rfl)
theorem dX6_pairs_39 : decode cX6_pairs 39 = .ok (.iload_n 3, 1) := dk_29 (dk_at dksX6_pairs_1 15 rfl rfl)
theorem dX6_pairs_40 : decode cX6_pairs 40 = .ok (.iconst 0, 1) := dk_3 (dk_at dksX6_pairs_1 16 rfl rfl)
theorem dX6_pairs_41 : decode cX6_pairs 41 = .ok (.invokevirtual 73, 3) := dk_182 0 73 (dk_at dksX6_pairs_1 17 rfl rfl)
theorem dX6_pairs_44 : decode cX6_pairs 44 = .ok (.ifCond .eq 7, 3) := dk_153 0 7 (dk_at dksX6_pairs_1 20 rfl rfl)
theorem dX6_pairs_47 : decode cX6_pairs 47 = .ok (.iconst 1, 1) := dk_4 (dk_at dksX6_pairs_1 23 rfl rfl)
theorem dX6_pairs_48 : decode cX6_pairs 48 = .ok (.goto 4, 3) := dk_167 0 4 (dk_at dksX6_pairs_2 0 rfl rfl)
theorem dX6_pairs_51 : decode cX6_pairs 51 = .ok (.iconst 0, 1) := dk_3 (dk_at dksX6_pairs_2 3 rfl rfl)
theorem dX6_pairs_52 : decode cX6_pairs 52 = .ok (.iadd, 1) := dk_96 (dk_at dksX6_pairs_2 4 rfl rfl)
theorem dX6_pairs_53 : decode cX6_pairs 53 = .ok (.istore_n 1, 1) := dk_60 (dk_at dksX6_pairs_2 5 rfl rfl)
theorem dX6_pairs_54 : decode cX6_pairs 54 = .ok (.iinc 3 1, 3) := dk_132 3 1 (dk_at dksX6_pairs_2 6 rfl rfl)
theorem dX6_pairs_57 : decode cX6_pairs 57 = .ok (.goto (-35), 3) := dk_167 255 221 (dk_at dksX6_pairs_2 9 rfl rfl)
theorem dX6_pairs_60 : decode cX6_pairs 60 = .ok (.iinc 2 1, 3) := dk_132 2 1 (dk_at dksX6_pairs_2 12 rfl rfl)
theorem dX6_pairs_63 : decode cX6_pairs 63 = .ok (.goto (-59), 3) := dk_167 255 197 (dk_at dksX6_pairs_2 15 rfl rfl)
theorem dX6_pairs_66 : decode cX6_pairs 66 = .ok (.iload_n 1, 1) := dk_27 (dk_at dksX6_pairs_2 18 rfl rfl)
theorem dX6_pairs_67 : decode cX6_pairs 67 = .ok (.ireturn, 1) := dk_172 (dk_at dksX6_pairs_2 19 rfl rfl)
abbrev cX6_meets : ByteArray := prog_42_method_6_code
def yX6_meets : MethodName := ⟨RX6, "meets", "(III)Z"⟩
def dkwX6_meets_3 : List UInt8 := [21, 5, 184, 0, 64, 96, 17, 0, 180, 162, 0, 7, 4, 167, 0, 4, 3, 172]
abbrev dktX6_meets_3 : List UInt8 := dkwX6_meets_3 ++ []
def dkwX6_meets_2 : List UInt8 := [156, 0, 8, 21, 5, 157, 0, 13, 21, 4, 158, 0, 29, 21, 5, 156, 0, 24, 21, 4, 184, 0, 64]
abbrev dktX6_meets_2 : List UInt8 := dkwX6_meets_2 ++ dktX6_meets_3
def dkwX6_meets_1 : List UInt8 := [46, 42, 180, 0, 19, 28, 46, 29, 96, 184, 0, 60, 54, 5, 21, 4, 154, 0, 5, 4, 172, 21, 4]
abbrev dktX6_meets_1 : List UInt8 := dkwX6_meets_1 ++ dktX6_meets_2
def dkwX6_meets_0 : List UInt8 := [42, 180, 0, 15, 27, 46, 42, 180, 0, 15, 28, 46, 29, 96, 184, 0, 60, 54, 4, 42, 180, 0, 19, 27]
abbrev dktX6_meets_0 : List UInt8 := dkwX6_meets_0 ++ dktX6_meets_1
theorem dksX6_meets_0 : cX6_meets.data.toList.drop 0 = dktX6_meets_0 := by decide +kernel
theorem dksX6_meets_1 : cX6_meets.data.toList.drop 24 = dktX6_meets_1 := dk_seg dksX6_meets_0 24 rfl rfl
theorem dksX6_meets_2 : cX6_meets.data.toList.drop 47 = dktX6_meets_2 := dk_seg dksX6_meets_1 23 rfl rfl
theorem dksX6_meets_3 : cX6_meets.data.toList.drop 70 = dktX6_meets_3 := dk_seg dksX6_meets_2 23 rfl rfl
theorem dX6_meets_0 : decode cX6_meets 0 = .ok (.aload_n 0, 1) := dk_42 (dk_at dksX6_meets_0 0 rfl rfl)
theorem dX6_meets_1 : decode cX6_meets 1 = .ok (.getfield 15, 3) := dk_180 0 15 (dk_at dksX6_meets_0 1 rfl rfl)
theorem dX6_meets_4 : decode cX6_meets 4 = .ok (.iload_n 1, 1) := dk_27 (dk_at dksX6_meets_0 4 rfl rfl)
theorem dX6_meets_5 : decode cX6_meets 5 = .ok (.iaload, 1) := dk_46 (dk_at dksX6_meets_0 5 rfl rfl)
theorem dX6_meets_6 : decode cX6_meets 6 = .ok (.aload_n 0, 1) := dk_42 (dk_at dksX6_meets_0 6 rfl rfl)
theorem dX6_meets_7 : decode cX6_meets 7 = .ok (.getfield 15, 3) := dk_180 0 15 (dk_at dksX6_meets_0 7 rfl rfl)
theorem dX6_meets_10 : decode cX6_meets 10 = .ok (.iload_n 2, 1) := dk_28 (dk_at dksX6_meets_0 10 rfl rfl)
theorem dX6_meets_11 : decode cX6_meets 11 = .ok (.iaload, 1) := dk_46 (dk_at dksX6_meets_0 11 rfl rfl)
theorem dX6_meets_12 : decode cX6_meets 12 = .ok (.iload_n 3, 1) := dk_29 (dk_at dksX6_meets_0 12 rfl rfl)
theorem dX6_meets_13 : decode cX6_meets 13 = .ok (.iadd, 1) := dk_96 (dk_at dksX6_meets_0 13 rfl rfl)
theorem dX6_meets_14 : decode cX6_meets 14 = .ok (.invokestatic 60, 3) := dk_184 0 60 (dk_at dksX6_meets_0 14 rfl rfl)
theorem dX6_meets_17 : decode cX6_meets 17 = .ok (.istore 4, 2) := dk_54 4 (dk_at dksX6_meets_0 17 rfl rfl)
theorem dX6_meets_19 : decode cX6_meets 19 = .ok (.aload_n 0, 1) := dk_42 (dk_at dksX6_meets_0 19 rfl rfl)
theorem dX6_meets_20 : decode cX6_meets 20 = .ok (.getfield 19, 3) := dk_180 0 19 (dk_at dksX6_meets_0 20 rfl rfl)
theorem dX6_meets_23 : decode cX6_meets 23 = .ok (.iload_n 1, 1) := dk_27 (dk_at dksX6_meets_0 23 rfl rfl)
theorem dX6_meets_24 : decode cX6_meets 24 = .ok (.iaload, 1) := dk_46 (dk_at dksX6_meets_1 0 rfl rfl)
theorem dX6_meets_25 : decode cX6_meets 25 = .ok (.aload_n 0, 1) := dk_42 (dk_at dksX6_meets_1 1 rfl rfl)
theorem dX6_meets_26 : decode cX6_meets 26 = .ok (.getfield 19, 3) := dk_180 0 19 (dk_at dksX6_meets_1 2 rfl rfl)
theorem dX6_meets_29 : decode cX6_meets 29 = .ok (.iload_n 2, 1) := dk_28 (dk_at dksX6_meets_1 5 rfl rfl)
theorem dX6_meets_30 : decode cX6_meets 30 = .ok (.iaload, 1) := dk_46 (dk_at dksX6_meets_1 6 rfl rfl)
theorem dX6_meets_31 : decode cX6_meets 31 = .ok (.iload_n 3, 1) := dk_29 (dk_at dksX6_meets_1 7 rfl rfl)
theorem dX6_meets_32 : decode cX6_meets 32 = .ok (.iadd, 1) := dk_96 (dk_at dksX6_meets_1 8 rfl rfl)
theorem dX6_meets_33 : decode cX6_meets 33 = .ok (.invokestatic 60, 3) := dk_184 0 60 (dk_at dksX6_meets_1 9 rfl rfl)
theorem dX6_meets_36 : decode cX6_meets 36 = .ok (.istore 5, 2) := dk_54 5 (dk_at dksX6_meets_1 12 rfl rfl)
theorem dX6_meets_38 : decode cX6_meets 38 = .ok (.iload 4, 2) := dk_21 4 (dk_at dksX6_meets_1 14 rfl rfl)
theorem dX6_meets_40 : decode cX6_meets 40 = .ok (.ifCond .ne 5, 3) := dk_154 0 5 (dk_at dksX6_meets_1 16 rfl rfl)
theorem dX6_meets_43 : decode cX6_meets 43 = .ok (.iconst 1, 1) := dk_4 (dk_at dksX6_meets_1 19 rfl rfl)
theorem dX6_meets_44 : decode cX6_meets 44 = .ok (.ireturn, 1) := dk_172 (dk_at dksX6_meets_1 20 rfl rfl)
theorem dX6_meets_45 : decode cX6_meets 45 = .ok (.iload 4, 2) := dk_21 4 (dk_at dksX6_meets_1 21 rfl rfl)
theorem dX6_meets_47 : decode cX6_meets 47 = .ok (.ifCond .ge 8, 3) := dk_156 0 8 (dk_at dksX6_meets_2 0 rfl rfl)
theorem dX6_meets_50 : decode cX6_meets 50 = .ok (.iload 5, 2) := dk_21 5 (dk_at dksX6_meets_2 3 rfl rfl)
theorem dX6_meets_52 : decode cX6_meets 52 = .ok (.ifCond .gt 13, 3) := dk_157 0 13 (dk_at dksX6_meets_2 5 rfl rfl)
theorem dX6_meets_55 : decode cX6_meets 55 = .ok (.iload 4, 2) := dk_21 4 (dk_at dksX6_meets_2 8 rfl rfl)
theorem dX6_meets_57 : decode cX6_meets 57 = .ok (.ifCond .le 29, 3) := dk_158 0 29 (dk_at dksX6_meets_2 10 rfl rfl)
theorem dX6_meets_60 : decode cX6_meets 60 = .ok (.iload 5, 2) := dk_21 5 (dk_at dksX6_meets_2 13 rfl rfl)
theorem dX6_meets_62 : decode cX6_meets 62 = .ok (.ifCond .ge 24, 3) := dk_156 0 24 (dk_at dksX6_meets_2 15 rfl rfl)
theorem dX6_meets_65 : decode cX6_meets 65 = .ok (.iload 4, 2) := dk_21 4 (dk_at dksX6_meets_2 18 rfl rfl)
theorem dX6_meets_67 : decode cX6_meets 67 = .ok (.invokestatic 64, 3) := dk_184 0 64 (dk_at dksX6_meets_2 20 rfl rfl)
theorem dX6_meets_70 : decode cX6_meets 70 = .ok (.iload 5, 2) := dk_21 5 (dk_at dksX6_meets_3 0 rfl rfl)
theorem dX6_meets_72 : decode cX6_meets 72 = .ok (.invokestatic 64, 3) := dk_184 0 64 (dk_at dksX6_meets_3 2 rfl rfl)
theorem dX6_meets_75 : decode cX6_meets 75 = .ok (.iadd, 1) := dk_96 (dk_at dksX6_meets_3 5 rfl rfl)
theorem dX6_meets_76 : decode cX6_meets 76 = .ok (.sipush 180, 3) := dk_17 0 180 (dk_at dksX6_meets_3 6 rfl rfl)
theorem dX6_meets_79 : decode cX6_meets 79 = .ok (.if_icmp .ge 7, 3) := dk_162 0 7 (dk_at dksX6_meets_3 9 rfl rfl)
theorem dX6_meets_82 : decode cX6_meets 82 = .ok (.iconst 1, 1) := dk_4 (dk_at dksX6_meets_3 12 rfl rfl)
theorem dX6_meets_83 : decode cX6_meets 83 = .ok (.goto 4, 3) := dk_167 0 4 (dk_at dksX6_meets_3 13 rfl rfl)
theorem dX6_meets_86 : decode cX6_meets 86 = .ok (.iconst 0, 1) := dk_3 (dk_at dksX6_meets_3 16 rfl rfl)
theorem dX6_meets_87 : decode cX6_meets 87 = .ok (.ireturn, 1) := dk_172 (dk_at dksX6_meets_3 17 rfl rfl)
abbrev cX6_pass : ByteArray := prog_42_method_10_code
def yX6_pass : MethodName := ⟨RX6, "pass", "()I"⟩
def dkwX6_pass_7 : List UInt8 := [180, 0, 25, 28, 92, 46, 4, 96, 79, 132, 2, 1, 167, 255, 92, 42, 180, 0, 44, 27, 100, 172]
abbrev dktX6_pass_7 : List UInt8 := dkwX6_pass_7 ++ []
def dkwX6_pass_6 : List UInt8 := [180, 0, 102, 29, 46, 184, 0, 105, 96, 46, 79, 42, 89, 180, 0, 44, 4, 96, 181, 0, 44, 42]
abbrev dktX6_pass_6 : List UInt8 := dkwX6_pass_6 ++ dktX6_pass_7
def dkwX6_pass_5 : List UInt8 := [180, 0, 3, 180, 0, 51, 180, 0, 87, 28, 4, 96, 46, 182, 0, 93, 42, 180, 0, 3, 180, 0, 51]
abbrev dktX6_pass_5 : List UInt8 := dkwX6_pass_5 ++ dktX6_pass_6
def dkwX6_pass_4 : List UInt8 := [180, 0, 51, 180, 0, 99, 16, 12, 29, 104, 42, 42, 180, 0, 3, 180, 0, 51, 180, 0, 90, 28, 46, 42]
abbrev dktX6_pass_4 : List UInt8 := dkwX6_pass_4 ++ dktX6_pass_5
def dkwX6_pass_3 : List UInt8 := [180, 0, 3, 180, 0, 51, 180, 0, 96, 28, 46, 62, 42, 180, 0, 28, 42, 180, 0, 44, 42, 180, 0, 3]
abbrev dktX6_pass_3 : List UInt8 := dkwX6_pass_3 ++ dktX6_pass_4
def dkwX6_pass_2 : List UInt8 := [28, 46, 42, 180, 0, 3, 180, 0, 51, 180, 0, 90, 28, 46, 182, 0, 93, 154, 0, 6, 167, 0, 106, 42]
abbrev dktX6_pass_2 : List UInt8 := dkwX6_pass_2 ++ dktX6_pass_3
def dkwX6_pass_1 : List UInt8 := [162, 0, 156, 42, 180, 0, 44, 17, 2, 88, 162, 0, 146, 42, 42, 180, 0, 3, 180, 0, 51, 180, 0, 87]
abbrev dktX6_pass_1 : List UInt8 := dkwX6_pass_1 ++ dktX6_pass_2
def dkwX6_pass_0 : List UInt8 := [42, 182, 0, 81, 42, 180, 0, 44, 60, 3, 61, 28, 42, 180, 0, 3, 180, 0, 51, 180, 0, 84]
abbrev dktX6_pass_0 : List UInt8 := dkwX6_pass_0 ++ dktX6_pass_1
theorem dksX6_pass_0 : cX6_pass.data.toList.drop 0 = dktX6_pass_0 := by decide +kernel
theorem dksX6_pass_1 : cX6_pass.data.toList.drop 22 = dktX6_pass_1 := dk_seg dksX6_pass_0 22 rfl rfl
theorem dksX6_pass_2 : cX6_pass.data.toList.drop 46 = dktX6_pass_2 := dk_seg dksX6_pass_1 24 rfl rfl
theorem dksX6_pass_3 : cX6_pass.data.toList.drop 70 = dktX6_pass_3 := dk_seg dksX6_pass_2 24 rfl rfl
theorem dksX6_pass_4 : cX6_pass.data.toList.drop 94 = dktX6_pass_4 := dk_seg dksX6_pass_3 24 rfl rfl
theorem dksX6_pass_5 : cX6_pass.data.toList.drop 118 = dktX6_pass_5 := dk_seg dksX6_pass_4 24 rfl rfl
theorem dksX6_pass_6 : cX6_pass.data.toList.drop 141 = dktX6_pass_6 := dk_seg dksX6_pass_5 23 rfl rfl
theorem dksX6_pass_7 : cX6_pass.data.toList.drop 163 = dktX6_pass_7 := dk_seg dksX6_pass_6 22 rfl rfl
theorem dX6_pass_0 : decode cX6_pass 0 = .ok (.aload_n 0, 1) := dk_42 (dk_at dksX6_pass_0 0 rfl rfl)
theorem dX6_pass_1 : decode cX6_pass 1 = .ok (.invokevirtual 81, 3) := dk_182 0 81 (dk_at dksX6_pass_0 1 rfl rfl)
theorem dX6_pass_4 : decode cX6_pass 4 = .ok (.aload_n 0, 1) := dk_42 (dk_at dksX6_pass_0 4 rfl rfl)
theorem dX6_pass_5 : decode cX6_pass 5 = .ok (.getfield 44, 3) := dk_180 0 44 (dk_at dksX6_pass_0 5 rfl rfl)
theorem dX6_pass_8 : decode cX6_pass 8 = .ok (.istore_n 1, 1) := dk_60 (dk_at dksX6_pass_0 8 rfl rfl)
theorem dX6_pass_9 : decode cX6_pass 9 = .ok (.iconst 0, 1) := dk_3 (dk_at dksX6_pass_0 9 rfl rfl)
theorem dX6_pass_10 : decode cX6_pass 10 = .ok (.istore_n 2, 1) := dk_61 (dk_at dksX6_pass_0 10 rfl rfl)
theorem dX6_pass_11 : decode cX6_pass 11 = .ok (.iload_n 2, 1) := dk_28 (dk_at dksX6_pass_0 11 rfl rfl)
theorem dX6_pass_12 : decode cX6_pass 12 = .ok (.aload_n 0, 1) := dk_42 (dk_at dksX6_pass_0 12 rfl rfl)
theorem dX6_pass_13 : decode cX6_pass 13 = .ok (.getfield 3, 3) := dk_180 0 3 (dk_at dksX6_pass_0 13 rfl rfl)
theorem dX6_pass_16 : decode cX6_pass 16 = .ok (.getfield 51, 3) := dk_180 0 51 (dk_at dksX6_pass_0 16 rfl rfl)
theorem dX6_pass_19 : decode cX6_pass 19 = .ok (.getfield 84, 3) := dk_180 0 84 (dk_at dksX6_pass_0 19 rfl rfl)
theorem dX6_pass_22 : decode cX6_pass 22 = .ok (.if_icmp .ge 156, 3) := dk_162 0 156 (dk_at dksX6_pass_1 0 rfl rfl)
theorem dX6_pass_25 : decode cX6_pass 25 = .ok (.aload_n 0, 1) := dk_42 (dk_at dksX6_pass_1 3 rfl rfl)
theorem dX6_pass_26 : decode cX6_pass 26 = .ok (.getfield 44, 3) := dk_180 0 44 (dk_at dksX6_pass_1 4 rfl rfl)
theorem dX6_pass_29 : decode cX6_pass 29 = .ok (.sipush 600, 3) := dk_17 2 88 (dk_at dksX6_pass_1 7 rfl rfl)
theorem dX6_pass_32 : decode cX6_pass 32 = .ok (.if_icmp .ge 146, 3) := dk_162 0 146 (dk_at dksX6_pass_1 10 rfl rfl)
theorem dX6_pass_35 : decode cX6_pass 35 = .ok (.aload_n 0, 1) := dk_42 (dk_at dksX6_pass_1 13 rfl rfl)
theorem dX6_pass_36 : decode cX6_pass 36 = .ok (.aload_n 0, 1) := dk_42 (dk_at dksX6_pass_1 14 rfl rfl)
theorem dX6_pass_37 : decode cX6_pass 37 = .ok (.getfield 3, 3) := dk_180 0 3 (dk_at dksX6_pass_1 15 rfl rfl)
theorem dX6_pass_40 : decode cX6_pass 40 = .ok (.getfield 51, 3) := dk_180 0 51 (dk_at dksX6_pass_1 18 rfl rfl)
theorem dX6_pass_43 : decode cX6_pass 43 = .ok (.getfield 87, 3) := dk_180 0 87 (dk_at dksX6_pass_1 21 rfl rfl)
theorem dX6_pass_46 : decode cX6_pass 46 = .ok (.iload_n 2, 1) := dk_28 (dk_at dksX6_pass_2 0 rfl rfl)
theorem dX6_pass_47 : decode cX6_pass 47 = .ok (.iaload, 1) := dk_46 (dk_at dksX6_pass_2 1 rfl rfl)
theorem dX6_pass_48 : decode cX6_pass 48 = .ok (.aload_n 0, 1) := dk_42 (dk_at dksX6_pass_2 2 rfl rfl)
theorem dX6_pass_49 : decode cX6_pass 49 = .ok (.getfield 3, 3) := dk_180 0 3 (dk_at dksX6_pass_2 3 rfl rfl)
theorem dX6_pass_52 : decode cX6_pass 52 = .ok (.getfield 51, 3) := dk_180 0 51 (dk_at dksX6_pass_2 6 rfl rfl)
theorem dX6_pass_55 : decode cX6_pass 55 = .ok (.getfield 90, 3) := dk_180 0 90 (dk_at dksX6_pass_2 9 rfl rfl)
theorem dX6_pass_58 : decode cX6_pass 58 = .ok (.iload_n 2, 1) := dk_28 (dk_at dksX6_pass_2 12 rfl rfl)
theorem dX6_pass_59 : decode cX6_pass 59 = .ok (.iaload, 1) := dk_46 (dk_at dksX6_pass_2 13 rfl rfl)
theorem dX6_pass_60 : decode cX6_pass 60 = .ok (.invokevirtual 93, 3) := dk_182 0 93 (dk_at dksX6_pass_2 14 rfl rfl)
theorem dX6_pass_63 : decode cX6_pass 63 = .ok (.ifCond .ne 6, 3) := dk_154 0 6 (dk_at dksX6_pass_2 17 rfl rfl)
theorem dX6_pass_66 : decode cX6_pass 66 = .ok (.goto 106, 3) := dk_167 0 106 (dk_at dksX6_pass_2 20 rfl rfl)
theorem dX6_pass_69 : decode cX6_pass 69 = .ok (.aload_n 0, 1) := dk_42 (dk_at dksX6_pass_2 23 rfl rfl)
theorem dX6_pass_70 : decode cX6_pass 70 = .ok (.getfield 3, 3) := dk_180 0 3 (dk_at dksX6_pass_3 0 rfl rfl)
theorem dX6_pass_73 : decode cX6_pass 73 = .ok (.getfield 51, 3) := dk_180 0 51 (dk_at dksX6_pass_3 3 rfl rfl)
theorem dX6_pass_76 : decode cX6_pass 76 = .ok (.getfield 96, 3) := dk_180 0 96 (dk_at dksX6_pass_3 6 rfl rfl)
theorem dX6_pass_79 : decode cX6_pass 79 = .ok (.iload_n 2, 1) := dk_28 (dk_at dksX6_pass_3 9 rfl rfl)
theorem dX6_pass_80 : decode cX6_pass 80 = .ok (.iaload, 1) := dk_46 (dk_at dksX6_pass_3 10 rfl rfl)
theorem dX6_pass_81 : decode cX6_pass 81 = .ok (.istore_n 3, 1) := dk_62 (dk_at dksX6_pass_3 11 rfl rfl)
theorem dX6_pass_82 : decode cX6_pass 82 = .ok (.aload_n 0, 1) := dk_42 (dk_at dksX6_pass_3 12 rfl rfl)
theorem dX6_pass_83 : decode cX6_pass 83 = .ok (.getfield 28, 3) := dk_180 0 28 (dk_at dksX6_pass_3 13 rfl rfl)
theorem dX6_pass_86 : decode cX6_pass 86 = .ok (.aload_n 0, 1) := dk_42 (dk_at dksX6_pass_3 16 rfl rfl)
theorem dX6_pass_87 : decode cX6_pass 87 = .ok (.getfield 44, 3) := dk_180 0 44 (dk_at dksX6_pass_3 17 rfl rfl)
theorem dX6_pass_90 : decode cX6_pass 90 = .ok (.aload_n 0, 1) := dk_42 (dk_at dksX6_pass_3 20 rfl rfl)
theorem dX6_pass_91 : decode cX6_pass 91 = .ok (.getfield 3, 3) := dk_180 0 3 (dk_at dksX6_pass_3 21 rfl rfl)
theorem dX6_pass_94 : decode cX6_pass 94 = .ok (.getfield 51, 3) := dk_180 0 51 (dk_at dksX6_pass_4 0 rfl rfl)
theorem dX6_pass_97 : decode cX6_pass 97 = .ok (.getfield 99, 3) := dk_180 0 99 (dk_at dksX6_pass_4 3 rfl rfl)
theorem dX6_pass_100 : decode cX6_pass 100 = .ok (.bipush 12, 2) := dk_16 12 (dk_at dksX6_pass_4 6 rfl rfl)
theorem dX6_pass_102 : decode cX6_pass 102 = .ok (.iload_n 3, 1) := dk_29 (dk_at dksX6_pass_4 8 rfl rfl)
theorem dX6_pass_103 : decode cX6_pass 103 = .ok (.imul, 1) := dk_104 (dk_at dksX6_pass_4 9 rfl rfl)
theorem dX6_pass_104 : decode cX6_pass 104 = .ok (.aload_n 0, 1) := dk_42 (dk_at dksX6_pass_4 10 rfl rfl)
theorem dX6_pass_105 : decode cX6_pass 105 = .ok (.aload_n 0, 1) := dk_42 (dk_at dksX6_pass_4 11 rfl rfl)
theorem dX6_pass_106 : decode cX6_pass 106 = .ok (.getfield 3, 3) := dk_180 0 3 (dk_at dksX6_pass_4 12 rfl rfl)
theorem dX6_pass_109 : decode cX6_pass 109 = .ok (.getfield 51, 3) := dk_180 0 51 (dk_at dksX6_pass_4 15 rfl rfl)
theorem dX6_pass_112 : decode cX6_pass 112 = .ok (.getfield 90, 3) := dk_180 0 90 (dk_at dksX6_pass_4 18 rfl rfl)
theorem dX6_pass_115 : decode cX6_pass 115 = .ok (.iload_n 2, 1) := dk_28 (dk_at dksX6_pass_4 21 rfl rfl)
theorem dX6_pass_116 : decode cX6_pass 116 = .ok (.iaload, 1) := dk_46 (dk_at dksX6_pass_4 22 rfl rfl)
theorem dX6_pass_117 : decode cX6_pass 117 = .ok (.aload_n 0, 1) := dk_42 (dk_at dksX6_pass_4 23 rfl rfl)
theorem dX6_pass_118 : decode cX6_pass 118 = .ok (.getfield 3, 3) := dk_180 0 3 (dk_at dksX6_pass_5 0 rfl rfl)
theorem dX6_pass_121 : decode cX6_pass 121 = .ok (.getfield 51, 3) := dk_180 0 51 (dk_at dksX6_pass_5 3 rfl rfl)
theorem dX6_pass_124 : decode cX6_pass 124 = .ok (.getfield 87, 3) := dk_180 0 87 (dk_at dksX6_pass_5 6 rfl rfl)
theorem dX6_pass_127 : decode cX6_pass 127 = .ok (.iload_n 2, 1) := dk_28 (dk_at dksX6_pass_5 9 rfl rfl)
theorem dX6_pass_128 : decode cX6_pass 128 = .ok (.iconst 1, 1) := dk_4 (dk_at dksX6_pass_5 10 rfl rfl)
theorem dX6_pass_129 : decode cX6_pass 129 = .ok (.iadd, 1) := dk_96 (dk_at dksX6_pass_5 11 rfl rfl)
theorem dX6_pass_130 : decode cX6_pass 130 = .ok (.iaload, 1) := dk_46 (dk_at dksX6_pass_5 12 rfl rfl)
theorem dX6_pass_131 : decode cX6_pass 131 = .ok (.invokevirtual 93, 3) := dk_182 0 93 (dk_at dksX6_pass_5 13 rfl rfl)
theorem dX6_pass_134 : decode cX6_pass 134 = .ok (.aload_n 0, 1) := dk_42 (dk_at dksX6_pass_5 16 rfl rfl)
theorem dX6_pass_135 : decode cX6_pass 135 = .ok (.getfield 3, 3) := dk_180 0 3 (dk_at dksX6_pass_5 17 rfl rfl)
theorem dX6_pass_138 : decode cX6_pass 138 = .ok (.getfield 51, 3) := dk_180 0 51 (dk_at dksX6_pass_5 20 rfl rfl)
theorem dX6_pass_141 : decode cX6_pass 141 = .ok (.getfield 102, 3) := dk_180 0 102 (dk_at dksX6_pass_6 0 rfl rfl)
theorem dX6_pass_144 : decode cX6_pass 144 = .ok (.iload_n 3, 1) := dk_29 (dk_at dksX6_pass_6 3 rfl rfl)
theorem dX6_pass_145 : decode cX6_pass 145 = .ok (.iaload, 1) := dk_46 (dk_at dksX6_pass_6 4 rfl rfl)
theorem dX6_pass_146 : decode cX6_pass 146 = .ok (.invokestatic 105, 3) := dk_184 0 105 (dk_at dksX6_pass_6 5 rfl rfl)
theorem dX6_pass_149 : decode cX6_pass 149 = .ok (.iadd, 1) := dk_96 (dk_at dksX6_pass_6 8 rfl rfl)
theorem dX6_pass_150 : decode cX6_pass 150 = .ok (.iaload, 1) := dk_46 (dk_at dksX6_pass_6 9 rfl rfl)
theorem dX6_pass_151 : decode cX6_pass 151 = .ok (.iastore, 1) := dk_79 (dk_at dksX6_pass_6 10 rfl rfl)
theorem dX6_pass_152 : decode cX6_pass 152 = .ok (.aload_n 0, 1) := dk_42 (dk_at dksX6_pass_6 11 rfl rfl)
theorem dX6_pass_153 : decode cX6_pass 153 = .ok (.dup, 1) := dk_89 (dk_at dksX6_pass_6 12 rfl rfl)
theorem dX6_pass_154 : decode cX6_pass 154 = .ok (.getfield 44, 3) := dk_180 0 44 (dk_at dksX6_pass_6 13 rfl rfl)
theorem dX6_pass_157 : decode cX6_pass 157 = .ok (.iconst 1, 1) := dk_4 (dk_at dksX6_pass_6 16 rfl rfl)
theorem dX6_pass_158 : decode cX6_pass 158 = .ok (.iadd, 1) := dk_96 (dk_at dksX6_pass_6 17 rfl rfl)
theorem dX6_pass_159 : decode cX6_pass 159 = .ok (.putfield 44, 3) := dk_181 0 44 (dk_at dksX6_pass_6 18 rfl rfl)
theorem dX6_pass_162 : decode cX6_pass 162 = .ok (.aload_n 0, 1) := dk_42 (dk_at dksX6_pass_6 21 rfl rfl)
theorem dX6_pass_163 : decode cX6_pass 163 = .ok (.getfield 25, 3) := dk_180 0 25 (dk_at dksX6_pass_7 0 rfl rfl)
theorem dX6_pass_166 : decode cX6_pass 166 = .ok (.iload_n 2, 1) := dk_28 (dk_at dksX6_pass_7 3 rfl rfl)
theorem dX6_pass_167 : decode cX6_pass 167 = .ok (.dup2, 1) := dk_92 (dk_at dksX6_pass_7 4 rfl rfl)
theorem dX6_pass_168 : decode cX6_pass 168 = .ok (.iaload, 1) := dk_46 (dk_at dksX6_pass_7 5 rfl rfl)
theorem dX6_pass_169 : decode cX6_pass 169 = .ok (.iconst 1, 1) := dk_4 (dk_at dksX6_pass_7 6 rfl rfl)
theorem dX6_pass_170 : decode cX6_pass 170 = .ok (.iadd, 1) := dk_96 (dk_at dksX6_pass_7 7 rfl rfl)
theorem dX6_pass_171 : decode cX6_pass 171 = .ok (.iastore, 1) := dk_79 (dk_at dksX6_pass_7 8 rfl rfl)
theorem dX6_pass_172 : decode cX6_pass 172 = .ok (.iinc 2 1, 3) := dk_132 2 1 (dk_at dksX6_pass_7 9 rfl rfl)
theorem dX6_pass_175 : decode cX6_pass 175 = .ok (.goto (-164), 3) := dk_167 255 92 (dk_at dksX6_pass_7 12 rfl rfl)
theorem dX6_pass_178 : decode cX6_pass 178 = .ok (.aload_n 0, 1) := dk_42 (dk_at dksX6_pass_7 15 rfl rfl)
theorem dX6_pass_179 : decode cX6_pass 179 = .ok (.getfield 44, 3) := dk_180 0 44 (dk_at dksX6_pass_7 16 rfl rfl)
theorem dX6_pass_182 : decode cX6_pass 182 = .ok (.iload_n 1, 1) := dk_27 (dk_at dksX6_pass_7 19 rfl rfl)
theorem dX6_pass_183 : decode cX6_pass 183 = .ok (.isub, 1) := dk_100 (dk_at dksX6_pass_7 20 rfl rfl)
theorem dX6_pass_184 : decode cX6_pass 184 = .ok (.ireturn, 1) := dk_172 (dk_at dksX6_pass_7 21 rfl rfl)
abbrev cX6_move : ByteArray := prog_42_method_9_code
def yX6_move : MethodName := ⟨RX6, "move", "()V"⟩
def dkwX6_move_6 : List UInt8 := [167, 255, 131, 177]
abbrev dktX6_move_6 : List UInt8 := dkwX6_move_6 ++ []
def dkwX6_move_5 : List UInt8 := [167, 0, 4, 3, 96, 79, 42, 180, 0, 15, 27, 28, 17, 1, 104, 96, 17, 1, 104, 112, 79, 132, 1, 1]
abbrev dktX6_move_5 : List UInt8 := dkwX6_move_5 ++ dktX6_move_6
def dkwX6_move_4 : List UInt8 := [180, 0, 22, 27, 92, 46, 28, 156, 0, 7, 2, 167, 0, 15, 28, 17, 1, 103, 164, 0, 7, 4]
abbrev dktX6_move_4 : List UInt8 := dkwX6_move_4 ++ dktX6_move_5
def dkwX6_move_3 : List UInt8 := [167, 0, 19, 42, 180, 0, 3, 180, 0, 51, 180, 0, 55, 8, 27, 104, 4, 96, 46, 96, 61, 42]
abbrev dktX6_move_3 : List UInt8 := dkwX6_move_3 ++ dktX6_move_4
def dkwX6_move_2 : List UInt8 := [182, 0, 77, 153, 0, 23, 42, 180, 0, 3, 180, 0, 51, 180, 0, 55, 8, 27, 104, 4, 96, 46, 116]
abbrev dktX6_move_2 : List UInt8 := dkwX6_move_2 ++ dktX6_move_3
def dkwX6_move_1 : List UInt8 := [162, 0, 117, 42, 180, 0, 19, 27, 42, 180, 0, 15, 27, 46, 79, 42, 180, 0, 15, 27, 46, 42, 27]
abbrev dktX6_move_1 : List UInt8 := dkwX6_move_1 ++ dktX6_move_2
def dkwX6_move_0 : List UInt8 := [42, 89, 180, 0, 40, 4, 96, 181, 0, 40, 3, 60, 27, 42, 180, 0, 3, 180, 0, 51, 180, 0, 70]
abbrev dktX6_move_0 : List UInt8 := dkwX6_move_0 ++ dktX6_move_1
theorem dksX6_move_0 : cX6_move.data.toList.drop 0 = dktX6_move_0 := by decide +kernel
theorem dksX6_move_1 : cX6_move.data.toList.drop 23 = dktX6_move_1 := dk_seg dksX6_move_0 23 rfl rfl
theorem dksX6_move_2 : cX6_move.data.toList.drop 46 = dktX6_move_2 := dk_seg dksX6_move_1 23 rfl rfl
theorem dksX6_move_3 : cX6_move.data.toList.drop 69 = dktX6_move_3 := dk_seg dksX6_move_2 23 rfl rfl
theorem dksX6_move_4 : cX6_move.data.toList.drop 91 = dktX6_move_4 := dk_seg dksX6_move_3 22 rfl rfl
theorem dksX6_move_5 : cX6_move.data.toList.drop 113 = dktX6_move_5 := dk_seg dksX6_move_4 22 rfl rfl
theorem dksX6_move_6 : cX6_move.data.toList.drop 137 = dktX6_move_6 := dk_seg dksX6_move_5 24 rfl rfl
theorem dX6_move_0 : decode cX6_move 0 = .ok (.aload_n 0, 1) := dk_42 (dk_at dksX6_move_0 0 rfl rfl)
theorem dX6_move_1 : decode cX6_move 1 = .ok (.dup, 1) := dk_89 (dk_at dksX6_move_0 1 rfl rfl)
theorem dX6_move_2 : decode cX6_move 2 = .ok (.getfield 40, 3) := dk_180 0 40 (dk_at dksX6_move_0 2 rfl rfl)
theorem dX6_move_5 : decode cX6_move 5 = .ok (.iconst 1, 1) := dk_4 (dk_at dksX6_move_0 5 rfl rfl)
theorem dX6_move_6 : decode cX6_move 6 = .ok (.iadd, 1) := dk_96 (dk_at dksX6_move_0 6 rfl rfl)
theorem dX6_move_7 : decode cX6_move 7 = .ok (.putfield 40, 3) := dk_181 0 40 (dk_at dksX6_move_0 7 rfl rfl)
theorem dX6_move_10 : decode cX6_move 10 = .ok (.iconst 0, 1) := dk_3 (dk_at dksX6_move_0 10 rfl rfl)
theorem dX6_move_11 : decode cX6_move 11 = .ok (.istore_n 1, 1) := dk_60 (dk_at dksX6_move_0 11 rfl rfl)
theorem dX6_move_12 : decode cX6_move 12 = .ok (.iload_n 1, 1) := dk_27 (dk_at dksX6_move_0 12 rfl rfl)
theorem dX6_move_13 : decode cX6_move 13 = .ok (.aload_n 0, 1) := dk_42 (dk_at dksX6_move_0 13 rfl rfl)
theorem dX6_move_14 : decode cX6_move 14 = .ok (.getfield 3, 3) := dk_180 0 3 (dk_at dksX6_move_0 14 rfl rfl)
theorem dX6_move_17 : decode cX6_move 17 = .ok (.getfield 51, 3) := dk_180 0 51 (dk_at dksX6_move_0 17 rfl rfl)
theorem dX6_move_20 : decode cX6_move 20 = .ok (.getfield 70, 3) := dk_180 0 70 (dk_at dksX6_move_0 20 rfl rfl)
theorem dX6_move_23 : decode cX6_move 23 = .ok (.if_icmp .ge 117, 3) := dk_162 0 117 (dk_at dksX6_move_1 0 rfl rfl)
theorem dX6_move_26 : decode cX6_move 26 = .ok (.aload_n 0, 1) := dk_42 (dk_at dksX6_move_1 3 rfl rfl)
theorem dX6_move_27 : decode cX6_move 27 = .ok (.getfield 19, 3) := dk_180 0 19 (dk_at dksX6_move_1 4 rfl rfl)
theorem dX6_move_30 : decode cX6_move 30 = .ok (.iload_n 1, 1) := dk_27 (dk_at dksX6_move_1 7 rfl rfl)
theorem dX6_move_31 : decode cX6_move 31 = .ok (.aload_n 0, 1) := dk_42 (dk_at dksX6_move_1 8 rfl rfl)
theorem dX6_move_32 : decode cX6_move 32 = .ok (.getfield 15, 3) := dk_180 0 15 (dk_at dksX6_move_1 9 rfl rfl)
theorem dX6_move_35 : decode cX6_move 35 = .ok (.iload_n 1, 1) := dk_27 (dk_at dksX6_move_1 12 rfl rfl)
theorem dX6_move_36 : decode cX6_move 36 = .ok (.iaload, 1) := dk_46 (dk_at dksX6_move_1 13 rfl rfl)
theorem dX6_move_37 : decode cX6_move 37 = .ok (.iastore, 1) := dk_79 (dk_at dksX6_move_1 14 rfl rfl)
theorem dX6_move_38 : decode cX6_move 38 = .ok (.aload_n 0, 1) := dk_42 (dk_at dksX6_move_1 15 rfl rfl)
theorem dX6_move_39 : decode cX6_move 39 = .ok (.getfield 15, 3) := dk_180 0 15 (dk_at dksX6_move_1 16 rfl rfl)
theorem dX6_move_42 : decode cX6_move 42 = .ok (.iload_n 1, 1) := dk_27 (dk_at dksX6_move_1 19 rfl rfl)
theorem dX6_move_43 : decode cX6_move 43 = .ok (.iaload, 1) := dk_46 (dk_at dksX6_move_1 20 rfl rfl)
theorem dX6_move_44 : decode cX6_move 44 = .ok (.aload_n 0, 1) := dk_42 (dk_at dksX6_move_1 21 rfl rfl)
theorem dX6_move_45 : decode cX6_move 45 = .ok (.iload_n 1, 1) := dk_27 (dk_at dksX6_move_1 22 rfl rfl)
theorem dX6_move_46 : decode cX6_move 46 = .ok (.invokevirtual 77, 3) := dk_182 0 77 (dk_at dksX6_move_2 0 rfl rfl)
theorem dX6_move_49 : decode cX6_move 49 = .ok (.ifCond .eq 23, 3) := dk_153 0 23 (dk_at dksX6_move_2 3 rfl rfl)
theorem dX6_move_52 : decode cX6_move 52 = .ok (.aload_n 0, 1) := dk_42 (dk_at dksX6_move_2 6 rfl rfl)
theorem dX6_move_53 : decode cX6_move 53 = .ok (.getfield 3, 3) := dk_180 0 3 (dk_at dksX6_move_2 7 rfl rfl)
theorem dX6_move_56 : decode cX6_move 56 = .ok (.getfield 51, 3) := dk_180 0 51 (dk_at dksX6_move_2 10 rfl rfl)
theorem dX6_move_59 : decode cX6_move 59 = .ok (.getfield 55, 3) := dk_180 0 55 (dk_at dksX6_move_2 13 rfl rfl)
theorem dX6_move_62 : decode cX6_move 62 = .ok (.iconst 5, 1) := dk_8 (dk_at dksX6_move_2 16 rfl rfl)
theorem dX6_move_63 : decode cX6_move 63 = .ok (.iload_n 1, 1) := dk_27 (dk_at dksX6_move_2 17 rfl rfl)
theorem dX6_move_64 : decode cX6_move 64 = .ok (.imul, 1) := dk_104 (dk_at dksX6_move_2 18 rfl rfl)
theorem dX6_move_65 : decode cX6_move 65 = .ok (.iconst 1, 1) := dk_4 (dk_at dksX6_move_2 19 rfl rfl)
theorem dX6_move_66 : decode cX6_move 66 = .ok (.iadd, 1) := dk_96 (dk_at dksX6_move_2 20 rfl rfl)
theorem dX6_move_67 : decode cX6_move 67 = .ok (.iaload, 1) := dk_46 (dk_at dksX6_move_2 21 rfl rfl)
theorem dX6_move_68 : decode cX6_move 68 = .ok (.ineg, 1) := dk_116 (dk_at dksX6_move_2 22 rfl rfl)
theorem dX6_move_69 : decode cX6_move 69 = .ok (.goto 19, 3) := dk_167 0 19 (dk_at dksX6_move_3 0 rfl rfl)
theorem dX6_move_72 : decode cX6_move 72 = .ok (.aload_n 0, 1) := dk_42 (dk_at dksX6_move_3 3 rfl rfl)
theorem dX6_move_73 : decode cX6_move 73 = .ok (.getfield 3, 3) := dk_180 0 3 (dk_at dksX6_move_3 4 rfl rfl)
theorem dX6_move_76 : decode cX6_move 76 = .ok (.getfield 51, 3) := dk_180 0 51 (dk_at dksX6_move_3 7 rfl rfl)
theorem dX6_move_79 : decode cX6_move 79 = .ok (.getfield 55, 3) := dk_180 0 55 (dk_at dksX6_move_3 10 rfl rfl)
theorem dX6_move_82 : decode cX6_move 82 = .ok (.iconst 5, 1) := dk_8 (dk_at dksX6_move_3 13 rfl rfl)
theorem dX6_move_83 : decode cX6_move 83 = .ok (.iload_n 1, 1) := dk_27 (dk_at dksX6_move_3 14 rfl rfl)
theorem dX6_move_84 : decode cX6_move 84 = .ok (.imul, 1) := dk_104 (dk_at dksX6_move_3 15 rfl rfl)
theorem dX6_move_85 : decode cX6_move 85 = .ok (.iconst 1, 1) := dk_4 (dk_at dksX6_move_3 16 rfl rfl)
theorem dX6_move_86 : decode cX6_move 86 = .ok (.iadd, 1) := dk_96 (dk_at dksX6_move_3 17 rfl rfl)
theorem dX6_move_87 : decode cX6_move 87 = .ok (.iaload, 1) := dk_46 (dk_at dksX6_move_3 18 rfl rfl)
theorem dX6_move_88 : decode cX6_move 88 = .ok (.iadd, 1) := dk_96 (dk_at dksX6_move_3 19 rfl rfl)
theorem dX6_move_89 : decode cX6_move 89 = .ok (.istore_n 2, 1) := dk_61 (dk_at dksX6_move_3 20 rfl rfl)
theorem dX6_move_90 : decode cX6_move 90 = .ok (.aload_n 0, 1) := dk_42 (dk_at dksX6_move_3 21 rfl rfl)
theorem dX6_move_91 : decode cX6_move 91 = .ok (.getfield 22, 3) := dk_180 0 22 (dk_at dksX6_move_4 0 rfl rfl)
theorem dX6_move_94 : decode cX6_move 94 = .ok (.iload_n 1, 1) := dk_27 (dk_at dksX6_move_4 3 rfl rfl)
theorem dX6_move_95 : decode cX6_move 95 = .ok (.dup2, 1) := dk_92 (dk_at dksX6_move_4 4 rfl rfl)
theorem dX6_move_96 : decode cX6_move 96 = .ok (.iaload, 1) := dk_46 (dk_at dksX6_move_4 5 rfl rfl)
theorem dX6_move_97 : decode cX6_move 97 = .ok (.iload_n 2, 1) := dk_28 (dk_at dksX6_move_4 6 rfl rfl)
theorem dX6_move_98 : decode cX6_move 98 = .ok (.ifCond .ge 7, 3) := dk_156 0 7 (dk_at dksX6_move_4 7 rfl rfl)
theorem dX6_move_101 : decode cX6_move 101 = .ok (.iconst (-1), 1) := dk_2 (dk_at dksX6_move_4 10 rfl rfl)
theorem dX6_move_102 : decode cX6_move 102 = .ok (.goto 15, 3) := dk_167 0 15 (dk_at dksX6_move_4 11 rfl rfl)
theorem dX6_move_105 : decode cX6_move 105 = .ok (.iload_n 2, 1) := dk_28 (dk_at dksX6_move_4 14 rfl rfl)
theorem dX6_move_106 : decode cX6_move 106 = .ok (.sipush 359, 3) := dk_17 1 103 (dk_at dksX6_move_4 15 rfl rfl)
theorem dX6_move_109 : decode cX6_move 109 = .ok (.if_icmp .le 7, 3) := dk_164 0 7 (dk_at dksX6_move_4 18 rfl rfl)
theorem dX6_move_112 : decode cX6_move 112 = .ok (.iconst 1, 1) := dk_4 (dk_at dksX6_move_4 21 rfl rfl)
theorem dX6_move_113 : decode cX6_move 113 = .ok (.goto 4, 3) := dk_167 0 4 (dk_at dksX6_move_5 0 rfl rfl)
theorem dX6_move_116 : decode cX6_move 116 = .ok (.iconst 0, 1) := dk_3 (dk_at dksX6_move_5 3 rfl rfl)
theorem dX6_move_117 : decode cX6_move 117 = .ok (.iadd, 1) := dk_96 (dk_at dksX6_move_5 4 rfl rfl)
theorem dX6_move_118 : decode cX6_move 118 = .ok (.iastore, 1) := dk_79 (dk_at dksX6_move_5 5 rfl rfl)
theorem dX6_move_119 : decode cX6_move 119 = .ok (.aload_n 0, 1) := dk_42 (dk_at dksX6_move_5 6 rfl rfl)
theorem dX6_move_120 : decode cX6_move 120 = .ok (.getfield 15, 3) := dk_180 0 15 (dk_at dksX6_move_5 7 rfl rfl)
theorem dX6_move_123 : decode cX6_move 123 = .ok (.iload_n 1, 1) := dk_27 (dk_at dksX6_move_5 10 rfl rfl)
theorem dX6_move_124 : decode cX6_move 124 = .ok (.iload_n 2, 1) := dk_28 (dk_at dksX6_move_5 11 rfl rfl)
theorem dX6_move_125 : decode cX6_move 125 = .ok (.sipush 360, 3) := dk_17 1 104 (dk_at dksX6_move_5 12 rfl rfl)
theorem dX6_move_128 : decode cX6_move 128 = .ok (.iadd, 1) := dk_96 (dk_at dksX6_move_5 15 rfl rfl)
theorem dX6_move_129 : decode cX6_move 129 = .ok (.sipush 360, 3) := dk_17 1 104 (dk_at dksX6_move_5 16 rfl rfl)
theorem dX6_move_132 : decode cX6_move 132 = .ok (.irem, 1) := dk_112 (dk_at dksX6_move_5 19 rfl rfl)
theorem dX6_move_133 : decode cX6_move 133 = .ok (.iastore, 1) := dk_79 (dk_at dksX6_move_5 20 rfl rfl)
theorem dX6_move_134 : decode cX6_move 134 = .ok (.iinc 1 1, 3) := dk_132 1 1 (dk_at dksX6_move_5 21 rfl rfl)
theorem dX6_move_137 : decode cX6_move 137 = .ok (.goto (-125), 3) := dk_167 255 131 (dk_at dksX6_move_6 0 rfl rfl)
theorem dX6_move_140 : decode cX6_move 140 = .ok (.return_, 1) := dk_177 (dk_at dksX6_move_6 3 rfl rfl)
abbrev cX6_carryOut : ByteArray := prog_42_method_11_code
def yX6_carryOut : MethodName := ⟨RX6, "carryOut", "(II)I"⟩
def dkwX6_carryOut_9 : List UInt8 := [4, 96, 46, 184, 0, 118, 79, 167, 255, 43, 42, 180, 0, 31, 3, 46, 172]
abbrev dktX6_carryOut_9 : List UInt8 := dkwX6_carryOut_9 ++ []
def dkwX6_carryOut_8 : List UInt8 := [167, 255, 74, 132, 3, 255, 42, 180, 0, 31, 29, 21, 5, 42, 180, 0, 31, 29, 46, 42, 180, 0, 31, 29]
abbrev dktX6_carryOut_8 : List UInt8 := dkwX6_carryOut_8 ++ dktX6_carryOut_9
def dkwX6_carryOut_7 : List UInt8 := [16, 41, 160, 0, 13, 42, 180, 0, 31, 29, 46, 116, 167, 0, 11, 4, 42, 180, 0, 31, 29, 46, 100, 79]
abbrev dktX6_carryOut_7 : List UInt8 := dkwX6_carryOut_7 ++ dktX6_carryOut_8
def dkwX6_carryOut_6 : List UInt8 := [132, 4, 1, 21, 5, 16, 41, 159, 0, 10, 21, 5, 16, 17, 160, 0, 37, 42, 180, 0, 31, 29, 21, 5]
abbrev dktX6_carryOut_6 : List UInt8 := dkwX6_carryOut_6 ++ dktX6_carryOut_7
def dkwX6_carryOut_5 : List UInt8 := [16, 15, 159, 0, 10, 21, 5, 16, 16, 160, 0, 7, 4, 167, 0, 4, 5, 96, 54, 4, 167, 255, 125]
abbrev dktX6_carryOut_5 : List UInt8 := dkwX6_carryOut_5 ++ dktX6_carryOut_6
def dkwX6_carryOut_4 : List UInt8 := [159, 0, 17, 21, 5, 16, 10, 159, 0, 10, 21, 5, 16, 11, 160, 0, 7, 6, 167, 0, 22, 21, 5]
abbrev dktX6_carryOut_4 : List UInt8 := dkwX6_carryOut_4 ++ dktX6_carryOut_5
def dkwX6_carryOut_3 : List UInt8 := [42, 180, 0, 31, 29, 42, 21, 5, 21, 6, 21, 7, 182, 0, 114, 79, 21, 4, 21, 5, 16, 14]
abbrev dktX6_carryOut_3 : List UInt8 := dkwX6_carryOut_3 ++ dktX6_carryOut_4
def dkwX6_carryOut_2 : List UInt8 := [180, 0, 51, 180, 0, 108, 21, 4, 5, 96, 46, 54, 7, 21, 5, 184, 0, 111, 153, 0, 74, 132, 3, 1]
abbrev dktX6_carryOut_2 : List UInt8 := dkwX6_carryOut_2 ++ dktX6_carryOut_3
def dkwX6_carryOut_1 : List UInt8 := [54, 5, 42, 180, 0, 3, 180, 0, 51, 180, 0, 108, 21, 4, 4, 96, 46, 54, 6, 42, 180, 0, 3]
abbrev dktX6_carryOut_1 : List UInt8 := dkwX6_carryOut_1 ++ dktX6_carryOut_2
def dkwX6_carryOut_0 : List UInt8 := [2, 62, 27, 54, 4, 21, 4, 28, 162, 0, 213, 42, 180, 0, 3, 180, 0, 51, 180, 0, 108, 21, 4, 46]
abbrev dktX6_carryOut_0 : List UInt8 := dkwX6_carryOut_0 ++ dktX6_carryOut_1
theorem dksX6_carryOut_0 : cX6_carryOut.data.toList.drop 0 = dktX6_carryOut_0 := by decide +kernel
theorem dksX6_carryOut_1 : cX6_carryOut.data.toList.drop 24 = dktX6_carryOut_1 := dk_seg dksX6_carryOut_0 24 rfl rfl
theorem dksX6_carryOut_2 : cX6_carryOut.data.toList.drop 47 = dktX6_carryOut_2 := dk_seg dksX6_carryOut_1 23 rfl rfl
theorem dksX6_carryOut_3 : cX6_carryOut.data.toList.drop 71 = dktX6_carryOut_3 := dk_seg dksX6_carryOut_2 24 rfl rfl
theorem dksX6_carryOut_4 : cX6_carryOut.data.toList.drop 93 = dktX6_carryOut_4 := dk_seg dksX6_carryOut_3 22 rfl rfl
theorem dksX6_carryOut_5 : cX6_carryOut.data.toList.drop 116 = dktX6_carryOut_5 := dk_seg dksX6_carryOut_4 23 rfl rfl
theorem dksX6_carryOut_6 : cX6_carryOut.data.toList.drop 139 = dktX6_carryOut_6 := dk_seg dksX6_carryOut_5 23 rfl rfl
theorem dksX6_carryOut_7 : cX6_carryOut.data.toList.drop 163 = dktX6_carryOut_7 := dk_seg dksX6_carryOut_6 24 rfl rfl
theorem dksX6_carryOut_8 : cX6_carryOut.data.toList.drop 187 = dktX6_carryOut_8 := dk_seg dksX6_carryOut_7 24 rfl rfl
theorem dksX6_carryOut_9 : cX6_carryOut.data.toList.drop 211 = dktX6_carryOut_9 := dk_seg dksX6_carryOut_8 24 rfl rfl
theorem dX6_carryOut_0 : decode cX6_carryOut 0 = .ok (.iconst (-1), 1) := dk_2 (dk_at dksX6_carryOut_0 0 rfl rfl)
theorem dX6_carryOut_1 : decode cX6_carryOut 1 = .ok (.istore_n 3, 1) := dk_62 (dk_at dksX6_carryOut_0 1 rfl rfl)
theorem dX6_carryOut_2 : decode cX6_carryOut 2 = .ok (.iload_n 1, 1) := dk_27 (dk_at dksX6_carryOut_0 2 rfl rfl)
theorem dX6_carryOut_3 : decode cX6_carryOut 3 = .ok (.istore 4, 2) := dk_54 4 (dk_at dksX6_carryOut_0 3 rfl rfl)
theorem dX6_carryOut_5 : decode cX6_carryOut 5 = .ok (.iload 4, 2) := dk_21 4 (dk_at dksX6_carryOut_0 5 rfl rfl)
theorem dX6_carryOut_7 : decode cX6_carryOut 7 = .ok (.iload_n 2, 1) := dk_28 (dk_at dksX6_carryOut_0 7 rfl rfl)
theorem dX6_carryOut_8 : decode cX6_carryOut 8 = .ok (.if_icmp .ge 213, 3) := dk_162 0 213 (dk_at dksX6_carryOut_0 8 rfl rfl)
theorem dX6_carryOut_11 : decode cX6_carryOut 11 = .ok (.aload_n 0, 1) := dk_42 (dk_at dksX6_carryOut_0 11 rfl rfl)
theorem dX6_carryOut_12 : decode cX6_carryOut 12 = .ok (.getfield 3, 3) := dk_180 0 3 (dk_at dksX6_carryOut_0 12 rfl rfl)
theorem dX6_carryOut_15 : decode cX6_carryOut 15 = .ok (.getfield 51, 3) := dk_180 0 51 (dk_at dksX6_carryOut_0 15 rfl rfl)
theorem dX6_carryOut_18 : decode cX6_carryOut 18 = .ok (.getfield 108, 3) := dk_180 0 108 (dk_at dksX6_carryOut_0 18 rfl rfl)
theorem dX6_carryOut_21 : decode cX6_carryOut 21 = .ok (.iload 4, 2) := dk_21 4 (dk_at dksX6_carryOut_0 21 rfl rfl)
theorem dX6_carryOut_23 : decode cX6_carryOut 23 = .ok (.iaload, 1) := dk_46 (dk_at dksX6_carryOut_0 23 rfl rfl)
theorem dX6_carryOut_24 : decode cX6_carryOut 24 = .ok (.istore 5, 2) := dk_54 5 (dk_at dksX6_carryOut_1 0 rfl rfl)
theorem dX6_carryOut_26 : decode cX6_carryOut 26 = .ok (.aload_n 0, 1) := dk_42 (dk_at dksX6_carryOut_1 2 rfl rfl)
theorem dX6_carryOut_27 : decode cX6_carryOut 27 = .ok (.getfield 3, 3) := dk_180 0 3 (dk_at dksX6_carryOut_1 3 rfl rfl)
theorem dX6_carryOut_30 : decode cX6_carryOut 30 = .ok (.getfield 51, 3) := dk_180 0 51 (dk_at dksX6_carryOut_1 6 rfl rfl)
theorem dX6_carryOut_33 : decode cX6_carryOut 33 = .ok (.getfield 108, 3) := dk_180 0 108 (dk_at dksX6_carryOut_1 9 rfl rfl)
theorem dX6_carryOut_36 : decode cX6_carryOut 36 = .ok (.iload 4, 2) := dk_21 4 (dk_at dksX6_carryOut_1 12 rfl rfl)
theorem dX6_carryOut_38 : decode cX6_carryOut 38 = .ok (.iconst 1, 1) := dk_4 (dk_at dksX6_carryOut_1 14 rfl rfl)
theorem dX6_carryOut_39 : decode cX6_carryOut 39 = .ok (.iadd, 1) := dk_96 (dk_at dksX6_carryOut_1 15 rfl rfl)
theorem dX6_carryOut_40 : decode cX6_carryOut 40 = .ok (.iaload, 1) := dk_46 (dk_at dksX6_carryOut_1 16 rfl rfl)
theorem dX6_carryOut_41 : decode cX6_carryOut 41 = .ok (.istore 6, 2) := dk_54 6 (dk_at dksX6_carryOut_1 17 rfl rfl)
theorem dX6_carryOut_43 : decode cX6_carryOut 43 = .ok (.aload_n 0, 1) := dk_42 (dk_at dksX6_carryOut_1 19 rfl rfl)
theorem dX6_carryOut_44 : decode cX6_carryOut 44 = .ok (.getfield 3, 3) := dk_180 0 3 (dk_at dksX6_carryOut_1 20 rfl rfl)
theorem dX6_carryOut_47 : decode cX6_carryOut 47 = .ok (.getfield 51, 3) := dk_180 0 51 (dk_at dksX6_carryOut_2 0 rfl rfl)
theorem dX6_carryOut_50 : decode cX6_carryOut 50 = .ok (.getfield 108, 3) := dk_180 0 108 (dk_at dksX6_carryOut_2 3 rfl rfl)
theorem dX6_carryOut_53 : decode cX6_carryOut 53 = .ok (.iload 4, 2) := dk_21 4 (dk_at dksX6_carryOut_2 6 rfl rfl)
theorem dX6_carryOut_55 : decode cX6_carryOut 55 = .ok (.iconst 2, 1) := dk_5 (dk_at dksX6_carryOut_2 8 rfl rfl)
theorem dX6_carryOut_56 : decode cX6_carryOut 56 = .ok (.iadd, 1) := dk_96 (dk_at dksX6_carryOut_2 9 rfl rfl)
theorem dX6_carryOut_57 : decode cX6_carryOut 57 = .ok (.iaload, 1) := dk_46 (dk_at dksX6_carryOut_2 10 rfl rfl)
theorem dX6_carryOut_58 : decode cX6_carryOut 58 = .ok (.istore 7, 2) := dk_54 7 (dk_at dksX6_carryOut_2 11 rfl rfl)
theorem dX6_carryOut_60 : decode cX6_carryOut 60 = .ok (.iload 5, 2) := dk_21 5 (dk_at dksX6_carryOut_2 13 rfl rfl)
theorem dX6_carryOut_62 : decode cX6_carryOut 62 = .ok (.invokestatic 111, 3) := dk_184 0 111 (dk_at dksX6_carryOut_2 15 rfl rfl)
theorem dX6_carryOut_65 : decode cX6_carryOut 65 = .ok (.ifCond .eq 74, 3) := dk_153 0 74 (dk_at dksX6_carryOut_2 18 rfl rfl)
theorem dX6_carryOut_68 : decode cX6_carryOut 68 = .ok (.iinc 3 1, 3) := dk_132 3 1 (dk_at dksX6_carryOut_2 21 rfl rfl)
theorem dX6_carryOut_71 : decode cX6_carryOut 71 = .ok (.aload_n 0, 1) := dk_42 (dk_at dksX6_carryOut_3 0 rfl rfl)
theorem dX6_carryOut_72 : decode cX6_carryOut 72 = .ok (.getfield 31, 3) := dk_180 0 31 (dk_at dksX6_carryOut_3 1 rfl rfl)
theorem dX6_carryOut_75 : decode cX6_carryOut 75 = .ok (.iload_n 3, 1) := dk_29 (dk_at dksX6_carryOut_3 4 rfl rfl)
theorem dX6_carryOut_76 : decode cX6_carryOut 76 = .ok (.aload_n 0, 1) := dk_42 (dk_at dksX6_carryOut_3 5 rfl rfl)
theorem dX6_carryOut_77 : decode cX6_carryOut 77 = .ok (.iload 5, 2) := dk_21 5 (dk_at dksX6_carryOut_3 6 rfl rfl)
theorem dX6_carryOut_79 : decode cX6_carryOut 79 = .ok (.iload 6, 2) := dk_21 6 (dk_at dksX6_carryOut_3 8 rfl rfl)
theorem dX6_carryOut_81 : decode cX6_carryOut 81 = .ok (.iload 7, 2) := dk_21 7 (dk_at dksX6_carryOut_3 10 rfl rfl)
theorem dX6_carryOut_83 : decode cX6_carryOut 83 = .ok (.invokevirtual 114, 3) := dk_182 0 114 (dk_at dksX6_carryOut_3 12 rfl rfl)
theorem dX6_carryOut_86 : decode cX6_carryOut 86 = .ok (.iastore, 1) := dk_79 (dk_at dksX6_carryOut_3 15 rfl rfl)
theorem dX6_carryOut_87 : decode cX6_carryOut 87 = .ok (.iload 4, 2) := dk_21 4 (dk_at dksX6_carryOut_3 16 rfl rfl)
theorem dX6_carryOut_89 : decode cX6_carryOut 89 = .ok (.iload 5, 2) := dk_21 5 (dk_at dksX6_carryOut_3 18 rfl rfl)
theorem dX6_carryOut_91 : decode cX6_carryOut 91 = .ok (.bipush 14, 2) := dk_16 14 (dk_at dksX6_carryOut_3 20 rfl rfl)
theorem dX6_carryOut_93 : decode cX6_carryOut 93 = .ok (.if_icmp .eq 17, 3) := dk_159 0 17 (dk_at dksX6_carryOut_4 0 rfl rfl)
theorem dX6_carryOut_96 : decode cX6_carryOut 96 = .ok (.iload 5, 2) := dk_21 5 (dk_at dksX6_carryOut_4 3 rfl rfl)
theorem dX6_carryOut_98 : decode cX6_carryOut 98 = .ok (.bipush 10, 2) := dk_16 10 (dk_at dksX6_carryOut_4 5 rfl rfl)
theorem dX6_carryOut_100 : decode cX6_carryOut 100 = .ok (.if_icmp .eq 10, 3) := dk_159 0 10 (dk_at dksX6_carryOut_4 7 rfl rfl)
theorem dX6_carryOut_103 : decode cX6_carryOut 103 = .ok (.iload 5, 2) := dk_21 5 (dk_at dksX6_carryOut_4 10 rfl rfl)
theorem dX6_carryOut_105 : decode cX6_carryOut 105 = .ok (.bipush 11, 2) := dk_16 11 (dk_at dksX6_carryOut_4 12 rfl rfl)
theorem dX6_carryOut_107 : decode cX6_carryOut 107 = .ok (.if_icmp .ne 7, 3) := dk_160 0 7 (dk_at dksX6_carryOut_4 14 rfl rfl)
theorem dX6_carryOut_110 : decode cX6_carryOut 110 = .ok (.iconst 3, 1) := dk_6 (dk_at dksX6_carryOut_4 17 rfl rfl)
theorem dX6_carryOut_111 : decode cX6_carryOut 111 = .ok (.goto 22, 3) := dk_167 0 22 (dk_at dksX6_carryOut_4 18 rfl rfl)
theorem dX6_carryOut_114 : decode cX6_carryOut 114 = .ok (.iload 5, 2) := dk_21 5 (dk_at dksX6_carryOut_4 21 rfl rfl)
theorem dX6_carryOut_116 : decode cX6_carryOut 116 = .ok (.bipush 15, 2) := dk_16 15 (dk_at dksX6_carryOut_5 0 rfl rfl)
theorem dX6_carryOut_118 : decode cX6_carryOut 118 = .ok (.if_icmp .eq 10, 3) := dk_159 0 10 (dk_at dksX6_carryOut_5 2 rfl rfl)
theorem dX6_carryOut_121 : decode cX6_carryOut 121 = .ok (.iload 5, 2) := dk_21 5 (dk_at dksX6_carryOut_5 5 rfl rfl)
theorem dX6_carryOut_123 : decode cX6_carryOut 123 = .ok (.bipush 16, 2) := dk_16 16 (dk_at dksX6_carryOut_5 7 rfl rfl)
theorem dX6_carryOut_125 : decode cX6_carryOut 125 = .ok (.if_icmp .ne 7, 3) := dk_160 0 7 (dk_at dksX6_carryOut_5 9 rfl rfl)
theorem dX6_carryOut_128 : decode cX6_carryOut 128 = .ok (.iconst 1, 1) := dk_4 (dk_at dksX6_carryOut_5 12 rfl rfl)
theorem dX6_carryOut_129 : decode cX6_carryOut 129 = .ok (.goto 4, 3) := dk_167 0 4 (dk_at dksX6_carryOut_5 13 rfl rfl)
theorem dX6_carryOut_132 : decode cX6_carryOut 132 = .ok (.iconst 2, 1) := dk_5 (dk_at dksX6_carryOut_5 16 rfl rfl)
theorem dX6_carryOut_133 : decode cX6_carryOut 133 = .ok (.iadd, 1) := dk_96 (dk_at dksX6_carryOut_5 17 rfl rfl)
theorem dX6_carryOut_134 : decode cX6_carryOut 134 = .ok (.istore 4, 2) := dk_54 4 (dk_at dksX6_carryOut_5 18 rfl rfl)
theorem dX6_carryOut_136 : decode cX6_carryOut 136 = .ok (.goto (-131), 3) := dk_167 255 125 (dk_at dksX6_carryOut_5 20 rfl rfl)
theorem dX6_carryOut_139 : decode cX6_carryOut 139 = .ok (.iinc 4 1, 3) := dk_132 4 1 (dk_at dksX6_carryOut_6 0 rfl rfl)
theorem dX6_carryOut_142 : decode cX6_carryOut 142 = .ok (.iload 5, 2) := dk_21 5 (dk_at dksX6_carryOut_6 3 rfl rfl)
theorem dX6_carryOut_144 : decode cX6_carryOut 144 = .ok (.bipush 41, 2) := dk_16 41 (dk_at dksX6_carryOut_6 5 rfl rfl)
theorem dX6_carryOut_146 : decode cX6_carryOut 146 = .ok (.if_icmp .eq 10, 3) := dk_159 0 10 (dk_at dksX6_carryOut_6 7 rfl rfl)
theorem dX6_carryOut_149 : decode cX6_carryOut 149 = .ok (.iload 5, 2) := dk_21 5 (dk_at dksX6_carryOut_6 10 rfl rfl)
theorem dX6_carryOut_151 : decode cX6_carryOut 151 = .ok (.bipush 17, 2) := dk_16 17 (dk_at dksX6_carryOut_6 12 rfl rfl)
theorem dX6_carryOut_153 : decode cX6_carryOut 153 = .ok (.if_icmp .ne 37, 3) := dk_160 0 37 (dk_at dksX6_carryOut_6 14 rfl rfl)
theorem dX6_carryOut_156 : decode cX6_carryOut 156 = .ok (.aload_n 0, 1) := dk_42 (dk_at dksX6_carryOut_6 17 rfl rfl)
theorem dX6_carryOut_157 : decode cX6_carryOut 157 = .ok (.getfield 31, 3) := dk_180 0 31 (dk_at dksX6_carryOut_6 18 rfl rfl)
theorem dX6_carryOut_160 : decode cX6_carryOut 160 = .ok (.iload_n 3, 1) := dk_29 (dk_at dksX6_carryOut_6 21 rfl rfl)
theorem dX6_carryOut_161 : decode cX6_carryOut 161 = .ok (.iload 5, 2) := dk_21 5 (dk_at dksX6_carryOut_6 22 rfl rfl)
theorem dX6_carryOut_163 : decode cX6_carryOut 163 = .ok (.bipush 41, 2) := dk_16 41 (dk_at dksX6_carryOut_7 0 rfl rfl)
theorem dX6_carryOut_165 : decode cX6_carryOut 165 = .ok (.if_icmp .ne 13, 3) := dk_160 0 13 (dk_at dksX6_carryOut_7 2 rfl rfl)
theorem dX6_carryOut_168 : decode cX6_carryOut 168 = .ok (.aload_n 0, 1) := dk_42 (dk_at dksX6_carryOut_7 5 rfl rfl)
theorem dX6_carryOut_169 : decode cX6_carryOut 169 = .ok (.getfield 31, 3) := dk_180 0 31 (dk_at dksX6_carryOut_7 6 rfl rfl)
theorem dX6_carryOut_172 : decode cX6_carryOut 172 = .ok (.iload_n 3, 1) := dk_29 (dk_at dksX6_carryOut_7 9 rfl rfl)
theorem dX6_carryOut_173 : decode cX6_carryOut 173 = .ok (.iaload, 1) := dk_46 (dk_at dksX6_carryOut_7 10 rfl rfl)
theorem dX6_carryOut_174 : decode cX6_carryOut 174 = .ok (.ineg, 1) := dk_116 (dk_at dksX6_carryOut_7 11 rfl rfl)
theorem dX6_carryOut_175 : decode cX6_carryOut 175 = .ok (.goto 11, 3) := dk_167 0 11 (dk_at dksX6_carryOut_7 12 rfl rfl)
theorem dX6_carryOut_178 : decode cX6_carryOut 178 = .ok (.iconst 1, 1) := dk_4 (dk_at dksX6_carryOut_7 15 rfl rfl)
theorem dX6_carryOut_179 : decode cX6_carryOut 179 = .ok (.aload_n 0, 1) := dk_42 (dk_at dksX6_carryOut_7 16 rfl rfl)
theorem dX6_carryOut_180 : decode cX6_carryOut 180 = .ok (.getfield 31, 3) := dk_180 0 31 (dk_at dksX6_carryOut_7 17 rfl rfl)
theorem dX6_carryOut_183 : decode cX6_carryOut 183 = .ok (.iload_n 3, 1) := dk_29 (dk_at dksX6_carryOut_7 20 rfl rfl)
theorem dX6_carryOut_184 : decode cX6_carryOut 184 = .ok (.iaload, 1) := dk_46 (dk_at dksX6_carryOut_7 21 rfl rfl)
theorem dX6_carryOut_185 : decode cX6_carryOut 185 = .ok (.isub, 1) := dk_100 (dk_at dksX6_carryOut_7 22 rfl rfl)
theorem dX6_carryOut_186 : decode cX6_carryOut 186 = .ok (.iastore, 1) := dk_79 (dk_at dksX6_carryOut_7 23 rfl rfl)
theorem dX6_carryOut_187 : decode cX6_carryOut 187 = .ok (.goto (-182), 3) := dk_167 255 74 (dk_at dksX6_carryOut_8 0 rfl rfl)
theorem dX6_carryOut_190 : decode cX6_carryOut 190 = .ok (.iinc 3 (-1), 3) := dk_132 3 255 (dk_at dksX6_carryOut_8 3 rfl rfl)
theorem dX6_carryOut_193 : decode cX6_carryOut 193 = .ok (.aload_n 0, 1) := dk_42 (dk_at dksX6_carryOut_8 6 rfl rfl)
theorem dX6_carryOut_194 : decode cX6_carryOut 194 = .ok (.getfield 31, 3) := dk_180 0 31 (dk_at dksX6_carryOut_8 7 rfl rfl)
theorem dX6_carryOut_197 : decode cX6_carryOut 197 = .ok (.iload_n 3, 1) := dk_29 (dk_at dksX6_carryOut_8 10 rfl rfl)
theorem dX6_carryOut_198 : decode cX6_carryOut 198 = .ok (.iload 5, 2) := dk_21 5 (dk_at dksX6_carryOut_8 11 rfl rfl)
theorem dX6_carryOut_200 : decode cX6_carryOut 200 = .ok (.aload_n 0, 1) := dk_42 (dk_at dksX6_carryOut_8 13 rfl rfl)
theorem dX6_carryOut_201 : decode cX6_carryOut 201 = .ok (.getfield 31, 3) := dk_180 0 31 (dk_at dksX6_carryOut_8 14 rfl rfl)
theorem dX6_carryOut_204 : decode cX6_carryOut 204 = .ok (.iload_n 3, 1) := dk_29 (dk_at dksX6_carryOut_8 17 rfl rfl)
theorem dX6_carryOut_205 : decode cX6_carryOut 205 = .ok (.iaload, 1) := dk_46 (dk_at dksX6_carryOut_8 18 rfl rfl)
theorem dX6_carryOut_206 : decode cX6_carryOut 206 = .ok (.aload_n 0, 1) := dk_42 (dk_at dksX6_carryOut_8 19 rfl rfl)
theorem dX6_carryOut_207 : decode cX6_carryOut 207 = .ok (.getfield 31, 3) := dk_180 0 31 (dk_at dksX6_carryOut_8 20 rfl rfl)
theorem dX6_carryOut_210 : decode cX6_carryOut 210 = .ok (.iload_n 3, 1) := dk_29 (dk_at dksX6_carryOut_8 23 rfl rfl)
theorem dX6_carryOut_211 : decode cX6_carryOut 211 = .ok (.iconst 1, 1) := dk_4 (dk_at dksX6_carryOut_9 0 rfl rfl)
theorem dX6_carryOut_212 : decode cX6_carryOut 212 = .ok (.iadd, 1) := dk_96 (dk_at dksX6_carryOut_9 1 rfl rfl)
theorem dX6_carryOut_213 : decode cX6_carryOut 213 = .ok (.iaload, 1) := dk_46 (dk_at dksX6_carryOut_9 2 rfl rfl)
theorem dX6_carryOut_214 : decode cX6_carryOut 214 = .ok (.invokestatic 118, 3) := dk_184 0 118 (dk_at dksX6_carryOut_9 3 rfl rfl)
theorem dX6_carryOut_217 : decode cX6_carryOut 217 = .ok (.iastore, 1) := dk_79 (dk_at dksX6_carryOut_9 6 rfl rfl)
theorem dX6_carryOut_218 : decode cX6_carryOut 218 = .ok (.goto (-213), 3) := dk_167 255 43 (dk_at dksX6_carryOut_9 7 rfl rfl)
theorem dX6_carryOut_221 : decode cX6_carryOut 221 = .ok (.aload_n 0, 1) := dk_42 (dk_at dksX6_carryOut_9 10 rfl rfl)
theorem dX6_carryOut_222 : decode cX6_carryOut 222 = .ok (.getfield 31, 3) := dk_180 0 31 (dk_at dksX6_carryOut_9 11 rfl rfl)
theorem dX6_carryOut_225 : decode cX6_carryOut 225 = .ok (.iconst 0, 1) := dk_3 (dk_at dksX6_carryOut_9 14 rfl rfl)
theorem dX6_carryOut_226 : decode cX6_carryOut 226 = .ok (.iaload, 1) := dk_46 (dk_at dksX6_carryOut_9 15 rfl rfl)
theorem dX6_carryOut_227 : decode cX6_carryOut 227 = .ok (.ireturn, 1) := dk_172 (dk_at dksX6_carryOut_9 16 rfl rfl)
abbrev cX6_pushed : ByteArray := prog_42_method_12_code
def yX6_pushed : MethodName := ⟨RX6, "pushed", "(III)I"⟩
def dkwX6_pushed_7 : List UInt8 := [167, 0, 4, 3, 172]
abbrev dktX6_pushed_7 : List UInt8 := dkwX6_pushed_7 ++ []
def dkwX6_pushed_6 : List UInt8 := [163, 0, 7, 4, 167, 0, 4, 3, 172, 42, 28, 29, 17, 0, 180, 182, 0, 73, 153, 0, 7, 4]
abbrev dktX6_pushed_6 : List UInt8 := dkwX6_pushed_6 ++ dktX6_pushed_7
def dkwX6_pushed_5 : List UInt8 := [180, 0, 51, 180, 0, 55, 8, 28, 104, 46, 42, 180, 0, 3, 180, 0, 51, 180, 0, 55, 8, 29, 104, 46]
abbrev dktX6_pushed_5 : List UInt8 := dkwX6_pushed_5 ++ dktX6_pushed_6
def dkwX6_pushed_4 : List UInt8 := [153, 0, 7, 4, 167, 0, 4, 3, 172, 42, 28, 29, 3, 182, 0, 73, 153, 0, 38, 42, 180, 0, 3]
abbrev dktX6_pushed_4 : List UInt8 := dkwX6_pushed_4 ++ dktX6_pushed_5
def dkwX6_pushed_3 : List UInt8 := [46, 172, 42, 180, 0, 15, 28, 46, 42, 180, 0, 15, 29, 46, 184, 0, 60, 172, 42, 28, 182, 0, 77]
abbrev dktX6_pushed_3 : List UInt8 := dkwX6_pushed_3 ++ dktX6_pushed_4
def dkwX6_pushed_2 : List UInt8 := [28, 172, 42, 180, 0, 40, 172, 42, 180, 0, 44, 172, 42, 180, 0, 15, 28, 46, 172, 42, 180, 0, 22, 28]
abbrev dktX6_pushed_2 : List UInt8 := dkwX6_pushed_2 ++ dktX6_pushed_3
def dkwX6_pushed_1 : List UInt8 := [171, 0, 0, 0, 0, 0, 178, 0, 0, 0, 8, 0, 0, 0, 4, 0, 0, 0, 117, 0, 0, 0, 10, 0, 0, 0, 131, 0, 0, 0, 12, 0, 0, 0, 87, 0, 0, 0, 13, 0, 0, 0, 94, 0, 0, 0, 14, 0, 0, 0, 101, 0, 0, 0, 15, 0, 0, 0, 77, 0, 0, 0, 16, 0, 0, 0, 82, 0, 0, 0, 40, 0, 0, 0, 75]
abbrev dktX6_pushed_1 : List UInt8 := dkwX6_pushed_1 ++ dktX6_pushed_2
def dkwX6_pushed_0 : List UInt8 := [27]
abbrev dktX6_pushed_0 : List UInt8 := dkwX6_pushed_0 ++ dktX6_pushed_1
theorem dksX6_pushed_0 : cX6_pushed.data.toList.drop 0 = dktX6_pushed_0 := by decide +kernel
theorem dksX6_pushed_1 : cX6_pushed.data.toList.drop 1 = dktX6_pushed_1 := dk_seg dksX6_pushed_0 1 rfl rfl
theorem dksX6_pushed_2 : cX6_pushed.data.toList.drop 76 = dktX6_pushed_2 := dk_seg dksX6_pushed_1 75 rfl rfl
theorem dksX6_pushed_3 : cX6_pushed.data.toList.drop 100 = dktX6_pushed_3 := dk_seg dksX6_pushed_2 24 rfl rfl
theorem dksX6_pushed_4 : cX6_pushed.data.toList.drop 123 = dktX6_pushed_4 := dk_seg dksX6_pushed_3 23 rfl rfl
theorem dksX6_pushed_5 : cX6_pushed.data.toList.drop 146 = dktX6_pushed_5 := dk_seg dksX6_pushed_4 23 rfl rfl
theorem dksX6_pushed_6 : cX6_pushed.data.toList.drop 170 = dktX6_pushed_6 := dk_seg dksX6_pushed_5 24 rfl rfl
theorem dksX6_pushed_7 : cX6_pushed.data.toList.drop 192 = dktX6_pushed_7 := dk_seg dksX6_pushed_6 22 rfl rfl
theorem dX6_pushed_0 : decode cX6_pushed 0 = .ok (.iload_n 1, 1) := dk_27 (dk_at dksX6_pushed_0 0 rfl rfl)
theorem dX6_pushed_1 : decode cX6_pushed 1 = .ok (.lookupswitch 178 #[(4, 117), (10, 131), (12, 87), (13, 94), (14, 101), (15, 77), (16, 82), (40, 75)], 75) := by decide +kernel
theorem dX6_pushed_76 : decode cX6_pushed 76 = .ok (.iload_n 2, 1) := dk_28 (dk_at dksX6_pushed_2 0 rfl rfl)
theorem dX6_pushed_77 : decode cX6_pushed 77 = .ok (.ireturn, 1) := dk_172 (dk_at dksX6_pushed_2 1 rfl rfl)
theorem dX6_pushed_78 : decode cX6_pushed 78 = .ok (.aload_n 0, 1) := dk_42 (dk_at dksX6_pushed_2 2 rfl rfl)
theorem dX6_pushed_79 : decode cX6_pushed 79 = .ok (.getfield 40, 3) := dk_180 0 40 (dk_at dksX6_pushed_2 3 rfl rfl)
theorem dX6_pushed_82 : decode cX6_pushed 82 = .ok (.ireturn, 1) := dk_172 (dk_at dksX6_pushed_2 6 rfl rfl)
theorem dX6_pushed_83 : decode cX6_pushed 83 = .ok (.aload_n 0, 1) := dk_42 (dk_at dksX6_pushed_2 7 rfl rfl)
theorem dX6_pushed_84 : decode cX6_pushed 84 = .ok (.getfield 44, 3) := dk_180 0 44 (dk_at dksX6_pushed_2 8 rfl rfl)
theorem dX6_pushed_87 : decode cX6_pushed 87 = .ok (.ireturn, 1) := dk_172 (dk_at dksX6_pushed_2 11 rfl rfl)
theorem dX6_pushed_88 : decode cX6_pushed 88 = .ok (.aload_n 0, 1) := dk_42 (dk_at dksX6_pushed_2 12 rfl rfl)
theorem dX6_pushed_89 : decode cX6_pushed 89 = .ok (.getfield 15, 3) := dk_180 0 15 (dk_at dksX6_pushed_2 13 rfl rfl)
theorem dX6_pushed_92 : decode cX6_pushed 92 = .ok (.iload_n 2, 1) := dk_28 (dk_at dksX6_pushed_2 16 rfl rfl)
theorem dX6_pushed_93 : decode cX6_pushed 93 = .ok (.iaload, 1) := dk_46 (dk_at dksX6_pushed_2 17 rfl rfl)
theorem dX6_pushed_94 : decode cX6_pushed 94 = .ok (.ireturn, 1) := dk_172 (dk_at dksX6_pushed_2 18 rfl rfl)
theorem dX6_pushed_95 : decode cX6_pushed 95 = .ok (.aload_n 0, 1) := dk_42 (dk_at dksX6_pushed_2 19 rfl rfl)
theorem dX6_pushed_96 : decode cX6_pushed 96 = .ok (.getfield 22, 3) := dk_180 0 22 (dk_at dksX6_pushed_2 20 rfl rfl)
theorem dX6_pushed_99 : decode cX6_pushed 99 = .ok (.iload_n 2, 1) := dk_28 (dk_at dksX6_pushed_2 23 rfl rfl)
theorem dX6_pushed_100 : decode cX6_pushed 100 = .ok (.iaload, 1) := dk_46 (dk_at dksX6_pushed_3 0 rfl rfl)
theorem dX6_pushed_101 : decode cX6_pushed 101 = .ok (.ireturn, 1) := dk_172 (dk_at dksX6_pushed_3 1 rfl rfl)
theorem dX6_pushed_102 : decode cX6_pushed 102 = .ok (.aload_n 0, 1) := dk_42 (dk_at dksX6_pushed_3 2 rfl rfl)
theorem dX6_pushed_103 : decode cX6_pushed 103 = .ok (.getfield 15, 3) := dk_180 0 15 (dk_at dksX6_pushed_3 3 rfl rfl)
theorem dX6_pushed_106 : decode cX6_pushed 106 = .ok (.iload_n 2, 1) := dk_28 (dk_at dksX6_pushed_3 6 rfl rfl)
theorem dX6_pushed_107 : decode cX6_pushed 107 = .ok (.iaload, 1) := dk_46 (dk_at dksX6_pushed_3 7 rfl rfl)
theorem dX6_pushed_108 : decode cX6_pushed 108 = .ok (.aload_n 0, 1) := dk_42 (dk_at dksX6_pushed_3 8 rfl rfl)
theorem dX6_pushed_109 : decode cX6_pushed 109 = .ok (.getfield 15, 3) := dk_180 0 15 (dk_at dksX6_pushed_3 9 rfl rfl)
theorem dX6_pushed_112 : decode cX6_pushed 112 = .ok (.iload_n 3, 1) := dk_29 (dk_at dksX6_pushed_3 12 rfl rfl)
theorem dX6_pushed_113 : decode cX6_pushed 113 = .ok (.iaload, 1) := dk_46 (dk_at dksX6_pushed_3 13 rfl rfl)
theorem dX6_pushed_114 : decode cX6_pushed 114 = .ok (.invokestatic 60, 3) := dk_184 0 60 (dk_at dksX6_pushed_3 14 rfl rfl)
theorem dX6_pushed_117 : decode cX6_pushed 117 = .ok (.ireturn, 1) := dk_172 (dk_at dksX6_pushed_3 17 rfl rfl)
theorem dX6_pushed_118 : decode cX6_pushed 118 = .ok (.aload_n 0, 1) := dk_42 (dk_at dksX6_pushed_3 18 rfl rfl)
theorem dX6_pushed_119 : decode cX6_pushed 119 = .ok (.iload_n 2, 1) := dk_28 (dk_at dksX6_pushed_3 19 rfl rfl)
theorem dX6_pushed_120 : decode cX6_pushed 120 = .ok (.invokevirtual 77, 3) := dk_182 0 77 (dk_at dksX6_pushed_3 20 rfl rfl)
theorem dX6_pushed_123 : decode cX6_pushed 123 = .ok (.ifCond .eq 7, 3) := dk_153 0 7 (dk_at dksX6_pushed_4 0 rfl rfl)
theorem dX6_pushed_126 : decode cX6_pushed 126 = .ok (.iconst 1, 1) := dk_4 (dk_at dksX6_pushed_4 3 rfl rfl)
theorem dX6_pushed_127 : decode cX6_pushed 127 = .ok (.goto 4, 3) := dk_167 0 4 (dk_at dksX6_pushed_4 4 rfl rfl)
theorem dX6_pushed_130 : decode cX6_pushed 130 = .ok (.iconst 0, 1) := dk_3 (dk_at dksX6_pushed_4 7 rfl rfl)
theorem dX6_pushed_131 : decode cX6_pushed 131 = .ok (.ireturn, 1) := dk_172 (dk_at dksX6_pushed_4 8 rfl rfl)
theorem dX6_pushed_132 : decode cX6_pushed 132 = .ok (.aload_n 0, 1) := dk_42 (dk_at dksX6_pushed_4 9 rfl rfl)
theorem dX6_pushed_133 : decode cX6_pushed 133 = .ok (.iload_n 2, 1) := dk_28 (dk_at dksX6_pushed_4 10 rfl rfl)
theorem dX6_pushed_134 : decode cX6_pushed 134 = .ok (.iload_n 3, 1) := dk_29 (dk_at dksX6_pushed_4 11 rfl rfl)
theorem dX6_pushed_135 : decode cX6_pushed 135 = .ok (.iconst 0, 1) := dk_3 (dk_at dksX6_pushed_4 12 rfl rfl)
theorem dX6_pushed_136 : decode cX6_pushed 136 = .ok (.invokevirtual 73, 3) := dk_182 0 73 (dk_at dksX6_pushed_4 13 rfl rfl)
theorem dX6_pushed_139 : decode cX6_pushed 139 = .ok (.ifCond .eq 38, 3) := dk_153 0 38 (dk_at dksX6_pushed_4 16 rfl rfl)
theorem dX6_pushed_142 : decode cX6_pushed 142 = .ok (.aload_n 0, 1) := dk_42 (dk_at dksX6_pushed_4 19 rfl rfl)
theorem dX6_pushed_143 : decode cX6_pushed 143 = .ok (.getfield 3, 3) := dk_180 0 3 (dk_at dksX6_pushed_4 20 rfl rfl)
theorem dX6_pushed_146 : decode cX6_pushed 146 = .ok (.getfield 51, 3) := dk_180 0 51 (dk_at dksX6_pushed_5 0 rfl rfl)
theorem dX6_pushed_149 : decode cX6_pushed 149 = .ok (.getfield 55, 3) := dk_180 0 55 (dk_at dksX6_pushed_5 3 rfl rfl)
theorem dX6_pushed_152 : decode cX6_pushed 152 = .ok (.iconst 5, 1) := dk_8 (dk_at dksX6_pushed_5 6 rfl rfl)
theorem dX6_pushed_153 : decode cX6_pushed 153 = .ok (.iload_n 2, 1) := dk_28 (dk_at dksX6_pushed_5 7 rfl rfl)
theorem dX6_pushed_154 : decode cX6_pushed 154 = .ok (.imul, 1) := dk_104 (dk_at dksX6_pushed_5 8 rfl rfl)
theorem dX6_pushed_155 : decode cX6_pushed 155 = .ok (.iaload, 1) := dk_46 (dk_at dksX6_pushed_5 9 rfl rfl)
theorem dX6_pushed_156 : decode cX6_pushed 156 = .ok (.aload_n 0, 1) := dk_42 (dk_at dksX6_pushed_5 10 rfl rfl)
theorem dX6_pushed_157 : decode cX6_pushed 157 = .ok (.getfield 3, 3) := dk_180 0 3 (dk_at dksX6_pushed_5 11 rfl rfl)
theorem dX6_pushed_160 : decode cX6_pushed 160 = .ok (.getfield 51, 3) := dk_180 0 51 (dk_at dksX6_pushed_5 14 rfl rfl)
theorem dX6_pushed_163 : decode cX6_pushed 163 = .ok (.getfield 55, 3) := dk_180 0 55 (dk_at dksX6_pushed_5 17 rfl rfl)
theorem dX6_pushed_166 : decode cX6_pushed 166 = .ok (.iconst 5, 1) := dk_8 (dk_at dksX6_pushed_5 20 rfl rfl)
theorem dX6_pushed_167 : decode cX6_pushed 167 = .ok (.iload_n 3, 1) := dk_29 (dk_at dksX6_pushed_5 21 rfl rfl)
theorem dX6_pushed_168 : decode cX6_pushed 168 = .ok (.imul, 1) := dk_104 (dk_at dksX6_pushed_5 22 rfl rfl)
theorem dX6_pushed_169 : decode cX6_pushed 169 = .ok (.iaload, 1) := dk_46 (dk_at dksX6_pushed_5 23 rfl rfl)
theorem dX6_pushed_170 : decode cX6_pushed 170 = .ok (.if_icmp .gt 7, 3) := dk_163 0 7 (dk_at dksX6_pushed_6 0 rfl rfl)
theorem dX6_pushed_173 : decode cX6_pushed 173 = .ok (.iconst 1, 1) := dk_4 (dk_at dksX6_pushed_6 3 rfl rfl)
theorem dX6_pushed_174 : decode cX6_pushed 174 = .ok (.goto 4, 3) := dk_167 0 4 (dk_at dksX6_pushed_6 4 rfl rfl)
theorem dX6_pushed_177 : decode cX6_pushed 177 = .ok (.iconst 0, 1) := dk_3 (dk_at dksX6_pushed_6 7 rfl rfl)
theorem dX6_pushed_178 : decode cX6_pushed 178 = .ok (.ireturn, 1) := dk_172 (dk_at dksX6_pushed_6 8 rfl rfl)
theorem dX6_pushed_179 : decode cX6_pushed 179 = .ok (.aload_n 0, 1) := dk_42 (dk_at dksX6_pushed_6 9 rfl rfl)
theorem dX6_pushed_180 : decode cX6_pushed 180 = .ok (.iload_n 2, 1) := dk_28 (dk_at dksX6_pushed_6 10 rfl rfl)
theorem dX6_pushed_181 : decode cX6_pushed 181 = .ok (.iload_n 3, 1) := dk_29 (dk_at dksX6_pushed_6 11 rfl rfl)
theorem dX6_pushed_182 : decode cX6_pushed 182 = .ok (.sipush 180, 3) := dk_17 0 180 (dk_at dksX6_pushed_6 12 rfl rfl)
theorem dX6_pushed_185 : decode cX6_pushed 185 = .ok (.invokevirtual 73, 3) := dk_182 0 73 (dk_at dksX6_pushed_6 15 rfl rfl)
theorem dX6_pushed_188 : decode cX6_pushed 188 = .ok (.ifCond .eq 7, 3) := dk_153 0 7 (dk_at dksX6_pushed_6 18 rfl rfl)
theorem dX6_pushed_191 : decode cX6_pushed 191 = .ok (.iconst 1, 1) := dk_4 (dk_at dksX6_pushed_6 21 rfl rfl)
theorem dX6_pushed_192 : decode cX6_pushed 192 = .ok (.goto 4, 3) := dk_167 0 4 (dk_at dksX6_pushed_7 0 rfl rfl)
theorem dX6_pushed_195 : decode cX6_pushed 195 = .ok (.iconst 0, 1) := dk_3 (dk_at dksX6_pushed_7 3 rfl rfl)
theorem dX6_pushed_196 : decode cX6_pushed 196 = .ok (.ireturn, 1) := dk_172 (dk_at dksX6_pushed_7 4 rfl rfl)
abbrev cX6_find : ByteArray := prog_42_method_13_code
def yX6_find : MethodName := ⟨RX6, "find", "(I)I"⟩
def dkwX6_find_3 : List UInt8 := [180, 0, 3, 180, 0, 121, 160, 0, 5, 28, 172, 132, 2, 1, 167, 255, 185, 2, 172]
abbrev dktX6_find_3 : List UInt8 := dkwX6_find_3 ++ []
def dkwX6_find_2 : List UInt8 := [29, 96, 46, 42, 180, 0, 3, 180, 0, 124, 29, 46, 160, 0, 9, 132, 3, 1, 167, 255, 222, 29, 42]
abbrev dktX6_find_2 : List UInt8 := dkwX6_find_2 ++ dktX6_find_3
def dkwX6_find_1 : List UInt8 := [180, 0, 44, 163, 0, 61, 3, 62, 29, 42, 180, 0, 3, 180, 0, 121, 162, 0, 29, 42, 180, 0, 28, 28]
abbrev dktX6_find_1 : List UInt8 := dkwX6_find_1 ++ dktX6_find_2
def dkwX6_find_0 : List UInt8 := [42, 180, 0, 3, 180, 0, 121, 154, 0, 5, 2, 172, 27, 61, 28, 42, 180, 0, 3, 180, 0, 121, 96, 42]
abbrev dktX6_find_0 : List UInt8 := dkwX6_find_0 ++ dktX6_find_1
theorem dksX6_find_0 : cX6_find.data.toList.drop 0 = dktX6_find_0 := by decide +kernel
theorem dksX6_find_1 : cX6_find.data.toList.drop 24 = dktX6_find_1 := dk_seg dksX6_find_0 24 rfl rfl
theorem dksX6_find_2 : cX6_find.data.toList.drop 48 = dktX6_find_2 := dk_seg dksX6_find_1 24 rfl rfl
theorem dksX6_find_3 : cX6_find.data.toList.drop 71 = dktX6_find_3 := dk_seg dksX6_find_2 23 rfl rfl
theorem dX6_find_0 : decode cX6_find 0 = .ok (.aload_n 0, 1) := dk_42 (dk_at dksX6_find_0 0 rfl rfl)
theorem dX6_find_1 : decode cX6_find 1 = .ok (.getfield 3, 3) := dk_180 0 3 (dk_at dksX6_find_0 1 rfl rfl)
theorem dX6_find_4 : decode cX6_find 4 = .ok (.getfield 121, 3) := dk_180 0 121 (dk_at dksX6_find_0 4 rfl rfl)
theorem dX6_find_7 : decode cX6_find 7 = .ok (.ifCond .ne 5, 3) := dk_154 0 5 (dk_at dksX6_find_0 7 rfl rfl)
theorem dX6_find_10 : decode cX6_find 10 = .ok (.iconst (-1), 1) := dk_2 (dk_at dksX6_find_0 10 rfl rfl)
theorem dX6_find_11 : decode cX6_find 11 = .ok (.ireturn, 1) := dk_172 (dk_at dksX6_find_0 11 rfl rfl)
theorem dX6_find_12 : decode cX6_find 12 = .ok (.iload_n 1, 1) := dk_27 (dk_at dksX6_find_0 12 rfl rfl)
theorem dX6_find_13 : decode cX6_find 13 = .ok (.istore_n 2, 1) := dk_61 (dk_at dksX6_find_0 13 rfl rfl)
theorem dX6_find_14 : decode cX6_find 14 = .ok (.iload_n 2, 1) := dk_28 (dk_at dksX6_find_0 14 rfl rfl)
theorem dX6_find_15 : decode cX6_find 15 = .ok (.aload_n 0, 1) := dk_42 (dk_at dksX6_find_0 15 rfl rfl)
theorem dX6_find_16 : decode cX6_find 16 = .ok (.getfield 3, 3) := dk_180 0 3 (dk_at dksX6_find_0 16 rfl rfl)
theorem dX6_find_19 : decode cX6_find 19 = .ok (.getfield 121, 3) := dk_180 0 121 (dk_at dksX6_find_0 19 rfl rfl)
theorem dX6_find_22 : decode cX6_find 22 = .ok (.iadd, 1) := dk_96 (dk_at dksX6_find_0 22 rfl rfl)
theorem dX6_find_23 : decode cX6_find 23 = .ok (.aload_n 0, 1) := dk_42 (dk_at dksX6_find_0 23 rfl rfl)
theorem dX6_find_24 : decode cX6_find 24 = .ok (.getfield 44, 3) := dk_180 0 44 (dk_at dksX6_find_1 0 rfl rfl)
theorem dX6_find_27 : decode cX6_find 27 = .ok (.if_icmp .gt 61, 3) := dk_163 0 61 (dk_at dksX6_find_1 3 rfl rfl)
theorem dX6_find_30 : decode cX6_find 30 = .ok (.iconst 0, 1) := dk_3 (dk_at dksX6_find_1 6 rfl rfl)
theorem dX6_find_31 : decode cX6_find 31 = .ok (.istore_n 3, 1) := dk_62 (dk_at dksX6_find_1 7 rfl rfl)
theorem dX6_find_32 : decode cX6_find 32 = .ok (.iload_n 3, 1) := dk_29 (dk_at dksX6_find_1 8 rfl rfl)
theorem dX6_find_33 : decode cX6_find 33 = .ok (.aload_n 0, 1) := dk_42 (dk_at dksX6_find_1 9 rfl rfl)
theorem dX6_find_34 : decode cX6_find 34 = .ok (.getfield 3, 3) := dk_180 0 3 (dk_at dksX6_find_1 10 rfl rfl)
theorem dX6_find_37 : decode cX6_find 37 = .ok (.getfield 121, 3) := dk_180 0 121 (dk_at dksX6_find_1 13 rfl rfl)
theorem dX6_find_40 : decode cX6_find 40 = .ok (.if_icmp .ge 29, 3) := dk_162 0 29 (dk_at dksX6_find_1 16 rfl rfl)
theorem dX6_find_43 : decode cX6_find 43 = .ok (.aload_n 0, 1) := dk_42 (dk_at dksX6_find_1 19 rfl rfl)
theorem dX6_find_44 : decode cX6_find 44 = .ok (.getfield 28, 3) := dk_180 0 28 (dk_at dksX6_find_1 20 rfl rfl)
theorem dX6_find_47 : decode cX6_find 47 = .ok (.iload_n 2, 1) := dk_28 (dk_at dksX6_find_1 23 rfl rfl)
theorem dX6_find_48 : decode cX6_find 48 = .ok (.iload_n 3, 1) := dk_29 (dk_at dksX6_find_2 0 rfl rfl)
theorem dX6_find_49 : decode cX6_find 49 = .ok (.iadd, 1) := dk_96 (dk_at dksX6_find_2 1 rfl rfl)
theorem dX6_find_50 : decode cX6_find 50 = .ok (.iaload, 1) := dk_46 (dk_at dksX6_find_2 2 rfl rfl)
theorem dX6_find_51 : decode cX6_find 51 = .ok (.aload_n 0, 1) := dk_42 (dk_at dksX6_find_2 3 rfl rfl)
theorem dX6_find_52 : decode cX6_find 52 = .ok (.getfield 3, 3) := dk_180 0 3 (dk_at dksX6_find_2 4 rfl rfl)
theorem dX6_find_55 : decode cX6_find 55 = .ok (.getfield 124, 3) := dk_180 0 124 (dk_at dksX6_find_2 7 rfl rfl)
theorem dX6_find_58 : decode cX6_find 58 = .ok (.iload_n 3, 1) := dk_29 (dk_at dksX6_find_2 10 rfl rfl)
theorem dX6_find_59 : decode cX6_find 59 = .ok (.iaload, 1) := dk_46 (dk_at dksX6_find_2 11 rfl rfl)
theorem dX6_find_60 : decode cX6_find 60 = .ok (.if_icmp .ne 9, 3) := dk_160 0 9 (dk_at dksX6_find_2 12 rfl rfl)
theorem dX6_find_63 : decode cX6_find 63 = .ok (.iinc 3 1, 3) := dk_132 3 1 (dk_at dksX6_find_2 15 rfl rfl)
theorem dX6_find_66 : decode cX6_find 66 = .ok (.goto (-34), 3) := dk_167 255 222 (dk_at dksX6_find_2 18 rfl rfl)
theorem dX6_find_69 : decode cX6_find 69 = .ok (.iload_n 3, 1) := dk_29 (dk_at dksX6_find_2 21 rfl rfl)
theorem dX6_find_70 : decode cX6_find 70 = .ok (.aload_n 0, 1) := dk_42 (dk_at dksX6_find_2 22 rfl rfl)
theorem dX6_find_71 : decode cX6_find 71 = .ok (.getfield 3, 3) := dk_180 0 3 (dk_at dksX6_find_3 0 rfl rfl)
theorem dX6_find_74 : decode cX6_find 74 = .ok (.getfield 121, 3) := dk_180 0 121 (dk_at dksX6_find_3 3 rfl rfl)
theorem dX6_find_77 : decode cX6_find 77 = .ok (.if_icmp .ne 5, 3) := dk_160 0 5 (dk_at dksX6_find_3 6 rfl rfl)
theorem dX6_find_80 : decode cX6_find 80 = .ok (.iload_n 2, 1) := dk_28 (dk_at dksX6_find_3 9 rfl rfl)
theorem dX6_find_81 : decode cX6_find 81 = .ok (.ireturn, 1) := dk_172 (dk_at dksX6_find_3 10 rfl rfl)
theorem dX6_find_82 : decode cX6_find 82 = .ok (.iinc 2 1, 3) := dk_132 2 1 (dk_at dksX6_find_3 11 rfl rfl)
theorem dX6_find_85 : decode cX6_find 85 = .ok (.goto (-71), 3) := dk_167 255 185 (dk_at dksX6_find_3 14 rfl rfl)
theorem dX6_find_88 : decode cX6_find 88 = .ok (.iconst (-1), 1) := dk_2 (dk_at dksX6_find_3 17 rfl rfl)
theorem dX6_find_89 : decode cX6_find 89 = .ok (.ireturn, 1) := dk_172 (dk_at dksX6_find_3 18 rfl rfl)
abbrev cX6_become : ByteArray := prog_42_method_3_code
def yX6_become : MethodName := ⟨RX6, "become", "(LShadowSpellModel$State;)V"⟩
def dkwX6_become_3 : List UInt8 := [180, 0, 28, 182, 0, 47, 177]
abbrev dktX6_become_3 : List UInt8 := dkwX6_become_3 ++ []
def dkwX6_become_2 : List UInt8 := [180, 0, 22, 182, 0, 47, 42, 43, 180, 0, 25, 42, 180, 0, 25, 182, 0, 47, 42, 43, 180, 0, 28, 42]
abbrev dktX6_become_2 : List UInt8 := dkwX6_become_2 ++ dktX6_become_3
def dkwX6_become_1 : List UInt8 := [180, 0, 15, 182, 0, 47, 42, 43, 180, 0, 19, 42, 180, 0, 19, 182, 0, 47, 42, 43, 180, 0, 22, 42]
abbrev dktX6_become_1 : List UInt8 := dkwX6_become_1 ++ dktX6_become_2
def dkwX6_become_0 : List UInt8 := [42, 43, 180, 0, 40, 181, 0, 40, 42, 43, 180, 0, 44, 181, 0, 44, 42, 43, 180, 0, 15, 42]
abbrev dktX6_become_0 : List UInt8 := dkwX6_become_0 ++ dktX6_become_1
theorem dksX6_become_0 : cX6_become.data.toList.drop 0 = dktX6_become_0 := by decide +kernel
theorem dksX6_become_1 : cX6_become.data.toList.drop 22 = dktX6_become_1 := dk_seg dksX6_become_0 22 rfl rfl
theorem dksX6_become_2 : cX6_become.data.toList.drop 46 = dktX6_become_2 := dk_seg dksX6_become_1 24 rfl rfl
theorem dksX6_become_3 : cX6_become.data.toList.drop 70 = dktX6_become_3 := dk_seg dksX6_become_2 24 rfl rfl
theorem dX6_become_0 : decode cX6_become 0 = .ok (.aload_n 0, 1) := dk_42 (dk_at dksX6_become_0 0 rfl rfl)
theorem dX6_become_1 : decode cX6_become 1 = .ok (.aload_n 1, 1) := dk_43 (dk_at dksX6_become_0 1 rfl rfl)
theorem dX6_become_2 : decode cX6_become 2 = .ok (.getfield 40, 3) := dk_180 0 40 (dk_at dksX6_become_0 2 rfl rfl)
theorem dX6_become_5 : decode cX6_become 5 = .ok (.putfield 40, 3) := dk_181 0 40 (dk_at dksX6_become_0 5 rfl rfl)
theorem dX6_become_8 : decode cX6_become 8 = .ok (.aload_n 0, 1) := dk_42 (dk_at dksX6_become_0 8 rfl rfl)
theorem dX6_become_9 : decode cX6_become 9 = .ok (.aload_n 1, 1) := dk_43 (dk_at dksX6_become_0 9 rfl rfl)
theorem dX6_become_10 : decode cX6_become 10 = .ok (.getfield 44, 3) := dk_180 0 44 (dk_at dksX6_become_0 10 rfl rfl)
theorem dX6_become_13 : decode cX6_become 13 = .ok (.putfield 44, 3) := dk_181 0 44 (dk_at dksX6_become_0 13 rfl rfl)
theorem dX6_become_16 : decode cX6_become 16 = .ok (.aload_n 0, 1) := dk_42 (dk_at dksX6_become_0 16 rfl rfl)
theorem dX6_become_17 : decode cX6_become 17 = .ok (.aload_n 1, 1) := dk_43 (dk_at dksX6_become_0 17 rfl rfl)
theorem dX6_become_18 : decode cX6_become 18 = .ok (.getfield 15, 3) := dk_180 0 15 (dk_at dksX6_become_0 18 rfl rfl)
theorem dX6_become_21 : decode cX6_become 21 = .ok (.aload_n 0, 1) := dk_42 (dk_at dksX6_become_0 21 rfl rfl)
theorem dX6_become_22 : decode cX6_become 22 = .ok (.getfield 15, 3) := dk_180 0 15 (dk_at dksX6_become_1 0 rfl rfl)
theorem dX6_become_25 : decode cX6_become 25 = .ok (.invokevirtual 47, 3) := dk_182 0 47 (dk_at dksX6_become_1 3 rfl rfl)
theorem dX6_become_28 : decode cX6_become 28 = .ok (.aload_n 0, 1) := dk_42 (dk_at dksX6_become_1 6 rfl rfl)
theorem dX6_become_29 : decode cX6_become 29 = .ok (.aload_n 1, 1) := dk_43 (dk_at dksX6_become_1 7 rfl rfl)
theorem dX6_become_30 : decode cX6_become 30 = .ok (.getfield 19, 3) := dk_180 0 19 (dk_at dksX6_become_1 8 rfl rfl)
theorem dX6_become_33 : decode cX6_become 33 = .ok (.aload_n 0, 1) := dk_42 (dk_at dksX6_become_1 11 rfl rfl)
theorem dX6_become_34 : decode cX6_become 34 = .ok (.getfield 19, 3) := dk_180 0 19 (dk_at dksX6_become_1 12 rfl rfl)
theorem dX6_become_37 : decode cX6_become 37 = .ok (.invokevirtual 47, 3) := dk_182 0 47 (dk_at dksX6_become_1 15 rfl rfl)
theorem dX6_become_40 : decode cX6_become 40 = .ok (.aload_n 0, 1) := dk_42 (dk_at dksX6_become_1 18 rfl rfl)
theorem dX6_become_41 : decode cX6_become 41 = .ok (.aload_n 1, 1) := dk_43 (dk_at dksX6_become_1 19 rfl rfl)
theorem dX6_become_42 : decode cX6_become 42 = .ok (.getfield 22, 3) := dk_180 0 22 (dk_at dksX6_become_1 20 rfl rfl)
theorem dX6_become_45 : decode cX6_become 45 = .ok (.aload_n 0, 1) := dk_42 (dk_at dksX6_become_1 23 rfl rfl)
theorem dX6_become_46 : decode cX6_become 46 = .ok (.getfield 22, 3) := dk_180 0 22 (dk_at dksX6_become_2 0 rfl rfl)
theorem dX6_become_49 : decode cX6_become 49 = .ok (.invokevirtual 47, 3) := dk_182 0 47 (dk_at dksX6_become_2 3 rfl rfl)
theorem dX6_become_52 : decode cX6_become 52 = .ok (.aload_n 0, 1) := dk_42 (dk_at dksX6_become_2 6 rfl rfl)
theorem dX6_become_53 : decode cX6_become 53 = .ok (.aload_n 1, 1) := dk_43 (dk_at dksX6_become_2 7 rfl rfl)
theorem dX6_become_54 : decode cX6_become 54 = .ok (.getfield 25, 3) := dk_180 0 25 (dk_at dksX6_become_2 8 rfl rfl)
theorem dX6_become_57 : decode cX6_become 57 = .ok (.aload_n 0, 1) := dk_42 (dk_at dksX6_become_2 11 rfl rfl)
theorem dX6_become_58 : decode cX6_become 58 = .ok (.getfield 25, 3) := dk_180 0 25 (dk_at dksX6_become_2 12 rfl rfl)
theorem dX6_become_61 : decode cX6_become 61 = .ok (.invokevirtual 47, 3) := dk_182 0 47 (dk_at dksX6_become_2 15 rfl rfl)
theorem dX6_become_64 : decode cX6_become 64 = .ok (.aload_n 0, 1) := dk_42 (dk_at dksX6_become_2 18 rfl rfl)
theorem dX6_become_65 : decode cX6_become 65 = .ok (.aload_n 1, 1) := dk_43 (dk_at dksX6_become_2 19 rfl rfl)
theorem dX6_become_66 : decode cX6_become 66 = .ok (.getfield 28, 3) := dk_180 0 28 (dk_at dksX6_become_2 20 rfl rfl)
theorem dX6_become_69 : decode cX6_become 69 = .ok (.aload_n 0, 1) := dk_42 (dk_at dksX6_become_2 23 rfl rfl)
theorem dX6_become_70 : decode cX6_become 70 = .ok (.getfield 28, 3) := dk_180 0 28 (dk_at dksX6_become_3 0 rfl rfl)
theorem dX6_become_73 : decode cX6_become 73 = .ok (.invokevirtual 47, 3) := dk_182 0 47 (dk_at dksX6_become_3 3 rfl rfl)
theorem dX6_become_76 : decode cX6_become 76 = .ok (.return_, 1) := dk_177 (dk_at dksX6_become_3 6 rfl rfl)
abbrev cX6_copy : ByteArray := prog_42_method_2_code
def yX6_copy : MethodName := ⟨RX6, "copy", "([I[I)V"⟩
def dkwX6_copy_0 : List UInt8 := [43, 3, 44, 3, 43, 190, 184, 0, 34, 177]
abbrev dktX6_copy_0 : List UInt8 := dkwX6_copy_0 ++ []
theorem dksX6_copy_0 : cX6_copy.data.toList.drop 0 = dktX6_copy_0 := by decide +kernel
theorem dX6_copy_0 : decode cX6_copy 0 = .ok (.aload_n 1, 1) := dk_43 (dk_at dksX6_copy_0 0 rfl rfl)
theorem dX6_copy_1 : decode cX6_copy 1 = .ok (.iconst 0, 1) := dk_3 (dk_at dksX6_copy_0 1 rfl rfl)
theorem dX6_copy_2 : decode cX6_copy 2 = .ok (.aload_n 2, 1) := dk_44 (dk_at dksX6_copy_0 2 rfl rfl)
theorem dX6_copy_3 : decode cX6_copy 3 = .ok (.iconst 0, 1) := dk_3 (dk_at dksX6_copy_0 3 rfl rfl)
theorem dX6_copy_4 : decode cX6_copy 4 = .ok (.aload_n 1, 1) := dk_43 (dk_at dksX6_copy_0 4 rfl rfl)
theorem dX6_copy_5 : decode cX6_copy 5 = .ok (.arraylength, 1) := dk_190 (dk_at dksX6_copy_0 5 rfl rfl)
theorem dX6_copy_6 : decode cX6_copy 6 = .ok (.invokestatic 34, 3) := dk_184 0 34 (dk_at dksX6_copy_0 6 rfl rfl)
theorem dX6_copy_9 : decode cX6_copy 9 = .ok (.return_, 1) := dk_177 (dk_at dksX6_copy_0 9 rfl rfl)
abbrev cX6_laps : ByteArray := prog_42_method_8_code
def yX6_laps : MethodName := ⟨RX6, "laps", "()I"⟩
def dkwX6_laps_1 : List UInt8 := [46, 96, 60, 132, 2, 1, 167, 255, 230, 27, 172]
abbrev dktX6_laps_1 : List UInt8 := dkwX6_laps_1 ++ []
def dkwX6_laps_0 : List UInt8 := [3, 60, 3, 61, 28, 42, 180, 0, 3, 180, 0, 51, 180, 0, 70, 162, 0, 18, 27, 42, 180, 0, 22, 28]
abbrev dktX6_laps_0 : List UInt8 := dkwX6_laps_0 ++ dktX6_laps_1
theorem dksX6_laps_0 : cX6_laps.data.toList.drop 0 = dktX6_laps_0 := by decide +kernel
theorem dksX6_laps_1 : cX6_laps.data.toList.drop 24 = dktX6_laps_1 := dk_seg dksX6_laps_0 24 rfl rfl
theorem dX6_laps_0 : decode cX6_laps 0 = .ok (.iconst 0, 1) := dk_3 (dk_at dksX6_laps_0 0 rfl rfl)
theorem dX6_laps_1 : decode cX6_laps 1 = .ok (.istore_n 1, 1) := dk_60 (dk_at dksX6_laps_0 1 rfl rfl)
theorem dX6_laps_2 : decode cX6_laps 2 = .ok (.iconst 0, 1) := dk_3 (dk_at dksX6_laps_0 2 rfl rfl)
theorem dX6_laps_3 : decode cX6_laps 3 = .ok (.istore_n 2, 1) := dk_61 (dk_at dksX6_laps_0 3 rfl rfl)
theorem dX6_laps_4 : decode cX6_laps 4 = .ok (.iload_n 2, 1) := dk_28 (dk_at dksX6_laps_0 4 rfl rfl)
theorem dX6_laps_5 : decode cX6_laps 5 = .ok (.aload_n 0, 1) := dk_42 (dk_at dksX6_laps_0 5 rfl rfl)
theorem dX6_laps_6 : decode cX6_laps 6 = .ok (.getfield 3, 3) := dk_180 0 3 (dk_at dksX6_laps_0 6 rfl rfl)
theorem dX6_laps_9 : decode cX6_laps 9 = .ok (.getfield 51, 3) := dk_180 0 51 (dk_at dksX6_laps_0 9 rfl rfl)
theorem dX6_laps_12 : decode cX6_laps 12 = .ok (.getfield 70, 3) := dk_180 0 70 (dk_at dksX6_laps_0 12 rfl rfl)
theorem dX6_laps_15 : decode cX6_laps 15 = .ok (.if_icmp .ge 18, 3) := dk_162 0 18 (dk_at dksX6_laps_0 15 rfl rfl)
theorem dX6_laps_18 : decode cX6_laps 18 = .ok (.iload_n 1, 1) := dk_27 (dk_at dksX6_laps_0 18 rfl rfl)
theorem dX6_laps_19 : decode cX6_laps 19 = .ok (.aload_n 0, 1) := dk_42 (dk_at dksX6_laps_0 19 rfl rfl)
theorem dX6_laps_20 : decode cX6_laps 20 = .ok (.getfield 22, 3) := dk_180 0 22 (dk_at dksX6_laps_0 20 rfl rfl)
theorem dX6_laps_23 : decode cX6_laps 23 = .ok (.iload_n 2, 1) := dk_28 (dk_at dksX6_laps_0 23 rfl rfl)
theorem dX6_laps_24 : decode cX6_laps 24 = .ok (.iaload, 1) := dk_46 (dk_at dksX6_laps_1 0 rfl rfl)
theorem dX6_laps_25 : decode cX6_laps 25 = .ok (.iadd, 1) := dk_96 (dk_at dksX6_laps_1 1 rfl rfl)
theorem dX6_laps_26 : decode cX6_laps 26 = .ok (.istore_n 1, 1) := dk_60 (dk_at dksX6_laps_1 2 rfl rfl)
theorem dX6_laps_27 : decode cX6_laps 27 = .ok (.iinc 2 1, 3) := dk_132 2 1 (dk_at dksX6_laps_1 3 rfl rfl)
theorem dX6_laps_30 : decode cX6_laps 30 = .ok (.goto (-26), 3) := dk_167 255 230 (dk_at dksX6_laps_1 6 rfl rfl)
theorem dX6_laps_33 : decode cX6_laps 33 = .ok (.iload_n 1, 1) := dk_27 (dk_at dksX6_laps_1 9 rfl rfl)
theorem dX6_laps_34 : decode cX6_laps 34 = .ok (.ireturn, 1) := dk_172 (dk_at dksX6_laps_1 10 rfl rfl)
theorem q84 : (Jvm.Cond.initialized "ShadowSpellModel$State") ∈ lw_all := lw_g (lw_at lw_m1 13 rfl) rfl
theorem q783 : (Jvm.Cond.selects "ShadowSpellModel$State" ({ cls := "java/lang/Object", name := "getClass", desc := "()Ljava/lang/Class;" } : Jvm.MethodName) ({ cls := "java/lang/Object", name := "getClass", desc := "()Ljava/lang/Class;" } : Jvm.MethodName)) ∈ lw_all := lw_g (lw_at lw_m3 232 rfl) rfl
theorem q1014 : (Jvm.Cond.selects "ShadowSpellModel$State" ({ cls := "java/lang/Object", name := "hashCode", desc := "()I" } : Jvm.MethodName) ({ cls := "java/lang/Object", name := "hashCode", desc := "()I" } : Jvm.MethodName)) ∈ lw_all := lw_g (lw_at lw_m4 223 rfl) rfl
theorem q1128 : (Jvm.Cond.selects "ShadowSpellModel$State" ({ cls := "java/lang/Object", name := "equals", desc := "(Ljava/lang/Object;)Z" } : Jvm.MethodName) ({ cls := "java/lang/Object", name := "equals", desc := "(Ljava/lang/Object;)Z" } : Jvm.MethodName)) ∈ lw_all := lw_g (lw_at lw_m5 97 rfl) rfl
theorem q2697 : (Jvm.Cond.fieldLinkNest "ShadowSpellModel$State" (70 : Nat) "ShadowSpellModel$Told" "planets" "I" "ShadowSpellModel") ∈ lw_tbl := lw_at lw_m11 226 rfl
theorem q2699 : (Jvm.Cond.fieldLinkNest "ShadowSpellModel$State" (55 : Nat) "ShadowSpellModel$Told" "planet" "[I" "ShadowSpellModel") ∈ lw_tbl := lw_at lw_m11 228 rfl
theorem q2703 : (Jvm.Cond.fieldLinkNest "ShadowSpellModel$State" (102 : Nat) "ShadowSpellModel$Told" "letters" "[I" "ShadowSpellModel") ∈ lw_tbl := lw_at lw_m11 232 rfl
theorem q2706 : (Jvm.Cond.fieldLinkNest "ShadowSpellModel$State" (99 : Nat) "ShadowSpellModel$Told" "letter" "[I" "ShadowSpellModel") ∈ lw_tbl := lw_at lw_m11 235 rfl
theorem q2708 : (Jvm.Cond.fieldLinkNest "ShadowSpellModel$State" (84 : Nat) "ShadowSpellModel$Told" "rules" "I" "ShadowSpellModel") ∈ lw_tbl := lw_at lw_m11 237 rfl
theorem q2711 : (Jvm.Cond.fieldLinkNest "ShadowSpellModel$State" (87 : Nat) "ShadowSpellModel$Told" "test" "[I" "ShadowSpellModel") ∈ lw_tbl := lw_at lw_m12 0 rfl
theorem q2714 : (Jvm.Cond.fieldLinkNest "ShadowSpellModel$State" (90 : Nat) "ShadowSpellModel$Told" "sum" "[I" "ShadowSpellModel") ∈ lw_tbl := lw_at lw_m12 3 rfl
theorem q2717 : (Jvm.Cond.fieldLinkNest "ShadowSpellModel$State" (96 : Nat) "ShadowSpellModel$Told" "of" "[I" "ShadowSpellModel") ∈ lw_tbl := lw_at lw_m12 6 rfl
theorem q2720 : (Jvm.Cond.fieldLinkNest "ShadowSpellModel$State" (108 : Nat) "ShadowSpellModel$Told" "code" "[I" "ShadowSpellModel") ∈ lw_tbl := lw_at lw_m12 9 rfl
theorem q2755 : (Jvm.Cond.instantiable "ShadowSpellModel$State" (9 : Nat)) ∈ lw_all := lw_g (lw_at lw_m12 44 rfl) rfl
theorem q2757 : (Jvm.Cond.instanceMethod ({ cls := "ShadowSpellModel$State", name := "<init>", desc := "(LShadowSpellModel;)V" } : Jvm.MethodName)) ∈ lw_all := lw_g (lw_at lw_m12 46 rfl) rfl
theorem q2758 : (Jvm.Cond.code ({ cls := "ShadowSpellModel$State", name := "<init>", desc := "(LShadowSpellModel;)V" } : Jvm.MethodName) prog_42_method_1_code (2 : Nat) (Option.none : Option Jvm.ClassFile.FieldType)) ∈ lw_all := lw_g (lw_at lw_m12 47 rfl) rfl
theorem q2759 : (Jvm.Cond.methodLink "ShadowSpellModel$State" (9 : Nat) ({ cls := "java/lang/Object", name := "<init>", desc := "()V" } : Jvm.MethodName)) ∈ lw_all := lw_g (lw_at lw_m12 48 rfl) rfl
theorem q2760 : (Jvm.Cond.fieldLink "ShadowSpellModel$State" (40 : Nat) "ShadowSpellModel$State" "day" "I") ∈ lw_all := lw_g (lw_at lw_m12 49 rfl) rfl
theorem q2762 : (Jvm.Cond.fieldLink "ShadowSpellModel$State" (15 : Nat) "ShadowSpellModel$State" "angle" "[I") ∈ lw_all := lw_g (lw_at lw_m12 51 rfl) rfl
theorem q2764 : (Jvm.Cond.fieldLink "ShadowSpellModel$State" (19 : Nat) "ShadowSpellModel$State" "before" "[I") ∈ lw_all := lw_g (lw_at lw_m12 53 rfl) rfl
theorem q2765 : (Jvm.Cond.fieldLink "ShadowSpellModel$State" (22 : Nat) "ShadowSpellModel$State" "lap" "[I") ∈ lw_all := lw_g (lw_at lw_m12 54 rfl) rfl
theorem q2767 : (Jvm.Cond.fieldLink "ShadowSpellModel$State" (25 : Nat) "ShadowSpellModel$State" "wrote" "[I") ∈ lw_all := lw_g (lw_at lw_m12 56 rfl) rfl
theorem q2769 : (Jvm.Cond.fieldLink "ShadowSpellModel$State" (28 : Nat) "ShadowSpellModel$State" "paper" "[I") ∈ lw_all := lw_g (lw_at lw_m12 58 rfl) rfl
theorem q2771 : (Jvm.Cond.fieldLink "ShadowSpellModel$State" (44 : Nat) "ShadowSpellModel$State" "bytes" "I") ∈ lw_all := lw_g (lw_at lw_m12 60 rfl) rfl
theorem q2773 : (Jvm.Cond.fieldLink "ShadowSpellModel$State" (31 : Nat) "ShadowSpellModel$State" "stack" "[I") ∈ lw_all := lw_g (lw_at lw_m12 62 rfl) rfl
theorem q2774 : (Jvm.Cond.fieldLink "ShadowSpellModel$State" (3 : Nat) "ShadowSpellModel$State" "this$0" "LShadowSpellModel;") ∈ lw_all := lw_g (lw_at lw_m12 63 rfl) rfl
theorem q2775 : (Jvm.Cond.lays "ShadowSpellModel$State" "ShadowSpellModel$State" "day" "I") ∈ lw_all := lw_g (lw_at lw_m12 64 rfl) rfl
theorem q2776 : (Jvm.Cond.soleField "ShadowSpellModel$State" "day") ∈ lw_all := lw_g (lw_at lw_m12 65 rfl) rfl
theorem q2777 : (Jvm.Cond.laysFinal "ShadowSpellModel$State" "ShadowSpellModel$State" "angle" "[I") ∈ lw_all := lw_g (lw_at lw_m12 66 rfl) rfl
theorem q2778 : (Jvm.Cond.soleField "ShadowSpellModel$State" "angle") ∈ lw_all := lw_g (lw_at lw_m12 67 rfl) rfl
theorem q2779 : (Jvm.Cond.laysFinal "ShadowSpellModel$State" "ShadowSpellModel$State" "before" "[I") ∈ lw_all := lw_g (lw_at lw_m12 68 rfl) rfl
theorem q2780 : (Jvm.Cond.soleField "ShadowSpellModel$State" "before") ∈ lw_all := lw_g (lw_at lw_m12 69 rfl) rfl
theorem q2781 : (Jvm.Cond.laysFinal "ShadowSpellModel$State" "ShadowSpellModel$State" "lap" "[I") ∈ lw_all := lw_g (lw_at lw_m12 70 rfl) rfl
theorem q2782 : (Jvm.Cond.soleField "ShadowSpellModel$State" "lap") ∈ lw_all := lw_g (lw_at lw_m12 71 rfl) rfl
theorem q2783 : (Jvm.Cond.laysFinal "ShadowSpellModel$State" "ShadowSpellModel$State" "wrote" "[I") ∈ lw_all := lw_g (lw_at lw_m12 72 rfl) rfl
theorem q2784 : (Jvm.Cond.soleField "ShadowSpellModel$State" "wrote") ∈ lw_all := lw_g (lw_at lw_m12 73 rfl) rfl
theorem q2785 : (Jvm.Cond.laysFinal "ShadowSpellModel$State" "ShadowSpellModel$State" "paper" "[I") ∈ lw_all := lw_g (lw_at lw_m12 74 rfl) rfl
theorem q2786 : (Jvm.Cond.soleField "ShadowSpellModel$State" "paper") ∈ lw_all := lw_g (lw_at lw_m12 75 rfl) rfl
theorem q2787 : (Jvm.Cond.lays "ShadowSpellModel$State" "ShadowSpellModel$State" "bytes" "I") ∈ lw_all := lw_g (lw_at lw_m12 76 rfl) rfl
theorem q2788 : (Jvm.Cond.soleField "ShadowSpellModel$State" "bytes") ∈ lw_all := lw_g (lw_at lw_m12 77 rfl) rfl
theorem q2789 : (Jvm.Cond.laysFinal "ShadowSpellModel$State" "ShadowSpellModel$State" "stack" "[I") ∈ lw_all := lw_g (lw_at lw_m12 78 rfl) rfl
theorem q2790 : (Jvm.Cond.soleField "ShadowSpellModel$State" "stack") ∈ lw_all := lw_g (lw_at lw_m12 79 rfl) rfl
theorem q2791 : (Jvm.Cond.laysFinal "ShadowSpellModel$State" "ShadowSpellModel$State" "this$0" "LShadowSpellModel;") ∈ lw_all := lw_g (lw_at lw_m12 80 rfl) rfl
theorem q2792 : (Jvm.Cond.soleField "ShadowSpellModel$State" "this$0") ∈ lw_all := lw_g (lw_at lw_m12 81 rfl) rfl
theorem q2793 : (Jvm.Cond.superclass "ShadowSpellModel$State" "java/lang/Object") ∈ lw_all := lw_g (lw_at lw_m12 82 rfl) rfl
theorem q2796 : (Jvm.Cond.fieldLinkNest "ShadowSpellModel$State" (124 : Nat) "ShadowSpellModel" "tape" "[I" "ShadowSpellModel") ∈ lw_tbl := lw_at lw_m12 85 rfl
theorem q2798 : (Jvm.Cond.fieldLinkNest "ShadowSpellModel$State" (121 : Nat) "ShadowSpellModel" "size" "I" "ShadowSpellModel") ∈ lw_tbl := lw_at lw_m12 87 rfl
theorem q2808 : (Jvm.Cond.fieldLinkNest "ShadowSpellModel$State" (51 : Nat) "ShadowSpellModel" "told" "LShadowSpellModel$Told;" "ShadowSpellModel") ∈ lw_tbl := lw_at lw_m12 97 rfl
theorem q3002 : (Jvm.Cond.instanceMethod ({ cls := "ShadowSpellModel$State", name := "set", desc := "(II)V" } : Jvm.MethodName)) ∈ lw_all := lw_g (lw_at lw_m13 51 rfl) rfl
theorem q3003 : (Jvm.Cond.selects "ShadowSpellModel$State" ({ cls := "ShadowSpellModel$State", name := "set", desc := "(II)V" } : Jvm.MethodName) ({ cls := "ShadowSpellModel$State", name := "set", desc := "(II)V" } : Jvm.MethodName)) ∈ lw_all := lw_g (lw_at lw_m13 52 rfl) rfl
theorem q3004 : (Jvm.Cond.code ({ cls := "ShadowSpellModel$State", name := "set", desc := "(II)V" } : Jvm.MethodName) prog_42_method_5_code (3 : Nat) (Option.none : Option Jvm.ClassFile.FieldType)) ∈ lw_all := lw_g (lw_at lw_m13 53 rfl) rfl
theorem q3018 : (Jvm.Cond.instanceMethod ({ cls := "ShadowSpellModel$State", name := "isRetro", desc := "(I)Z" } : Jvm.MethodName)) ∈ lw_all := lw_g (lw_at lw_m13 67 rfl) rfl
theorem q3019 : (Jvm.Cond.selects "ShadowSpellModel$State" ({ cls := "ShadowSpellModel$State", name := "isRetro", desc := "(I)Z" } : Jvm.MethodName) ({ cls := "ShadowSpellModel$State", name := "isRetro", desc := "(I)Z" } : Jvm.MethodName)) ∈ lw_all := lw_g (lw_at lw_m13 68 rfl) rfl
theorem q3020 : (Jvm.Cond.code ({ cls := "ShadowSpellModel$State", name := "isRetro", desc := "(I)Z" } : Jvm.MethodName) prog_42_method_4_code (2 : Nat) (Option.some Jvm.ClassFile.FieldType.boolean)) ∈ lw_all := lw_g (lw_at lw_m13 69 rfl) rfl
theorem q3022 : (Jvm.Cond.instanceMethod ({ cls := "ShadowSpellModel$State", name := "pairs", desc := "()I" } : Jvm.MethodName)) ∈ lw_all := lw_g (lw_at lw_m13 71 rfl) rfl
theorem q3023 : (Jvm.Cond.selects "ShadowSpellModel$State" ({ cls := "ShadowSpellModel$State", name := "pairs", desc := "()I" } : Jvm.MethodName) ({ cls := "ShadowSpellModel$State", name := "pairs", desc := "()I" } : Jvm.MethodName)) ∈ lw_all := lw_g (lw_at lw_m13 72 rfl) rfl
theorem q3024 : (Jvm.Cond.code ({ cls := "ShadowSpellModel$State", name := "pairs", desc := "()I" } : Jvm.MethodName) prog_42_method_7_code (4 : Nat) (Option.some Jvm.ClassFile.FieldType.int)) ∈ lw_all := lw_g (lw_at lw_m13 73 rfl) rfl
theorem q3025 : (Jvm.Cond.methodLink "ShadowSpellModel$State" (73 : Nat) ({ cls := "ShadowSpellModel$State", name := "meets", desc := "(III)Z" } : Jvm.MethodName)) ∈ lw_all := lw_g (lw_at lw_m13 74 rfl) rfl
theorem q3026 : (Jvm.Cond.instanceMethod ({ cls := "ShadowSpellModel$State", name := "meets", desc := "(III)Z" } : Jvm.MethodName)) ∈ lw_all := lw_g (lw_at lw_m13 75 rfl) rfl
theorem q3027 : (Jvm.Cond.selects "ShadowSpellModel$State" ({ cls := "ShadowSpellModel$State", name := "meets", desc := "(III)Z" } : Jvm.MethodName) ({ cls := "ShadowSpellModel$State", name := "meets", desc := "(III)Z" } : Jvm.MethodName)) ∈ lw_all := lw_g (lw_at lw_m13 76 rfl) rfl
theorem q3028 : (Jvm.Cond.code ({ cls := "ShadowSpellModel$State", name := "meets", desc := "(III)Z" } : Jvm.MethodName) prog_42_method_6_code (6 : Nat) (Option.some Jvm.ClassFile.FieldType.boolean)) ∈ lw_all := lw_g (lw_at lw_m13 77 rfl) rfl
theorem q3029 : (Jvm.Cond.methodLinkNest "ShadowSpellModel$State" (60 : Nat) ({ cls := "ShadowSpellModel", name := "gapOf", desc := "(II)I" } : Jvm.MethodName) "ShadowSpellModel") ∈ lw_tbl := lw_at lw_m13 78 rfl
theorem q3033 : (Jvm.Cond.methodLink "ShadowSpellModel$State" (64 : Nat) ({ cls := "java/lang/Math", name := "abs", desc := "(I)I" } : Jvm.MethodName)) ∈ lw_all := lw_g (lw_at lw_m13 82 rfl) rfl
theorem q3077 : (Jvm.Cond.instanceMethod ({ cls := "ShadowSpellModel$State", name := "pass", desc := "()I" } : Jvm.MethodName)) ∈ lw_all := lw_g (lw_at lw_m13 126 rfl) rfl
theorem q3078 : (Jvm.Cond.selects "ShadowSpellModel$State" ({ cls := "ShadowSpellModel$State", name := "pass", desc := "()I" } : Jvm.MethodName) ({ cls := "ShadowSpellModel$State", name := "pass", desc := "()I" } : Jvm.MethodName)) ∈ lw_all := lw_g (lw_at lw_m13 127 rfl) rfl
theorem q3079 : (Jvm.Cond.code ({ cls := "ShadowSpellModel$State", name := "pass", desc := "()I" } : Jvm.MethodName) prog_42_method_10_code (4 : Nat) (Option.some Jvm.ClassFile.FieldType.int)) ∈ lw_all := lw_g (lw_at lw_m13 128 rfl) rfl
theorem q3080 : (Jvm.Cond.methodLink "ShadowSpellModel$State" (81 : Nat) ({ cls := "ShadowSpellModel$State", name := "move", desc := "()V" } : Jvm.MethodName)) ∈ lw_all := lw_g (lw_at lw_m13 129 rfl) rfl
theorem q3081 : (Jvm.Cond.instanceMethod ({ cls := "ShadowSpellModel$State", name := "move", desc := "()V" } : Jvm.MethodName)) ∈ lw_all := lw_g (lw_at lw_m13 130 rfl) rfl
theorem q3082 : (Jvm.Cond.selects "ShadowSpellModel$State" ({ cls := "ShadowSpellModel$State", name := "move", desc := "()V" } : Jvm.MethodName) ({ cls := "ShadowSpellModel$State", name := "move", desc := "()V" } : Jvm.MethodName)) ∈ lw_all := lw_g (lw_at lw_m13 131 rfl) rfl
theorem q3083 : (Jvm.Cond.code ({ cls := "ShadowSpellModel$State", name := "move", desc := "()V" } : Jvm.MethodName) prog_42_method_9_code (3 : Nat) (Option.none : Option Jvm.ClassFile.FieldType)) ∈ lw_all := lw_g (lw_at lw_m13 132 rfl) rfl
theorem q3084 : (Jvm.Cond.methodLink "ShadowSpellModel$State" (77 : Nat) ({ cls := "ShadowSpellModel$State", name := "isRetro", desc := "(I)Z" } : Jvm.MethodName)) ∈ lw_all := lw_g (lw_at lw_m13 133 rfl) rfl
theorem q3085 : (Jvm.Cond.methodLink "ShadowSpellModel$State" (93 : Nat) ({ cls := "ShadowSpellModel$State", name := "carryOut", desc := "(II)I" } : Jvm.MethodName)) ∈ lw_all := lw_g (lw_at lw_m13 134 rfl) rfl
theorem q3086 : (Jvm.Cond.privateMethod ({ cls := "ShadowSpellModel$State", name := "carryOut", desc := "(II)I" } : Jvm.MethodName)) ∈ lw_tbl := lw_at lw_m13 135 rfl
theorem q3087 : (Jvm.Cond.instanceMethod ({ cls := "ShadowSpellModel$State", name := "carryOut", desc := "(II)I" } : Jvm.MethodName)) ∈ lw_all := lw_g (lw_at lw_m13 136 rfl) rfl
theorem q3088 : (Jvm.Cond.code ({ cls := "ShadowSpellModel$State", name := "carryOut", desc := "(II)I" } : Jvm.MethodName) prog_42_method_11_code (8 : Nat) (Option.some Jvm.ClassFile.FieldType.int)) ∈ lw_all := lw_g (lw_at lw_m13 137 rfl) rfl
theorem q3089 : (Jvm.Cond.methodLinkNest "ShadowSpellModel$State" (111 : Nat) ({ cls := "ShadowSpellModel", name := "isPushed", desc := "(I)Z" } : Jvm.MethodName) "ShadowSpellModel") ∈ lw_tbl := lw_at lw_m13 138 rfl
theorem q3092 : (Jvm.Cond.methodLink "ShadowSpellModel$State" (114 : Nat) ({ cls := "ShadowSpellModel$State", name := "pushed", desc := "(III)I" } : Jvm.MethodName)) ∈ lw_all := lw_g (lw_at lw_m13 141 rfl) rfl
theorem q3093 : (Jvm.Cond.privateMethod ({ cls := "ShadowSpellModel$State", name := "pushed", desc := "(III)I" } : Jvm.MethodName)) ∈ lw_tbl := lw_at lw_m13 142 rfl
theorem q3094 : (Jvm.Cond.instanceMethod ({ cls := "ShadowSpellModel$State", name := "pushed", desc := "(III)I" } : Jvm.MethodName)) ∈ lw_all := lw_g (lw_at lw_m13 143 rfl) rfl
theorem q3095 : (Jvm.Cond.code ({ cls := "ShadowSpellModel$State", name := "pushed", desc := "(III)I" } : Jvm.MethodName) prog_42_method_12_code (4 : Nat) (Option.some Jvm.ClassFile.FieldType.int)) ∈ lw_all := lw_g (lw_at lw_m13 144 rfl) rfl
theorem q3096 : (Jvm.Cond.methodLinkNest "ShadowSpellModel$State" (118 : Nat) ({ cls := "ShadowSpellModel", name := "both", desc := "(III)I" } : Jvm.MethodName) "ShadowSpellModel") ∈ lw_tbl := lw_at lw_m13 145 rfl
theorem q3100 : (Jvm.Cond.methodLink "ShadowSpellModel$State" (105 : Nat) ({ cls := "java/lang/Math", name := "floorMod", desc := "(II)I" } : Jvm.MethodName)) ∈ lw_all := lw_g (lw_at lw_m13 149 rfl) rfl
theorem q3114 : (Jvm.Cond.instanceMethod ({ cls := "ShadowSpellModel$State", name := "find", desc := "(I)I" } : Jvm.MethodName)) ∈ lw_all := lw_g (lw_at lw_m13 163 rfl) rfl
theorem q3115 : (Jvm.Cond.selects "ShadowSpellModel$State" ({ cls := "ShadowSpellModel$State", name := "find", desc := "(I)I" } : Jvm.MethodName) ({ cls := "ShadowSpellModel$State", name := "find", desc := "(I)I" } : Jvm.MethodName)) ∈ lw_all := lw_g (lw_at lw_m13 164 rfl) rfl
theorem q3116 : (Jvm.Cond.code ({ cls := "ShadowSpellModel$State", name := "find", desc := "(I)I" } : Jvm.MethodName) prog_42_method_13_code (4 : Nat) (Option.some Jvm.ClassFile.FieldType.int)) ∈ lw_all := lw_g (lw_at lw_m13 165 rfl) rfl
theorem q3130 : (Jvm.Cond.instanceMethod ({ cls := "ShadowSpellModel$State", name := "become", desc := "(LShadowSpellModel$State;)V" } : Jvm.MethodName)) ∈ lw_all := lw_g (lw_at lw_m13 179 rfl) rfl
theorem q3131 : (Jvm.Cond.selects "ShadowSpellModel$State" ({ cls := "ShadowSpellModel$State", name := "become", desc := "(LShadowSpellModel$State;)V" } : Jvm.MethodName) ({ cls := "ShadowSpellModel$State", name := "become", desc := "(LShadowSpellModel$State;)V" } : Jvm.MethodName)) ∈ lw_all := lw_g (lw_at lw_m13 180 rfl) rfl
theorem q3132 : (Jvm.Cond.code ({ cls := "ShadowSpellModel$State", name := "become", desc := "(LShadowSpellModel$State;)V" } : Jvm.MethodName) prog_42_method_3_code (2 : Nat) (Option.none : Option Jvm.ClassFile.FieldType)) ∈ lw_all := lw_g (lw_at lw_m13 181 rfl) rfl
theorem q3133 : (Jvm.Cond.methodLink "ShadowSpellModel$State" (47 : Nat) ({ cls := "ShadowSpellModel$State", name := "copy", desc := "([I[I)V" } : Jvm.MethodName)) ∈ lw_all := lw_g (lw_at lw_m13 182 rfl) rfl
theorem q3134 : (Jvm.Cond.privateMethod ({ cls := "ShadowSpellModel$State", name := "copy", desc := "([I[I)V" } : Jvm.MethodName)) ∈ lw_tbl := lw_at lw_m13 183 rfl
theorem q3135 : (Jvm.Cond.instanceMethod ({ cls := "ShadowSpellModel$State", name := "copy", desc := "([I[I)V" } : Jvm.MethodName)) ∈ lw_all := lw_g (lw_at lw_m13 184 rfl) rfl
theorem q3136 : (Jvm.Cond.code ({ cls := "ShadowSpellModel$State", name := "copy", desc := "([I[I)V" } : Jvm.MethodName) prog_42_method_2_code (3 : Nat) (Option.none : Option Jvm.ClassFile.FieldType)) ∈ lw_all := lw_g (lw_at lw_m13 185 rfl) rfl
theorem q3137 : (Jvm.Cond.methodLink "ShadowSpellModel$State" (34 : Nat) ({ cls := "java/lang/System", name := "arraycopy", desc := "(Ljava/lang/Object;ILjava/lang/Object;II)V" } : Jvm.MethodName)) ∈ lw_all := lw_g (lw_at lw_m13 186 rfl) rfl
theorem q3139 : (Jvm.Cond.instanceMethod ({ cls := "ShadowSpellModel$State", name := "laps", desc := "()I" } : Jvm.MethodName)) ∈ lw_all := lw_g (lw_at lw_m13 188 rfl) rfl
theorem q3140 : (Jvm.Cond.selects "ShadowSpellModel$State" ({ cls := "ShadowSpellModel$State", name := "laps", desc := "()I" } : Jvm.MethodName) ({ cls := "ShadowSpellModel$State", name := "laps", desc := "()I" } : Jvm.MethodName)) ∈ lw_all := lw_g (lw_at lw_m13 189 rfl) rfl
theorem q3141 : (Jvm.Cond.code ({ cls := "ShadowSpellModel$State", name := "laps", desc := "()I" } : Jvm.MethodName) prog_42_method_8_code (3 : Nat) (Option.some Jvm.ClassFile.FieldType.int)) ∈ lw_all := lw_g (lw_at lw_m13 190 rfl) rfl
theorem q3224 : (Jvm.Cond.castable "ShadowSpellModel$State" "java/lang/Object") ∈ lw_tbl := lw_at lw_m14 33 rfl
theorem in_X6 : ∀ w ∈ wsX60, w ∈ lw_all := lw_in wsX60 [2775, 2777, 2779, 2781, 2783, 2785, 2787, 2789, 2791] (by decide +kernel) (by decide +kernel)

