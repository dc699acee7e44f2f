/-! ShadowSpell$Tape -/
set_option maxRecDepth 100000
def RX2 : String := "ShadowSpell$Tape"
def TX2 : u_T := fun k => match k with
  | 0 => ("ShadowSpell$Tape", "bytes", "[B", true)
  | _ => ("ShadowSpell$Tape", "size", "I", false)
def tyX2 : Nat → FieldType := fun k => match k with
  | 0 => .array .byte
  | _ => .int
abbrev wsX20 : List Cond := u_ws RX2 TX2 2
theorem nmX2 : ∀ a, a < 2 → ∀ b, b < 2 → a ≠ b → (TX2 a).2.1 ≠ (TX2 b).2.1 := by decide +kernel
theorem tyX2_ok : ∀ k, k < 2 → parseFieldDescriptor (TX2 k).2.2.1 = some (tyX2 k) := by decide +kernel
abbrev cX2_init : ByteArray := prog_30_method_1_code
def yX2_init : MethodName := ⟨RX2, "<init>", "()V"⟩
def dkwX2_init_0 : List UInt8 := [42, 183, 0, 3, 42, 17, 7, 208, 188, 8, 181, 0, 9, 177]
abbrev dktX2_init_0 : List UInt8 := dkwX2_init_0 ++ []
theorem dksX2_init_0 : cX2_init.data.toList.drop 0 = dktX2_init_0 := by decide +kernel
theorem dX2_init_0 : decode cX2_init 0 = .ok (.aload_n 0, 1) := dk_42 (dk_at dksX2_init_0 0 rfl rfl)
theorem dX2_init_1 : decode cX2_init 1 = .ok (.invokespecial 3, 3) := dk_183 0 3 (dk_at dksX2_init_0 1 rfl rfl)
theorem dX2_init_4 : decode cX2_init 4 = .ok (.aload_n 0, 1) := dk_42 (dk_at dksX2_init_0 4 rfl rfl)
theorem dX2_init_5 : decode cX2_init 5 = .ok (.sipush 2000, 3) := dk_17 7 208 (dk_at dksX2_init_0 5 rfl rfl)
theorem dX2_init_8 : decode cX2_init 8 = .ok (.newarray .byte, 2) := dk_188_8 (dk_at dksX2_init_0 8 rfl rfl)
theorem dX2_init_10 : decode cX2_init 10 = .ok (.putfield 9, 3) := dk_181 0 9 (dk_at dksX2_init_0 10 rfl rfl)
theorem dX2_init_13 : decode cX2_init 13 = .ok (.return_, 1) := dk_177 (dk_at dksX2_init_0 13 rfl rfl)
abbrev cX2_at : ByteArray := prog_30_method_3_code
def yX2_at : MethodName := ⟨RX2, "at", "(I)I"⟩
def dkwX2_at_0 : List UInt8 := [27, 42, 180, 0, 15, 162, 0, 16, 42, 180, 0, 9, 27, 51, 17, 0, 255, 126, 167, 0, 4, 3, 172]
abbrev dktX2_at_0 : List UInt8 := dkwX2_at_0 ++ []
theorem dksX2_at_0 : cX2_at.data.toList.drop 0 = dktX2_at_0 := by decide +kernel
theorem dX2_at_0 : decode cX2_at 0 = .ok (.iload_n 1, 1) := dk_27 (dk_at dksX2_at_0 0 rfl rfl)
theorem dX2_at_1 : decode cX2_at 1 = .ok (.aload_n 0, 1) := dk_42 (dk_at dksX2_at_0 1 rfl rfl)
theorem dX2_at_2 : decode cX2_at 2 = .ok (.getfield 15, 3) := dk_180 0 15 (dk_at dksX2_at_0 2 rfl rfl)
theorem dX2_at_5 : decode cX2_at 5 = .ok (.if_icmp .ge 16, 3) := dk_162 0 16 (dk_at dksX2_at_0 5 rfl rfl)
theorem dX2_at_8 : decode cX2_at 8 = .ok (.aload_n 0, 1) := dk_42 (dk_at dksX2_at_0 8 rfl rfl)
theorem dX2_at_9 : decode cX2_at 9 = .ok (.getfield 9, 3) := dk_180 0 9 (dk_at dksX2_at_0 9 rfl rfl)
theorem dX2_at_12 : decode cX2_at 12 = .ok (.iload_n 1, 1) := dk_27 (dk_at dksX2_at_0 12 rfl rfl)
theorem dX2_at_13 : decode cX2_at 13 = .ok (.baload, 1) := dk_51 (dk_at dksX2_at_0 13 rfl rfl)
theorem dX2_at_14 : decode cX2_at 14 = .ok (.sipush 255, 3) := dk_17 0 255 (dk_at dksX2_at_0 14 rfl rfl)
theorem dX2_at_17 : decode cX2_at 17 = .ok (.iand, 1) := dk_126 (dk_at dksX2_at_0 17 rfl rfl)
theorem dX2_at_18 : decode cX2_at 18 = .ok (.goto 4, 3) := dk_167 0 4 (dk_at dksX2_at_0 18 rfl rfl)
theorem dX2_at_21 : decode cX2_at 21 = .ok (.iconst 0, 1) := dk_3 (dk_at dksX2_at_0 21 rfl rfl)
theorem dX2_at_22 : decode cX2_at 22 = .ok (.ireturn, 1) := dk_172 (dk_at dksX2_at_0 22 rfl rfl)
abbrev cX2_text : ByteArray := prog_30_method_4_code
def yX2_text : MethodName := ⟨RX2, "text", "(II)Ljava/lang/String;"⟩
def dkwX2_text_1 : List UInt8 := [146, 182, 0, 26, 87, 132, 4, 1, 167, 255, 235, 45, 182, 0, 30, 176]
abbrev dktX2_text_1 : List UInt8 := dkwX2_text_1 ++ []
def dkwX2_text_0 : List UInt8 := [187, 0, 19, 89, 183, 0, 21, 78, 27, 54, 4, 21, 4, 28, 162, 0, 21, 45, 42, 21, 4, 182, 0, 22]
abbrev dktX2_text_0 : List UInt8 := dkwX2_text_0 ++ dktX2_text_1
theorem dksX2_text_0 : cX2_text.data.toList.drop 0 = dktX2_text_0 := by decide +kernel
theorem dksX2_text_1 : cX2_text.data.toList.drop 24 = dktX2_text_1 := dk_seg dksX2_text_0 24 rfl rfl
theorem dX2_text_0 : decode cX2_text 0 = .ok (.new 19, 3) := dk_187 0 19 (dk_at dksX2_text_0 0 rfl rfl)
theorem dX2_text_3 : decode cX2_text 3 = .ok (.dup, 1) := dk_89 (dk_at dksX2_text_0 3 rfl rfl)
theorem dX2_text_4 : decode cX2_text 4 = .ok (.invokespecial 21, 3) := dk_183 0 21 (dk_at dksX2_text_0 4 rfl rfl)
theorem dX2_text_7 : decode cX2_text 7 = .ok (.astore_n 3, 1) := dk_78 (dk_at dksX2_text_0 7 rfl rfl)
theorem dX2_text_8 : decode cX2_text 8 = .ok (.iload_n 1, 1) := dk_27 (dk_at dksX2_text_0 8 rfl rfl)
theorem dX2_text_9 : decode cX2_text 9 = .ok (.istore 4, 2) := dk_54 4 (dk_at dksX2_text_0 9 rfl rfl)
theorem dX2_text_11 : decode cX2_text 11 = .ok (.iload 4, 2) := dk_21 4 (dk_at dksX2_text_0 11 rfl rfl)
theorem dX2_text_13 : decode cX2_text 13 = .ok (.iload_n 2, 1) := dk_28 (dk_at dksX2_text_0 13 rfl rfl)
theorem dX2_text_14 : decode cX2_text 14 = .ok (.if_icmp .ge 21, 3) := dk_162 0 21 (dk_at dksX2_text_0 14 rfl rfl)
theorem dX2_text_17 : decode cX2_text 17 = .ok (.aload_n 3, 1) := dk_45 (dk_at dksX2_text_0 17 rfl rfl)
theorem dX2_text_18 : decode cX2_text 18 = .ok (.aload_n 0, 1) := dk_42 (dk_at dksX2_text_0 18 rfl rfl)
theorem dX2_text_19 : decode cX2_text 19 = .ok (.iload 4, 2) := dk_21 4 (dk_at dksX2_text_0 19 rfl rfl)
theorem dX2_text_21 : decode cX2_text 21 = .ok (.invokevirtual 22, 3) := dk_182 0 22 (dk_at dksX2_text_0 21 rfl rfl)
theorem dX2_text_24 : decode cX2_text 24 = .ok (.i2c, 1) := dk_146 (dk_at dksX2_text_1 0 rfl rfl)
theorem dX2_text_25 : decode cX2_text 25 = .ok (.invokevirtual 26, 3) := dk_182 0 26 (dk_at dksX2_text_1 1 rfl rfl)
theorem dX2_text_28 : decode cX2_text 28 = .ok (.pop, 1) := dk_87 (dk_at dksX2_text_1 4 rfl rfl)
theorem dX2_text_29 : decode cX2_text 29 = .ok (.iinc 4 1, 3) := dk_132 4 1 (dk_at dksX2_text_1 5 rfl rfl)
theorem dX2_text_32 : decode cX2_text 32 = .ok (.goto (-21), 3) := dk_167 255 235 (dk_at dksX2_text_1 8 rfl rfl)
theorem dX2_text_35 : decode cX2_text 35 = .ok (.aload_n 3, 1) := dk_45 (dk_at dksX2_text_1 11 rfl rfl)
theorem dX2_text_36 : decode cX2_text 36 = .ok (.invokevirtual 30, 3) := dk_182 0 30 (dk_at dksX2_text_1 12 rfl rfl)
theorem dX2_text_39 : decode cX2_text 39 = .ok (.areturn, 1) := dk_176 (dk_at dksX2_text_1 15 rfl rfl)
abbrev cX2_put : ByteArray := prog_30_method_2_code
def yX2_put : MethodName := ⟨RX2, "put", "(I)V"⟩
def dkwX2_put_1 : List UInt8 := [180, 0, 15, 4, 96, 181, 0, 15, 132, 2, 248, 167, 255, 226, 177]
abbrev dktX2_put_1 : List UInt8 := dkwX2_put_1 ++ []
def dkwX2_put_0 : List UInt8 := [16, 24, 61, 28, 155, 0, 32, 42, 180, 0, 9, 42, 180, 0, 15, 27, 28, 122, 145, 84, 42, 89]
abbrev dktX2_put_0 : List UInt8 := dkwX2_put_0 ++ dktX2_put_1
theorem dksX2_put_0 : cX2_put.data.toList.drop 0 = dktX2_put_0 := by decide +kernel
theorem dksX2_put_1 : cX2_put.data.toList.drop 22 = dktX2_put_1 := dk_seg dksX2_put_0 22 rfl rfl
theorem dX2_put_0 : decode cX2_put 0 = .ok (.bipush 24, 2) := dk_16 24 (dk_at dksX2_put_0 0 rfl rfl)
theorem dX2_put_2 : decode cX2_put 2 = .ok (.istore_n 2, 1) := dk_61 (dk_at dksX2_put_0 2 rfl rfl)
theorem dX2_put_3 : decode cX2_put 3 = .ok (.iload_n 2, 1) := dk_28 (dk_at dksX2_put_0 3 rfl rfl)
theorem dX2_put_4 : decode cX2_put 4 = .ok (.ifCond .lt 32, 3) := dk_155 0 32 (dk_at dksX2_put_0 4 rfl rfl)
theorem dX2_put_7 : decode cX2_put 7 = .ok (.aload_n 0, 1) := dk_42 (dk_at dksX2_put_0 7 rfl rfl)
theorem dX2_put_8 : decode cX2_put 8 = .ok (.getfield 9, 3) := dk_180 0 9 (dk_at dksX2_put_0 8 rfl rfl)
theorem dX2_put_11 : decode cX2_put 11 = .ok (.aload_n 0, 1) := dk_42 (dk_at dksX2_put_0 11 rfl rfl)
theorem dX2_put_12 : decode cX2_put 12 = .ok (.getfield 15, 3) := dk_180 0 15 (dk_at dksX2_put_0 12 rfl rfl)
theorem dX2_put_15 : decode cX2_put 15 = .ok (.iload_n 1, 1) := dk_27 (dk_at dksX2_put_0 15 rfl rfl)
theorem dX2_put_16 : decode cX2_put 16 = .ok (.iload_n 2, 1) := dk_28 (dk_at dksX2_put_0 16 rfl rfl)
theorem dX2_put_17 : decode cX2_put 17 = .ok (.ishr, 1) := dk_122 (dk_at dksX2_put_0 17 rfl rfl)
theorem dX2_put_18 : decode cX2_put 18 = .ok (.i2b, 1) := dk_145 (dk_at dksX2_put_0 18 rfl rfl)
theorem dX2_put_19 : decode cX2_put 19 = .ok (.bastore, 1) := dk_84 (dk_at dksX2_put_0 19 rfl rfl)
theorem dX2_put_20 : decode cX2_put 20 = .ok (.aload_n 0, 1) := dk_42 (dk_at dksX2_put_0 20 rfl rfl)
theorem dX2_put_21 : decode cX2_put 21 = .ok (.dup, 1) := dk_89 (dk_at dksX2_put_0 21 rfl rfl)
theorem dX2_put_22 : decode cX2_put 22 = .ok (.getfield 15, 3) := dk_180 0 15 (dk_at dksX2_put_1 0 rfl rfl)
theorem dX2_put_25 : decode cX2_put 25 = .ok (.iconst 1, 1) := dk_4 (dk_at dksX2_put_1 3 rfl rfl)
theorem dX2_put_26 : decode cX2_put 26 = .ok (.iadd, 1) := dk_96 (dk_at dksX2_put_1 4 rfl rfl)
theorem dX2_put_27 : decode cX2_put 27 = .ok (.putfield 15, 3) := dk_181 0 15 (dk_at dksX2_put_1 5 rfl rfl)
theorem dX2_put_30 : decode cX2_put 30 = .ok (.iinc 2 (-8), 3) := dk_132 2 248 (dk_at dksX2_put_1 8 rfl rfl)
theorem dX2_put_33 : decode cX2_put 33 = .ok (.goto (-30), 3) := dk_167 255 226 (dk_at dksX2_put_1 11 rfl rfl)
theorem dX2_put_36 : decode cX2_put 36 = .ok (.return_, 1) := dk_177 (dk_at dksX2_put_1 14 rfl rfl)
theorem q73 : (Jvm.Cond.initialized "ShadowSpell$Tape") ∈ lw_all := lw_g (lw_at lw_m1 2 rfl) rfl
theorem q145 : (Jvm.Cond.instantiable "ShadowSpell$Tape" (2 : Nat)) ∈ lw_all := lw_g (lw_at lw_m1 74 rfl) rfl
theorem q147 : (Jvm.Cond.instanceMethod ({ cls := "ShadowSpell$Tape", name := "<init>", desc := "()V" } : Jvm.MethodName)) ∈ lw_all := lw_g (lw_at lw_m1 76 rfl) rfl
theorem q148 : (Jvm.Cond.code ({ cls := "ShadowSpell$Tape", name := "<init>", desc := "()V" } : Jvm.MethodName) prog_30_method_1_code (1 : Nat) (Option.none : Option Jvm.ClassFile.FieldType)) ∈ lw_all := lw_g (lw_at lw_m1 77 rfl) rfl
theorem q149 : (Jvm.Cond.methodLink "ShadowSpell$Tape" (3 : Nat) ({ cls := "java/lang/Object", name := "<init>", desc := "()V" } : Jvm.MethodName)) ∈ lw_all := lw_g (lw_at lw_m1 78 rfl) rfl
theorem q150 : (Jvm.Cond.fieldLink "ShadowSpell$Tape" (9 : Nat) "ShadowSpell$Tape" "bytes" "[B") ∈ lw_all := lw_g (lw_at lw_m1 79 rfl) rfl
theorem q151 : (Jvm.Cond.fieldLink "ShadowSpell$Tape" (15 : Nat) "ShadowSpell$Tape" "size" "I") ∈ lw_all := lw_g (lw_at lw_m1 80 rfl) rfl
theorem q155 : (Jvm.Cond.laysFinal "ShadowSpell$Tape" "ShadowSpell$Tape" "bytes" "[B") ∈ lw_all := lw_g (lw_at lw_m1 84 rfl) rfl
theorem q156 : (Jvm.Cond.soleField "ShadowSpell$Tape" "bytes") ∈ lw_all := lw_g (lw_at lw_m1 85 rfl) rfl
theorem q157 : (Jvm.Cond.lays "ShadowSpell$Tape" "ShadowSpell$Tape" "size" "I") ∈ lw_all := lw_g (lw_at lw_m1 86 rfl) rfl
theorem q158 : (Jvm.Cond.soleField "ShadowSpell$Tape" "size") ∈ lw_all := lw_g (lw_at lw_m1 87 rfl) rfl
theorem q159 : (Jvm.Cond.superclass "ShadowSpell$Tape" "java/lang/Object") ∈ lw_all := lw_g (lw_at lw_m1 88 rfl) rfl
theorem q299 : (Jvm.Cond.instanceMethod ({ cls := "ShadowSpell$Tape", name := "at", desc := "(I)I" } : Jvm.MethodName)) ∈ lw_all := lw_g (lw_at lw_m1 228 rfl) rfl
theorem q300 : (Jvm.Cond.selects "ShadowSpell$Tape" ({ cls := "ShadowSpell$Tape", name := "at", desc := "(I)I" } : Jvm.MethodName) ({ cls := "ShadowSpell$Tape", name := "at", desc := "(I)I" } : Jvm.MethodName)) ∈ lw_all := lw_g (lw_at lw_m1 229 rfl) rfl
theorem q301 : (Jvm.Cond.code ({ cls := "ShadowSpell$Tape", name := "at", desc := "(I)I" } : Jvm.MethodName) prog_30_method_3_code (2 : Nat) (Option.some Jvm.ClassFile.FieldType.int)) ∈ lw_all := lw_g (lw_at lw_m1 230 rfl) rfl
theorem q344 : (Jvm.Cond.instanceMethod ({ cls := "ShadowSpell$Tape", name := "text", desc := "(II)Ljava/lang/String;" } : Jvm.MethodName)) ∈ lw_all := lw_g (lw_at lw_m2 33 rfl) rfl
theorem q345 : (Jvm.Cond.selects "ShadowSpell$Tape" ({ cls := "ShadowSpell$Tape", name := "text", desc := "(II)Ljava/lang/String;" } : Jvm.MethodName) ({ cls := "ShadowSpell$Tape", name := "text", desc := "(II)Ljava/lang/String;" } : Jvm.MethodName)) ∈ lw_all := lw_g (lw_at lw_m2 34 rfl) rfl
theorem q346 : (Jvm.Cond.code ({ cls := "ShadowSpell$Tape", name := "text", desc := "(II)Ljava/lang/String;" } : Jvm.MethodName) prog_30_method_4_code (5 : Nat) (Option.some (Jvm.ClassFile.FieldType.object "java/lang/String"))) ∈ lw_all := lw_g (lw_at lw_m2 35 rfl) rfl
theorem q347 : (Jvm.Cond.classLink "ShadowSpell$Tape" (19 : Nat) "java/lang/StringBuilder") ∈ lw_all := lw_g (lw_at lw_m2 36 rfl) rfl
theorem q348 : (Jvm.Cond.methodLink "ShadowSpell$Tape" (21 : Nat) ({ cls := "java/lang/StringBuilder", name := "<init>", desc := "()V" } : Jvm.MethodName)) ∈ lw_all := lw_g (lw_at lw_m2 37 rfl) rfl
theorem q349 : (Jvm.Cond.methodLink "ShadowSpell$Tape" (22 : Nat) ({ cls := "ShadowSpell$Tape", name := "at", desc := "(I)I" } : Jvm.MethodName)) ∈ lw_all := lw_g (lw_at lw_m2 38 rfl) rfl
theorem q350 : (Jvm.Cond.methodLink "ShadowSpell$Tape" (26 : Nat) ({ cls := "java/lang/StringBuilder", name := "append", desc := "(C)Ljava/lang/StringBuilder;" } : Jvm.MethodName)) ∈ lw_all := lw_g (lw_at lw_m2 39 rfl) rfl
theorem q445 : (Jvm.Cond.methodLink "ShadowSpell$Tape" (30 : Nat) ({ cls := "java/lang/StringBuilder", name := "toString", desc := "()Ljava/lang/String;" } : Jvm.MethodName)) ∈ lw_all := lw_g (lw_at lw_m2 134 rfl) rfl
theorem q774 : (Jvm.Cond.selects "ShadowSpell$Tape" ({ cls := "java/lang/Object", name := "getClass", desc := "()Ljava/lang/Class;" } : Jvm.MethodName) ({ cls := "java/lang/Object", name := "getClass", desc := "()Ljava/lang/Class;" } : Jvm.MethodName)) ∈ lw_all := lw_g (lw_at lw_m3 223 rfl) rfl
theorem q1005 : (Jvm.Cond.selects "ShadowSpell$Tape" ({ cls := "java/lang/Object", name := "hashCode", desc := "()I" } : Jvm.MethodName) ({ cls := "java/lang/Object", name := "hashCode", desc := "()I" } : Jvm.MethodName)) ∈ lw_all := lw_g (lw_at lw_m4 214 rfl) rfl
theorem q1119 : (Jvm.Cond.selects "ShadowSpell$Tape" ({ cls := "java/lang/Object", name := "equals", desc := "(Ljava/lang/Object;)Z" } : Jvm.MethodName) ({ cls := "java/lang/Object", name := "equals", desc := "(Ljava/lang/Object;)Z" } : Jvm.MethodName)) ∈ lw_all := lw_g (lw_at lw_m5 88 rfl) rfl
theorem q2522 : (Jvm.Cond.instanceMethod ({ cls := "ShadowSpell$Tape", name := "put", desc := "(I)V" } : Jvm.MethodName)) ∈ lw_all := lw_g (lw_at lw_m11 51 rfl) rfl
theorem q2523 : (Jvm.Cond.selects "ShadowSpell$Tape" ({ cls := "ShadowSpell$Tape", name := "put", desc := "(I)V" } : Jvm.MethodName) ({ cls := "ShadowSpell$Tape", name := "put", desc := "(I)V" } : Jvm.MethodName)) ∈ lw_all := lw_g (lw_at lw_m11 52 rfl) rfl
theorem q2524 : (Jvm.Cond.code ({ cls := "ShadowSpell$Tape", name := "put", desc := "(I)V" } : Jvm.MethodName) prog_30_method_2_code (3 : Nat) (Option.none : Option Jvm.ClassFile.FieldType)) ∈ lw_all := lw_g (lw_at lw_m11 53 rfl) rfl
theorem q3218 : (Jvm.Cond.castable "ShadowSpell$Tape" "java/lang/Object") ∈ lw_tbl := lw_at lw_m14 27 rfl
theorem in_X2 : ∀ w ∈ wsX20, w ∈ lw_all := lw_in wsX20 [155, 157] (by decide +kernel) (by decide +kernel)

/-! ShadowSpell$Token -/
set_option maxRecDepth 100000
def RX9 : String := "ShadowSpell$Token"
def TX9 : u_T := fun k => match k with
  | 0 => ("ShadowSpell$Token", "sort", "LShadowSpell$Sort;", true)
  | 1 => ("ShadowSpell$Token", "text", "Ljava/lang/String;", true)
  | _ => ("ShadowSpell$Token", "at", "I", true)
def tyX9 : Nat → FieldType := fun k => match k with
  | 0 => .object "ShadowSpell$Sort"
  | 1 => .object "java/lang/String"
  | _ => .int
abbrev wsX90 : List Cond := u_ws RX9 TX9 3
theorem nmX9 : ∀ a, a < 3 → ∀ b, b < 3 → a ≠ b → (TX9 a).2.1 ≠ (TX9 b).2.1 := by decide +kernel
theorem tyX9_ok : ∀ k, k < 3 → parseFieldDescriptor (TX9 k).2.2.1 = some (tyX9 k) := by decide +kernel
abbrev cX9_init : ByteArray := prog_32_method_1_code
def yX9_init : MethodName := ⟨RX9, "<init>", "(LShadowSpell$Sort;Ljava/lang/String;I)V"⟩
def dkwX9_init_0 : List UInt8 := [42, 183, 0, 1, 42, 43, 181, 0, 7, 42, 44, 181, 0, 13, 42, 29, 181, 0, 17, 177]
abbrev dktX9_init_0 : List UInt8 := dkwX9_init_0 ++ []
theorem dksX9_init_0 : cX9_init.data.toList.drop 0 = dktX9_init_0 := by decide +kernel
theorem dX9_init_0 : decode cX9_init 0 = .ok (.aload_n 0, 1) := dk_42 (dk_at dksX9_init_0 0 rfl rfl)
theorem dX9_init_1 : decode cX9_init 1 = .ok (.invokespecial 1, 3) := dk_183 0 1 (dk_at dksX9_init_0 1 rfl rfl)
theorem dX9_init_4 : decode cX9_init 4 = .ok (.aload_n 0, 1) := dk_42 (dk_at dksX9_init_0 4 rfl rfl)
theorem dX9_init_5 : decode cX9_init 5 = .ok (.aload_n 1, 1) := dk_43 (dk_at dksX9_init_0 5 rfl rfl)
theorem dX9_init_6 : decode cX9_init 6 = .ok (.putfield 7, 3) := dk_181 0 7 (dk_at dksX9_init_0 6 rfl rfl)
theorem dX9_init_9 : decode cX9_init 9 = .ok (.aload_n 0, 1) := dk_42 (dk_at dksX9_init_0 9 rfl rfl)
theorem dX9_init_10 : decode cX9_init 10 = .ok (.aload_n 2, 1) := dk_44 (dk_at dksX9_init_0 10 rfl rfl)
theorem dX9_init_11 : decode cX9_init 11 = .ok (.putfield 13, 3) := dk_181 0 13 (dk_at dksX9_init_0 11 rfl rfl)
theorem dX9_init_14 : decode cX9_init 14 = .ok (.aload_n 0, 1) := dk_42 (dk_at dksX9_init_0 14 rfl rfl)
theorem dX9_init_15 : decode cX9_init 15 = .ok (.iload_n 3, 1) := dk_29 (dk_at dksX9_init_0 15 rfl rfl)
theorem dX9_init_16 : decode cX9_init 16 = .ok (.putfield 17, 3) := dk_181 0 17 (dk_at dksX9_init_0 16 rfl rfl)
theorem dX9_init_19 : decode cX9_init 19 = .ok (.return_, 1) := dk_177 (dk_at dksX9_init_0 19 rfl rfl)
abbrev cX9_is : ByteArray := prog_32_method_2_code
def yX9_is : MethodName := ⟨RX9, "is", "(Ljava/lang/String;)Z"⟩
def dkwX9_is_1 : List UInt8 := [43, 182, 0, 29, 153, 0, 7, 4, 167, 0, 4, 3, 172]
abbrev dktX9_is_1 : List UInt8 := dkwX9_is_1 ++ []
def dkwX9_is_0 : List UInt8 := [42, 180, 0, 7, 178, 0, 21, 165, 0, 13, 42, 180, 0, 7, 178, 0, 26, 166, 0, 18, 42, 180, 0, 13]
abbrev dktX9_is_0 : List UInt8 := dkwX9_is_0 ++ dktX9_is_1
theorem dksX9_is_0 : cX9_is.data.toList.drop 0 = dktX9_is_0 := by decide +kernel
theorem dksX9_is_1 : cX9_is.data.toList.drop 24 = dktX9_is_1 := dk_seg dksX9_is_0 24 rfl rfl
theorem dX9_is_0 : decode cX9_is 0 = .ok (.aload_n 0, 1) := dk_42 (dk_at dksX9_is_0 0 rfl rfl)
theorem dX9_is_1 : decode cX9_is 1 = .ok (.getfield 7, 3) := dk_180 0 7 (dk_at dksX9_is_0 1 rfl rfl)
theorem dX9_is_4 : decode cX9_is 4 = .ok (.getstatic 21, 3) := dk_178 0 21 (dk_at dksX9_is_0 4 rfl rfl)
theorem dX9_is_7 : decode cX9_is 7 = .ok (.if_acmp .eq 13, 3) := dk_165 0 13 (dk_at dksX9_is_0 7 rfl rfl)
theorem dX9_is_10 : decode cX9_is 10 = .ok (.aload_n 0, 1) := dk_42 (dk_at dksX9_is_0 10 rfl rfl)
theorem dX9_is_11 : decode cX9_is 11 = .ok (.getfield 7, 3) := dk_180 0 7 (dk_at dksX9_is_0 11 rfl rfl)
theorem dX9_is_14 : decode cX9_is 14 = .ok (.getstatic 26, 3) := dk_178 0 26 (dk_at dksX9_is_0 14 rfl rfl)
theorem dX9_is_17 : decode cX9_is 17 = .ok (.if_acmp .ne 18, 3) := dk_166 0 18 (dk_at dksX9_is_0 17 rfl rfl)
theorem dX9_is_20 : decode cX9_is 20 = .ok (.aload_n 0, 1) := dk_42 (dk_at dksX9_is_0 20 rfl rfl)
theorem dX9_is_21 : decode cX9_is 21 = .ok (.getfield 13, 3) := dk_180 0 13 (dk_at dksX9_is_0 21 rfl rfl)
theorem dX9_is_24 : decode cX9_is 24 = .ok (.aload_n 1, 1) := dk_43 (dk_at dksX9_is_1 0 rfl rfl)
theorem dX9_is_25 : decode cX9_is 25 = .ok (.invokevirtual 29, 3) := dk_182 0 29 (dk_at dksX9_is_1 1 rfl rfl)
theorem dX9_is_28 : decode cX9_is 28 = .ok (.ifCond .eq 7, 3) := dk_153 0 7 (dk_at dksX9_is_1 4 rfl rfl)
theorem dX9_is_31 : decode cX9_is 31 = .ok (.iconst 1, 1) := dk_4 (dk_at dksX9_is_1 7 rfl rfl)
theorem dX9_is_32 : decode cX9_is 32 = .ok (.goto 4, 3) := dk_167 0 4 (dk_at dksX9_is_1 8 rfl rfl)
theorem dX9_is_35 : decode cX9_is 35 = .ok (.iconst 0, 1) := dk_3 (dk_at dksX9_is_1 11 rfl rfl)
theorem dX9_is_36 : decode cX9_is 36 = .ok (.ireturn, 1) := dk_172 (dk_at dksX9_is_1 12 rfl rfl)
abbrev cX9_number : ByteArray := prog_32_method_3_code
def yX9_number : MethodName := ⟨RX9, "number", "()I"⟩
def dkwX9_number_1 : List UInt8 := [182, 0, 39, 96, 16, 48, 100, 60, 132, 2, 1, 167, 255, 225, 27, 172]
abbrev dktX9_number_1 : List UInt8 := dkwX9_number_1 ++ []
def dkwX9_number_0 : List UInt8 := [3, 60, 3, 61, 28, 42, 180, 0, 13, 182, 0, 35, 162, 0, 26, 16, 10, 27, 104, 42, 180, 0, 13, 28]
abbrev dktX9_number_0 : List UInt8 := dkwX9_number_0 ++ dktX9_number_1
theorem dksX9_number_0 : cX9_number.data.toList.drop 0 = dktX9_number_0 := by decide +kernel
theorem dksX9_number_1 : cX9_number.data.toList.drop 24 = dktX9_number_1 := dk_seg dksX9_number_0 24 rfl rfl
theorem dX9_number_0 : decode cX9_number 0 = .ok (.iconst 0, 1) := dk_3 (dk_at dksX9_number_0 0 rfl rfl)
theorem dX9_number_1 : decode cX9_number 1 = .ok (.istore_n 1, 1) := dk_60 (dk_at dksX9_number_0 1 rfl rfl)
theorem dX9_number_2 : decode cX9_number 2 = .ok (.iconst 0, 1) := dk_3 (dk_at dksX9_number_0 2 rfl rfl)
theorem dX9_number_3 : decode cX9_number 3 = .ok (.istore_n 2, 1) := dk_61 (dk_at dksX9_number_0 3 rfl rfl)
theorem dX9_number_4 : decode cX9_number 4 = .ok (.iload_n 2, 1) := dk_28 (dk_at dksX9_number_0 4 rfl rfl)
theorem dX9_number_5 : decode cX9_number 5 = .ok (.aload_n 0, 1) := dk_42 (dk_at dksX9_number_0 5 rfl rfl)
theorem dX9_number_6 : decode cX9_number 6 = .ok (.getfield 13, 3) := dk_180 0 13 (dk_at dksX9_number_0 6 rfl rfl)
theorem dX9_number_9 : decode cX9_number 9 = .ok (.invokevirtual 35, 3) := dk_182 0 35 (dk_at dksX9_number_0 9 rfl rfl)
theorem dX9_number_12 : decode cX9_number 12 = .ok (.if_icmp .ge 26, 3) := dk_162 0 26 (dk_at dksX9_number_0 12 rfl rfl)
theorem dX9_number_15 : decode cX9_number 15 = .ok (.bipush 10, 2) := dk_16 10 (dk_at dksX9_number_0 15 rfl rfl)
theorem dX9_number_17 : decode cX9_number 17 = .ok (.iload_n 1, 1) := dk_27 (dk_at dksX9_number_0 17 rfl rfl)
theorem dX9_number_18 : decode cX9_number 18 = .ok (.imul, 1) := dk_104 (dk_at dksX9_number_0 18 rfl rfl)
theorem dX9_number_19 : decode cX9_number 19 = .ok (.aload_n 0, 1) := dk_42 (dk_at dksX9_number_0 19 rfl rfl)
theorem dX9_number_20 : decode cX9_number 20 = .ok (.getfield 13, 3) := dk_180 0 13 (dk_at dksX9_number_0 20 rfl rfl)
theorem dX9_number_23 : decode cX9_number 23 = .ok (.iload_n 2, 1) := dk_28 (dk_at dksX9_number_0 23 rfl rfl)
theorem dX9_number_24 : decode cX9_number 24 = .ok (.invokevirtual 39, 3) := dk_182 0 39 (dk_at dksX9_number_1 0 rfl rfl)
theorem dX9_number_27 : decode cX9_number 27 = .ok (.iadd, 1) := dk_96 (dk_at dksX9_number_1 3 rfl rfl)
theorem dX9_number_28 : decode cX9_number 28 = .ok (.bipush 48, 2) := dk_16 48 (dk_at dksX9_number_1 4 rfl rfl)
theorem dX9_number_30 : decode cX9_number 30 = .ok (.isub, 1) := dk_100 (dk_at dksX9_number_1 6 rfl rfl)
theorem dX9_number_31 : decode cX9_number 31 = .ok (.istore_n 1, 1) := dk_60 (dk_at dksX9_number_1 7 rfl rfl)
theorem dX9_number_32 : decode cX9_number 32 = .ok (.iinc 2 1, 3) := dk_132 2 1 (dk_at dksX9_number_1 8 rfl rfl)
theorem dX9_number_35 : decode cX9_number 35 = .ok (.goto (-31), 3) := dk_167 255 225 (dk_at dksX9_number_1 11 rfl rfl)
theorem dX9_number_38 : decode cX9_number 38 = .ok (.iload_n 1, 1) := dk_27 (dk_at dksX9_number_1 14 rfl rfl)
theorem dX9_number_39 : decode cX9_number 39 = .ok (.ireturn, 1) := dk_172 (dk_at dksX9_number_1 15 rfl rfl)
theorem q92 : (Jvm.Cond.initialized "ShadowSpell$Token") ∈ lw_all := lw_g (lw_at lw_m1 21 rfl) rfl
theorem q314 : (Jvm.Cond.instantiable "ShadowSpell$Token" (3 : Nat)) ∈ lw_all := lw_g (lw_at lw_m2 3 rfl) rfl
theorem q319 : (Jvm.Cond.instanceMethod ({ cls := "ShadowSpell$Token", name := "<init>", desc := "(LShadowSpell$Sort;Ljava/lang/String;I)V" } : Jvm.MethodName)) ∈ lw_all := lw_g (lw_at lw_m2 8 rfl) rfl
theorem q320 : (Jvm.Cond.code ({ cls := "ShadowSpell$Token", name := "<init>", desc := "(LShadowSpell$Sort;Ljava/lang/String;I)V" } : Jvm.MethodName) prog_32_method_1_code (4 : Nat) (Option.none : Option Jvm.ClassFile.FieldType)) ∈ lw_all := lw_g (lw_at lw_m2 9 rfl) rfl
theorem q321 : (Jvm.Cond.methodLink "ShadowSpell$Token" (1 : Nat) ({ cls := "java/lang/Object", name := "<init>", desc := "()V" } : Jvm.MethodName)) ∈ lw_all := lw_g (lw_at lw_m2 10 rfl) rfl
theorem q322 : (Jvm.Cond.fieldLink "ShadowSpell$Token" (7 : Nat) "ShadowSpell$Token" "sort" "LShadowSpell$Sort;") ∈ lw_all := lw_g (lw_at lw_m2 11 rfl) rfl
theorem q325 : (Jvm.Cond.fieldLink "ShadowSpell$Token" (13 : Nat) "ShadowSpell$Token" "text" "Ljava/lang/String;") ∈ lw_all := lw_g (lw_at lw_m2 14 rfl) rfl
theorem q328 : (Jvm.Cond.fieldLink "ShadowSpell$Token" (17 : Nat) "ShadowSpell$Token" "at" "I") ∈ lw_all := lw_g (lw_at lw_m2 17 rfl) rfl
theorem q330 : (Jvm.Cond.laysFinal "ShadowSpell$Token" "ShadowSpell$Token" "sort" "LShadowSpell$Sort;") ∈ lw_all := lw_g (lw_at lw_m2 19 rfl) rfl
theorem q331 : (Jvm.Cond.soleField "ShadowSpell$Token" "sort") ∈ lw_all := lw_g (lw_at lw_m2 20 rfl) rfl
theorem q332 : (Jvm.Cond.laysFinal "ShadowSpell$Token" "ShadowSpell$Token" "text" "Ljava/lang/String;") ∈ lw_all := lw_g (lw_at lw_m2 21 rfl) rfl
theorem q333 : (Jvm.Cond.soleField "ShadowSpell$Token" "text") ∈ lw_all := lw_g (lw_at lw_m2 22 rfl) rfl
theorem q334 : (Jvm.Cond.laysFinal "ShadowSpell$Token" "ShadowSpell$Token" "at" "I") ∈ lw_all := lw_g (lw_at lw_m2 23 rfl) rfl
theorem q335 : (Jvm.Cond.soleField "ShadowSpell$Token" "at") ∈ lw_all := lw_g (lw_at lw_m2 24 rfl) rfl
theorem q336 : (Jvm.Cond.superclass "ShadowSpell$Token" "java/lang/Object") ∈ lw_all := lw_g (lw_at lw_m2 25 rfl) rfl
theorem q775 : (Jvm.Cond.selects "ShadowSpell$Token" ({ cls := "java/lang/Object", name := "getClass", desc := "()Ljava/lang/Class;" } : Jvm.MethodName) ({ cls := "java/lang/Object", name := "getClass", desc := "()Ljava/lang/Class;" } : Jvm.MethodName)) ∈ lw_all := lw_g (lw_at lw_m3 224 rfl) rfl
theorem q910 : (Jvm.Cond.instanceMethod ({ cls := "ShadowSpell$Token", name := "is", desc := "(Ljava/lang/String;)Z" } : Jvm.MethodName)) ∈ lw_all := lw_g (lw_at lw_m4 119 rfl) rfl
theorem q911 : (Jvm.Cond.selects "ShadowSpell$Token" ({ cls := "ShadowSpell$Token", name := "is", desc := "(Ljava/lang/String;)Z" } : Jvm.MethodName) ({ cls := "ShadowSpell$Token", name := "is", desc := "(Ljava/lang/String;)Z" } : Jvm.MethodName)) ∈ lw_all := lw_g (lw_at lw_m4 120 rfl) rfl
theorem q912 : (Jvm.Cond.code ({ cls := "ShadowSpell$Token", name := "is", desc := "(Ljava/lang/String;)Z" } : Jvm.MethodName) prog_32_method_2_code (2 : Nat) (Option.some Jvm.ClassFile.FieldType.boolean)) ∈ lw_all := lw_g (lw_at lw_m4 121 rfl) rfl
theorem q913 : (Jvm.Cond.fieldLink "ShadowSpell$Token" (21 : Nat) "ShadowSpell$Sort" "KEY" "LShadowSpell$Sort;") ∈ lw_all := lw_g (lw_at lw_m4 122 rfl) rfl
theorem q914 : (Jvm.Cond.fieldLink "ShadowSpell$Token" (26 : Nat) "ShadowSpell$Sort" "SYMBOL" "LShadowSpell$Sort;") ∈ lw_all := lw_g (lw_at lw_m4 123 rfl) rfl
theorem q915 : (Jvm.Cond.methodLink "ShadowSpell$Token" (29 : Nat) ({ cls := "java/lang/String", name := "equals", desc := "(Ljava/lang/Object;)Z" } : Jvm.MethodName)) ∈ lw_all := lw_g (lw_at lw_m4 124 rfl) rfl
theorem q1006 : (Jvm.Cond.selects "ShadowSpell$Token" ({ cls := "java/lang/Object", name := "hashCode", desc := "()I" } : Jvm.MethodName) ({ cls := "java/lang/Object", name := "hashCode", desc := "()I" } : Jvm.MethodName)) ∈ lw_all := lw_g (lw_at lw_m4 215 rfl) rfl
theorem q1120 : (Jvm.Cond.selects "ShadowSpell$Token" ({ cls := "java/lang/Object", name := "equals", desc := "(Ljava/lang/Object;)Z" } : Jvm.MethodName) ({ cls := "java/lang/Object", name := "equals", desc := "(Ljava/lang/Object;)Z" } : Jvm.MethodName)) ∈ lw_all := lw_g (lw_at lw_m5 89 rfl) rfl
theorem q1471 : (Jvm.Cond.instanceMethod ({ cls := "ShadowSpell$Token", name := "number", desc := "()I" } : Jvm.MethodName)) ∈ lw_all := lw_g (lw_at lw_m6 200 rfl) rfl
theorem q1472 : (Jvm.Cond.selects "ShadowSpell$Token" ({ cls := "ShadowSpell$Token", name := "number", desc := "()I" } : Jvm.MethodName) ({ cls := "ShadowSpell$Token", name := "number", desc := "()I" } : Jvm.MethodName)) ∈ lw_all := lw_g (lw_at lw_m6 201 rfl) rfl
theorem q1473 : (Jvm.Cond.code ({ cls := "ShadowSpell$Token", name := "number", desc := "()I" } : Jvm.MethodName) prog_32_method_3_code (3 : Nat) (Option.some Jvm.ClassFile.FieldType.int)) ∈ lw_all := lw_g (lw_at lw_m6 202 rfl) rfl
theorem q1474 : (Jvm.Cond.methodLink "ShadowSpell$Token" (35 : Nat) ({ cls := "java/lang/String", name := "length", desc := "()I" } : Jvm.MethodName)) ∈ lw_all := lw_g (lw_at lw_m6 203 rfl) rfl
theorem q1475 : (Jvm.Cond.methodLink "ShadowSpell$Token" (39 : Nat) ({ cls := "java/lang/String", name := "charAt", desc := "(I)C" } : Jvm.MethodName)) ∈ lw_all := lw_g (lw_at lw_m6 204 rfl) rfl
theorem q3229 : (Jvm.Cond.castable "ShadowSpell$Token" "java/lang/Object") ∈ lw_tbl := lw_at lw_m14 38 rfl
theorem in_X9 : ∀ w ∈ wsX90, w ∈ lw_all := lw_in wsX90 [330, 332, 334] (by decide +kernel) (by decide +kernel)

/-! ShadowSpell$Fault -/
set_option maxRecDepth 100000
def RX10 : String := "ShadowSpell$Fault"
def TX10 : u_T := fun k => match k with
  | 0 => ("java/lang/Throwable", "cause", "Ljava/lang/Throwable;", false)
  | 1 => ("java/lang/Throwable", "stackTrace", "[Ljava/lang/StackTraceElement;", false)
  | 2 => ("java/lang/Throwable", "suppressedExceptions", "Ljava/util/List;", false)
  | 3 => ("java/lang/Throwable", "detailMessage", "Ljava/lang/String;", false)
  | 4 => ("java/lang/Throwable", "backtrace", "Ljava/lang/Object;", false)
  | 5 => ("java/lang/Throwable", "depth", "I", false)
  | 6 => ("ShadowSpell$Fault", "error", "I", true)
  | _ => ("ShadowSpell$Fault", "at", "I", true)
def tyX10 : Nat → FieldType := fun k => match k with
  | 0 => .object "java/lang/Throwable"
  | 1 => .array (.object "java/lang/StackTraceElement")
  | 2 => .object "java/util/List"
  | 3 => .object "java/lang/String"
  | 4 => .object "java/lang/Object"
  | 5 => .int
  | 6 => .int
  | _ => .int
abbrev wsX100 : List Cond := u_ws RX10 TX10 8
theorem nmX10 : ∀ a, a < 8 → ∀ b, b < 8 → a ≠ b → (TX10 a).2.1 ≠ (TX10 b).2.1 := by decide +kernel
theorem tyX10_ok : ∀ k, k < 8 → parseFieldDescriptor (TX10 k).2.2.1 = some (tyX10 k) := by decide +kernel
abbrev cX10_init : ByteArray := prog_10_method_1_code
def yX10_init : MethodName := ⟨RX10, "<init>", "(II)V"⟩
def dkwX10_init_0 : List UInt8 := [42, 183, 0, 1, 42, 27, 181, 0, 7, 42, 28, 181, 0, 13, 177]
abbrev dktX10_init_0 : List UInt8 := dkwX10_init_0 ++ []
theorem dksX10_init_0 : cX10_init.data.toList.drop 0 = dktX10_init_0 := by decide +kernel
theorem dX10_init_0 : decode cX10_init 0 = .ok (.aload_n 0, 1) := dk_42 (dk_at dksX10_init_0 0 rfl rfl)
theorem dX10_init_1 : decode cX10_init 1 = .ok (.invokespecial 1, 3) := dk_183 0 1 (dk_at dksX10_init_0 1 rfl rfl)
theorem dX10_init_4 : decode cX10_init 4 = .ok (.aload_n 0, 1) := dk_42 (dk_at dksX10_init_0 4 rfl rfl)
theorem dX10_init_5 : decode cX10_init 5 = .ok (.iload_n 1, 1) := dk_27 (dk_at dksX10_init_0 5 rfl rfl)
theorem dX10_init_6 : decode cX10_init 6 = .ok (.putfield 7, 3) := dk_181 0 7 (dk_at dksX10_init_0 6 rfl rfl)
theorem dX10_init_9 : decode cX10_init 9 = .ok (.aload_n 0, 1) := dk_42 (dk_at dksX10_init_0 9 rfl rfl)
theorem dX10_init_10 : decode cX10_init 10 = .ok (.iload_n 2, 1) := dk_28 (dk_at dksX10_init_0 10 rfl rfl)
theorem dX10_init_11 : decode cX10_init 11 = .ok (.putfield 13, 3) := dk_181 0 13 (dk_at dksX10_init_0 11 rfl rfl)
theorem dX10_init_14 : decode cX10_init 14 = .ok (.return_, 1) := dk_177 (dk_at dksX10_init_0 14 rfl rfl)
theorem q107 : (Jvm.Cond.initialized "ShadowSpell$Fault") ∈ lw_all := lw_g (lw_at lw_m1 36 rfl) rfl
theorem q514 : (Jvm.Cond.selects "ShadowSpell$Fault" ({ cls := "java/lang/Throwable", name := "fillInStackTrace", desc := "()Ljava/lang/Throwable;" } : Jvm.MethodName) ({ cls := "java/lang/Throwable", name := "fillInStackTrace", desc := "()Ljava/lang/Throwable;" } : Jvm.MethodName)) ∈ lw_all := lw_g (lw_at lw_m2 203 rfl) rfl
theorem q756 : (Jvm.Cond.selects "ShadowSpell$Fault" ({ cls := "java/lang/Object", name := "getClass", desc := "()Ljava/lang/Class;" } : Jvm.MethodName) ({ cls := "java/lang/Object", name := "getClass", desc := "()Ljava/lang/Class;" } : Jvm.MethodName)) ∈ lw_all := lw_g (lw_at lw_m3 205 rfl) rfl
theorem q934 : (Jvm.Cond.instantiable "ShadowSpell$Fault" (8 : Nat)) ∈ lw_all := lw_g (lw_at lw_m4 143 rfl) rfl
theorem q935 : (Jvm.Cond.castable "ShadowSpell$Fault" "ShadowSpell$Fault") ∈ lw_tbl := lw_at lw_m4 144 rfl
theorem q936 : (Jvm.Cond.selects "ShadowSpell$Fault" ({ cls := "java/lang/Throwable", name := "fillInStackTrace", desc := "(I)Ljava/lang/Throwable;" } : Jvm.MethodName) ({ cls := "java/lang/Throwable", name := "fillInStackTrace", desc := "(I)Ljava/lang/Throwable;" } : Jvm.MethodName)) ∈ lw_all := lw_g (lw_at lw_m4 145 rfl) rfl
theorem q937 : (Jvm.Cond.lays "ShadowSpell$Fault" "java/lang/Throwable" "cause" "Ljava/lang/Throwable;") ∈ lw_all := lw_g (lw_at lw_m4 146 rfl) rfl
theorem q938 : (Jvm.Cond.lays "ShadowSpell$Fault" "java/lang/Throwable" "stackTrace" "[Ljava/lang/StackTraceElement;") ∈ lw_all := lw_g (lw_at lw_m4 147 rfl) rfl
theorem q939 : (Jvm.Cond.lays "ShadowSpell$Fault" "java/lang/Throwable" "suppressedExceptions" "Ljava/util/List;") ∈ lw_all := lw_g (lw_at lw_m4 148 rfl) rfl
theorem q940 : (Jvm.Cond.lays "ShadowSpell$Fault" "java/lang/Throwable" "detailMessage" "Ljava/lang/String;") ∈ lw_all := lw_g (lw_at lw_m4 149 rfl) rfl
theorem q941 : (Jvm.Cond.lays "ShadowSpell$Fault" "java/lang/Throwable" "backtrace" "Ljava/lang/Object;") ∈ lw_all := lw_g (lw_at lw_m4 150 rfl) rfl
theorem q943 : (Jvm.Cond.instanceMethod ({ cls := "ShadowSpell$Fault", name := "<init>", desc := "(II)V" } : Jvm.MethodName)) ∈ lw_all := lw_g (lw_at lw_m4 152 rfl) rfl
theorem q944 : (Jvm.Cond.code ({ cls := "ShadowSpell$Fault", name := "<init>", desc := "(II)V" } : Jvm.MethodName) prog_10_method_1_code (3 : Nat) (Option.none : Option Jvm.ClassFile.FieldType)) ∈ lw_all := lw_g (lw_at lw_m4 153 rfl) rfl
theorem q945 : (Jvm.Cond.methodLink "ShadowSpell$Fault" (1 : Nat) ({ cls := "java/lang/Exception", name := "<init>", desc := "()V" } : Jvm.MethodName)) ∈ lw_all := lw_g (lw_at lw_m4 154 rfl) rfl
theorem q949 : (Jvm.Cond.fieldLink "ShadowSpell$Fault" (7 : Nat) "ShadowSpell$Fault" "error" "I") ∈ lw_all := lw_g (lw_at lw_m4 158 rfl) rfl
theorem q951 : (Jvm.Cond.fieldLink "ShadowSpell$Fault" (13 : Nat) "ShadowSpell$Fault" "at" "I") ∈ lw_all := lw_g (lw_at lw_m4 160 rfl) rfl
theorem q953 : (Jvm.Cond.laysFinal "ShadowSpell$Fault" "ShadowSpell$Fault" "error" "I") ∈ lw_all := lw_g (lw_at lw_m4 162 rfl) rfl
theorem q954 : (Jvm.Cond.soleField "ShadowSpell$Fault" "error") ∈ lw_all := lw_g (lw_at lw_m4 163 rfl) rfl
theorem q955 : (Jvm.Cond.laysFinal "ShadowSpell$Fault" "ShadowSpell$Fault" "at" "I") ∈ lw_all := lw_g (lw_at lw_m4 164 rfl) rfl
theorem q956 : (Jvm.Cond.soleField "ShadowSpell$Fault" "at") ∈ lw_all := lw_g (lw_at lw_m4 165 rfl) rfl
theorem q957 : (Jvm.Cond.lays "ShadowSpell$Fault" "java/lang/Throwable" "depth" "I") ∈ lw_all := lw_g (lw_at lw_m4 166 rfl) rfl
theorem q958 : (Jvm.Cond.superclass "ShadowSpell$Fault" "java/lang/Exception") ∈ lw_all := lw_g (lw_at lw_m4 167 rfl) rfl
theorem q987 : (Jvm.Cond.selects "ShadowSpell$Fault" ({ cls := "java/lang/Object", name := "hashCode", desc := "()I" } : Jvm.MethodName) ({ cls := "java/lang/Object", name := "hashCode", desc := "()I" } : Jvm.MethodName)) ∈ lw_all := lw_g (lw_at lw_m4 196 rfl) rfl
theorem q1101 : (Jvm.Cond.selects "ShadowSpell$Fault" ({ cls := "java/lang/Object", name := "equals", desc := "(Ljava/lang/Object;)Z" } : Jvm.MethodName) ({ cls := "java/lang/Object", name := "equals", desc := "(Ljava/lang/Object;)Z" } : Jvm.MethodName)) ∈ lw_all := lw_g (lw_at lw_m5 70 rfl) rfl
theorem q3232 : (Jvm.Cond.castable "ShadowSpell$Fault" "java/lang/Object") ∈ lw_tbl := lw_at lw_m14 41 rfl
theorem in_X10 : ∀ w ∈ wsX100, w ∈ lw_all := lw_in wsX100 [937, 938, 939, 940, 941, 957, 953, 955] (by decide +kernel) (by decide +kernel)

/-! ShadowSpell$Planet -/
set_option maxRecDepth 100000
def RX11 : String := "ShadowSpell$Planet"
def TX11 : u_T := fun k => match k with
  | 0 => ("ShadowSpell$Planet", "number", "I", true)
  | 1 => ("ShadowSpell$Planet", "rail", "I", true)
  | 2 => ("ShadowSpell$Planet", "speed", "I", true)
  | 3 => ("ShadowSpell$Planet", "retro", "I", true)
  | 4 => ("ShadowSpell$Planet", "every", "I", true)
  | 5 => ("ShadowSpell$Planet", "angle", "I", false)
  | 6 => ("ShadowSpell$Planet", "before", "I", false)
  | _ => ("ShadowSpell$Planet", "lap", "I", false)
def tyX11 : Nat → FieldType := fun k => match k with
  | 0 => .int
  | 1 => .int
  | 2 => .int
  | 3 => .int
  | 4 => .int
  | 5 => .int
  | 6 => .int
  | _ => .int
abbrev wsX110 : List Cond := u_ws RX11 TX11 8
theorem nmX11 : ∀ a, a < 8 → ∀ b, b < 8 → a ≠ b → (TX11 a).2.1 ≠ (TX11 b).2.1 := by decide +kernel
theorem tyX11_ok : ∀ k, k < 8 → parseFieldDescriptor (TX11 k).2.2.1 = some (tyX11 k) := by decide +kernel
abbrev cX11_init : ByteArray := prog_13_method_1_code
def yX11_init : MethodName := ⟨RX11, "<init>", "(IIIIII)V"⟩
def dkwX11_init_1 : List UInt8 := [181, 0, 21, 42, 21, 5, 181, 0, 24, 42, 21, 6, 182, 0, 27, 177]
abbrev dktX11_init_1 : List UInt8 := dkwX11_init_1 ++ []
def dkwX11_init_0 : List UInt8 := [42, 183, 0, 3, 42, 27, 181, 0, 9, 42, 28, 181, 0, 15, 42, 29, 181, 0, 18, 42, 21, 4]
abbrev dktX11_init_0 : List UInt8 := dkwX11_init_0 ++ dktX11_init_1
theorem dksX11_init_0 : cX11_init.data.toList.drop 0 = dktX11_init_0 := by decide +kernel
theorem dksX11_init_1 : cX11_init.data.toList.drop 22 = dktX11_init_1 := dk_seg dksX11_init_0 22 rfl rfl
theorem dX11_init_0 : decode cX11_init 0 = .ok (.aload_n 0, 1) := dk_42 (dk_at dksX11_init_0 0 rfl rfl)
theorem dX11_init_1 : decode cX11_init 1 = .ok (.invokespecial 3, 3) := dk_183 0 3 (dk_at dksX11_init_0 1 rfl rfl)
theorem dX11_init_4 : decode cX11_init 4 = .ok (.aload_n 0, 1) := dk_42 (dk_at dksX11_init_0 4 rfl rfl)
theorem dX11_init_5 : decode cX11_init 5 = .ok (.iload_n 1, 1) := dk_27 (dk_at dksX11_init_0 5 rfl rfl)
theorem dX11_init_6 : decode cX11_init 6 = .ok (.putfield 9, 3) := dk_181 0 9 (dk_at dksX11_init_0 6 rfl rfl)
theorem dX11_init_9 : decode cX11_init 9 = .ok (.aload_n 0, 1) := dk_42 (dk_at dksX11_init_0 9 rfl rfl)
theorem dX11_init_10 : decode cX11_init 10 = .ok (.iload_n 2, 1) := dk_28 (dk_at dksX11_init_0 10 rfl rfl)
theorem dX11_init_11 : decode cX11_init 11 = .ok (.putfield 15, 3) := dk_181 0 15 (dk_at dksX11_init_0 11 rfl rfl)
theorem dX11_init_14 : decode cX11_init 14 = .ok (.aload_n 0, 1) := dk_42 (dk_at dksX11_init_0 14 rfl rfl)
theorem dX11_init_15 : decode cX11_init 15 = .ok (.iload_n 3, 1) := dk_29 (dk_at dksX11_init_0 15 rfl rfl)
theorem dX11_init_16 : decode cX11_init 16 = .ok (.putfield 18, 3) := dk_181 0 18 (dk_at dksX11_init_0 16 rfl rfl)
theorem dX11_init_19 : decode cX11_init 19 = .ok (.aload_n 0, 1) := dk_42 (dk_at dksX11_init_0 19 rfl rfl)
theorem dX11_init_20 : decode cX11_init 20 = .ok (.iload 4, 2) := dk_21 4 (dk_at dksX11_init_0 20 rfl rfl)
theorem dX11_init_22 : decode cX11_init 22 = .ok (.putfield 21, 3) := dk_181 0 21 (dk_at dksX11_init_1 0 rfl rfl)
theorem dX11_init_25 : decode cX11_init 25 = .ok (.aload_n 0, 1) := dk_42 (dk_at dksX11_init_1 3 rfl rfl)
theorem dX11_init_26 : decode cX11_init 26 = .ok (.iload 5, 2) := dk_21 5 (dk_at dksX11_init_1 4 rfl rfl)
theorem dX11_init_28 : decode cX11_init 28 = .ok (.putfield 24, 3) := dk_181 0 24 (dk_at dksX11_init_1 6 rfl rfl)
theorem dX11_init_31 : decode cX11_init 31 = .ok (.aload_n 0, 1) := dk_42 (dk_at dksX11_init_1 9 rfl rfl)
theorem dX11_init_32 : decode cX11_init 32 = .ok (.iload 6, 2) := dk_21 6 (dk_at dksX11_init_1 10 rfl rfl)
theorem dX11_init_34 : decode cX11_init 34 = .ok (.invokevirtual 27, 3) := dk_182 0 27 (dk_at dksX11_init_1 12 rfl rfl)
theorem dX11_init_37 : decode cX11_init 37 = .ok (.return_, 1) := dk_177 (dk_at dksX11_init_1 15 rfl rfl)
abbrev cX11_set : ByteArray := prog_13_method_3_code
def yX11_set : MethodName := ⟨RX11, "set", "(I)V"⟩
def dkwX11_set_0 : List UInt8 := [42, 27, 181, 0, 31, 42, 27, 181, 0, 37, 177]
abbrev dktX11_set_0 : List UInt8 := dkwX11_set_0 ++ []
theorem dksX11_set_0 : cX11_set.data.toList.drop 0 = dktX11_set_0 := by decide +kernel
theorem dX11_set_0 : decode cX11_set 0 = .ok (.aload_n 0, 1) := dk_42 (dk_at dksX11_set_0 0 rfl rfl)
theorem dX11_set_1 : decode cX11_set 1 = .ok (.iload_n 1, 1) := dk_27 (dk_at dksX11_set_0 1 rfl rfl)
theorem dX11_set_2 : decode cX11_set 2 = .ok (.putfield 31, 3) := dk_181 0 31 (dk_at dksX11_set_0 2 rfl rfl)
theorem dX11_set_5 : decode cX11_set 5 = .ok (.aload_n 0, 1) := dk_42 (dk_at dksX11_set_0 5 rfl rfl)
theorem dX11_set_6 : decode cX11_set 6 = .ok (.iload_n 1, 1) := dk_27 (dk_at dksX11_set_0 6 rfl rfl)
theorem dX11_set_7 : decode cX11_set 7 = .ok (.putfield 37, 3) := dk_181 0 37 (dk_at dksX11_set_0 7 rfl rfl)
theorem dX11_set_10 : decode cX11_set 10 = .ok (.return_, 1) := dk_177 (dk_at dksX11_set_0 10 rfl rfl)
abbrev cX11_copy : ByteArray := prog_13_method_2_code
def yX11_copy : MethodName := ⟨RX11, "copy", "()LShadowSpell$Planet;"⟩
def dkwX11_copy_2 : List UInt8 := [43, 176]
abbrev dktX11_copy_2 : List UInt8 := dkwX11_copy_2 ++ []
def dkwX11_copy_1 : List UInt8 := [42, 180, 0, 31, 183, 0, 34, 76, 43, 42, 180, 0, 37, 181, 0, 37, 43, 42, 180, 0, 40, 181, 0, 40]
abbrev dktX11_copy_1 : List UInt8 := dkwX11_copy_1 ++ dktX11_copy_2
def dkwX11_copy_0 : List UInt8 := [187, 0, 10, 89, 42, 180, 0, 9, 42, 180, 0, 15, 42, 180, 0, 18, 42, 180, 0, 21, 42, 180, 0, 24]
abbrev dktX11_copy_0 : List UInt8 := dkwX11_copy_0 ++ dktX11_copy_1
theorem dksX11_copy_0 : cX11_copy.data.toList.drop 0 = dktX11_copy_0 := by decide +kernel
theorem dksX11_copy_1 : cX11_copy.data.toList.drop 24 = dktX11_copy_1 := dk_seg dksX11_copy_0 24 rfl rfl
theorem dksX11_copy_2 : cX11_copy.data.toList.drop 48 = dktX11_copy_2 := dk_seg dksX11_copy_1 24 rfl rfl
theorem dX11_copy_0 : decode cX11_copy 0 = .ok (.new 10, 3) := dk_187 0 10 (dk_at dksX11_copy_0 0 rfl rfl)
theorem dX11_copy_3 : decode cX11_copy 3 = .ok (.dup, 1) := dk_89 (dk_at dksX11_copy_0 3 rfl rfl)
theorem dX11_copy_4 : decode cX11_copy 4 = .ok (.aload_n 0, 1) := dk_42 (dk_at dksX11_copy_0 4 rfl rfl)
theorem dX11_copy_5 : decode cX11_copy 5 = .ok (.getfield 9, 3) := dk_180 0 9 (dk_at dksX11_copy_0 5 rfl rfl)
theorem dX11_copy_8 : decode cX11_copy 8 = .ok (.aload_n 0, 1) := dk_42 (dk_at dksX11_copy_0 8 rfl rfl)
theorem dX11_copy_9 : decode cX11_copy 9 = .ok (.getfield 15, 3) := dk_180 0 15 (dk_at dksX11_copy_0 9 rfl rfl)
theorem dX11_copy_12 : decode cX11_copy 12 = .ok (.aload_n 0, 1) := dk_42 (dk_at dksX11_copy_0 12 rfl rfl)
theorem dX11_copy_13 : decode cX11_copy 13 = .ok (.getfield 18, 3) := dk_180 0 18 (dk_at dksX11_copy_0 13 rfl rfl)
theorem dX11_copy_16 : decode cX11_copy 16 = .ok (.aload_n 0, 1) := dk_42 (dk_at dksX11_copy_0 16 rfl rfl)
theorem dX11_copy_17 : decode cX11_copy 17 = .ok (.getfield 21, 3) := dk_180 0 21 (dk_at dksX11_copy_0 17 rfl rfl)
theorem dX11_copy_20 : decode cX11_copy 20 = .ok (.aload_n 0, 1) := dk_42 (dk_at dksX11_copy_0 20 rfl rfl)
theorem dX11_copy_21 : decode cX11_copy 21 = .ok (.getfield 24, 3) := dk_180 0 24 (dk_at dksX11_copy_0 21 rfl rfl)
theorem dX11_copy_24 : decode cX11_copy 24 = .ok (.aload_n 0, 1) := dk_42 (dk_at dksX11_copy_1 0 rfl rfl)
theorem dX11_copy_25 : decode cX11_copy 25 = .ok (.getfield 31, 3) := dk_180 0 31 (dk_at dksX11_copy_1 1 rfl rfl)
theorem dX11_copy_28 : decode cX11_copy 28 = .ok (.invokespecial 34, 3) := dk_183 0 34 (dk_at dksX11_copy_1 4 rfl rfl)
theorem dX11_copy_31 : decode cX11_copy 31 = .ok (.astore_n 1, 1) := dk_76 (dk_at dksX11_copy_1 7 rfl rfl)
theorem dX11_copy_32 : decode cX11_copy 32 = .ok (.aload_n 1, 1) := dk_43 (dk_at dksX11_copy_1 8 rfl rfl)
theorem dX11_copy_33 : decode cX11_copy 33 = .ok (.aload_n 0, 1) := dk_42 (dk_at dksX11_copy_1 9 rfl rfl)
theorem dX11_copy_34 : decode cX11_copy 34 = .ok (.getfield 37, 3) := dk_180 0 37 (dk_at dksX11_copy_1 10 rfl rfl)
theorem dX11_copy_37 : decode cX11_copy 37 = .ok (.putfield 37, 3) := dk_181 0 37 (dk_at dksX11_copy_1 13 rfl rfl)
theorem dX11_copy_40 : decode cX11_copy 40 = .ok (.aload_n 1, 1) := dk_43 (dk_at dksX11_copy_1 16 rfl rfl)
theorem dX11_copy_41 : decode cX11_copy 41 = .ok (.aload_n 0, 1) := dk_42 (dk_at dksX11_copy_1 17 rfl rfl)
theorem dX11_copy_42 : decode cX11_copy 42 = .ok (.getfield 40, 3) := dk_180 0 40 (dk_at dksX11_copy_1 18 rfl rfl)
theorem dX11_copy_45 : decode cX11_copy 45 = .ok (.putfield 40, 3) := dk_181 0 40 (dk_at dksX11_copy_1 21 rfl rfl)
theorem dX11_copy_48 : decode cX11_copy 48 = .ok (.aload_n 1, 1) := dk_43 (dk_at dksX11_copy_2 0 rfl rfl)
theorem dX11_copy_49 : decode cX11_copy 49 = .ok (.areturn, 1) := dk_176 (dk_at dksX11_copy_2 1 rfl rfl)
abbrev cX11_go : ByteArray := prog_13_method_5_code
def yX11_go : MethodName := ⟨RX11, "go", "(I)V"⟩
def dkwX11_go_3 : List UInt8 := [177]
abbrev dktX11_go_3 : List UInt8 := dkwX11_go_3 ++ []
def dkwX11_go_2 : List UInt8 := [17, 1, 104, 184, 0, 47, 96, 181, 0, 40, 42, 42, 180, 0, 31, 17, 1, 104, 184, 0, 53, 181, 0, 31]
abbrev dktX11_go_2 : List UInt8 := dkwX11_go_2 ++ dktX11_go_3
def dkwX11_go_1 : List UInt8 := [180, 0, 18, 116, 167, 0, 7, 42, 180, 0, 18, 96, 181, 0, 31, 42, 89, 180, 0, 40, 42, 180, 0, 31]
abbrev dktX11_go_1 : List UInt8 := dkwX11_go_1 ++ dktX11_go_2
def dkwX11_go_0 : List UInt8 := [42, 42, 180, 0, 31, 181, 0, 37, 42, 89, 180, 0, 31, 42, 27, 182, 0, 43, 153, 0, 11, 42]
abbrev dktX11_go_0 : List UInt8 := dkwX11_go_0 ++ dktX11_go_1
theorem dksX11_go_0 : cX11_go.data.toList.drop 0 = dktX11_go_0 := by decide +kernel
theorem dksX11_go_1 : cX11_go.data.toList.drop 22 = dktX11_go_1 := dk_seg dksX11_go_0 22 rfl rfl
theorem dksX11_go_2 : cX11_go.data.toList.drop 46 = dktX11_go_2 := dk_seg dksX11_go_1 24 rfl rfl
theorem dksX11_go_3 : cX11_go.data.toList.drop 70 = dktX11_go_3 := dk_seg dksX11_go_2 24 rfl rfl
theorem dX11_go_0 : decode cX11_go 0 = .ok (.aload_n 0, 1) := dk_42 (dk_at dksX11_go_0 0 rfl rfl)
theorem dX11_go_1 : decode cX11_go 1 = .ok (.aload_n 0, 1) := dk_42 (dk_at dksX11_go_0 1 rfl rfl)
theorem dX11_go_2 : decode cX11_go 2 = .ok (.getfield 31, 3) := dk_180 0 31 (dk_at dksX11_go_0 2 rfl rfl)
theorem dX11_go_5 : decode cX11_go 5 = .ok (.putfield 37, 3) := dk_181 0 37 (dk_at dksX11_go_0 5 rfl rfl)
theorem dX11_go_8 : decode cX11_go 8 = .ok (.aload_n 0, 1) := dk_42 (dk_at dksX11_go_0 8 rfl rfl)
theorem dX11_go_9 : decode cX11_go 9 = .ok (.dup, 1) := dk_89 (dk_at dksX11_go_0 9 rfl rfl)
theorem dX11_go_10 : decode cX11_go 10 = .ok (.getfield 31, 3) := dk_180 0 31 (dk_at dksX11_go_0 10 rfl rfl)
theorem dX11_go_13 : decode cX11_go 13 = .ok (.aload_n 0, 1) := dk_42 (dk_at dksX11_go_0 13 rfl rfl)
theorem dX11_go_14 : decode cX11_go 14 = .ok (.iload_n 1, 1) := dk_27 (dk_at dksX11_go_0 14 rfl rfl)
theorem dX11_go_15 : decode cX11_go 15 = .ok (.invokevirtual 43, 3) := dk_182 0 43 (dk_at dksX11_go_0 15 rfl rfl)
theorem dX11_go_18 : decode cX11_go 18 = .ok (.ifCond .eq 11, 3) := dk_153 0 11 (dk_at dksX11_go_0 18 rfl rfl)
theorem dX11_go_21 : decode cX11_go 21 = .ok (.aload_n 0, 1) := dk_42 (dk_at dksX11_go_0 21 rfl rfl)
theorem dX11_go_22 : decode cX11_go 22 = .ok (.getfield 18, 3) := dk_180 0 18 (dk_at dksX11_go_1 0 rfl rfl)
theorem dX11_go_25 : decode cX11_go 25 = .ok (.ineg, 1) := dk_116 (dk_at dksX11_go_1 3 rfl rfl)
theorem dX11_go_26 : decode cX11_go 26 = .ok (.goto 7, 3) := dk_167 0 7 (dk_at dksX11_go_1 4 rfl rfl)
theorem dX11_go_29 : decode cX11_go 29 = .ok (.aload_n 0, 1) := dk_42 (dk_at dksX11_go_1 7 rfl rfl)
theorem dX11_go_30 : decode cX11_go 30 = .ok (.getfield 18, 3) := dk_180 0 18 (dk_at dksX11_go_1 8 rfl rfl)
theorem dX11_go_33 : decode cX11_go 33 = .ok (.iadd, 1) := dk_96 (dk_at dksX11_go_1 11 rfl rfl)
theorem dX11_go_34 : decode cX11_go 34 = .ok (.putfield 31, 3) := dk_181 0 31 (dk_at dksX11_go_1 12 rfl rfl)
theorem dX11_go_37 : decode cX11_go 37 = .ok (.aload_n 0, 1) := dk_42 (dk_at dksX11_go_1 15 rfl rfl)
theorem dX11_go_38 : decode cX11_go 38 = .ok (.dup, 1) := dk_89 (dk_at dksX11_go_1 16 rfl rfl)
theorem dX11_go_39 : decode cX11_go 39 = .ok (.getfield 40, 3) := dk_180 0 40 (dk_at dksX11_go_1 17 rfl rfl)
theorem dX11_go_42 : decode cX11_go 42 = .ok (.aload_n 0, 1) := dk_42 (dk_at dksX11_go_1 20 rfl rfl)
theorem dX11_go_43 : decode cX11_go 43 = .ok (.getfield 31, 3) := dk_180 0 31 (dk_at dksX11_go_1 21 rfl rfl)
theorem dX11_go_46 : decode cX11_go 46 = .ok (.sipush 360, 3) := dk_17 1 104 (dk_at dksX11_go_2 0 rfl rfl)
theorem dX11_go_49 : decode cX11_go 49 = .ok (.invokestatic 47, 3) := dk_184 0 47 (dk_at dksX11_go_2 3 rfl rfl)
theorem dX11_go_52 : decode cX11_go 52 = .ok (.iadd, 1) := dk_96 (dk_at dksX11_go_2 6 rfl rfl)
theorem dX11_go_53 : decode cX11_go 53 = .ok (.putfield 40, 3) := dk_181 0 40 (dk_at dksX11_go_2 7 rfl rfl)
theorem dX11_go_56 : decode cX11_go 56 = .ok (.aload_n 0, 1) := dk_42 (dk_at dksX11_go_2 10 rfl rfl)
theorem dX11_go_57 : decode cX11_go 57 = .ok (.aload_n 0, 1) := dk_42 (dk_at dksX11_go_2 11 rfl rfl)
theorem dX11_go_58 : decode cX11_go 58 = .ok (.getfield 31, 3) := dk_180 0 31 (dk_at dksX11_go_2 12 rfl rfl)
theorem dX11_go_61 : decode cX11_go 61 = .ok (.sipush 360, 3) := dk_17 1 104 (dk_at dksX11_go_2 15 rfl rfl)
theorem dX11_go_64 : decode cX11_go 64 = .ok (.invokestatic 53, 3) := dk_184 0 53 (dk_at dksX11_go_2 18 rfl rfl)
theorem dX11_go_67 : decode cX11_go 67 = .ok (.putfield 31, 3) := dk_181 0 31 (dk_at dksX11_go_2 21 rfl rfl)
theorem dX11_go_70 : decode cX11_go 70 = .ok (.return_, 1) := dk_177 (dk_at dksX11_go_3 0 rfl rfl)
abbrev cX11_isRetro : ByteArray := prog_13_method_4_code
def yX11_isRetro : MethodName := ⟨RX11, "isRetro", "(I)Z"⟩
def dkwX11_isRetro_0 : List UInt8 := [27, 42, 180, 0, 24, 112, 42, 180, 0, 21, 162, 0, 7, 4, 167, 0, 4, 3, 172]
abbrev dktX11_isRetro_0 : List UInt8 := dkwX11_isRetro_0 ++ []
theorem dksX11_isRetro_0 : cX11_isRetro.data.toList.drop 0 = dktX11_isRetro_0 := by decide +kernel
theorem dX11_isRetro_0 : decode cX11_isRetro 0 = .ok (.iload_n 1, 1) := dk_27 (dk_at dksX11_isRetro_0 0 rfl rfl)
theorem dX11_isRetro_1 : decode cX11_isRetro 1 = .ok (.aload_n 0, 1) := dk_42 (dk_at dksX11_isRetro_0 1 rfl rfl)
theorem dX11_isRetro_2 : decode cX11_isRetro 2 = .ok (.getfield 24, 3) := dk_180 0 24 (dk_at dksX11_isRetro_0 2 rfl rfl)
theorem dX11_isRetro_5 : decode cX11_isRetro 5 = .ok (.irem, 1) := dk_112 (dk_at dksX11_isRetro_0 5 rfl rfl)
theorem dX11_isRetro_6 : decode cX11_isRetro 6 = .ok (.aload_n 0, 1) := dk_42 (dk_at dksX11_isRetro_0 6 rfl rfl)
theorem dX11_isRetro_7 : decode cX11_isRetro 7 = .ok (.getfield 21, 3) := dk_180 0 21 (dk_at dksX11_isRetro_0 7 rfl rfl)
theorem dX11_isRetro_10 : decode cX11_isRetro 10 = .ok (.if_icmp .ge 7, 3) := dk_162 0 7 (dk_at dksX11_isRetro_0 10 rfl rfl)
theorem dX11_isRetro_13 : decode cX11_isRetro 13 = .ok (.iconst 1, 1) := dk_4 (dk_at dksX11_isRetro_0 13 rfl rfl)
theorem dX11_isRetro_14 : decode cX11_isRetro 14 = .ok (.goto 4, 3) := dk_167 0 4 (dk_at dksX11_isRetro_0 14 rfl rfl)
theorem dX11_isRetro_17 : decode cX11_isRetro 17 = .ok (.iconst 0, 1) := dk_3 (dk_at dksX11_isRetro_0 17 rfl rfl)
theorem dX11_isRetro_18 : decode cX11_isRetro 18 = .ok (.ireturn, 1) := dk_172 (dk_at dksX11_isRetro_0 18 rfl rfl)
abbrev cX11_get : ByteArray := prog_13_method_6_code
def yX11_get : MethodName := ⟨RX11, "get", "(II)I"⟩
def dkwX11_get_3 : List UInt8 := [172, 42, 180, 0, 24, 172, 42, 28, 182, 0, 43, 153, 0, 7, 4, 167, 0, 4, 3, 172]
abbrev dktX11_get_3 : List UInt8 := dkwX11_get_3 ++ []
def dkwX11_get_2 : List UInt8 := [42, 180, 0, 15, 172, 42, 180, 0, 18, 172, 42, 180, 0, 31, 172, 42, 180, 0, 40, 172, 42, 180, 0, 21]
abbrev dktX11_get_2 : List UInt8 := dkwX11_get_2 ++ dktX11_get_3
def dkwX11_get_1 : List UInt8 := [170, 0, 0, 0, 0, 0, 69, 0, 0, 0, 0, 0, 0, 0, 5, 0, 0, 0, 39, 0, 0, 0, 44, 0, 0, 0, 49, 0, 0, 0, 54, 0, 0, 0, 59, 0, 0, 0, 64]
abbrev dktX11_get_1 : List UInt8 := dkwX11_get_1 ++ dktX11_get_2
def dkwX11_get_0 : List UInt8 := [27]
abbrev dktX11_get_0 : List UInt8 := dkwX11_get_0 ++ dktX11_get_1
theorem dksX11_get_0 : cX11_get.data.toList.drop 0 = dktX11_get_0 := by decide +kernel
theorem dksX11_get_1 : cX11_get.data.toList.drop 1 = dktX11_get_1 := dk_seg dksX11_get_0 1 rfl rfl
theorem dksX11_get_2 : cX11_get.data.toList.drop 40 = dktX11_get_2 := dk_seg dksX11_get_1 39 rfl rfl
theorem dksX11_get_3 : cX11_get.data.toList.drop 64 = dktX11_get_3 := dk_seg dksX11_get_2 24 rfl rfl
theorem dX11_get_0 : decode cX11_get 0 = .ok (.iload_n 1, 1) := dk_27 (dk_at dksX11_get_0 0 rfl rfl)
theorem dX11_get_1 : decode cX11_get 1 = .ok (.tableswitch 69 0 5 #[39, 44, 49, 54, 59, 64], 39) := by decide +kernel
theorem dX11_get_40 : decode cX11_get 40 = .ok (.aload_n 0, 1) := dk_42 (dk_at dksX11_get_2 0 rfl rfl)
theorem dX11_get_41 : decode cX11_get 41 = .ok (.getfield 15, 3) := dk_180 0 15 (dk_at dksX11_get_2 1 rfl rfl)
theorem dX11_get_44 : decode cX11_get 44 = .ok (.ireturn, 1) := dk_172 (dk_at dksX11_get_2 4 rfl rfl)
theorem dX11_get_45 : decode cX11_get 45 = .ok (.aload_n 0, 1) := dk_42 (dk_at dksX11_get_2 5 rfl rfl)
theorem dX11_get_46 : decode cX11_get 46 = .ok (.getfield 18, 3) := dk_180 0 18 (dk_at dksX11_get_2 6 rfl rfl)
theorem dX11_get_49 : decode cX11_get 49 = .ok (.ireturn, 1) := dk_172 (dk_at dksX11_get_2 9 rfl rfl)
theorem dX11_get_50 : decode cX11_get 50 = .ok (.aload_n 0, 1) := dk_42 (dk_at dksX11_get_2 10 rfl rfl)
theorem dX11_get_51 : decode cX11_get 51 = .ok (.getfield 31, 3) := dk_180 0 31 (dk_at dksX11_get_2 11 rfl rfl)
theorem dX11_get_54 : decode cX11_get 54 = .ok (.ireturn, 1) := dk_172 (dk_at dksX11_get_2 14 rfl rfl)
theorem dX11_get_55 : decode cX11_get 55 = .ok (.aload_n 0, 1) := dk_42 (dk_at dksX11_get_2 15 rfl rfl)
theorem dX11_get_56 : decode cX11_get 56 = .ok (.getfield 40, 3) := dk_180 0 40 (dk_at dksX11_get_2 16 rfl rfl)
theorem dX11_get_59 : decode cX11_get 59 = .ok (.ireturn, 1) := dk_172 (dk_at dksX11_get_2 19 rfl rfl)
theorem dX11_get_60 : decode cX11_get 60 = .ok (.aload_n 0, 1) := dk_42 (dk_at dksX11_get_2 20 rfl rfl)
theorem dX11_get_61 : decode cX11_get 61 = .ok (.getfield 21, 3) := dk_180 0 21 (dk_at dksX11_get_2 21 rfl rfl)
theorem dX11_get_64 : decode cX11_get 64 = .ok (.ireturn, 1) := dk_172 (dk_at dksX11_get_3 0 rfl rfl)
theorem dX11_get_65 : decode cX11_get 65 = .ok (.aload_n 0, 1) := dk_42 (dk_at dksX11_get_3 1 rfl rfl)
theorem dX11_get_66 : decode cX11_get 66 = .ok (.getfield 24, 3) := dk_180 0 24 (dk_at dksX11_get_3 2 rfl rfl)
theorem dX11_get_69 : decode cX11_get 69 = .ok (.ireturn, 1) := dk_172 (dk_at dksX11_get_3 5 rfl rfl)
theorem dX11_get_70 : decode cX11_get 70 = .ok (.aload_n 0, 1) := dk_42 (dk_at dksX11_get_3 6 rfl rfl)
theorem dX11_get_71 : decode cX11_get 71 = .ok (.iload_n 2, 1) := dk_28 (dk_at dksX11_get_3 7 rfl rfl)
theorem dX11_get_72 : decode cX11_get 72 = .ok (.invokevirtual 43, 3) := dk_182 0 43 (dk_at dksX11_get_3 8 rfl rfl)
theorem dX11_get_75 : decode cX11_get 75 = .ok (.ifCond .eq 7, 3) := dk_153 0 7 (dk_at dksX11_get_3 11 rfl rfl)
theorem dX11_get_78 : decode cX11_get 78 = .ok (.iconst 1, 1) := dk_4 (dk_at dksX11_get_3 14 rfl rfl)
theorem dX11_get_79 : decode cX11_get 79 = .ok (.goto 4, 3) := dk_167 0 4 (dk_at dksX11_get_3 15 rfl rfl)
theorem dX11_get_82 : decode cX11_get 82 = .ok (.iconst 0, 1) := dk_3 (dk_at dksX11_get_3 18 rfl rfl)
theorem dX11_get_83 : decode cX11_get 83 = .ok (.ireturn, 1) := dk_172 (dk_at dksX11_get_3 19 rfl rfl)
theorem q115 : (Jvm.Cond.initialized "ShadowSpell$Planet") ∈ lw_all := lw_g (lw_at lw_m1 44 rfl) rfl
theorem q759 : (Jvm.Cond.selects "ShadowSpell$Planet" ({ cls := "java/lang/Object", name := "getClass", desc := "()Ljava/lang/Class;" } : Jvm.MethodName) ({ cls := "java/lang/Object", name := "getClass", desc := "()Ljava/lang/Class;" } : Jvm.MethodName)) ∈ lw_all := lw_g (lw_at lw_m3 208 rfl) rfl
theorem q990 : (Jvm.Cond.selects "ShadowSpell$Planet" ({ cls := "java/lang/Object", name := "hashCode", desc := "()I" } : Jvm.MethodName) ({ cls := "java/lang/Object", name := "hashCode", desc := "()I" } : Jvm.MethodName)) ∈ lw_all := lw_g (lw_at lw_m4 199 rfl) rfl
theorem q1104 : (Jvm.Cond.selects "ShadowSpell$Planet" ({ cls := "java/lang/Object", name := "equals", desc := "(Ljava/lang/Object;)Z" } : Jvm.MethodName) ({ cls := "java/lang/Object", name := "equals", desc := "(Ljava/lang/Object;)Z" } : Jvm.MethodName)) ∈ lw_all := lw_g (lw_at lw_m5 73 rfl) rfl
theorem q1655 : (Jvm.Cond.instantiable "ShadowSpell$Planet" (8 : Nat)) ∈ lw_all := lw_g (lw_at lw_m7 144 rfl) rfl
theorem q1658 : (Jvm.Cond.instanceMethod ({ cls := "ShadowSpell$Planet", name := "<init>", desc := "(IIIIII)V" } : Jvm.MethodName)) ∈ lw_all := lw_g (lw_at lw_m7 147 rfl) rfl
theorem q1659 : (Jvm.Cond.code ({ cls := "ShadowSpell$Planet", name := "<init>", desc := "(IIIIII)V" } : Jvm.MethodName) prog_13_method_1_code (7 : Nat) (Option.none : Option Jvm.ClassFile.FieldType)) ∈ lw_all := lw_g (lw_at lw_m7 148 rfl) rfl
theorem q1660 : (Jvm.Cond.methodLink "ShadowSpell$Planet" (3 : Nat) ({ cls := "java/lang/Object", name := "<init>", desc := "()V" } : Jvm.MethodName)) ∈ lw_all := lw_g (lw_at lw_m7 149 rfl) rfl
theorem q1661 : (Jvm.Cond.methodLink "ShadowSpell$Planet" (27 : Nat) ({ cls := "ShadowSpell$Planet", name := "set", desc := "(I)V" } : Jvm.MethodName)) ∈ lw_all := lw_g (lw_at lw_m7 150 rfl) rfl
theorem q1662 : (Jvm.Cond.instanceMethod ({ cls := "ShadowSpell$Planet", name := "set", desc := "(I)V" } : Jvm.MethodName)) ∈ lw_all := lw_g (lw_at lw_m7 151 rfl) rfl
theorem q1663 : (Jvm.Cond.selects "ShadowSpell$Planet" ({ cls := "ShadowSpell$Planet", name := "set", desc := "(I)V" } : Jvm.MethodName) ({ cls := "ShadowSpell$Planet", name := "set", desc := "(I)V" } : Jvm.MethodName)) ∈ lw_all := lw_g (lw_at lw_m7 152 rfl) rfl
theorem q1664 : (Jvm.Cond.code ({ cls := "ShadowSpell$Planet", name := "set", desc := "(I)V" } : Jvm.MethodName) prog_13_method_3_code (2 : Nat) (Option.none : Option Jvm.ClassFile.FieldType)) ∈ lw_all := lw_g (lw_at lw_m7 153 rfl) rfl
theorem q1665 : (Jvm.Cond.fieldLink "ShadowSpell$Planet" (9 : Nat) "ShadowSpell$Planet" "number" "I") ∈ lw_all := lw_g (lw_at lw_m7 154 rfl) rfl
theorem q1666 : (Jvm.Cond.fieldLink "ShadowSpell$Planet" (15 : Nat) "ShadowSpell$Planet" "rail" "I") ∈ lw_all := lw_g (lw_at lw_m7 155 rfl) rfl
theorem q1668 : (Jvm.Cond.fieldLink "ShadowSpell$Planet" (18 : Nat) "ShadowSpell$Planet" "speed" "I") ∈ lw_all := lw_g (lw_at lw_m7 157 rfl) rfl
theorem q1669 : (Jvm.Cond.fieldLink "ShadowSpell$Planet" (21 : Nat) "ShadowSpell$Planet" "retro" "I") ∈ lw_all := lw_g (lw_at lw_m7 158 rfl) rfl
theorem q1670 : (Jvm.Cond.fieldLink "ShadowSpell$Planet" (24 : Nat) "ShadowSpell$Planet" "every" "I") ∈ lw_all := lw_g (lw_at lw_m7 159 rfl) rfl
theorem q1672 : (Jvm.Cond.fieldLink "ShadowSpell$Planet" (31 : Nat) "ShadowSpell$Planet" "angle" "I") ∈ lw_all := lw_g (lw_at lw_m7 161 rfl) rfl
theorem q1676 : (Jvm.Cond.fieldLink "ShadowSpell$Planet" (37 : Nat) "ShadowSpell$Planet" "before" "I") ∈ lw_all := lw_g (lw_at lw_m7 165 rfl) rfl
theorem q1679 : (Jvm.Cond.fieldLink "ShadowSpell$Planet" (40 : Nat) "ShadowSpell$Planet" "lap" "I") ∈ lw_all := lw_g (lw_at lw_m7 168 rfl) rfl
theorem q1681 : (Jvm.Cond.laysFinal "ShadowSpell$Planet" "ShadowSpell$Planet" "number" "I") ∈ lw_all := lw_g (lw_at lw_m7 170 rfl) rfl
theorem q1682 : (Jvm.Cond.soleField "ShadowSpell$Planet" "number") ∈ lw_all := lw_g (lw_at lw_m7 171 rfl) rfl
theorem q1683 : (Jvm.Cond.laysFinal "ShadowSpell$Planet" "ShadowSpell$Planet" "rail" "I") ∈ lw_all := lw_g (lw_at lw_m7 172 rfl) rfl
theorem q1684 : (Jvm.Cond.soleField "ShadowSpell$Planet" "rail") ∈ lw_all := lw_g (lw_at lw_m7 173 rfl) rfl
theorem q1685 : (Jvm.Cond.laysFinal "ShadowSpell$Planet" "ShadowSpell$Planet" "speed" "I") ∈ lw_all := lw_g (lw_at lw_m7 174 rfl) rfl
theorem q1686 : (Jvm.Cond.soleField "ShadowSpell$Planet" "speed") ∈ lw_all := lw_g (lw_at lw_m7 175 rfl) rfl
theorem q1687 : (Jvm.Cond.laysFinal "ShadowSpell$Planet" "ShadowSpell$Planet" "retro" "I") ∈ lw_all := lw_g (lw_at lw_m7 176 rfl) rfl
theorem q1688 : (Jvm.Cond.soleField "ShadowSpell$Planet" "retro") ∈ lw_all := lw_g (lw_at lw_m7 177 rfl) rfl
theorem q1689 : (Jvm.Cond.laysFinal "ShadowSpell$Planet" "ShadowSpell$Planet" "every" "I") ∈ lw_all := lw_g (lw_at lw_m7 178 rfl) rfl
theorem q1690 : (Jvm.Cond.soleField "ShadowSpell$Planet" "every") ∈ lw_all := lw_g (lw_at lw_m7 179 rfl) rfl
theorem q1691 : (Jvm.Cond.lays "ShadowSpell$Planet" "ShadowSpell$Planet" "angle" "I") ∈ lw_all := lw_g (lw_at lw_m7 180 rfl) rfl
theorem q1692 : (Jvm.Cond.soleField "ShadowSpell$Planet" "angle") ∈ lw_all := lw_g (lw_at lw_m7 181 rfl) rfl
theorem q1693 : (Jvm.Cond.lays "ShadowSpell$Planet" "ShadowSpell$Planet" "before" "I") ∈ lw_all := lw_g (lw_at lw_m7 182 rfl) rfl
theorem q1694 : (Jvm.Cond.soleField "ShadowSpell$Planet" "before") ∈ lw_all := lw_g (lw_at lw_m7 183 rfl) rfl
theorem q1695 : (Jvm.Cond.lays "ShadowSpell$Planet" "ShadowSpell$Planet" "lap" "I") ∈ lw_all := lw_g (lw_at lw_m7 184 rfl) rfl
theorem q1696 : (Jvm.Cond.soleField "ShadowSpell$Planet" "lap") ∈ lw_all := lw_g (lw_at lw_m7 185 rfl) rfl
theorem q1697 : (Jvm.Cond.superclass "ShadowSpell$Planet" "java/lang/Object") ∈ lw_all := lw_g (lw_at lw_m7 186 rfl) rfl
theorem q2161 : (Jvm.Cond.instanceMethod ({ cls := "ShadowSpell$Planet", name := "copy", desc := "()LShadowSpell$Planet;" } : Jvm.MethodName)) ∈ lw_all := lw_g (lw_at lw_m9 170 rfl) rfl
theorem q2162 : (Jvm.Cond.selects "ShadowSpell$Planet" ({ cls := "ShadowSpell$Planet", name := "copy", desc := "()LShadowSpell$Planet;" } : Jvm.MethodName) ({ cls := "ShadowSpell$Planet", name := "copy", desc := "()LShadowSpell$Planet;" } : Jvm.MethodName)) ∈ lw_all := lw_g (lw_at lw_m9 171 rfl) rfl
theorem q2163 : (Jvm.Cond.code ({ cls := "ShadowSpell$Planet", name := "copy", desc := "()LShadowSpell$Planet;" } : Jvm.MethodName) prog_13_method_2_code (2 : Nat) (Option.some (Jvm.ClassFile.FieldType.object "ShadowSpell$Planet"))) ∈ lw_all := lw_g (lw_at lw_m9 172 rfl) rfl
theorem q2164 : (Jvm.Cond.classLink "ShadowSpell$Planet" (10 : Nat) "ShadowSpell$Planet") ∈ lw_all := lw_g (lw_at lw_m9 173 rfl) rfl
theorem q2165 : (Jvm.Cond.methodLink "ShadowSpell$Planet" (34 : Nat) ({ cls := "ShadowSpell$Planet", name := "<init>", desc := "(IIIIII)V" } : Jvm.MethodName)) ∈ lw_all := lw_g (lw_at lw_m9 174 rfl) rfl
theorem q2268 : (Jvm.Cond.instanceMethod ({ cls := "ShadowSpell$Planet", name := "go", desc := "(I)V" } : Jvm.MethodName)) ∈ lw_all := lw_g (lw_at lw_m10 37 rfl) rfl
theorem q2269 : (Jvm.Cond.selects "ShadowSpell$Planet" ({ cls := "ShadowSpell$Planet", name := "go", desc := "(I)V" } : Jvm.MethodName) ({ cls := "ShadowSpell$Planet", name := "go", desc := "(I)V" } : Jvm.MethodName)) ∈ lw_all := lw_g (lw_at lw_m10 38 rfl) rfl
theorem q2270 : (Jvm.Cond.code ({ cls := "ShadowSpell$Planet", name := "go", desc := "(I)V" } : Jvm.MethodName) prog_13_method_5_code (2 : Nat) (Option.none : Option Jvm.ClassFile.FieldType)) ∈ lw_all := lw_g (lw_at lw_m10 39 rfl) rfl
theorem q2271 : (Jvm.Cond.methodLink "ShadowSpell$Planet" (43 : Nat) ({ cls := "ShadowSpell$Planet", name := "isRetro", desc := "(I)Z" } : Jvm.MethodName)) ∈ lw_all := lw_g (lw_at lw_m10 40 rfl) rfl
theorem q2272 : (Jvm.Cond.instanceMethod ({ cls := "ShadowSpell$Planet", name := "isRetro", desc := "(I)Z" } : Jvm.MethodName)) ∈ lw_all := lw_g (lw_at lw_m10 41 rfl) rfl
theorem q2273 : (Jvm.Cond.selects "ShadowSpell$Planet" ({ cls := "ShadowSpell$Planet", name := "isRetro", desc := "(I)Z" } : Jvm.MethodName) ({ cls := "ShadowSpell$Planet", name := "isRetro", desc := "(I)Z" } : Jvm.MethodName)) ∈ lw_all := lw_g (lw_at lw_m10 42 rfl) rfl
theorem q2274 : (Jvm.Cond.code ({ cls := "ShadowSpell$Planet", name := "isRetro", desc := "(I)Z" } : Jvm.MethodName) prog_13_method_4_code (2 : Nat) (Option.some Jvm.ClassFile.FieldType.boolean)) ∈ lw_all := lw_g (lw_at lw_m10 43 rfl) rfl
theorem q2275 : (Jvm.Cond.methodLink "ShadowSpell$Planet" (47 : Nat) ({ cls := "java/lang/Math", name := "floorDiv", desc := "(II)I" } : Jvm.MethodName)) ∈ lw_all := lw_g (lw_at lw_m10 44 rfl) rfl
theorem q2278 : (Jvm.Cond.methodLink "ShadowSpell$Planet" (53 : Nat) ({ cls := "java/lang/Math", name := "floorMod", desc := "(II)I" } : Jvm.MethodName)) ∈ lw_all := lw_g (lw_at lw_m10 47 rfl) rfl
theorem q2488 : (Jvm.Cond.instanceMethod ({ cls := "ShadowSpell$Planet", name := "get", desc := "(II)I" } : Jvm.MethodName)) ∈ lw_all := lw_g (lw_at lw_m11 17 rfl) rfl
theorem q2489 : (Jvm.Cond.selects "ShadowSpell$Planet" ({ cls := "ShadowSpell$Planet", name := "get", desc := "(II)I" } : Jvm.MethodName) ({ cls := "ShadowSpell$Planet", name := "get", desc := "(II)I" } : Jvm.MethodName)) ∈ lw_all := lw_g (lw_at lw_m11 18 rfl) rfl
theorem q2490 : (Jvm.Cond.code ({ cls := "ShadowSpell$Planet", name := "get", desc := "(II)I" } : Jvm.MethodName) prog_13_method_6_code (3 : Nat) (Option.some Jvm.ClassFile.FieldType.int)) ∈ lw_all := lw_g (lw_at lw_m11 19 rfl) rfl
theorem q3237 : (Jvm.Cond.castable "ShadowSpell$Planet" "java/lang/Object") ∈ lw_tbl := lw_at lw_m14 46 rfl
theorem in_X11 : ∀ w ∈ wsX110, w ∈ lw_all := lw_in wsX110 [1681, 1683, 1685, 1687, 1689, 1691, 1693, 1695] (by decide +kernel) (by decide +kernel)

/-! ShadowSpell$Alphabet -/
set_option maxRecDepth 100000
def RX12 : String := "ShadowSpell$Alphabet"
def TX12 : u_T := fun k => match k with
  | _ => ("ShadowSpell$Alphabet", "letters", "Ljava/lang/String;", true)
def tyX12 : Nat → FieldType := fun k => match k with
  | _ => .object "java/lang/String"
abbrev wsX120 : List Cond := u_ws RX12 TX12 1
theorem nmX12 : ∀ a, a < 1 → ∀ b, b < 1 → a ≠ b → (TX12 a).2.1 ≠ (TX12 b).2.1 := by decide +kernel
theorem tyX12_ok : ∀ k, k < 1 → parseFieldDescriptor (TX12 k).2.2.1 = some (tyX12 k) := by decide +kernel
abbrev cX12_init : ByteArray := prog_2_method_1_code
def yX12_init : MethodName := ⟨RX12, "<init>", "(Ljava/lang/String;)V"⟩
def dkwX12_init_0 : List UInt8 := [42, 183, 0, 1, 42, 43, 181, 0, 7, 177]
abbrev dktX12_init_0 : List UInt8 := dkwX12_init_0 ++ []
theorem dksX12_init_0 : cX12_init.data.toList.drop 0 = dktX12_init_0 := by decide +kernel
theorem dX12_init_0 : decode cX12_init 0 = .ok (.aload_n 0, 1) := dk_42 (dk_at dksX12_init_0 0 rfl rfl)
theorem dX12_init_1 : decode cX12_init 1 = .ok (.invokespecial 1, 3) := dk_183 0 1 (dk_at dksX12_init_0 1 rfl rfl)
theorem dX12_init_4 : decode cX12_init 4 = .ok (.aload_n 0, 1) := dk_42 (dk_at dksX12_init_0 4 rfl rfl)
theorem dX12_init_5 : decode cX12_init 5 = .ok (.aload_n 1, 1) := dk_43 (dk_at dksX12_init_0 5 rfl rfl)
theorem dX12_init_6 : decode cX12_init 6 = .ok (.putfield 7, 3) := dk_181 0 7 (dk_at dksX12_init_0 6 rfl rfl)
theorem dX12_init_9 : decode cX12_init 9 = .ok (.return_, 1) := dk_177 (dk_at dksX12_init_0 9 rfl rfl)
abbrev cX12_letter : ByteArray := prog_2_method_2_code
def yX12_letter : MethodName := ⟨RX12, "letter", "(I)C"⟩
def dkwX12_letter_0 : List UInt8 := [42, 180, 0, 7, 27, 42, 180, 0, 7, 182, 0, 13, 184, 0, 19, 182, 0, 25, 172]
abbrev dktX12_letter_0 : List UInt8 := dkwX12_letter_0 ++ []
theorem dksX12_letter_0 : cX12_letter.data.toList.drop 0 = dktX12_letter_0 := by decide +kernel
theorem dX12_letter_0 : decode cX12_letter 0 = .ok (.aload_n 0, 1) := dk_42 (dk_at dksX12_letter_0 0 rfl rfl)
theorem dX12_letter_1 : decode cX12_letter 1 = .ok (.getfield 7, 3) := dk_180 0 7 (dk_at dksX12_letter_0 1 rfl rfl)
theorem dX12_letter_4 : decode cX12_letter 4 = .ok (.iload_n 1, 1) := dk_27 (dk_at dksX12_letter_0 4 rfl rfl)
theorem dX12_letter_5 : decode cX12_letter 5 = .ok (.aload_n 0, 1) := dk_42 (dk_at dksX12_letter_0 5 rfl rfl)
theorem dX12_letter_6 : decode cX12_letter 6 = .ok (.getfield 7, 3) := dk_180 0 7 (dk_at dksX12_letter_0 6 rfl rfl)
theorem dX12_letter_9 : decode cX12_letter 9 = .ok (.invokevirtual 13, 3) := dk_182 0 13 (dk_at dksX12_letter_0 9 rfl rfl)
theorem dX12_letter_12 : decode cX12_letter 12 = .ok (.invokestatic 19, 3) := dk_184 0 19 (dk_at dksX12_letter_0 12 rfl rfl)
theorem dX12_letter_15 : decode cX12_letter 15 = .ok (.invokevirtual 25, 3) := dk_182 0 25 (dk_at dksX12_letter_0 15 rfl rfl)
theorem dX12_letter_18 : decode cX12_letter 18 = .ok (.ireturn, 1) := dk_172 (dk_at dksX12_letter_0 18 rfl rfl)
theorem q116 : (Jvm.Cond.initialized "ShadowSpell$Alphabet") ∈ lw_all := lw_g (lw_at lw_m1 45 rfl) rfl
theorem q749 : (Jvm.Cond.selects "ShadowSpell$Alphabet" ({ cls := "java/lang/Object", name := "getClass", desc := "()Ljava/lang/Class;" } : Jvm.MethodName) ({ cls := "java/lang/Object", name := "getClass", desc := "()Ljava/lang/Class;" } : Jvm.MethodName)) ∈ lw_all := lw_g (lw_at lw_m3 198 rfl) rfl
theorem q975 : (Jvm.Cond.selects "ShadowSpell$Alphabet" ({ cls := "java/lang/Object", name := "hashCode", desc := "()I" } : Jvm.MethodName) ({ cls := "java/lang/Object", name := "hashCode", desc := "()I" } : Jvm.MethodName)) ∈ lw_all := lw_g (lw_at lw_m4 184 rfl) rfl
theorem q1092 : (Jvm.Cond.selects "ShadowSpell$Alphabet" ({ cls := "java/lang/Object", name := "equals", desc := "(Ljava/lang/Object;)Z" } : Jvm.MethodName) ({ cls := "java/lang/Object", name := "equals", desc := "(Ljava/lang/Object;)Z" } : Jvm.MethodName)) ∈ lw_all := lw_g (lw_at lw_m5 61 rfl) rfl
theorem q1711 : (Jvm.Cond.instantiable "ShadowSpell$Alphabet" (1 : Nat)) ∈ lw_all := lw_g (lw_at lw_m7 200 rfl) rfl
theorem q1713 : (Jvm.Cond.instanceMethod ({ cls := "ShadowSpell$Alphabet", name := "<init>", desc := "(Ljava/lang/String;)V" } : Jvm.MethodName)) ∈ lw_all := lw_g (lw_at lw_m7 202 rfl) rfl
theorem q1714 : (Jvm.Cond.code ({ cls := "ShadowSpell$Alphabet", name := "<init>", desc := "(Ljava/lang/String;)V" } : Jvm.MethodName) prog_2_method_1_code (2 : Nat) (Option.none : Option Jvm.ClassFile.FieldType)) ∈ lw_all := lw_g (lw_at lw_m7 203 rfl) rfl
theorem q1715 : (Jvm.Cond.methodLink "ShadowSpell$Alphabet" (1 : Nat) ({ cls := "java/lang/Object", name := "<init>", desc := "()V" } : Jvm.MethodName)) ∈ lw_all := lw_g (lw_at lw_m7 204 rfl) rfl
theorem q1716 : (Jvm.Cond.fieldLink "ShadowSpell$Alphabet" (7 : Nat) "ShadowSpell$Alphabet" "letters" "Ljava/lang/String;") ∈ lw_all := lw_g (lw_at lw_m7 205 rfl) rfl
theorem q1718 : (Jvm.Cond.laysFinal "ShadowSpell$Alphabet" "ShadowSpell$Alphabet" "letters" "Ljava/lang/String;") ∈ lw_all := lw_g (lw_at lw_m7 207 rfl) rfl
theorem q1719 : (Jvm.Cond.soleField "ShadowSpell$Alphabet" "letters") ∈ lw_all := lw_g (lw_at lw_m7 208 rfl) rfl
theorem q1720 : (Jvm.Cond.superclass "ShadowSpell$Alphabet" "java/lang/Object") ∈ lw_all := lw_g (lw_at lw_m7 209 rfl) rfl
theorem q2430 : (Jvm.Cond.instanceMethod ({ cls := "ShadowSpell$Alphabet", name := "letter", desc := "(I)C" } : Jvm.MethodName)) ∈ lw_all := lw_g (lw_at lw_m10 199 rfl) rfl
theorem q2431 : (Jvm.Cond.selects "ShadowSpell$Alphabet" ({ cls := "ShadowSpell$Alphabet", name := "letter", desc := "(I)C" } : Jvm.MethodName) ({ cls := "ShadowSpell$Alphabet", name := "letter", desc := "(I)C" } : Jvm.MethodName)) ∈ lw_all := lw_g (lw_at lw_m10 200 rfl) rfl
theorem q2432 : (Jvm.Cond.code ({ cls := "ShadowSpell$Alphabet", name := "letter", desc := "(I)C" } : Jvm.MethodName) prog_2_method_2_code (2 : Nat) (Option.some Jvm.ClassFile.FieldType.char)) ∈ lw_all := lw_g (lw_at lw_m10 201 rfl) rfl
theorem q2433 : (Jvm.Cond.methodLink "ShadowSpell$Alphabet" (13 : Nat) ({ cls := "java/lang/String", name := "length", desc := "()I" } : Jvm.MethodName)) ∈ lw_all := lw_g (lw_at lw_m10 202 rfl) rfl
theorem q2434 : (Jvm.Cond.methodLink "ShadowSpell$Alphabet" (19 : Nat) ({ cls := "java/lang/Math", name := "floorMod", desc := "(II)I" } : Jvm.MethodName)) ∈ lw_all := lw_g (lw_at lw_m10 203 rfl) rfl
theorem q2435 : (Jvm.Cond.methodLink "ShadowSpell$Alphabet" (25 : Nat) ({ cls := "java/lang/String", name := "charAt", desc := "(I)C" } : Jvm.MethodName)) ∈ lw_all := lw_g (lw_at lw_m10 204 rfl) rfl
theorem q3238 : (Jvm.Cond.castable "ShadowSpell$Alphabet" "java/lang/Object") ∈ lw_tbl := lw_at lw_m14 47 rfl
theorem in_X12 : ∀ w ∈ wsX120, w ∈ lw_all := lw_in wsX120 [1718] (by decide +kernel) (by decide +kernel)

/-! ShadowSpell$Several -/
set_option maxRecDepth 100000
def RX13 : String := "ShadowSpell$Several"
def TX13 : u_T := fun k => match k with
  | 0 => ("ShadowSpell$Several", "isAll", "Z", true)
  | _ => ("ShadowSpell$Several", "tests", "Ljava/util/ArrayList;", true)
def tyX13 : Nat → FieldType := fun k => match k with
  | 0 => .boolean
  | _ => .object "java/util/ArrayList"
abbrev wsX130 : List Cond := u_ws RX13 TX13 2
theorem nmX13 : ∀ a, a < 2 → ∀ b, b < 2 → a ≠ b → (TX13 a).2.1 ≠ (TX13 b).2.1 := by decide +kernel
theorem tyX13_ok : ∀ k, k < 2 → parseFieldDescriptor (TX13 k).2.2.1 = some (tyX13 k) := by decide +kernel
abbrev cX13_init : ByteArray := prog_18_method_1_code
def yX13_init : MethodName := ⟨RX13, "<init>", "(Z)V"⟩
def dkwX13_init_0 : List UInt8 := [42, 183, 0, 1, 42, 187, 0, 7, 89, 183, 0, 9, 181, 0, 10, 42, 27, 181, 0, 16, 177]
abbrev dktX13_init_0 : List UInt8 := dkwX13_init_0 ++ []
theorem dksX13_init_0 : cX13_init.data.toList.drop 0 = dktX13_init_0 := by decide +kernel
theorem dX13_init_0 : decode cX13_init 0 = .ok (.aload_n 0, 1) := dk_42 (dk_at dksX13_init_0 0 rfl rfl)
theorem dX13_init_1 : decode cX13_init 1 = .ok (.invokespecial 1, 3) := dk_183 0 1 (dk_at dksX13_init_0 1 rfl rfl)
theorem dX13_init_4 : decode cX13_init 4 = .ok (.aload_n 0, 1) := dk_42 (dk_at dksX13_init_0 4 rfl rfl)
theorem dX13_init_5 : decode cX13_init 5 = .ok (.new 7, 3) := dk_187 0 7 (dk_at dksX13_init_0 5 rfl rfl)
theorem dX13_init_8 : decode cX13_init 8 = .ok (.dup, 1) := dk_89 (dk_at dksX13_init_0 8 rfl rfl)
theorem dX13_init_9 : decode cX13_init 9 = .ok (.invokespecial 9, 3) := dk_183 0 9 (dk_at dksX13_init_0 9 rfl rfl)
theorem dX13_init_12 : decode cX13_init 12 = .ok (.putfield 10, 3) := dk_181 0 10 (dk_at dksX13_init_0 12 rfl rfl)
theorem dX13_init_15 : decode cX13_init 15 = .ok (.aload_n 0, 1) := dk_42 (dk_at dksX13_init_0 15 rfl rfl)
theorem dX13_init_16 : decode cX13_init 16 = .ok (.iload_n 1, 1) := dk_27 (dk_at dksX13_init_0 16 rfl rfl)
theorem dX13_init_17 : decode cX13_init 17 = .ok (.putfield 16, 3) := dk_181 0 16 (dk_at dksX13_init_0 17 rfl rfl)
theorem dX13_init_20 : decode cX13_init 20 = .ok (.return_, 1) := dk_177 (dk_at dksX13_init_0 20 rfl rfl)
abbrev cX13_holds : ByteArray := prog_18_method_2_code
def yX13_holds : MethodName := ⟨RX13, "holds", "(LShadowSpell$Sky;)Z"⟩
def dkwX13_holds_2 : List UInt8 := [3, 172, 132, 2, 1, 167, 255, 205, 42, 180, 0, 16, 172]
abbrev dktX13_holds_2 : List UInt8 := dkwX13_holds_2 ++ []
def dkwX13_holds_1 : List UInt8 := [43, 185, 0, 30, 2, 0, 42, 180, 0, 16, 159, 0, 16, 42, 180, 0, 16, 154, 0, 7, 4, 167, 0, 4]
abbrev dktX13_holds_1 : List UInt8 := dkwX13_holds_1 ++ dktX13_holds_2
def dkwX13_holds_0 : List UInt8 := [3, 61, 28, 42, 180, 0, 10, 182, 0, 20, 162, 0, 46, 42, 180, 0, 10, 28, 182, 0, 24, 192, 0, 28]
abbrev dktX13_holds_0 : List UInt8 := dkwX13_holds_0 ++ dktX13_holds_1
theorem dksX13_holds_0 : cX13_holds.data.toList.drop 0 = dktX13_holds_0 := by decide +kernel
theorem dksX13_holds_1 : cX13_holds.data.toList.drop 24 = dktX13_holds_1 := dk_seg dksX13_holds_0 24 rfl rfl
theorem dksX13_holds_2 : cX13_holds.data.toList.drop 48 = dktX13_holds_2 := dk_seg dksX13_holds_1 24 rfl rfl
theorem dX13_holds_0 : decode cX13_holds 0 = .ok (.iconst 0, 1) := dk_3 (dk_at dksX13_holds_0 0 rfl rfl)
theorem dX13_holds_1 : decode cX13_holds 1 = .ok (.istore_n 2, 1) := dk_61 (dk_at dksX13_holds_0 1 rfl rfl)
theorem dX13_holds_2 : decode cX13_holds 2 = .ok (.iload_n 2, 1) := dk_28 (dk_at dksX13_holds_0 2 rfl rfl)
theorem dX13_holds_3 : decode cX13_holds 3 = .ok (.aload_n 0, 1) := dk_42 (dk_at dksX13_holds_0 3 rfl rfl)
theorem dX13_holds_4 : decode cX13_holds 4 = .ok (.getfield 10, 3) := dk_180 0 10 (dk_at dksX13_holds_0 4 rfl rfl)
theorem dX13_holds_7 : decode cX13_holds 7 = .ok (.invokevirtual 20, 3) := dk_182 0 20 (dk_at dksX13_holds_0 7 rfl rfl)
theorem dX13_holds_10 : decode cX13_holds 10 = .ok (.if_icmp .ge 46, 3) := dk_162 0 46 (dk_at dksX13_holds_0 10 rfl rfl)
theorem dX13_holds_13 : decode cX13_holds 13 = .ok (.aload_n 0, 1) := dk_42 (dk_at dksX13_holds_0 13 rfl rfl)
theorem dX13_holds_14 : decode cX13_holds 14 = .ok (.getfield 10, 3) := dk_180 0 10 (dk_at dksX13_holds_0 14 rfl rfl)
theorem dX13_holds_17 : decode cX13_holds 17 = .ok (.iload_n 2, 1) := dk_28 (dk_at dksX13_holds_0 17 rfl rfl)
theorem dX13_holds_18 : decode cX13_holds 18 = .ok (.invokevirtual 24, 3) := dk_182 0 24 (dk_at dksX13_holds_0 18 rfl rfl)
theorem dX13_holds_21 : decode cX13_holds 21 = .ok (.checkcast 28, 3) := dk_192 0 28 (dk_at dksX13_holds_0 21 rfl rfl)
theorem dX13_holds_24 : decode cX13_holds 24 = .ok (.aload_n 1, 1) := dk_43 (dk_at dksX13_holds_1 0 rfl rfl)
theorem dX13_holds_25 : decode cX13_holds 25 = .ok (.invokeinterface 30 2, 5) := by decide +kernel
theorem dX13_holds_30 : decode cX13_holds 30 = .ok (.aload_n 0, 1) := dk_42 (dk_at dksX13_holds_1 6 rfl rfl)
theorem dX13_holds_31 : decode cX13_holds 31 = .ok (.getfield 16, 3) := dk_180 0 16 (dk_at dksX13_holds_1 7 rfl rfl)
theorem dX13_holds_34 : decode cX13_holds 34 = .ok (.if_icmp .eq 16, 3) := dk_159 0 16 (dk_at dksX13_holds_1 10 rfl rfl)
theorem dX13_holds_37 : decode cX13_holds 37 = .ok (.aload_n 0, 1) := dk_42 (dk_at dksX13_holds_1 13 rfl rfl)
theorem dX13_holds_38 : decode cX13_holds 38 = .ok (.getfield 16, 3) := dk_180 0 16 (dk_at dksX13_holds_1 14 rfl rfl)
theorem dX13_holds_41 : decode cX13_holds 41 = .ok (.ifCond .ne 7, 3) := dk_154 0 7 (dk_at dksX13_holds_1 17 rfl rfl)
theorem dX13_holds_44 : decode cX13_holds 44 = .ok (.iconst 1, 1) := dk_4 (dk_at dksX13_holds_1 20 rfl rfl)
theorem dX13_holds_45 : decode cX13_holds 45 = .ok (.goto 4, 3) := dk_167 0 4 (dk_at dksX13_holds_1 21 rfl rfl)
theorem dX13_holds_48 : decode cX13_holds 48 = .ok (.iconst 0, 1) := dk_3 (dk_at dksX13_holds_2 0 rfl rfl)
theorem dX13_holds_49 : decode cX13_holds 49 = .ok (.ireturn, 1) := dk_172 (dk_at dksX13_holds_2 1 rfl rfl)
theorem dX13_holds_50 : decode cX13_holds 50 = .ok (.iinc 2 1, 3) := dk_132 2 1 (dk_at dksX13_holds_2 2 rfl rfl)
theorem dX13_holds_53 : decode cX13_holds 53 = .ok (.goto (-51), 3) := dk_167 255 205 (dk_at dksX13_holds_2 5 rfl rfl)
theorem dX13_holds_56 : decode cX13_holds 56 = .ok (.aload_n 0, 1) := dk_42 (dk_at dksX13_holds_2 8 rfl rfl)
theorem dX13_holds_57 : decode cX13_holds 57 = .ok (.getfield 16, 3) := dk_180 0 16 (dk_at dksX13_holds_2 9 rfl rfl)
theorem dX13_holds_60 : decode cX13_holds 60 = .ok (.ireturn, 1) := dk_172 (dk_at dksX13_holds_2 12 rfl rfl)
theorem q117 : (Jvm.Cond.initialized "ShadowSpell$Several") ∈ lw_all := lw_g (lw_at lw_m1 46 rfl) rfl
theorem q764 : (Jvm.Cond.selects "ShadowSpell$Several" ({ cls := "java/lang/Object", name := "getClass", desc := "()Ljava/lang/Class;" } : Jvm.MethodName) ({ cls := "java/lang/Object", name := "getClass", desc := "()Ljava/lang/Class;" } : Jvm.MethodName)) ∈ lw_all := lw_g (lw_at lw_m3 213 rfl) rfl
theorem q995 : (Jvm.Cond.selects "ShadowSpell$Several" ({ cls := "java/lang/Object", name := "hashCode", desc := "()I" } : Jvm.MethodName) ({ cls := "java/lang/Object", name := "hashCode", desc := "()I" } : Jvm.MethodName)) ∈ lw_all := lw_g (lw_at lw_m4 204 rfl) rfl
theorem q1109 : (Jvm.Cond.selects "ShadowSpell$Several" ({ cls := "java/lang/Object", name := "equals", desc := "(Ljava/lang/Object;)Z" } : Jvm.MethodName) ({ cls := "java/lang/Object", name := "equals", desc := "(Ljava/lang/Object;)Z" } : Jvm.MethodName)) ∈ lw_all := lw_g (lw_at lw_m5 78 rfl) rfl
theorem q1731 : (Jvm.Cond.instantiable "ShadowSpell$Several" (2 : Nat)) ∈ lw_all := lw_g (lw_at lw_m7 220 rfl) rfl
theorem q1733 : (Jvm.Cond.instanceMethod ({ cls := "ShadowSpell$Several", name := "<init>", desc := "(Z)V" } : Jvm.MethodName)) ∈ lw_all := lw_g (lw_at lw_m7 222 rfl) rfl
theorem q1734 : (Jvm.Cond.code ({ cls := "ShadowSpell$Several", name := "<init>", desc := "(Z)V" } : Jvm.MethodName) prog_18_method_1_code (2 : Nat) (Option.none : Option Jvm.ClassFile.FieldType)) ∈ lw_all := lw_g (lw_at lw_m7 223 rfl) rfl
theorem q1735 : (Jvm.Cond.methodLink "ShadowSpell$Several" (1 : Nat) ({ cls := "java/lang/Object", name := "<init>", desc := "()V" } : Jvm.MethodName)) ∈ lw_all := lw_g (lw_at lw_m7 224 rfl) rfl
theorem q1736 : (Jvm.Cond.classLink "ShadowSpell$Several" (7 : Nat) "java/util/ArrayList") ∈ lw_all := lw_g (lw_at lw_m7 225 rfl) rfl
theorem q1737 : (Jvm.Cond.methodLink "ShadowSpell$Several" (9 : Nat) ({ cls := "java/util/ArrayList", name := "<init>", desc := "()V" } : Jvm.MethodName)) ∈ lw_all := lw_g (lw_at lw_m7 226 rfl) rfl
theorem q1738 : (Jvm.Cond.fieldLink "ShadowSpell$Several" (16 : Nat) "ShadowSpell$Several" "isAll" "Z") ∈ lw_all := lw_g (lw_at lw_m7 227 rfl) rfl
theorem q1739 : (Jvm.Cond.fieldLink "ShadowSpell$Several" (10 : Nat) "ShadowSpell$Several" "tests" "Ljava/util/ArrayList;") ∈ lw_all := lw_g (lw_at lw_m7 228 rfl) rfl
theorem q1741 : (Jvm.Cond.laysFinal "ShadowSpell$Several" "ShadowSpell$Several" "isAll" "Z") ∈ lw_all := lw_g (lw_at lw_m7 230 rfl) rfl
theorem q1742 : (Jvm.Cond.soleField "ShadowSpell$Several" "isAll") ∈ lw_all := lw_g (lw_at lw_m7 231 rfl) rfl
theorem q1743 : (Jvm.Cond.laysFinal "ShadowSpell$Several" "ShadowSpell$Several" "tests" "Ljava/util/ArrayList;") ∈ lw_all := lw_g (lw_at lw_m7 232 rfl) rfl
theorem q1744 : (Jvm.Cond.soleField "ShadowSpell$Several" "tests") ∈ lw_all := lw_g (lw_at lw_m7 233 rfl) rfl
theorem q1745 : (Jvm.Cond.superclass "ShadowSpell$Several" "java/lang/Object") ∈ lw_all := lw_g (lw_at lw_m7 234 rfl) rfl
theorem q2417 : (Jvm.Cond.castable "ShadowSpell$Several" "ShadowSpell$Test") ∈ lw_tbl := lw_at lw_m10 186 rfl
theorem q2418 : (Jvm.Cond.selects "ShadowSpell$Several" ({ cls := "ShadowSpell$Test", name := "holds", desc := "(LShadowSpell$Sky;)Z" } : Jvm.MethodName) ({ cls := "ShadowSpell$Several", name := "holds", desc := "(LShadowSpell$Sky;)Z" } : Jvm.MethodName)) ∈ lw_all := lw_g (lw_at lw_m10 187 rfl) rfl
theorem q2419 : (Jvm.Cond.unhidden "ShadowSpell$Several" "holds" "(LShadowSpell$Sky;)Z") ∈ lw_tbl := lw_at lw_m10 188 rfl
theorem q2420 : (Jvm.Cond.instanceMethod ({ cls := "ShadowSpell$Several", name := "holds", desc := "(LShadowSpell$Sky;)Z" } : Jvm.MethodName)) ∈ lw_all := lw_g (lw_at lw_m10 189 rfl) rfl
theorem q2421 : (Jvm.Cond.publicMethod ({ cls := "ShadowSpell$Several", name := "holds", desc := "(LShadowSpell$Sky;)Z" } : Jvm.MethodName)) ∈ lw_tbl := lw_at lw_m10 190 rfl
theorem q2422 : (Jvm.Cond.code ({ cls := "ShadowSpell$Several", name := "holds", desc := "(LShadowSpell$Sky;)Z" } : Jvm.MethodName) prog_18_method_2_code (3 : Nat) (Option.some Jvm.ClassFile.FieldType.boolean)) ∈ lw_all := lw_g (lw_at lw_m10 191 rfl) rfl
theorem q2423 : (Jvm.Cond.methodLink "ShadowSpell$Several" (20 : Nat) ({ cls := "java/util/ArrayList", name := "size", desc := "()I" } : Jvm.MethodName)) ∈ lw_all := lw_g (lw_at lw_m10 192 rfl) rfl
theorem q2424 : (Jvm.Cond.methodLink "ShadowSpell$Several" (24 : Nat) ({ cls := "java/util/ArrayList", name := "get", desc := "(I)Ljava/lang/Object;" } : Jvm.MethodName)) ∈ lw_all := lw_g (lw_at lw_m10 193 rfl) rfl
theorem q2425 : (Jvm.Cond.classLink "ShadowSpell$Several" (28 : Nat) "ShadowSpell$Test") ∈ lw_all := lw_g (lw_at lw_m10 194 rfl) rfl
theorem q2426 : (Jvm.Cond.interfaceEntry "ShadowSpell$Several" (30 : Nat)) ∈ lw_tbl := lw_at lw_m10 195 rfl
theorem q2427 : (Jvm.Cond.methodLink "ShadowSpell$Several" (30 : Nat) ({ cls := "ShadowSpell$Test", name := "holds", desc := "(LShadowSpell$Sky;)Z" } : Jvm.MethodName)) ∈ lw_all := lw_g (lw_at lw_m10 196 rfl) rfl
theorem q3239 : (Jvm.Cond.castable "ShadowSpell$Several" "java/lang/Object") ∈ lw_tbl := lw_at lw_m14 48 rfl
theorem in_X13 : ∀ w ∈ wsX130, w ∈ lw_all := lw_in wsX130 [1741, 1743] (by decide +kernel) (by decide +kernel)

/-! ShadowSpell$Denied -/
set_option maxRecDepth 100000
def RX14 : String := "ShadowSpell$Denied"
def TX14 : u_T := fun k => match k with
  | _ => ("ShadowSpell$Denied", "test", "LShadowSpell$Test;", true)
def tyX14 : Nat → FieldType := fun k => match k with
  | _ => .object "ShadowSpell$Test"
abbrev wsX140 : List Cond := u_ws RX14 TX14 1
theorem nmX14 : ∀ a, a < 1 → ∀ b, b < 1 → a ≠ b → (TX14 a).2.1 ≠ (TX14 b).2.1 := by decide +kernel
theorem tyX14_ok : ∀ k, k < 1 → parseFieldDescriptor (TX14 k).2.2.1 = some (tyX14 k) := by decide +kernel
abbrev cX14_init : ByteArray := prog_9_method_1_code
def yX14_init : MethodName := ⟨RX14, "<init>", "(LShadowSpell$Test;)V"⟩
def dkwX14_init_0 : List UInt8 := [42, 183, 0, 1, 42, 43, 181, 0, 7, 177]
abbrev dktX14_init_0 : List UInt8 := dkwX14_init_0 ++ []
theorem dksX14_init_0 : cX14_init.data.toList.drop 0 = dktX14_init_0 := by decide +kernel
theorem dX14_init_0 : decode cX14_init 0 = .ok (.aload_n 0, 1) := dk_42 (dk_at dksX14_init_0 0 rfl rfl)
theorem dX14_init_1 : decode cX14_init 1 = .ok (.invokespecial 1, 3) := dk_183 0 1 (dk_at dksX14_init_0 1 rfl rfl)
theorem dX14_init_4 : decode cX14_init 4 = .ok (.aload_n 0, 1) := dk_42 (dk_at dksX14_init_0 4 rfl rfl)
theorem dX14_init_5 : decode cX14_init 5 = .ok (.aload_n 1, 1) := dk_43 (dk_at dksX14_init_0 5 rfl rfl)
theorem dX14_init_6 : decode cX14_init 6 = .ok (.putfield 7, 3) := dk_181 0 7 (dk_at dksX14_init_0 6 rfl rfl)
theorem dX14_init_9 : decode cX14_init 9 = .ok (.return_, 1) := dk_177 (dk_at dksX14_init_0 9 rfl rfl)
abbrev cX14_holds : ByteArray := prog_9_method_2_code
def yX14_holds : MethodName := ⟨RX14, "holds", "(LShadowSpell$Sky;)Z"⟩
def dkwX14_holds_0 : List UInt8 := [42, 180, 0, 7, 43, 185, 0, 13, 2, 0, 154, 0, 7, 4, 167, 0, 4, 3, 172]
abbrev dktX14_holds_0 : List UInt8 := dkwX14_holds_0 ++ []
theorem dksX14_holds_0 : cX14_holds.data.toList.drop 0 = dktX14_holds_0 := by decide +kernel
theorem dX14_holds_0 : decode cX14_holds 0 = .ok (.aload_n 0, 1) := dk_42 (dk_at dksX14_holds_0 0 rfl rfl)
theorem dX14_holds_1 : decode cX14_holds 1 = .ok (.getfield 7, 3) := dk_180 0 7 (dk_at dksX14_holds_0 1 rfl rfl)
theorem dX14_holds_4 : decode cX14_holds 4 = .ok (.aload_n 1, 1) := dk_43 (dk_at dksX14_holds_0 4 rfl rfl)
theorem dX14_holds_5 : decode cX14_holds 5 = .ok (.invokeinterface 13 2, 5) := by decide +kernel
theorem dX14_holds_10 : decode cX14_holds 10 = .ok (.ifCond .ne 7, 3) := dk_154 0 7 (dk_at dksX14_holds_0 10 rfl rfl)
theorem dX14_holds_13 : decode cX14_holds 13 = .ok (.iconst 1, 1) := dk_4 (dk_at dksX14_holds_0 13 rfl rfl)
theorem dX14_holds_14 : decode cX14_holds 14 = .ok (.goto 4, 3) := dk_167 0 4 (dk_at dksX14_holds_0 14 rfl rfl)
theorem dX14_holds_17 : decode cX14_holds 17 = .ok (.iconst 0, 1) := dk_3 (dk_at dksX14_holds_0 17 rfl rfl)
theorem dX14_holds_18 : decode cX14_holds 18 = .ok (.ireturn, 1) := dk_172 (dk_at dksX14_holds_0 18 rfl rfl)
theorem q118 : (Jvm.Cond.initialized "ShadowSpell$Denied") ∈ lw_all := lw_g (lw_at lw_m1 47 rfl) rfl
theorem q755 : (Jvm.Cond.selects "ShadowSpell$Denied" ({ cls := "java/lang/Object", name := "getClass", desc := "()Ljava/lang/Class;" } : Jvm.MethodName) ({ cls := "java/lang/Object", name := "getClass", desc := "()Ljava/lang/Class;" } : Jvm.MethodName)) ∈ lw_all := lw_g (lw_at lw_m3 204 rfl) rfl
theorem q986 : (Jvm.Cond.selects "ShadowSpell$Denied" ({ cls := "java/lang/Object", name := "hashCode", desc := "()I" } : Jvm.MethodName) ({ cls := "java/lang/Object", name := "hashCode", desc := "()I" } : Jvm.MethodName)) ∈ lw_all := lw_g (lw_at lw_m4 195 rfl) rfl
theorem q1100 : (Jvm.Cond.selects "ShadowSpell$Denied" ({ cls := "java/lang/Object", name := "equals", desc := "(Ljava/lang/Object;)Z" } : Jvm.MethodName) ({ cls := "java/lang/Object", name := "equals", desc := "(Ljava/lang/Object;)Z" } : Jvm.MethodName)) ∈ lw_all := lw_g (lw_at lw_m5 69 rfl) rfl
theorem q1760 : (Jvm.Cond.instantiable "ShadowSpell$Denied" (1 : Nat)) ∈ lw_all := lw_g (lw_at lw_m8 9 rfl) rfl
theorem q1762 : (Jvm.Cond.instanceMethod ({ cls := "ShadowSpell$Denied", name := "<init>", desc := "(LShadowSpell$Test;)V" } : Jvm.MethodName)) ∈ lw_all := lw_g (lw_at lw_m8 11 rfl) rfl
theorem q1763 : (Jvm.Cond.code ({ cls := "ShadowSpell$Denied", name := "<init>", desc := "(LShadowSpell$Test;)V" } : Jvm.MethodName) prog_9_method_1_code (2 : Nat) (Option.none : Option Jvm.ClassFile.FieldType)) ∈ lw_all := lw_g (lw_at lw_m8 12 rfl) rfl
theorem q1764 : (Jvm.Cond.methodLink "ShadowSpell$Denied" (1 : Nat) ({ cls := "java/lang/Object", name := "<init>", desc := "()V" } : Jvm.MethodName)) ∈ lw_all := lw_g (lw_at lw_m8 13 rfl) rfl
theorem q1765 : (Jvm.Cond.fieldLink "ShadowSpell$Denied" (7 : Nat) "ShadowSpell$Denied" "test" "LShadowSpell$Test;") ∈ lw_all := lw_g (lw_at lw_m8 14 rfl) rfl
theorem q1766 : (Jvm.Cond.laysFinal "ShadowSpell$Denied" "ShadowSpell$Denied" "test" "LShadowSpell$Test;") ∈ lw_all := lw_g (lw_at lw_m8 15 rfl) rfl
theorem q1767 : (Jvm.Cond.soleField "ShadowSpell$Denied" "test") ∈ lw_all := lw_g (lw_at lw_m8 16 rfl) rfl
theorem q1768 : (Jvm.Cond.superclass "ShadowSpell$Denied" "java/lang/Object") ∈ lw_all := lw_g (lw_at lw_m8 17 rfl) rfl
theorem q2381 : (Jvm.Cond.castable "ShadowSpell$Denied" "ShadowSpell$Test") ∈ lw_tbl := lw_at lw_m10 150 rfl
theorem q2382 : (Jvm.Cond.selects "ShadowSpell$Denied" ({ cls := "ShadowSpell$Test", name := "holds", desc := "(LShadowSpell$Sky;)Z" } : Jvm.MethodName) ({ cls := "ShadowSpell$Denied", name := "holds", desc := "(LShadowSpell$Sky;)Z" } : Jvm.MethodName)) ∈ lw_all := lw_g (lw_at lw_m10 151 rfl) rfl
theorem q2383 : (Jvm.Cond.unhidden "ShadowSpell$Denied" "holds" "(LShadowSpell$Sky;)Z") ∈ lw_tbl := lw_at lw_m10 152 rfl
theorem q2384 : (Jvm.Cond.instanceMethod ({ cls := "ShadowSpell$Denied", name := "holds", desc := "(LShadowSpell$Sky;)Z" } : Jvm.MethodName)) ∈ lw_all := lw_g (lw_at lw_m10 153 rfl) rfl
theorem q2385 : (Jvm.Cond.publicMethod ({ cls := "ShadowSpell$Denied", name := "holds", desc := "(LShadowSpell$Sky;)Z" } : Jvm.MethodName)) ∈ lw_tbl := lw_at lw_m10 154 rfl
theorem q2386 : (Jvm.Cond.code ({ cls := "ShadowSpell$Denied", name := "holds", desc := "(LShadowSpell$Sky;)Z" } : Jvm.MethodName) prog_9_method_2_code (2 : Nat) (Option.some Jvm.ClassFile.FieldType.boolean)) ∈ lw_all := lw_g (lw_at lw_m10 155 rfl) rfl
theorem q2387 : (Jvm.Cond.interfaceEntry "ShadowSpell$Denied" (13 : Nat)) ∈ lw_tbl := lw_at lw_m10 156 rfl
theorem q2388 : (Jvm.Cond.methodLink "ShadowSpell$Denied" (13 : Nat) ({ cls := "ShadowSpell$Test", name := "holds", desc := "(LShadowSpell$Sky;)Z" } : Jvm.MethodName)) ∈ lw_all := lw_g (lw_at lw_m10 157 rfl) rfl
theorem q3240 : (Jvm.Cond.castable "ShadowSpell$Denied" "java/lang/Object") ∈ lw_tbl := lw_at lw_m14 49 rfl
theorem in_X14 : ∀ w ∈ wsX140, w ∈ lw_all := lw_in wsX140 [1766] (by decide +kernel) (by decide +kernel)

/-! ShadowSpell$Back -/
set_option maxRecDepth 100000
def RX15 : String := "ShadowSpell$Back"
def TX15 : u_T := fun k => match k with
  | _ => ("ShadowSpell$Back", "planet", "I", true)
def tyX15 : Nat → FieldType := fun k => match k with
  | _ => .int
abbrev wsX150 : List Cond := u_ws RX15 TX15 1
theorem nmX15 : ∀ a, a < 1 → ∀ b, b < 1 → a ≠ b → (TX15 a).2.1 ≠ (TX15 b).2.1 := by decide +kernel
theorem tyX15_ok : ∀ k, k < 1 → parseFieldDescriptor (TX15 k).2.2.1 = some (tyX15 k) := by decide +kernel
abbrev cX15_init : ByteArray := prog_7_method_1_code
def yX15_init : MethodName := ⟨RX15, "<init>", "(I)V"⟩
def dkwX15_init_0 : List UInt8 := [42, 183, 0, 1, 42, 27, 181, 0, 7, 177]
abbrev dktX15_init_0 : List UInt8 := dkwX15_init_0 ++ []
theorem dksX15_init_0 : cX15_init.data.toList.drop 0 = dktX15_init_0 := by decide +kernel
theorem dX15_init_0 : decode cX15_init 0 = .ok (.aload_n 0, 1) := dk_42 (dk_at dksX15_init_0 0 rfl rfl)
theorem dX15_init_1 : decode cX15_init 1 = .ok (.invokespecial 1, 3) := dk_183 0 1 (dk_at dksX15_init_0 1 rfl rfl)
theorem dX15_init_4 : decode cX15_init 4 = .ok (.aload_n 0, 1) := dk_42 (dk_at dksX15_init_0 4 rfl rfl)
theorem dX15_init_5 : decode cX15_init 5 = .ok (.iload_n 1, 1) := dk_27 (dk_at dksX15_init_0 5 rfl rfl)
theorem dX15_init_6 : decode cX15_init 6 = .ok (.putfield 7, 3) := dk_181 0 7 (dk_at dksX15_init_0 6 rfl rfl)
theorem dX15_init_9 : decode cX15_init 9 = .ok (.return_, 1) := dk_177 (dk_at dksX15_init_0 9 rfl rfl)
abbrev cX15_holds : ByteArray := prog_7_method_2_code
def yX15_holds : MethodName := ⟨RX15, "holds", "(LShadowSpell$Sky;)Z"⟩
def dkwX15_holds_0 : List UInt8 := [43, 180, 0, 13, 42, 180, 0, 7, 182, 0, 19, 192, 0, 25, 43, 180, 0, 27, 182, 0, 30, 172]
abbrev dktX15_holds_0 : List UInt8 := dkwX15_holds_0 ++ []
theorem dksX15_holds_0 : cX15_holds.data.toList.drop 0 = dktX15_holds_0 := by decide +kernel
theorem dX15_holds_0 : decode cX15_holds 0 = .ok (.aload_n 1, 1) := dk_43 (dk_at dksX15_holds_0 0 rfl rfl)
theorem dX15_holds_1 : decode cX15_holds 1 = .ok (.getfield 13, 3) := dk_180 0 13 (dk_at dksX15_holds_0 1 rfl rfl)
theorem dX15_holds_4 : decode cX15_holds 4 = .ok (.aload_n 0, 1) := dk_42 (dk_at dksX15_holds_0 4 rfl rfl)
theorem dX15_holds_5 : decode cX15_holds 5 = .ok (.getfield 7, 3) := dk_180 0 7 (dk_at dksX15_holds_0 5 rfl rfl)
theorem dX15_holds_8 : decode cX15_holds 8 = .ok (.invokevirtual 19, 3) := dk_182 0 19 (dk_at dksX15_holds_0 8 rfl rfl)
theorem dX15_holds_11 : decode cX15_holds 11 = .ok (.checkcast 25, 3) := dk_192 0 25 (dk_at dksX15_holds_0 11 rfl rfl)
theorem dX15_holds_14 : decode cX15_holds 14 = .ok (.aload_n 1, 1) := dk_43 (dk_at dksX15_holds_0 14 rfl rfl)
theorem dX15_holds_15 : decode cX15_holds 15 = .ok (.getfield 27, 3) := dk_180 0 27 (dk_at dksX15_holds_0 15 rfl rfl)
theorem dX15_holds_18 : decode cX15_holds 18 = .ok (.invokevirtual 30, 3) := dk_182 0 30 (dk_at dksX15_holds_0 18 rfl rfl)
theorem dX15_holds_21 : decode cX15_holds 21 = .ok (.ireturn, 1) := dk_172 (dk_at dksX15_holds_0 21 rfl rfl)
theorem q119 : (Jvm.Cond.initialized "ShadowSpell$Back") ∈ lw_all := lw_g (lw_at lw_m1 48 rfl) rfl
theorem q229 : (Jvm.Cond.fieldLinkNest "ShadowSpell$Back" (13 : Nat) "ShadowSpell$Sky" "planets" "Ljava/util/ArrayList;" "ShadowSpell") ∈ lw_tbl := lw_at lw_m1 158 rfl
theorem q245 : (Jvm.Cond.fieldLinkNest "ShadowSpell$Back" (27 : Nat) "ShadowSpell$Sky" "day" "I" "ShadowSpell") ∈ lw_tbl := lw_at lw_m1 174 rfl
theorem q753 : (Jvm.Cond.selects "ShadowSpell$Back" ({ cls := "java/lang/Object", name := "getClass", desc := "()Ljava/lang/Class;" } : Jvm.MethodName) ({ cls := "java/lang/Object", name := "getClass", desc := "()Ljava/lang/Class;" } : Jvm.MethodName)) ∈ lw_all := lw_g (lw_at lw_m3 202 rfl) rfl
theorem q984 : (Jvm.Cond.selects "ShadowSpell$Back" ({ cls := "java/lang/Object", name := "hashCode", desc := "()I" } : Jvm.MethodName) ({ cls := "java/lang/Object", name := "hashCode", desc := "()I" } : Jvm.MethodName)) ∈ lw_all := lw_g (lw_at lw_m4 193 rfl) rfl
theorem q1098 : (Jvm.Cond.selects "ShadowSpell$Back" ({ cls := "java/lang/Object", name := "equals", desc := "(Ljava/lang/Object;)Z" } : Jvm.MethodName) ({ cls := "java/lang/Object", name := "equals", desc := "(Ljava/lang/Object;)Z" } : Jvm.MethodName)) ∈ lw_all := lw_g (lw_at lw_m5 67 rfl) rfl
theorem q1776 : (Jvm.Cond.instantiable "ShadowSpell$Back" (1 : Nat)) ∈ lw_all := lw_g (lw_at lw_m8 25 rfl) rfl
theorem q1807 : (Jvm.Cond.instanceMethod ({ cls := "ShadowSpell$Back", name := "<init>", desc := "(I)V" } : Jvm.MethodName)) ∈ lw_all := lw_g (lw_at lw_m8 56 rfl) rfl
theorem q1808 : (Jvm.Cond.code ({ cls := "ShadowSpell$Back", name := "<init>", desc := "(I)V" } : Jvm.MethodName) prog_7_method_1_code (2 : Nat) (Option.none : Option Jvm.ClassFile.FieldType)) ∈ lw_all := lw_g (lw_at lw_m8 57 rfl) rfl
theorem q1809 : (Jvm.Cond.methodLink "ShadowSpell$Back" (1 : Nat) ({ cls := "java/lang/Object", name := "<init>", desc := "()V" } : Jvm.MethodName)) ∈ lw_all := lw_g (lw_at lw_m8 58 rfl) rfl
theorem q1810 : (Jvm.Cond.fieldLink "ShadowSpell$Back" (7 : Nat) "ShadowSpell$Back" "planet" "I") ∈ lw_all := lw_g (lw_at lw_m8 59 rfl) rfl
theorem q1811 : (Jvm.Cond.laysFinal "ShadowSpell$Back" "ShadowSpell$Back" "planet" "I") ∈ lw_all := lw_g (lw_at lw_m8 60 rfl) rfl
theorem q1812 : (Jvm.Cond.soleField "ShadowSpell$Back" "planet") ∈ lw_all := lw_g (lw_at lw_m8 61 rfl) rfl
theorem q1813 : (Jvm.Cond.superclass "ShadowSpell$Back" "java/lang/Object") ∈ lw_all := lw_g (lw_at lw_m8 62 rfl) rfl
theorem q2289 : (Jvm.Cond.castable "ShadowSpell$Back" "ShadowSpell$Test") ∈ lw_tbl := lw_at lw_m10 58 rfl
theorem q2290 : (Jvm.Cond.selects "ShadowSpell$Back" ({ cls := "ShadowSpell$Test", name := "holds", desc := "(LShadowSpell$Sky;)Z" } : Jvm.MethodName) ({ cls := "ShadowSpell$Back", name := "holds", desc := "(LShadowSpell$Sky;)Z" } : Jvm.MethodName)) ∈ lw_all := lw_g (lw_at lw_m10 59 rfl) rfl
theorem q2291 : (Jvm.Cond.unhidden "ShadowSpell$Back" "holds" "(LShadowSpell$Sky;)Z") ∈ lw_tbl := lw_at lw_m10 60 rfl
theorem q2292 : (Jvm.Cond.instanceMethod ({ cls := "ShadowSpell$Back", name := "holds", desc := "(LShadowSpell$Sky;)Z" } : Jvm.MethodName)) ∈ lw_all := lw_g (lw_at lw_m10 61 rfl) rfl
theorem q2293 : (Jvm.Cond.publicMethod ({ cls := "ShadowSpell$Back", name := "holds", desc := "(LShadowSpell$Sky;)Z" } : Jvm.MethodName)) ∈ lw_tbl := lw_at lw_m10 62 rfl
theorem q2294 : (Jvm.Cond.code ({ cls := "ShadowSpell$Back", name := "holds", desc := "(LShadowSpell$Sky;)Z" } : Jvm.MethodName) prog_7_method_2_code (2 : Nat) (Option.some Jvm.ClassFile.FieldType.boolean)) ∈ lw_all := lw_g (lw_at lw_m10 63 rfl) rfl
theorem q2295 : (Jvm.Cond.methodLink "ShadowSpell$Back" (19 : Nat) ({ cls := "java/util/ArrayList", name := "get", desc := "(I)Ljava/lang/Object;" } : Jvm.MethodName)) ∈ lw_all := lw_g (lw_at lw_m10 64 rfl) rfl
theorem q2296 : (Jvm.Cond.classLink "ShadowSpell$Back" (25 : Nat) "ShadowSpell$Planet") ∈ lw_all := lw_g (lw_at lw_m10 65 rfl) rfl
theorem q2297 : (Jvm.Cond.methodLink "ShadowSpell$Back" (30 : Nat) ({ cls := "ShadowSpell$Planet", name := "isRetro", desc := "(I)Z" } : Jvm.MethodName)) ∈ lw_all := lw_g (lw_at lw_m10 66 rfl) rfl
theorem q3241 : (Jvm.Cond.castable "ShadowSpell$Back" "java/lang/Object") ∈ lw_tbl := lw_at lw_m14 50 rfl
theorem in_X15 : ∀ w ∈ wsX150, w ∈ lw_all := lw_in wsX150 [1811] (by decide +kernel) (by decide +kernel)

/-! ShadowSpell$Aspect -/
set_option maxRecDepth 100000
def RX16 : String := "ShadowSpell$Aspect"
abbrev cX16_of : ByteArray := prog_4_method_5_code
def yX16_of : MethodName := ⟨RX16, "of", "(Z)LShadowSpell$Aspect;"⟩
def dkwX16_of_0 : List UInt8 := [26, 153, 0, 9, 178, 0, 9, 167, 0, 6, 178, 0, 5, 176]
abbrev dktX16_of_0 : List UInt8 := dkwX16_of_0 ++ []
theorem dksX16_of_0 : cX16_of.data.toList.drop 0 = dktX16_of_0 := by decide +kernel
theorem dX16_of_0 : decode cX16_of 0 = .ok (.iload_n 0, 1) := dk_26 (dk_at dksX16_of_0 0 rfl rfl)
theorem dX16_of_1 : decode cX16_of 1 = .ok (.ifCond .eq 9, 3) := dk_153 0 9 (dk_at dksX16_of_0 1 rfl rfl)
theorem dX16_of_4 : decode cX16_of 4 = .ok (.getstatic 9, 3) := dk_178 0 9 (dk_at dksX16_of_0 4 rfl rfl)
theorem dX16_of_7 : decode cX16_of 7 = .ok (.goto 6, 3) := dk_167 0 6 (dk_at dksX16_of_0 7 rfl rfl)
theorem dX16_of_10 : decode cX16_of 10 = .ok (.getstatic 5, 3) := dk_178 0 5 (dk_at dksX16_of_0 10 rfl rfl)
theorem dX16_of_13 : decode cX16_of 13 = .ok (.areturn, 1) := dk_176 (dk_at dksX16_of_0 13 rfl rfl)
abbrev cX16_gap : ByteArray := prog_4_method_6_code
def yX16_gap : MethodName := ⟨RX16, "gap", "(II)I"⟩
def dkwX16_gap_0 : List UInt8 := [17, 0, 180, 17, 0, 180, 26, 100, 27, 96, 17, 1, 104, 184, 0, 31, 100, 172]
abbrev dktX16_gap_0 : List UInt8 := dkwX16_gap_0 ++ []
theorem dksX16_gap_0 : cX16_gap.data.toList.drop 0 = dktX16_gap_0 := by decide +kernel
theorem dX16_gap_0 : decode cX16_gap 0 = .ok (.sipush 180, 3) := dk_17 0 180 (dk_at dksX16_gap_0 0 rfl rfl)
theorem dX16_gap_3 : decode cX16_gap 3 = .ok (.sipush 180, 3) := dk_17 0 180 (dk_at dksX16_gap_0 3 rfl rfl)
theorem dX16_gap_6 : decode cX16_gap 6 = .ok (.iload_n 0, 1) := dk_26 (dk_at dksX16_gap_0 6 rfl rfl)
theorem dX16_gap_7 : decode cX16_gap 7 = .ok (.isub, 1) := dk_100 (dk_at dksX16_gap_0 7 rfl rfl)
theorem dX16_gap_8 : decode cX16_gap 8 = .ok (.iload_n 1, 1) := dk_27 (dk_at dksX16_gap_0 8 rfl rfl)
theorem dX16_gap_9 : decode cX16_gap 9 = .ok (.iadd, 1) := dk_96 (dk_at dksX16_gap_0 9 rfl rfl)
theorem dX16_gap_10 : decode cX16_gap 10 = .ok (.sipush 360, 3) := dk_17 1 104 (dk_at dksX16_gap_0 10 rfl rfl)
theorem dX16_gap_13 : decode cX16_gap 13 = .ok (.invokestatic 31, 3) := dk_184 0 31 (dk_at dksX16_gap_0 13 rfl rfl)
theorem dX16_gap_16 : decode cX16_gap 16 = .ok (.isub, 1) := dk_100 (dk_at dksX16_gap_0 16 rfl rfl)
theorem dX16_gap_17 : decode cX16_gap 17 = .ok (.ireturn, 1) := dk_172 (dk_at dksX16_gap_0 17 rfl rfl)
abbrev cX16_is : ByteArray := prog_4_method_7_code
def yX16_is : MethodName := ⟨RX16, "is", "(LShadowSpell$Planet;LShadowSpell$Planet;)Z"⟩
def dkwX16_is_3 : List UInt8 := [162, 0, 7, 4, 167, 0, 4, 3, 172]
abbrev dktX16_is_3 : List UInt8 := dkwX16_is_3 ++ []
def dkwX16_is_2 : List UInt8 := [156, 0, 31, 167, 0, 8, 21, 4, 158, 0, 23, 29, 184, 0, 53, 21, 4, 184, 0, 53, 96, 17, 0, 180]
abbrev dktX16_is_2 : List UInt8 := dkwX16_is_2 ++ dktX16_is_3
def dkwX16_is_1 : List UInt8 := [180, 0, 50, 44, 180, 0, 50, 42, 182, 0, 43, 96, 184, 0, 47, 54, 4, 29, 158, 0, 11, 21, 4]
abbrev dktX16_is_1 : List UInt8 := dkwX16_is_1 ++ dktX16_is_2
def dkwX16_is_0 : List UInt8 := [43, 180, 0, 37, 44, 180, 0, 37, 42, 182, 0, 43, 96, 184, 0, 47, 62, 29, 154, 0, 5, 4, 172, 43]
abbrev dktX16_is_0 : List UInt8 := dkwX16_is_0 ++ dktX16_is_1
theorem dksX16_is_0 : cX16_is.data.toList.drop 0 = dktX16_is_0 := by decide +kernel
theorem dksX16_is_1 : cX16_is.data.toList.drop 24 = dktX16_is_1 := dk_seg dksX16_is_0 24 rfl rfl
theorem dksX16_is_2 : cX16_is.data.toList.drop 47 = dktX16_is_2 := dk_seg dksX16_is_1 23 rfl rfl
theorem dksX16_is_3 : cX16_is.data.toList.drop 71 = dktX16_is_3 := dk_seg dksX16_is_2 24 rfl rfl
theorem dX16_is_0 : decode cX16_is 0 = .ok (.aload_n 1, 1) := dk_43 (dk_at dksX16_is_0 0 rfl rfl)
theorem dX16_is_1 : decode cX16_is 1 = .ok (.getfield 37, 3) := dk_180 0 37 (dk_at dksX16_is_0 1 rfl rfl)
theorem dX16_is_4 : decode cX16_is 4 = .ok (.aload_n 2, 1) := dk_44 (dk_at dksX16_is_0 4 rfl rfl)
theorem dX16_is_5 : decode cX16_is 5 = .ok (.getfield 37, 3) := dk_180 0 37 (dk_at dksX16_is_0 5 rfl rfl)
theorem dX16_is_8 : decode cX16_is 8 = .ok (.aload_n 0, 1) := dk_42 (dk_at dksX16_is_0 8 rfl rfl)
theorem dX16_is_9 : decode cX16_is 9 = .ok (.invokevirtual 43, 3) := dk_182 0 43 (dk_at dksX16_is_0 9 rfl rfl)
theorem dX16_is_12 : decode cX16_is 12 = .ok (.iadd, 1) := dk_96 (dk_at dksX16_is_0 12 rfl rfl)
theorem dX16_is_13 : decode cX16_is 13 = .ok (.invokestatic 47, 3) := dk_184 0 47 (dk_at dksX16_is_0 13 rfl rfl)
theorem dX16_is_16 : decode cX16_is 16 = .ok (.istore_n 3, 1) := dk_62 (dk_at dksX16_is_0 16 rfl rfl)
theorem dX16_is_17 : decode cX16_is 17 = .ok (.iload_n 3, 1) := dk_29 (dk_at dksX16_is_0 17 rfl rfl)
theorem dX16_is_18 : decode cX16_is 18 = .ok (.ifCond .ne 5, 3) := dk_154 0 5 (dk_at dksX16_is_0 18 rfl rfl)
theorem dX16_is_21 : decode cX16_is 21 = .ok (.iconst 1, 1) := dk_4 (dk_at dksX16_is_0 21 rfl rfl)
theorem dX16_is_22 : decode cX16_is 22 = .ok (.ireturn, 1) := dk_172 (dk_at dksX16_is_0 22 rfl rfl)
theorem dX16_is_23 : decode cX16_is 23 = .ok (.aload_n 1, 1) := dk_43 (dk_at dksX16_is_0 23 rfl rfl)
theorem dX16_is_24 : decode cX16_is 24 = .ok (.getfield 50, 3) := dk_180 0 50 (dk_at dksX16_is_1 0 rfl rfl)
theorem dX16_is_27 : decode cX16_is 27 = .ok (.aload_n 2, 1) := dk_44 (dk_at dksX16_is_1 3 rfl rfl)
theorem dX16_is_28 : decode cX16_is 28 = .ok (.getfield 50, 3) := dk_180 0 50 (dk_at dksX16_is_1 4 rfl rfl)
theorem dX16_is_31 : decode cX16_is 31 = .ok (.aload_n 0, 1) := dk_42 (dk_at dksX16_is_1 7 rfl rfl)
theorem dX16_is_32 : decode cX16_is 32 = .ok (.invokevirtual 43, 3) := dk_182 0 43 (dk_at dksX16_is_1 8 rfl rfl)
theorem dX16_is_35 : decode cX16_is 35 = .ok (.iadd, 1) := dk_96 (dk_at dksX16_is_1 11 rfl rfl)
theorem dX16_is_36 : decode cX16_is 36 = .ok (.invokestatic 47, 3) := dk_184 0 47 (dk_at dksX16_is_1 12 rfl rfl)
theorem dX16_is_39 : decode cX16_is 39 = .ok (.istore 4, 2) := dk_54 4 (dk_at dksX16_is_1 15 rfl rfl)
theorem dX16_is_41 : decode cX16_is 41 = .ok (.iload_n 3, 1) := dk_29 (dk_at dksX16_is_1 17 rfl rfl)
theorem dX16_is_42 : decode cX16_is 42 = .ok (.ifCond .le 11, 3) := dk_158 0 11 (dk_at dksX16_is_1 18 rfl rfl)
theorem dX16_is_45 : decode cX16_is 45 = .ok (.iload 4, 2) := dk_21 4 (dk_at dksX16_is_1 21 rfl rfl)
theorem dX16_is_47 : decode cX16_is 47 = .ok (.ifCond .ge 31, 3) := dk_156 0 31 (dk_at dksX16_is_2 0 rfl rfl)
theorem dX16_is_50 : decode cX16_is 50 = .ok (.goto 8, 3) := dk_167 0 8 (dk_at dksX16_is_2 3 rfl rfl)
theorem dX16_is_53 : decode cX16_is 53 = .ok (.iload 4, 2) := dk_21 4 (dk_at dksX16_is_2 6 rfl rfl)
theorem dX16_is_55 : decode cX16_is 55 = .ok (.ifCond .le 23, 3) := dk_158 0 23 (dk_at dksX16_is_2 8 rfl rfl)
theorem dX16_is_58 : decode cX16_is 58 = .ok (.iload_n 3, 1) := dk_29 (dk_at dksX16_is_2 11 rfl rfl)
theorem dX16_is_59 : decode cX16_is 59 = .ok (.invokestatic 53, 3) := dk_184 0 53 (dk_at dksX16_is_2 12 rfl rfl)
theorem dX16_is_62 : decode cX16_is 62 = .ok (.iload 4, 2) := dk_21 4 (dk_at dksX16_is_2 15 rfl rfl)
theorem dX16_is_64 : decode cX16_is 64 = .ok (.invokestatic 53, 3) := dk_184 0 53 (dk_at dksX16_is_2 17 rfl rfl)
theorem dX16_is_67 : decode cX16_is 67 = .ok (.iadd, 1) := dk_96 (dk_at dksX16_is_2 20 rfl rfl)
theorem dX16_is_68 : decode cX16_is 68 = .ok (.sipush 180, 3) := dk_17 0 180 (dk_at dksX16_is_2 21 rfl rfl)
theorem dX16_is_71 : decode cX16_is 71 = .ok (.if_icmp .ge 7, 3) := dk_162 0 7 (dk_at dksX16_is_3 0 rfl rfl)
theorem dX16_is_74 : decode cX16_is 74 = .ok (.iconst 1, 1) := dk_4 (dk_at dksX16_is_3 3 rfl rfl)
theorem dX16_is_75 : decode cX16_is 75 = .ok (.goto 4, 3) := dk_167 0 4 (dk_at dksX16_is_3 4 rfl rfl)
theorem dX16_is_78 : decode cX16_is 78 = .ok (.iconst 0, 1) := dk_3 (dk_at dksX16_is_3 7 rfl rfl)
theorem dX16_is_79 : decode cX16_is 79 = .ok (.ireturn, 1) := dk_172 (dk_at dksX16_is_3 8 rfl rfl)
theorem q121 : (Jvm.Cond.initialized "ShadowSpell$Aspect") ∈ lw_all := lw_g (lw_at lw_m1 50 rfl) rfl
theorem q1674 : (Jvm.Cond.fieldLinkNest "ShadowSpell$Aspect" (37 : Nat) "ShadowSpell$Planet" "angle" "I" "ShadowSpell") ∈ lw_tbl := lw_at lw_m7 163 rfl
theorem q1677 : (Jvm.Cond.fieldLinkNest "ShadowSpell$Aspect" (50 : Nat) "ShadowSpell$Planet" "before" "I" "ShadowSpell") ∈ lw_tbl := lw_at lw_m7 166 rfl
theorem q1817 : (Jvm.Cond.static ({ cls := "ShadowSpell$Aspect", name := "of", desc := "(Z)LShadowSpell$Aspect;" } : Jvm.MethodName)) ∈ lw_all := lw_g (lw_at lw_m8 66 rfl) rfl
theorem q1818 : (Jvm.Cond.code ({ cls := "ShadowSpell$Aspect", name := "of", desc := "(Z)LShadowSpell$Aspect;" } : Jvm.MethodName) prog_4_method_5_code (1 : Nat) (Option.some (Jvm.ClassFile.FieldType.object "ShadowSpell$Aspect"))) ∈ lw_all := lw_g (lw_at lw_m8 67 rfl) rfl
theorem q1819 : (Jvm.Cond.fieldLink "ShadowSpell$Aspect" (9 : Nat) "ShadowSpell$Aspect" "OPPOSITE" "LShadowSpell$Aspect;") ∈ lw_all := lw_g (lw_at lw_m8 68 rfl) rfl
theorem q1820 : (Jvm.Cond.laysStatic "ShadowSpell$Aspect" "OPPOSITE" "LShadowSpell$Aspect;") ∈ lw_tbl := lw_at lw_m8 69 rfl
theorem q1821 : (Jvm.Cond.fieldLink "ShadowSpell$Aspect" (5 : Nat) "ShadowSpell$Aspect" "TRANSIT" "LShadowSpell$Aspect;") ∈ lw_all := lw_g (lw_at lw_m8 70 rfl) rfl
theorem q1822 : (Jvm.Cond.laysStatic "ShadowSpell$Aspect" "TRANSIT" "LShadowSpell$Aspect;") ∈ lw_tbl := lw_at lw_m8 71 rfl
theorem q2338 : (Jvm.Cond.static ({ cls := "ShadowSpell$Aspect", name := "gap", desc := "(II)I" } : Jvm.MethodName)) ∈ lw_all := lw_g (lw_at lw_m10 107 rfl) rfl
theorem q2339 : (Jvm.Cond.code ({ cls := "ShadowSpell$Aspect", name := "gap", desc := "(II)I" } : Jvm.MethodName) prog_4_method_6_code (2 : Nat) (Option.some Jvm.ClassFile.FieldType.int)) ∈ lw_all := lw_g (lw_at lw_m10 108 rfl) rfl
theorem q2340 : (Jvm.Cond.methodLink "ShadowSpell$Aspect" (31 : Nat) ({ cls := "java/lang/Math", name := "floorMod", desc := "(II)I" } : Jvm.MethodName)) ∈ lw_all := lw_g (lw_at lw_m10 109 rfl) rfl
theorem q2399 : (Jvm.Cond.instanceMethod ({ cls := "ShadowSpell$Aspect", name := "is", desc := "(LShadowSpell$Planet;LShadowSpell$Planet;)Z" } : Jvm.MethodName)) ∈ lw_all := lw_g (lw_at lw_m10 168 rfl) rfl
theorem q2400 : (Jvm.Cond.sameMethod "ShadowSpell$Aspect" "ShadowSpell$Aspect" "is" "(LShadowSpell$Planet;LShadowSpell$Planet;)Z") ∈ lw_all := lw_g (lw_at lw_m10 169 rfl) rfl
theorem q2403 : (Jvm.Cond.code ({ cls := "ShadowSpell$Aspect", name := "is", desc := "(LShadowSpell$Planet;LShadowSpell$Planet;)Z" } : Jvm.MethodName) prog_4_method_7_code (5 : Nat) (Option.some Jvm.ClassFile.FieldType.boolean)) ∈ lw_all := lw_g (lw_at lw_m10 172 rfl) rfl
theorem q2404 : (Jvm.Cond.methodLink "ShadowSpell$Aspect" (43 : Nat) ({ cls := "ShadowSpell$Aspect", name := "turned", desc := "()I" } : Jvm.MethodName)) ∈ lw_all := lw_g (lw_at lw_m10 173 rfl) rfl
theorem q2405 : (Jvm.Cond.declares ({ cls := "ShadowSpell$Aspect", name := "turned", desc := "()I" } : Jvm.MethodName)) ∈ lw_tbl := lw_at lw_m10 174 rfl
theorem q2406 : (Jvm.Cond.sameMethod "ShadowSpell$Aspect" "ShadowSpell$Aspect" "turned" "()I") ∈ lw_all := lw_g (lw_at lw_m10 175 rfl) rfl
theorem q2413 : (Jvm.Cond.methodLink "ShadowSpell$Aspect" (47 : Nat) ({ cls := "ShadowSpell$Aspect", name := "gap", desc := "(II)I" } : Jvm.MethodName)) ∈ lw_all := lw_g (lw_at lw_m10 182 rfl) rfl
theorem q2414 : (Jvm.Cond.methodLink "ShadowSpell$Aspect" (53 : Nat) ({ cls := "java/lang/Math", name := "abs", desc := "(I)I" } : Jvm.MethodName)) ∈ lw_all := lw_g (lw_at lw_m10 183 rfl) rfl
theorem q3273 : (Jvm.Cond.castable "ShadowSpell$Aspect" "java/lang/Object") ∈ lw_tbl := lw_at lw_m14 82 rfl

/-! ShadowSpell$Seen -/
set_option maxRecDepth 100000
def RX17 : String := "ShadowSpell$Seen"
def TX17 : u_T := fun k => match k with
  | 0 => ("ShadowSpell$Seen", "aspect", "LShadowSpell$Aspect;", true)
  | 1 => ("ShadowSpell$Seen", "a", "I", true)
  | _ => ("ShadowSpell$Seen", "b", "I", true)
def tyX17 : Nat → FieldType := fun k => match k with
  | 0 => .object "ShadowSpell$Aspect"
  | 1 => .int
  | _ => .int
abbrev wsX170 : List Cond := u_ws RX17 TX17 3
theorem nmX17 : ∀ a, a < 3 → ∀ b, b < 3 → a ≠ b → (TX17 a).2.1 ≠ (TX17 b).2.1 := by decide +kernel
theorem tyX17_ok : ∀ k, k < 3 → parseFieldDescriptor (TX17 k).2.2.1 = some (tyX17 k) := by decide +kernel
abbrev cX17_init : ByteArray := prog_17_method_1_code
def yX17_init : MethodName := ⟨RX17, "<init>", "(LShadowSpell$Aspect;II)V"⟩
def dkwX17_init_0 : List UInt8 := [42, 183, 0, 1, 42, 43, 181, 0, 7, 42, 28, 181, 0, 13, 42, 29, 181, 0, 17, 177]
abbrev dktX17_init_0 : List UInt8 := dkwX17_init_0 ++ []
theorem dksX17_init_0 : cX17_init.data.toList.drop 0 = dktX17_init_0 := by decide +kernel
theorem dX17_init_0 : decode cX17_init 0 = .ok (.aload_n 0, 1) := dk_42 (dk_at dksX17_init_0 0 rfl rfl)
theorem dX17_init_1 : decode cX17_init 1 = .ok (.invokespecial 1, 3) := dk_183 0 1 (dk_at dksX17_init_0 1 rfl rfl)
theorem dX17_init_4 : decode cX17_init 4 = .ok (.aload_n 0, 1) := dk_42 (dk_at dksX17_init_0 4 rfl rfl)
theorem dX17_init_5 : decode cX17_init 5 = .ok (.aload_n 1, 1) := dk_43 (dk_at dksX17_init_0 5 rfl rfl)
theorem dX17_init_6 : decode cX17_init 6 = .ok (.putfield 7, 3) := dk_181 0 7 (dk_at dksX17_init_0 6 rfl rfl)
theorem dX17_init_9 : decode cX17_init 9 = .ok (.aload_n 0, 1) := dk_42 (dk_at dksX17_init_0 9 rfl rfl)
theorem dX17_init_10 : decode cX17_init 10 = .ok (.iload_n 2, 1) := dk_28 (dk_at dksX17_init_0 10 rfl rfl)
theorem dX17_init_11 : decode cX17_init 11 = .ok (.putfield 13, 3) := dk_181 0 13 (dk_at dksX17_init_0 11 rfl rfl)
theorem dX17_init_14 : decode cX17_init 14 = .ok (.aload_n 0, 1) := dk_42 (dk_at dksX17_init_0 14 rfl rfl)
theorem dX17_init_15 : decode cX17_init 15 = .ok (.iload_n 3, 1) := dk_29 (dk_at dksX17_init_0 15 rfl rfl)
theorem dX17_init_16 : decode cX17_init 16 = .ok (.putfield 17, 3) := dk_181 0 17 (dk_at dksX17_init_0 16 rfl rfl)
theorem dX17_init_19 : decode cX17_init 19 = .ok (.return_, 1) := dk_177 (dk_at dksX17_init_0 19 rfl rfl)
abbrev cX17_holds : ByteArray := prog_17_method_2_code
def yX17_holds : MethodName := ⟨RX17, "holds", "(LShadowSpell$Sky;)Z"⟩
def dkwX17_holds_2 : List UInt8 := [180, 0, 39, 163, 0, 19, 42, 180, 0, 7, 44, 45, 182, 0, 42, 153, 0, 7, 4, 167, 0, 4, 3, 172]
abbrev dktX17_holds_2 : List UInt8 := dkwX17_holds_2 ++ []
def dkwX17_holds_1 : List UInt8 := [182, 0, 26, 192, 0, 32, 78, 42, 180, 0, 7, 178, 0, 34, 165, 0, 14, 44, 180, 0, 39, 45]
abbrev dktX17_holds_1 : List UInt8 := dkwX17_holds_1 ++ dktX17_holds_2
def dkwX17_holds_0 : List UInt8 := [43, 180, 0, 20, 42, 180, 0, 13, 182, 0, 26, 192, 0, 32, 77, 43, 180, 0, 20, 42, 180, 0, 17]
abbrev dktX17_holds_0 : List UInt8 := dkwX17_holds_0 ++ dktX17_holds_1
theorem dksX17_holds_0 : cX17_holds.data.toList.drop 0 = dktX17_holds_0 := by decide +kernel
theorem dksX17_holds_1 : cX17_holds.data.toList.drop 23 = dktX17_holds_1 := dk_seg dksX17_holds_0 23 rfl rfl
theorem dksX17_holds_2 : cX17_holds.data.toList.drop 45 = dktX17_holds_2 := dk_seg dksX17_holds_1 22 rfl rfl
theorem dX17_holds_0 : decode cX17_holds 0 = .ok (.aload_n 1, 1) := dk_43 (dk_at dksX17_holds_0 0 rfl rfl)
theorem dX17_holds_1 : decode cX17_holds 1 = .ok (.getfield 20, 3) := dk_180 0 20 (dk_at dksX17_holds_0 1 rfl rfl)
theorem dX17_holds_4 : decode cX17_holds 4 = .ok (.aload_n 0, 1) := dk_42 (dk_at dksX17_holds_0 4 rfl rfl)
theorem dX17_holds_5 : decode cX17_holds 5 = .ok (.getfield 13, 3) := dk_180 0 13 (dk_at dksX17_holds_0 5 rfl rfl)
theorem dX17_holds_8 : decode cX17_holds 8 = .ok (.invokevirtual 26, 3) := dk_182 0 26 (dk_at dksX17_holds_0 8 rfl rfl)
theorem dX17_holds_11 : decode cX17_holds 11 = .ok (.checkcast 32, 3) := dk_192 0 32 (dk_at dksX17_holds_0 11 rfl rfl)
theorem dX17_holds_14 : decode cX17_holds 14 = .ok (.astore_n 2, 1) := dk_77 (dk_at dksX17_holds_0 14 rfl rfl)
theorem dX17_holds_15 : decode cX17_holds 15 = .ok (.aload_n 1, 1) := dk_43 (dk_at dksX17_holds_0 15 rfl rfl)
theorem dX17_holds_16 : decode cX17_holds 16 = .ok (.getfield 20, 3) := dk_180 0 20 (dk_at dksX17_holds_0 16 rfl rfl)
theorem dX17_holds_19 : decode cX17_holds 19 = .ok (.aload_n 0, 1) := dk_42 (dk_at dksX17_holds_0 19 rfl rfl)
theorem dX17_holds_20 : decode cX17_holds 20 = .ok (.getfield 17, 3) := dk_180 0 17 (dk_at dksX17_holds_0 20 rfl rfl)
theorem dX17_holds_23 : decode cX17_holds 23 = .ok (.invokevirtual 26, 3) := dk_182 0 26 (dk_at dksX17_holds_1 0 rfl rfl)
theorem dX17_holds_26 : decode cX17_holds 26 = .ok (.checkcast 32, 3) := dk_192 0 32 (dk_at dksX17_holds_1 3 rfl rfl)
theorem dX17_holds_29 : decode cX17_holds 29 = .ok (.astore_n 3, 1) := dk_78 (dk_at dksX17_holds_1 6 rfl rfl)
theorem dX17_holds_30 : decode cX17_holds 30 = .ok (.aload_n 0, 1) := dk_42 (dk_at dksX17_holds_1 7 rfl rfl)
theorem dX17_holds_31 : decode cX17_holds 31 = .ok (.getfield 7, 3) := dk_180 0 7 (dk_at dksX17_holds_1 8 rfl rfl)
theorem dX17_holds_34 : decode cX17_holds 34 = .ok (.getstatic 34, 3) := dk_178 0 34 (dk_at dksX17_holds_1 11 rfl rfl)
theorem dX17_holds_37 : decode cX17_holds 37 = .ok (.if_acmp .eq 14, 3) := dk_165 0 14 (dk_at dksX17_holds_1 14 rfl rfl)
theorem dX17_holds_40 : decode cX17_holds 40 = .ok (.aload_n 2, 1) := dk_44 (dk_at dksX17_holds_1 17 rfl rfl)
theorem dX17_holds_41 : decode cX17_holds 41 = .ok (.getfield 39, 3) := dk_180 0 39 (dk_at dksX17_holds_1 18 rfl rfl)
theorem dX17_holds_44 : decode cX17_holds 44 = .ok (.aload_n 3, 1) := dk_45 (dk_at dksX17_holds_1 21 rfl rfl)
theorem dX17_holds_45 : decode cX17_holds 45 = .ok (.getfield 39, 3) := dk_180 0 39 (dk_at dksX17_holds_2 0 rfl rfl)
theorem dX17_holds_48 : decode cX17_holds 48 = .ok (.if_icmp .gt 19, 3) := dk_163 0 19 (dk_at dksX17_holds_2 3 rfl rfl)
theorem dX17_holds_51 : decode cX17_holds 51 = .ok (.aload_n 0, 1) := dk_42 (dk_at dksX17_holds_2 6 rfl rfl)
theorem dX17_holds_52 : decode cX17_holds 52 = .ok (.getfield 7, 3) := dk_180 0 7 (dk_at dksX17_holds_2 7 rfl rfl)
theorem dX17_holds_55 : decode cX17_holds 55 = .ok (.aload_n 2, 1) := dk_44 (dk_at dksX17_holds_2 10 rfl rfl)
theorem dX17_holds_56 : decode cX17_holds 56 = .ok (.aload_n 3, 1) := dk_45 (dk_at dksX17_holds_2 11 rfl rfl)
theorem dX17_holds_57 : decode cX17_holds 57 = .ok (.invokevirtual 42, 3) := dk_182 0 42 (dk_at dksX17_holds_2 12 rfl rfl)
theorem dX17_holds_60 : decode cX17_holds 60 = .ok (.ifCond .eq 7, 3) := dk_153 0 7 (dk_at dksX17_holds_2 15 rfl rfl)
theorem dX17_holds_63 : decode cX17_holds 63 = .ok (.iconst 1, 1) := dk_4 (dk_at dksX17_holds_2 18 rfl rfl)
theorem dX17_holds_64 : decode cX17_holds 64 = .ok (.goto 4, 3) := dk_167 0 4 (dk_at dksX17_holds_2 19 rfl rfl)
theorem dX17_holds_67 : decode cX17_holds 67 = .ok (.iconst 0, 1) := dk_3 (dk_at dksX17_holds_2 22 rfl rfl)
theorem dX17_holds_68 : decode cX17_holds 68 = .ok (.ireturn, 1) := dk_172 (dk_at dksX17_holds_2 23 rfl rfl)
theorem q122 : (Jvm.Cond.initialized "ShadowSpell$Seen") ∈ lw_all := lw_g (lw_at lw_m1 51 rfl) rfl
theorem q232 : (Jvm.Cond.fieldLinkNest "ShadowSpell$Seen" (20 : Nat) "ShadowSpell$Sky" "planets" "Ljava/util/ArrayList;" "ShadowSpell") ∈ lw_tbl := lw_at lw_m1 161 rfl
theorem q763 : (Jvm.Cond.selects "ShadowSpell$Seen" ({ cls := "java/lang/Object", name := "getClass", desc := "()Ljava/lang/Class;" } : Jvm.MethodName) ({ cls := "java/lang/Object", name := "getClass", desc := "()Ljava/lang/Class;" } : Jvm.MethodName)) ∈ lw_all := lw_g (lw_at lw_m3 212 rfl) rfl
theorem q994 : (Jvm.Cond.selects "ShadowSpell$Seen" ({ cls := "java/lang/Object", name := "hashCode", desc := "()I" } : Jvm.MethodName) ({ cls := "java/lang/Object", name := "hashCode", desc := "()I" } : Jvm.MethodName)) ∈ lw_all := lw_g (lw_at lw_m4 203 rfl) rfl
theorem q1108 : (Jvm.Cond.selects "ShadowSpell$Seen" ({ cls := "java/lang/Object", name := "equals", desc := "(Ljava/lang/Object;)Z" } : Jvm.MethodName) ({ cls := "java/lang/Object", name := "equals", desc := "(Ljava/lang/Object;)Z" } : Jvm.MethodName)) ∈ lw_all := lw_g (lw_at lw_m5 77 rfl) rfl
theorem q1667 : (Jvm.Cond.fieldLinkNest "ShadowSpell$Seen" (39 : Nat) "ShadowSpell$Planet" "rail" "I" "ShadowSpell") ∈ lw_tbl := lw_at lw_m7 156 rfl
theorem q1825 : (Jvm.Cond.instantiable "ShadowSpell$Seen" (3 : Nat)) ∈ lw_all := lw_g (lw_at lw_m8 74 rfl) rfl
theorem q1831 : (Jvm.Cond.instanceMethod ({ cls := "ShadowSpell$Seen", name := "<init>", desc := "(LShadowSpell$Aspect;II)V" } : Jvm.MethodName)) ∈ lw_all := lw_g (lw_at lw_m8 80 rfl) rfl
theorem q1832 : (Jvm.Cond.code ({ cls := "ShadowSpell$Seen", name := "<init>", desc := "(LShadowSpell$Aspect;II)V" } : Jvm.MethodName) prog_17_method_1_code (4 : Nat) (Option.none : Option Jvm.ClassFile.FieldType)) ∈ lw_all := lw_g (lw_at lw_m8 81 rfl) rfl
theorem q1833 : (Jvm.Cond.methodLink "ShadowSpell$Seen" (1 : Nat) ({ cls := "java/lang/Object", name := "<init>", desc := "()V" } : Jvm.MethodName)) ∈ lw_all := lw_g (lw_at lw_m8 82 rfl) rfl
theorem q1834 : (Jvm.Cond.fieldLink "ShadowSpell$Seen" (7 : Nat) "ShadowSpell$Seen" "aspect" "LShadowSpell$Aspect;") ∈ lw_all := lw_g (lw_at lw_m8 83 rfl) rfl
theorem q1835 : (Jvm.Cond.fieldLink "ShadowSpell$Seen" (13 : Nat) "ShadowSpell$Seen" "a" "I") ∈ lw_all := lw_g (lw_at lw_m8 84 rfl) rfl
theorem q1836 : (Jvm.Cond.fieldLink "ShadowSpell$Seen" (17 : Nat) "ShadowSpell$Seen" "b" "I") ∈ lw_all := lw_g (lw_at lw_m8 85 rfl) rfl
theorem q1837 : (Jvm.Cond.laysFinal "ShadowSpell$Seen" "ShadowSpell$Seen" "aspect" "LShadowSpell$Aspect;") ∈ lw_all := lw_g (lw_at lw_m8 86 rfl) rfl
theorem q1838 : (Jvm.Cond.soleField "ShadowSpell$Seen" "aspect") ∈ lw_all := lw_g (lw_at lw_m8 87 rfl) rfl
theorem q1839 : (Jvm.Cond.laysFinal "ShadowSpell$Seen" "ShadowSpell$Seen" "a" "I") ∈ lw_all := lw_g (lw_at lw_m8 88 rfl) rfl
theorem q1840 : (Jvm.Cond.soleField "ShadowSpell$Seen" "a") ∈ lw_all := lw_g (lw_at lw_m8 89 rfl) rfl
theorem q1841 : (Jvm.Cond.laysFinal "ShadowSpell$Seen" "ShadowSpell$Seen" "b" "I") ∈ lw_all := lw_g (lw_at lw_m8 90 rfl) rfl
theorem q1842 : (Jvm.Cond.soleField "ShadowSpell$Seen" "b") ∈ lw_all := lw_g (lw_at lw_m8 91 rfl) rfl
theorem q1843 : (Jvm.Cond.superclass "ShadowSpell$Seen" "java/lang/Object") ∈ lw_all := lw_g (lw_at lw_m8 92 rfl) rfl
theorem q2389 : (Jvm.Cond.castable "ShadowSpell$Seen" "ShadowSpell$Test") ∈ lw_tbl := lw_at lw_m10 158 rfl
theorem q2390 : (Jvm.Cond.selects "ShadowSpell$Seen" ({ cls := "ShadowSpell$Test", name := "holds", desc := "(LShadowSpell$Sky;)Z" } : Jvm.MethodName) ({ cls := "ShadowSpell$Seen", name := "holds", desc := "(LShadowSpell$Sky;)Z" } : Jvm.MethodName)) ∈ lw_all := lw_g (lw_at lw_m10 159 rfl) rfl
theorem q2391 : (Jvm.Cond.unhidden "ShadowSpell$Seen" "holds" "(LShadowSpell$Sky;)Z") ∈ lw_tbl := lw_at lw_m10 160 rfl
theorem q2392 : (Jvm.Cond.instanceMethod ({ cls := "ShadowSpell$Seen", name := "holds", desc := "(LShadowSpell$Sky;)Z" } : Jvm.MethodName)) ∈ lw_all := lw_g (lw_at lw_m10 161 rfl) rfl
theorem q2393 : (Jvm.Cond.publicMethod ({ cls := "ShadowSpell$Seen", name := "holds", desc := "(LShadowSpell$Sky;)Z" } : Jvm.MethodName)) ∈ lw_tbl := lw_at lw_m10 162 rfl
theorem q2394 : (Jvm.Cond.code ({ cls := "ShadowSpell$Seen", name := "holds", desc := "(LShadowSpell$Sky;)Z" } : Jvm.MethodName) prog_17_method_2_code (4 : Nat) (Option.some Jvm.ClassFile.FieldType.boolean)) ∈ lw_all := lw_g (lw_at lw_m10 163 rfl) rfl
theorem q2395 : (Jvm.Cond.methodLink "ShadowSpell$Seen" (26 : Nat) ({ cls := "java/util/ArrayList", name := "get", desc := "(I)Ljava/lang/Object;" } : Jvm.MethodName)) ∈ lw_all := lw_g (lw_at lw_m10 164 rfl) rfl
theorem q2396 : (Jvm.Cond.classLink "ShadowSpell$Seen" (32 : Nat) "ShadowSpell$Planet") ∈ lw_all := lw_g (lw_at lw_m10 165 rfl) rfl
theorem q2397 : (Jvm.Cond.fieldLink "ShadowSpell$Seen" (34 : Nat) "ShadowSpell$Aspect" "OPPOSITE" "LShadowSpell$Aspect;") ∈ lw_all := lw_g (lw_at lw_m10 166 rfl) rfl
theorem q2398 : (Jvm.Cond.methodLink "ShadowSpell$Seen" (42 : Nat) ({ cls := "ShadowSpell$Aspect", name := "is", desc := "(LShadowSpell$Planet;LShadowSpell$Planet;)Z" } : Jvm.MethodName)) ∈ lw_all := lw_g (lw_at lw_m10 167 rfl) rfl
theorem q3245 : (Jvm.Cond.castable "ShadowSpell$Seen" "java/lang/Object") ∈ lw_tbl := lw_at lw_m14 54 rfl
theorem in_X17 : ∀ w ∈ wsX170, w ∈ lw_all := lw_in wsX170 [1837, 1839, 1841] (by decide +kernel) (by decide +kernel)

/-! ShadowSpell$Sum -/
set_option maxRecDepth 100000
def RX18 : String := "ShadowSpell$Sum"
abbrev cX18_init : ByteArray := prog_29_method_1_code
def yX18_init : MethodName := ⟨RX18, "<init>", "()V"⟩
theorem dX18_init_0 : decode cX18_init 0 = .ok (.aload_n 0, 1) := by decide +kernel
theorem dX18_init_1 : decode cX18_init 1 = .ok (.invokespecial 1, 3) := by decide +kernel
theorem dX18_init_4 : decode cX18_init 4 = .ok (.return_, 1) := by decide +kernel
theorem q123 : (Jvm.Cond.initialized "ShadowSpell$Sum") ∈ lw_all := lw_g (lw_at lw_m1 52 rfl) rfl
theorem q1862 : (Jvm.Cond.instanceMethod ({ cls := "ShadowSpell$Sum", name := "<init>", desc := "()V" } : Jvm.MethodName)) ∈ lw_all := lw_g (lw_at lw_m8 111 rfl) rfl
theorem q1863 : (Jvm.Cond.code ({ cls := "ShadowSpell$Sum", name := "<init>", desc := "()V" } : Jvm.MethodName) prog_29_method_1_code (1 : Nat) (Option.none : Option Jvm.ClassFile.FieldType)) ∈ lw_all := lw_g (lw_at lw_m8 112 rfl) rfl
theorem q1864 : (Jvm.Cond.methodLink "ShadowSpell$Sum" (1 : Nat) ({ cls := "java/lang/Object", name := "<init>", desc := "()V" } : Jvm.MethodName)) ∈ lw_all := lw_g (lw_at lw_m8 113 rfl) rfl
theorem q2305 : (Jvm.Cond.declares ({ cls := "ShadowSpell$Sum", name := "of", desc := "(LShadowSpell$Sky;)I" } : Jvm.MethodName)) ∈ lw_tbl := lw_at lw_m10 74 rfl
theorem q2306 : (Jvm.Cond.sameMethod "ShadowSpell$Sum" "ShadowSpell$Sum" "of" "(LShadowSpell$Sky;)I") ∈ lw_all := lw_g (lw_at lw_m10 75 rfl) rfl

/-! ShadowSpell$Plain -/
set_option maxRecDepth 100000
def RX19 : String := "ShadowSpell$Plain"
def TX19 : u_T := fun k => match k with
  | _ => ("ShadowSpell$Plain", "number", "I", true)
def tyX19 : Nat → FieldType := fun k => match k with
  | _ => .int
abbrev wsX190 : List Cond := u_ws RX19 TX19 1
theorem nmX19 : ∀ a, a < 1 → ∀ b, b < 1 → a ≠ b → (TX19 a).2.1 ≠ (TX19 b).2.1 := by decide +kernel
theorem tyX19_ok : ∀ k, k < 1 → parseFieldDescriptor (TX19 k).2.2.1 = some (tyX19 k) := by decide +kernel
abbrev cX19_init : ByteArray := prog_12_method_1_code
def yX19_init : MethodName := ⟨RX19, "<init>", "(I)V"⟩
def dkwX19_init_0 : List UInt8 := [42, 183, 0, 1, 42, 27, 181, 0, 7, 177]
abbrev dktX19_init_0 : List UInt8 := dkwX19_init_0 ++ []
theorem dksX19_init_0 : cX19_init.data.toList.drop 0 = dktX19_init_0 := by decide +kernel
theorem dX19_init_0 : decode cX19_init 0 = .ok (.aload_n 0, 1) := dk_42 (dk_at dksX19_init_0 0 rfl rfl)
theorem dX19_init_1 : decode cX19_init 1 = .ok (.invokespecial 1, 3) := dk_183 0 1 (dk_at dksX19_init_0 1 rfl rfl)
theorem dX19_init_4 : decode cX19_init 4 = .ok (.aload_n 0, 1) := dk_42 (dk_at dksX19_init_0 4 rfl rfl)
theorem dX19_init_5 : decode cX19_init 5 = .ok (.iload_n 1, 1) := dk_27 (dk_at dksX19_init_0 5 rfl rfl)
theorem dX19_init_6 : decode cX19_init 6 = .ok (.putfield 7, 3) := dk_181 0 7 (dk_at dksX19_init_0 6 rfl rfl)
theorem dX19_init_9 : decode cX19_init 9 = .ok (.return_, 1) := dk_177 (dk_at dksX19_init_0 9 rfl rfl)
abbrev cX19_of : ByteArray := prog_12_method_2_code
def yX19_of : MethodName := ⟨RX19, "of", "(LShadowSpell$Sky;)I"⟩
theorem dX19_of_0 : decode cX19_of 0 = .ok (.aload_n 0, 1) := by decide +kernel
theorem dX19_of_1 : decode cX19_of 1 = .ok (.getfield 7, 3) := by decide +kernel
theorem dX19_of_4 : decode cX19_of 4 = .ok (.ireturn, 1) := by decide +kernel
theorem q124 : (Jvm.Cond.initialized "ShadowSpell$Plain") ∈ lw_all := lw_g (lw_at lw_m1 53 rfl) rfl
theorem q758 : (Jvm.Cond.selects "ShadowSpell$Plain" ({ cls := "java/lang/Object", name := "getClass", desc := "()Ljava/lang/Class;" } : Jvm.MethodName) ({ cls := "java/lang/Object", name := "getClass", desc := "()Ljava/lang/Class;" } : Jvm.MethodName)) ∈ lw_all := lw_g (lw_at lw_m3 207 rfl) rfl
theorem q989 : (Jvm.Cond.selects "ShadowSpell$Plain" ({ cls := "java/lang/Object", name := "hashCode", desc := "()I" } : Jvm.MethodName) ({ cls := "java/lang/Object", name := "hashCode", desc := "()I" } : Jvm.MethodName)) ∈ lw_all := lw_g (lw_at lw_m4 198 rfl) rfl
theorem q1103 : (Jvm.Cond.selects "ShadowSpell$Plain" ({ cls := "java/lang/Object", name := "equals", desc := "(Ljava/lang/Object;)Z" } : Jvm.MethodName) ({ cls := "java/lang/Object", name := "equals", desc := "(Ljava/lang/Object;)Z" } : Jvm.MethodName)) ∈ lw_all := lw_g (lw_at lw_m5 72 rfl) rfl
theorem q1857 : (Jvm.Cond.instantiable "ShadowSpell$Plain" (1 : Nat)) ∈ lw_all := lw_g (lw_at lw_m8 106 rfl) rfl
theorem q1859 : (Jvm.Cond.instanceMethod ({ cls := "ShadowSpell$Plain", name := "<init>", desc := "(I)V" } : Jvm.MethodName)) ∈ lw_all := lw_g (lw_at lw_m8 108 rfl) rfl
theorem q1860 : (Jvm.Cond.code ({ cls := "ShadowSpell$Plain", name := "<init>", desc := "(I)V" } : Jvm.MethodName) prog_12_method_1_code (2 : Nat) (Option.none : Option Jvm.ClassFile.FieldType)) ∈ lw_all := lw_g (lw_at lw_m8 109 rfl) rfl
theorem q1861 : (Jvm.Cond.methodLinkNest "ShadowSpell$Plain" (1 : Nat) ({ cls := "ShadowSpell$Sum", name := "<init>", desc := "()V" } : Jvm.MethodName) "ShadowSpell") ∈ lw_tbl := lw_at lw_m8 110 rfl
theorem q1865 : (Jvm.Cond.fieldLink "ShadowSpell$Plain" (7 : Nat) "ShadowSpell$Plain" "number" "I") ∈ lw_all := lw_g (lw_at lw_m8 114 rfl) rfl
theorem q1866 : (Jvm.Cond.laysFinal "ShadowSpell$Plain" "ShadowSpell$Plain" "number" "I") ∈ lw_all := lw_g (lw_at lw_m8 115 rfl) rfl
theorem q1867 : (Jvm.Cond.soleField "ShadowSpell$Plain" "number") ∈ lw_all := lw_g (lw_at lw_m8 116 rfl) rfl
theorem q1868 : (Jvm.Cond.superclass "ShadowSpell$Plain" "ShadowSpell$Sum") ∈ lw_all := lw_g (lw_at lw_m8 117 rfl) rfl
theorem q2345 : (Jvm.Cond.instanceMethod ({ cls := "ShadowSpell$Plain", name := "of", desc := "(LShadowSpell$Sky;)I" } : Jvm.MethodName)) ∈ lw_all := lw_g (lw_at lw_m10 114 rfl) rfl
theorem q2346 : (Jvm.Cond.code ({ cls := "ShadowSpell$Plain", name := "of", desc := "(LShadowSpell$Sky;)I" } : Jvm.MethodName) prog_12_method_2_code (2 : Nat) (Option.some Jvm.ClassFile.FieldType.int)) ∈ lw_all := lw_g (lw_at lw_m10 115 rfl) rfl
theorem q2376 : (Jvm.Cond.selects "ShadowSpell$Plain" ({ cls := "ShadowSpell$Sum", name := "of", desc := "(LShadowSpell$Sky;)I" } : Jvm.MethodName) ({ cls := "ShadowSpell$Plain", name := "of", desc := "(LShadowSpell$Sky;)I" } : Jvm.MethodName)) ∈ lw_all := lw_g (lw_at lw_m10 145 rfl) rfl
theorem q3246 : (Jvm.Cond.castable "ShadowSpell$Plain" "java/lang/Object") ∈ lw_tbl := lw_at lw_m14 55 rfl
theorem in_X19 : ∀ w ∈ wsX190, w ∈ lw_all := lw_in wsX190 [1866] (by decide +kernel) (by decide +kernel)

/-! ShadowSpell$Asked -/
set_option maxRecDepth 100000
def RX20 : String := "ShadowSpell$Asked"
def TX20 : u_T := fun k => match k with
  | 0 => ("ShadowSpell$Asked", "what", "LShadowSpell$What;", true)
  | 1 => ("ShadowSpell$Asked", "a", "I", true)
  | _ => ("ShadowSpell$Asked", "b", "I", true)
def tyX20 : Nat → FieldType := fun k => match k with
  | 0 => .object "ShadowSpell$What"
  | 1 => .int
  | _ => .int
abbrev wsX200 : List Cond := u_ws RX20 TX20 3
theorem nmX20 : ∀ a, a < 3 → ∀ b, b < 3 → a ≠ b → (TX20 a).2.1 ≠ (TX20 b).2.1 := by decide +kernel
theorem tyX20_ok : ∀ k, k < 3 → parseFieldDescriptor (TX20 k).2.2.1 = some (tyX20 k) := by decide +kernel
abbrev cX20_init : ByteArray := prog_3_method_1_code
def yX20_init : MethodName := ⟨RX20, "<init>", "(LShadowSpell$What;II)V"⟩
def dkwX20_init_0 : List UInt8 := [42, 183, 0, 1, 42, 43, 181, 0, 7, 42, 28, 181, 0, 13, 42, 29, 181, 0, 17, 177]
abbrev dktX20_init_0 : List UInt8 := dkwX20_init_0 ++ []
theorem dksX20_init_0 : cX20_init.data.toList.drop 0 = dktX20_init_0 := by decide +kernel
theorem dX20_init_0 : decode cX20_init 0 = .ok (.aload_n 0, 1) := dk_42 (dk_at dksX20_init_0 0 rfl rfl)
theorem dX20_init_1 : decode cX20_init 1 = .ok (.invokespecial 1, 3) := dk_183 0 1 (dk_at dksX20_init_0 1 rfl rfl)
theorem dX20_init_4 : decode cX20_init 4 = .ok (.aload_n 0, 1) := dk_42 (dk_at dksX20_init_0 4 rfl rfl)
theorem dX20_init_5 : decode cX20_init 5 = .ok (.aload_n 1, 1) := dk_43 (dk_at dksX20_init_0 5 rfl rfl)
theorem dX20_init_6 : decode cX20_init 6 = .ok (.putfield 7, 3) := dk_181 0 7 (dk_at dksX20_init_0 6 rfl rfl)
theorem dX20_init_9 : decode cX20_init 9 = .ok (.aload_n 0, 1) := dk_42 (dk_at dksX20_init_0 9 rfl rfl)
theorem dX20_init_10 : decode cX20_init 10 = .ok (.iload_n 2, 1) := dk_28 (dk_at dksX20_init_0 10 rfl rfl)
theorem dX20_init_11 : decode cX20_init 11 = .ok (.putfield 13, 3) := dk_181 0 13 (dk_at dksX20_init_0 11 rfl rfl)
theorem dX20_init_14 : decode cX20_init 14 = .ok (.aload_n 0, 1) := dk_42 (dk_at dksX20_init_0 14 rfl rfl)
theorem dX20_init_15 : decode cX20_init 15 = .ok (.iload_n 3, 1) := dk_29 (dk_at dksX20_init_0 15 rfl rfl)
theorem dX20_init_16 : decode cX20_init 16 = .ok (.putfield 17, 3) := dk_181 0 17 (dk_at dksX20_init_0 16 rfl rfl)
theorem dX20_init_19 : decode cX20_init 19 = .ok (.return_, 1) := dk_177 (dk_at dksX20_init_0 19 rfl rfl)
abbrev cX20_of : ByteArray := prog_3_method_2_code
def yX20_of : MethodName := ⟨RX20, "of", "(LShadowSpell$Sky;)I"⟩
def dkwX20_of_0 : List UInt8 := [42, 180, 0, 7, 43, 42, 180, 0, 13, 42, 180, 0, 17, 182, 0, 20, 172]
abbrev dktX20_of_0 : List UInt8 := dkwX20_of_0 ++ []
theorem dksX20_of_0 : cX20_of.data.toList.drop 0 = dktX20_of_0 := by decide +kernel
theorem dX20_of_0 : decode cX20_of 0 = .ok (.aload_n 0, 1) := dk_42 (dk_at dksX20_of_0 0 rfl rfl)
theorem dX20_of_1 : decode cX20_of 1 = .ok (.getfield 7, 3) := dk_180 0 7 (dk_at dksX20_of_0 1 rfl rfl)
theorem dX20_of_4 : decode cX20_of 4 = .ok (.aload_n 1, 1) := dk_43 (dk_at dksX20_of_0 4 rfl rfl)
theorem dX20_of_5 : decode cX20_of 5 = .ok (.aload_n 0, 1) := dk_42 (dk_at dksX20_of_0 5 rfl rfl)
theorem dX20_of_6 : decode cX20_of 6 = .ok (.getfield 13, 3) := dk_180 0 13 (dk_at dksX20_of_0 6 rfl rfl)
theorem dX20_of_9 : decode cX20_of 9 = .ok (.aload_n 0, 1) := dk_42 (dk_at dksX20_of_0 9 rfl rfl)
theorem dX20_of_10 : decode cX20_of 10 = .ok (.getfield 17, 3) := dk_180 0 17 (dk_at dksX20_of_0 10 rfl rfl)
theorem dX20_of_13 : decode cX20_of 13 = .ok (.invokevirtual 20, 3) := dk_182 0 20 (dk_at dksX20_of_0 13 rfl rfl)
theorem dX20_of_16 : decode cX20_of 16 = .ok (.ireturn, 1) := dk_172 (dk_at dksX20_of_0 16 rfl rfl)
theorem q126 : (Jvm.Cond.initialized "ShadowSpell$Asked") ∈ lw_all := lw_g (lw_at lw_m1 55 rfl) rfl
theorem q750 : (Jvm.Cond.selects "ShadowSpell$Asked" ({ cls := "java/lang/Object", name := "getClass", desc := "()Ljava/lang/Class;" } : Jvm.MethodName) ({ cls := "java/lang/Object", name := "getClass", desc := "()Ljava/lang/Class;" } : Jvm.MethodName)) ∈ lw_all := lw_g (lw_at lw_m3 199 rfl) rfl
theorem q976 : (Jvm.Cond.selects "ShadowSpell$Asked" ({ cls := "java/lang/Object", name := "hashCode", desc := "()I" } : Jvm.MethodName) ({ cls := "java/lang/Object", name := "hashCode", desc := "()I" } : Jvm.MethodName)) ∈ lw_all := lw_g (lw_at lw_m4 185 rfl) rfl
theorem q1093 : (Jvm.Cond.selects "ShadowSpell$Asked" ({ cls := "java/lang/Object", name := "equals", desc := "(Ljava/lang/Object;)Z" } : Jvm.MethodName) ({ cls := "java/lang/Object", name := "equals", desc := "(Ljava/lang/Object;)Z" } : Jvm.MethodName)) ∈ lw_all := lw_g (lw_at lw_m5 62 rfl) rfl
theorem q1872 : (Jvm.Cond.instantiable "ShadowSpell$Asked" (3 : Nat)) ∈ lw_all := lw_g (lw_at lw_m8 121 rfl) rfl
theorem q1874 : (Jvm.Cond.instanceMethod ({ cls := "ShadowSpell$Asked", name := "<init>", desc := "(LShadowSpell$What;II)V" } : Jvm.MethodName)) ∈ lw_all := lw_g (lw_at lw_m8 123 rfl) rfl
theorem q1875 : (Jvm.Cond.code ({ cls := "ShadowSpell$Asked", name := "<init>", desc := "(LShadowSpell$What;II)V" } : Jvm.MethodName) prog_3_method_1_code (4 : Nat) (Option.none : Option Jvm.ClassFile.FieldType)) ∈ lw_all := lw_g (lw_at lw_m8 124 rfl) rfl
theorem q1876 : (Jvm.Cond.methodLinkNest "ShadowSpell$Asked" (1 : Nat) ({ cls := "ShadowSpell$Sum", name := "<init>", desc := "()V" } : Jvm.MethodName) "ShadowSpell") ∈ lw_tbl := lw_at lw_m8 125 rfl
theorem q1877 : (Jvm.Cond.fieldLink "ShadowSpell$Asked" (7 : Nat) "ShadowSpell$Asked" "what" "LShadowSpell$What;") ∈ lw_all := lw_g (lw_at lw_m8 126 rfl) rfl
theorem q1878 : (Jvm.Cond.fieldLink "ShadowSpell$Asked" (13 : Nat) "ShadowSpell$Asked" "a" "I") ∈ lw_all := lw_g (lw_at lw_m8 127 rfl) rfl
theorem q1879 : (Jvm.Cond.fieldLink "ShadowSpell$Asked" (17 : Nat) "ShadowSpell$Asked" "b" "I") ∈ lw_all := lw_g (lw_at lw_m8 128 rfl) rfl
theorem q1880 : (Jvm.Cond.laysFinal "ShadowSpell$Asked" "ShadowSpell$Asked" "what" "LShadowSpell$What;") ∈ lw_all := lw_g (lw_at lw_m8 129 rfl) rfl
theorem q1881 : (Jvm.Cond.soleField "ShadowSpell$Asked" "what") ∈ lw_all := lw_g (lw_at lw_m8 130 rfl) rfl
theorem q1882 : (Jvm.Cond.laysFinal "ShadowSpell$Asked" "ShadowSpell$Asked" "a" "I") ∈ lw_all := lw_g (lw_at lw_m8 131 rfl) rfl
theorem q1883 : (Jvm.Cond.soleField "ShadowSpell$Asked" "a") ∈ lw_all := lw_g (lw_at lw_m8 132 rfl) rfl
theorem q1884 : (Jvm.Cond.laysFinal "ShadowSpell$Asked" "ShadowSpell$Asked" "b" "I") ∈ lw_all := lw_g (lw_at lw_m8 133 rfl) rfl
theorem q1885 : (Jvm.Cond.soleField "ShadowSpell$Asked" "b") ∈ lw_all := lw_g (lw_at lw_m8 134 rfl) rfl
theorem q1886 : (Jvm.Cond.superclass "ShadowSpell$Asked" "ShadowSpell$Sum") ∈ lw_all := lw_g (lw_at lw_m8 135 rfl) rfl
theorem q2307 : (Jvm.Cond.selects "ShadowSpell$Asked" ({ cls := "ShadowSpell$Sum", name := "of", desc := "(LShadowSpell$Sky;)I" } : Jvm.MethodName) ({ cls := "ShadowSpell$Asked", name := "of", desc := "(LShadowSpell$Sky;)I" } : Jvm.MethodName)) ∈ lw_all := lw_g (lw_at lw_m10 76 rfl) rfl
theorem q2308 : (Jvm.Cond.instanceMethod ({ cls := "ShadowSpell$Asked", name := "of", desc := "(LShadowSpell$Sky;)I" } : Jvm.MethodName)) ∈ lw_all := lw_g (lw_at lw_m10 77 rfl) rfl
theorem q2309 : (Jvm.Cond.code ({ cls := "ShadowSpell$Asked", name := "of", desc := "(LShadowSpell$Sky;)I" } : Jvm.MethodName) prog_3_method_2_code (2 : Nat) (Option.some Jvm.ClassFile.FieldType.int)) ∈ lw_all := lw_g (lw_at lw_m10 78 rfl) rfl
theorem q2310 : (Jvm.Cond.methodLink "ShadowSpell$Asked" (20 : Nat) ({ cls := "ShadowSpell$What", name := "of", desc := "(LShadowSpell$Sky;II)I" } : Jvm.MethodName)) ∈ lw_all := lw_g (lw_at lw_m10 79 rfl) rfl
theorem q3252 : (Jvm.Cond.castable "ShadowSpell$Asked" "java/lang/Object") ∈ lw_tbl := lw_at lw_m14 61 rfl
theorem in_X20 : ∀ w ∈ wsX200, w ∈ lw_all := lw_in wsX200 [1880, 1882, 1884] (by decide +kernel) (by decide +kernel)

/-! ShadowSpell$Turned -/
set_option maxRecDepth 100000
def RX21 : String := "ShadowSpell$Turned"
def TX21 : u_T := fun k => match k with
  | _ => ("ShadowSpell$Turned", "sum", "LShadowSpell$Sum;", true)
def tyX21 : Nat → FieldType := fun k => match k with
  | _ => .object "ShadowSpell$Sum"
abbrev wsX210 : List Cond := u_ws RX21 TX21 1
theorem nmX21 : ∀ a, a < 1 → ∀ b, b < 1 → a ≠ b → (TX21 a).2.1 ≠ (TX21 b).2.1 := by decide +kernel
theorem tyX21_ok : ∀ k, k < 1 → parseFieldDescriptor (TX21 k).2.2.1 = some (tyX21 k) := by decide +kernel
abbrev cX21_init : ByteArray := prog_33_method_1_code
def yX21_init : MethodName := ⟨RX21, "<init>", "(LShadowSpell$Sum;)V"⟩
def dkwX21_init_0 : List UInt8 := [42, 183, 0, 1, 42, 43, 181, 0, 7, 177]
abbrev dktX21_init_0 : List UInt8 := dkwX21_init_0 ++ []
theorem dksX21_init_0 : cX21_init.data.toList.drop 0 = dktX21_init_0 := by decide +kernel
theorem dX21_init_0 : decode cX21_init 0 = .ok (.aload_n 0, 1) := dk_42 (dk_at dksX21_init_0 0 rfl rfl)
theorem dX21_init_1 : decode cX21_init 1 = .ok (.invokespecial 1, 3) := dk_183 0 1 (dk_at dksX21_init_0 1 rfl rfl)
theorem dX21_init_4 : decode cX21_init 4 = .ok (.aload_n 0, 1) := dk_42 (dk_at dksX21_init_0 4 rfl rfl)
theorem dX21_init_5 : decode cX21_init 5 = .ok (.aload_n 1, 1) := dk_43 (dk_at dksX21_init_0 5 rfl rfl)
theorem dX21_init_6 : decode cX21_init 6 = .ok (.putfield 7, 3) := dk_181 0 7 (dk_at dksX21_init_0 6 rfl rfl)
theorem dX21_init_9 : decode cX21_init 9 = .ok (.return_, 1) := dk_177 (dk_at dksX21_init_0 9 rfl rfl)
abbrev cX21_of : ByteArray := prog_33_method_2_code
def yX21_of : MethodName := ⟨RX21, "of", "(LShadowSpell$Sky;)I"⟩
def dkwX21_of_0 : List UInt8 := [42, 180, 0, 7, 43, 182, 0, 13, 116, 172]
abbrev dktX21_of_0 : List UInt8 := dkwX21_of_0 ++ []
theorem dksX21_of_0 : cX21_of.data.toList.drop 0 = dktX21_of_0 := by decide +kernel
theorem dX21_of_0 : decode cX21_of 0 = .ok (.aload_n 0, 1) := dk_42 (dk_at dksX21_of_0 0 rfl rfl)
theorem dX21_of_1 : decode cX21_of 1 = .ok (.getfield 7, 3) := dk_180 0 7 (dk_at dksX21_of_0 1 rfl rfl)
theorem dX21_of_4 : decode cX21_of 4 = .ok (.aload_n 1, 1) := dk_43 (dk_at dksX21_of_0 4 rfl rfl)
theorem dX21_of_5 : decode cX21_of 5 = .ok (.invokevirtual 13, 3) := dk_182 0 13 (dk_at dksX21_of_0 5 rfl rfl)
theorem dX21_of_8 : decode cX21_of 8 = .ok (.ineg, 1) := dk_116 (dk_at dksX21_of_0 8 rfl rfl)
theorem dX21_of_9 : decode cX21_of 9 = .ok (.ireturn, 1) := dk_172 (dk_at dksX21_of_0 9 rfl rfl)
theorem q127 : (Jvm.Cond.initialized "ShadowSpell$Turned") ∈ lw_all := lw_g (lw_at lw_m1 56 rfl) rfl
theorem q776 : (Jvm.Cond.selects "ShadowSpell$Turned" ({ cls := "java/lang/Object", name := "getClass", desc := "()Ljava/lang/Class;" } : Jvm.MethodName) ({ cls := "java/lang/Object", name := "getClass", desc := "()Ljava/lang/Class;" } : Jvm.MethodName)) ∈ lw_all := lw_g (lw_at lw_m3 225 rfl) rfl
theorem q1007 : (Jvm.Cond.selects "ShadowSpell$Turned" ({ cls := "java/lang/Object", name := "hashCode", desc := "()I" } : Jvm.MethodName) ({ cls := "java/lang/Object", name := "hashCode", desc := "()I" } : Jvm.MethodName)) ∈ lw_all := lw_g (lw_at lw_m4 216 rfl) rfl
theorem q1121 : (Jvm.Cond.selects "ShadowSpell$Turned" ({ cls := "java/lang/Object", name := "equals", desc := "(Ljava/lang/Object;)Z" } : Jvm.MethodName) ({ cls := "java/lang/Object", name := "equals", desc := "(Ljava/lang/Object;)Z" } : Jvm.MethodName)) ∈ lw_all := lw_g (lw_at lw_m5 90 rfl) rfl
theorem q1889 : (Jvm.Cond.instantiable "ShadowSpell$Turned" (1 : Nat)) ∈ lw_all := lw_g (lw_at lw_m8 138 rfl) rfl
theorem q1891 : (Jvm.Cond.instanceMethod ({ cls := "ShadowSpell$Turned", name := "<init>", desc := "(LShadowSpell$Sum;)V" } : Jvm.MethodName)) ∈ lw_all := lw_g (lw_at lw_m8 140 rfl) rfl
theorem q1892 : (Jvm.Cond.code ({ cls := "ShadowSpell$Turned", name := "<init>", desc := "(LShadowSpell$Sum;)V" } : Jvm.MethodName) prog_33_method_1_code (2 : Nat) (Option.none : Option Jvm.ClassFile.FieldType)) ∈ lw_all := lw_g (lw_at lw_m8 141 rfl) rfl
theorem q1893 : (Jvm.Cond.methodLinkNest "ShadowSpell$Turned" (1 : Nat) ({ cls := "ShadowSpell$Sum", name := "<init>", desc := "()V" } : Jvm.MethodName) "ShadowSpell") ∈ lw_tbl := lw_at lw_m8 142 rfl
theorem q1894 : (Jvm.Cond.fieldLink "ShadowSpell$Turned" (7 : Nat) "ShadowSpell$Turned" "sum" "LShadowSpell$Sum;") ∈ lw_all := lw_g (lw_at lw_m8 143 rfl) rfl
theorem q1895 : (Jvm.Cond.laysFinal "ShadowSpell$Turned" "ShadowSpell$Turned" "sum" "LShadowSpell$Sum;") ∈ lw_all := lw_g (lw_at lw_m8 144 rfl) rfl
theorem q1896 : (Jvm.Cond.soleField "ShadowSpell$Turned" "sum") ∈ lw_all := lw_g (lw_at lw_m8 145 rfl) rfl
theorem q1897 : (Jvm.Cond.superclass "ShadowSpell$Turned" "ShadowSpell$Sum") ∈ lw_all := lw_g (lw_at lw_m8 146 rfl) rfl
theorem q2347 : (Jvm.Cond.instanceMethod ({ cls := "ShadowSpell$Turned", name := "of", desc := "(LShadowSpell$Sky;)I" } : Jvm.MethodName)) ∈ lw_all := lw_g (lw_at lw_m10 116 rfl) rfl
theorem q2348 : (Jvm.Cond.code ({ cls := "ShadowSpell$Turned", name := "of", desc := "(LShadowSpell$Sky;)I" } : Jvm.MethodName) prog_33_method_2_code (2 : Nat) (Option.some Jvm.ClassFile.FieldType.int)) ∈ lw_all := lw_g (lw_at lw_m10 117 rfl) rfl
theorem q2349 : (Jvm.Cond.methodLink "ShadowSpell$Turned" (13 : Nat) ({ cls := "ShadowSpell$Sum", name := "of", desc := "(LShadowSpell$Sky;)I" } : Jvm.MethodName)) ∈ lw_all := lw_g (lw_at lw_m10 118 rfl) rfl
theorem q2377 : (Jvm.Cond.selects "ShadowSpell$Turned" ({ cls := "ShadowSpell$Sum", name := "of", desc := "(LShadowSpell$Sky;)I" } : Jvm.MethodName) ({ cls := "ShadowSpell$Turned", name := "of", desc := "(LShadowSpell$Sky;)I" } : Jvm.MethodName)) ∈ lw_all := lw_g (lw_at lw_m10 146 rfl) rfl
theorem q3253 : (Jvm.Cond.castable "ShadowSpell$Turned" "java/lang/Object") ∈ lw_tbl := lw_at lw_m14 62 rfl
theorem in_X21 : ∀ w ∈ wsX210, w ∈ lw_all := lw_in wsX210 [1895] (by decide +kernel) (by decide +kernel)

/-! ShadowSpell$Joined -/
set_option maxRecDepth 100000
def RX22 : String := "ShadowSpell$Joined"
def TX22 : u_T := fun k => match k with
  | 0 => ("ShadowSpell$Joined", "sign", "LShadowSpell$Sign;", true)
  | 1 => ("ShadowSpell$Joined", "left", "LShadowSpell$Sum;", true)
  | _ => ("ShadowSpell$Joined", "right", "LShadowSpell$Sum;", true)
def tyX22 : Nat → FieldType := fun k => match k with
  | 0 => .object "ShadowSpell$Sign"
  | 1 => .object "ShadowSpell$Sum"
  | _ => .object "ShadowSpell$Sum"
abbrev wsX220 : List Cond := u_ws RX22 TX22 3
theorem nmX22 : ∀ a, a < 3 → ∀ b, b < 3 → a ≠ b → (TX22 a).2.1 ≠ (TX22 b).2.1 := by decide +kernel
theorem tyX22_ok : ∀ k, k < 3 → parseFieldDescriptor (TX22 k).2.2.1 = some (tyX22 k) := by decide +kernel
abbrev cX22_init : ByteArray := prog_11_method_1_code
def yX22_init : MethodName := ⟨RX22, "<init>", "(LShadowSpell$Sign;LShadowSpell$Sum;LShadowSpell$Sum;)V"⟩
def dkwX22_init_0 : List UInt8 := [42, 183, 0, 1, 42, 43, 181, 0, 7, 42, 44, 181, 0, 13, 42, 45, 181, 0, 17, 177]
abbrev dktX22_init_0 : List UInt8 := dkwX22_init_0 ++ []
theorem dksX22_init_0 : cX22_init.data.toList.drop 0 = dktX22_init_0 := by decide +kernel
theorem dX22_init_0 : decode cX22_init 0 = .ok (.aload_n 0, 1) := dk_42 (dk_at dksX22_init_0 0 rfl rfl)
theorem dX22_init_1 : decode cX22_init 1 = .ok (.invokespecial 1, 3) := dk_183 0 1 (dk_at dksX22_init_0 1 rfl rfl)
theorem dX22_init_4 : decode cX22_init 4 = .ok (.aload_n 0, 1) := dk_42 (dk_at dksX22_init_0 4 rfl rfl)
theorem dX22_init_5 : decode cX22_init 5 = .ok (.aload_n 1, 1) := dk_43 (dk_at dksX22_init_0 5 rfl rfl)
theorem dX22_init_6 : decode cX22_init 6 = .ok (.putfield 7, 3) := dk_181 0 7 (dk_at dksX22_init_0 6 rfl rfl)
theorem dX22_init_9 : decode cX22_init 9 = .ok (.aload_n 0, 1) := dk_42 (dk_at dksX22_init_0 9 rfl rfl)
theorem dX22_init_10 : decode cX22_init 10 = .ok (.aload_n 2, 1) := dk_44 (dk_at dksX22_init_0 10 rfl rfl)
theorem dX22_init_11 : decode cX22_init 11 = .ok (.putfield 13, 3) := dk_181 0 13 (dk_at dksX22_init_0 11 rfl rfl)
theorem dX22_init_14 : decode cX22_init 14 = .ok (.aload_n 0, 1) := dk_42 (dk_at dksX22_init_0 14 rfl rfl)
theorem dX22_init_15 : decode cX22_init 15 = .ok (.aload_n 3, 1) := dk_45 (dk_at dksX22_init_0 15 rfl rfl)
theorem dX22_init_16 : decode cX22_init 16 = .ok (.putfield 17, 3) := dk_181 0 17 (dk_at dksX22_init_0 16 rfl rfl)
theorem dX22_init_19 : decode cX22_init 19 = .ok (.return_, 1) := dk_177 (dk_at dksX22_init_0 19 rfl rfl)
abbrev cX22_of : ByteArray := prog_11_method_2_code
def yX22_of : MethodName := ⟨RX22, "of", "(LShadowSpell$Sky;)I"⟩
def dkwX22_of_0 : List UInt8 := [42, 180, 0, 7, 42, 180, 0, 13, 43, 182, 0, 20, 42, 180, 0, 17, 43, 182, 0, 20, 182, 0, 24, 172]
abbrev dktX22_of_0 : List UInt8 := dkwX22_of_0 ++ []
theorem dksX22_of_0 : cX22_of.data.toList.drop 0 = dktX22_of_0 := by decide +kernel
theorem dX22_of_0 : decode cX22_of 0 = .ok (.aload_n 0, 1) := dk_42 (dk_at dksX22_of_0 0 rfl rfl)
theorem dX22_of_1 : decode cX22_of 1 = .ok (.getfield 7, 3) := dk_180 0 7 (dk_at dksX22_of_0 1 rfl rfl)
theorem dX22_of_4 : decode cX22_of 4 = .ok (.aload_n 0, 1) := dk_42 (dk_at dksX22_of_0 4 rfl rfl)
theorem dX22_of_5 : decode cX22_of 5 = .ok (.getfield 13, 3) := dk_180 0 13 (dk_at dksX22_of_0 5 rfl rfl)
theorem dX22_of_8 : decode cX22_of 8 = .ok (.aload_n 1, 1) := dk_43 (dk_at dksX22_of_0 8 rfl rfl)
theorem dX22_of_9 : decode cX22_of 9 = .ok (.invokevirtual 20, 3) := dk_182 0 20 (dk_at dksX22_of_0 9 rfl rfl)
theorem dX22_of_12 : decode cX22_of 12 = .ok (.aload_n 0, 1) := dk_42 (dk_at dksX22_of_0 12 rfl rfl)
theorem dX22_of_13 : decode cX22_of 13 = .ok (.getfield 17, 3) := dk_180 0 17 (dk_at dksX22_of_0 13 rfl rfl)
theorem dX22_of_16 : decode cX22_of 16 = .ok (.aload_n 1, 1) := dk_43 (dk_at dksX22_of_0 16 rfl rfl)
theorem dX22_of_17 : decode cX22_of 17 = .ok (.invokevirtual 20, 3) := dk_182 0 20 (dk_at dksX22_of_0 17 rfl rfl)
theorem dX22_of_20 : decode cX22_of 20 = .ok (.invokevirtual 24, 3) := dk_182 0 24 (dk_at dksX22_of_0 20 rfl rfl)
theorem dX22_of_23 : decode cX22_of 23 = .ok (.ireturn, 1) := dk_172 (dk_at dksX22_of_0 23 rfl rfl)
theorem q129 : (Jvm.Cond.initialized "ShadowSpell$Joined") ∈ lw_all := lw_g (lw_at lw_m1 58 rfl) rfl
theorem q757 : (Jvm.Cond.selects "ShadowSpell$Joined" ({ cls := "java/lang/Object", name := "getClass", desc := "()Ljava/lang/Class;" } : Jvm.MethodName) ({ cls := "java/lang/Object", name := "getClass", desc := "()Ljava/lang/Class;" } : Jvm.MethodName)) ∈ lw_all := lw_g (lw_at lw_m3 206 rfl) rfl
theorem q988 : (Jvm.Cond.selects "ShadowSpell$Joined" ({ cls := "java/lang/Object", name := "hashCode", desc := "()I" } : Jvm.MethodName) ({ cls := "java/lang/Object", name := "hashCode", desc := "()I" } : Jvm.MethodName)) ∈ lw_all := lw_g (lw_at lw_m4 197 rfl) rfl
theorem q1102 : (Jvm.Cond.selects "ShadowSpell$Joined" ({ cls := "java/lang/Object", name := "equals", desc := "(Ljava/lang/Object;)Z" } : Jvm.MethodName) ({ cls := "java/lang/Object", name := "equals", desc := "(Ljava/lang/Object;)Z" } : Jvm.MethodName)) ∈ lw_all := lw_g (lw_at lw_m5 71 rfl) rfl
theorem q1905 : (Jvm.Cond.instantiable "ShadowSpell$Joined" (3 : Nat)) ∈ lw_all := lw_g (lw_at lw_m8 154 rfl) rfl
theorem q1907 : (Jvm.Cond.instanceMethod ({ cls := "ShadowSpell$Joined", name := "<init>", desc := "(LShadowSpell$Sign;LShadowSpell$Sum;LShadowSpell$Sum;)V" } : Jvm.MethodName)) ∈ lw_all := lw_g (lw_at lw_m8 156 rfl) rfl
theorem q1908 : (Jvm.Cond.code ({ cls := "ShadowSpell$Joined", name := "<init>", desc := "(LShadowSpell$Sign;LShadowSpell$Sum;LShadowSpell$Sum;)V" } : Jvm.MethodName) prog_11_method_1_code (4 : Nat) (Option.none : Option Jvm.ClassFile.FieldType)) ∈ lw_all := lw_g (lw_at lw_m8 157 rfl) rfl
theorem q1909 : (Jvm.Cond.methodLinkNest "ShadowSpell$Joined" (1 : Nat) ({ cls := "ShadowSpell$Sum", name := "<init>", desc := "()V" } : Jvm.MethodName) "ShadowSpell") ∈ lw_tbl := lw_at lw_m8 158 rfl
theorem q1910 : (Jvm.Cond.fieldLink "ShadowSpell$Joined" (7 : Nat) "ShadowSpell$Joined" "sign" "LShadowSpell$Sign;") ∈ lw_all := lw_g (lw_at lw_m8 159 rfl) rfl
theorem q1911 : (Jvm.Cond.fieldLink "ShadowSpell$Joined" (13 : Nat) "ShadowSpell$Joined" "left" "LShadowSpell$Sum;") ∈ lw_all := lw_g (lw_at lw_m8 160 rfl) rfl
theorem q1912 : (Jvm.Cond.fieldLink "ShadowSpell$Joined" (17 : Nat) "ShadowSpell$Joined" "right" "LShadowSpell$Sum;") ∈ lw_all := lw_g (lw_at lw_m8 161 rfl) rfl
theorem q1913 : (Jvm.Cond.laysFinal "ShadowSpell$Joined" "ShadowSpell$Joined" "sign" "LShadowSpell$Sign;") ∈ lw_all := lw_g (lw_at lw_m8 162 rfl) rfl
theorem q1914 : (Jvm.Cond.soleField "ShadowSpell$Joined" "sign") ∈ lw_all := lw_g (lw_at lw_m8 163 rfl) rfl
theorem q1915 : (Jvm.Cond.laysFinal "ShadowSpell$Joined" "ShadowSpell$Joined" "left" "LShadowSpell$Sum;") ∈ lw_all := lw_g (lw_at lw_m8 164 rfl) rfl
theorem q1916 : (Jvm.Cond.soleField "ShadowSpell$Joined" "left") ∈ lw_all := lw_g (lw_at lw_m8 165 rfl) rfl
theorem q1917 : (Jvm.Cond.laysFinal "ShadowSpell$Joined" "ShadowSpell$Joined" "right" "LShadowSpell$Sum;") ∈ lw_all := lw_g (lw_at lw_m8 166 rfl) rfl
theorem q1918 : (Jvm.Cond.soleField "ShadowSpell$Joined" "right") ∈ lw_all := lw_g (lw_at lw_m8 167 rfl) rfl
theorem q1919 : (Jvm.Cond.superclass "ShadowSpell$Joined" "ShadowSpell$Sum") ∈ lw_all := lw_g (lw_at lw_m8 168 rfl) rfl
theorem q2341 : (Jvm.Cond.selects "ShadowSpell$Joined" ({ cls := "ShadowSpell$Sum", name := "of", desc := "(LShadowSpell$Sky;)I" } : Jvm.MethodName) ({ cls := "ShadowSpell$Joined", name := "of", desc := "(LShadowSpell$Sky;)I" } : Jvm.MethodName)) ∈ lw_all := lw_g (lw_at lw_m10 110 rfl) rfl
theorem q2342 : (Jvm.Cond.instanceMethod ({ cls := "ShadowSpell$Joined", name := "of", desc := "(LShadowSpell$Sky;)I" } : Jvm.MethodName)) ∈ lw_all := lw_g (lw_at lw_m10 111 rfl) rfl
theorem q2343 : (Jvm.Cond.code ({ cls := "ShadowSpell$Joined", name := "of", desc := "(LShadowSpell$Sky;)I" } : Jvm.MethodName) prog_11_method_2_code (2 : Nat) (Option.some Jvm.ClassFile.FieldType.int)) ∈ lw_all := lw_g (lw_at lw_m10 112 rfl) rfl
theorem q2344 : (Jvm.Cond.methodLink "ShadowSpell$Joined" (20 : Nat) ({ cls := "ShadowSpell$Sum", name := "of", desc := "(LShadowSpell$Sky;)I" } : Jvm.MethodName)) ∈ lw_all := lw_g (lw_at lw_m10 113 rfl) rfl
theorem q2350 : (Jvm.Cond.methodLink "ShadowSpell$Joined" (24 : Nat) ({ cls := "ShadowSpell$Sign", name := "join", desc := "(II)I" } : Jvm.MethodName)) ∈ lw_all := lw_g (lw_at lw_m10 119 rfl) rfl
theorem q3256 : (Jvm.Cond.castable "ShadowSpell$Joined" "java/lang/Object") ∈ lw_tbl := lw_at lw_m14 65 rfl
theorem in_X22 : ∀ w ∈ wsX220, w ∈ lw_all := lw_in wsX220 [1913, 1915, 1917] (by decide +kernel) (by decide +kernel)

/-! ShadowSpell$Compared -/
set_option maxRecDepth 100000
def RX23 : String := "ShadowSpell$Compared"
def TX23 : u_T := fun k => match k with
  | 0 => ("ShadowSpell$Compared", "sign", "Ljava/lang/String;", true)
  | 1 => ("ShadowSpell$Compared", "left", "LShadowSpell$Sum;", true)
  | _ => ("ShadowSpell$Compared", "right", "LShadowSpell$Sum;", true)
def tyX23 : Nat → FieldType := fun k => match k with
  | 0 => .object "java/lang/String"
  | 1 => .object "ShadowSpell$Sum"
  | _ => .object "ShadowSpell$Sum"
abbrev wsX230 : List Cond := u_ws RX23 TX23 3
theorem nmX23 : ∀ a, a < 3 → ∀ b, b < 3 → a ≠ b → (TX23 a).2.1 ≠ (TX23 b).2.1 := by decide +kernel
theorem tyX23_ok : ∀ k, k < 3 → parseFieldDescriptor (TX23 k).2.2.1 = some (tyX23 k) := by decide +kernel
abbrev cX23_init : ByteArray := prog_8_method_1_code
def yX23_init : MethodName := ⟨RX23, "<init>", "(Ljava/lang/String;LShadowSpell$Sum;LShadowSpell$Sum;)V"⟩
def dkwX23_init_0 : List UInt8 := [42, 183, 0, 1, 42, 43, 181, 0, 7, 42, 44, 181, 0, 13, 42, 45, 181, 0, 17, 177]
abbrev dktX23_init_0 : List UInt8 := dkwX23_init_0 ++ []
theorem dksX23_init_0 : cX23_init.data.toList.drop 0 = dktX23_init_0 := by decide +kernel
theorem dX23_init_0 : decode cX23_init 0 = .ok (.aload_n 0, 1) := dk_42 (dk_at dksX23_init_0 0 rfl rfl)
theorem dX23_init_1 : decode cX23_init 1 = .ok (.invokespecial 1, 3) := dk_183 0 1 (dk_at dksX23_init_0 1 rfl rfl)
theorem dX23_init_4 : decode cX23_init 4 = .ok (.aload_n 0, 1) := dk_42 (dk_at dksX23_init_0 4 rfl rfl)
theorem dX23_init_5 : decode cX23_init 5 = .ok (.aload_n 1, 1) := dk_43 (dk_at dksX23_init_0 5 rfl rfl)
theorem dX23_init_6 : decode cX23_init 6 = .ok (.putfield 7, 3) := dk_181 0 7 (dk_at dksX23_init_0 6 rfl rfl)
theorem dX23_init_9 : decode cX23_init 9 = .ok (.aload_n 0, 1) := dk_42 (dk_at dksX23_init_0 9 rfl rfl)
theorem dX23_init_10 : decode cX23_init 10 = .ok (.aload_n 2, 1) := dk_44 (dk_at dksX23_init_0 10 rfl rfl)
theorem dX23_init_11 : decode cX23_init 11 = .ok (.putfield 13, 3) := dk_181 0 13 (dk_at dksX23_init_0 11 rfl rfl)
theorem dX23_init_14 : decode cX23_init 14 = .ok (.aload_n 0, 1) := dk_42 (dk_at dksX23_init_0 14 rfl rfl)
theorem dX23_init_15 : decode cX23_init 15 = .ok (.aload_n 3, 1) := dk_45 (dk_at dksX23_init_0 15 rfl rfl)
theorem dX23_init_16 : decode cX23_init 16 = .ok (.putfield 17, 3) := dk_181 0 17 (dk_at dksX23_init_0 16 rfl rfl)
theorem dX23_init_19 : decode cX23_init 19 = .ok (.return_, 1) := dk_177 (dk_at dksX23_init_0 19 rfl rfl)
abbrev cX23_holds : ByteArray := prog_8_method_2_code
def yX23_holds : MethodName := ⟨RX23, "holds", "(LShadowSpell$Sky;)Z"⟩
def dkwX23_holds_4 : List UInt8 := [167, 0, 4, 3, 172]
abbrev dktX23_holds_4 : List UInt8 := dkwX23_holds_4 ++ []
def dkwX23_holds_3 : List UInt8 := [42, 180, 0, 7, 42, 180, 0, 7, 182, 0, 38, 4, 100, 182, 0, 32, 16, 61, 160, 0, 7, 4]
abbrev dktX23_holds_3 : List UInt8 := dkwX23_holds_3 ++ dktX23_holds_4
def dkwX23_holds_2 : List UInt8 := [158, 0, 24, 42, 180, 0, 7, 3, 182, 0, 32, 16, 62, 160, 0, 7, 4, 167, 0, 33, 3, 167, 0, 29]
abbrev dktX23_holds_2 : List UInt8 := dkwX23_holds_2 ++ dktX23_holds_3
def dkwX23_holds_1 : List UInt8 := [42, 180, 0, 7, 3, 182, 0, 32, 16, 60, 160, 0, 7, 4, 167, 0, 58, 3, 167, 0, 54, 28]
abbrev dktX23_holds_1 : List UInt8 := dkwX23_holds_1 ++ dktX23_holds_2
def dkwX23_holds_0 : List UInt8 := [42, 180, 0, 13, 43, 182, 0, 20, 42, 180, 0, 17, 43, 182, 0, 20, 184, 0, 26, 61, 28, 156, 0, 24]
abbrev dktX23_holds_0 : List UInt8 := dkwX23_holds_0 ++ dktX23_holds_1
theorem dksX23_holds_0 : cX23_holds.data.toList.drop 0 = dktX23_holds_0 := by decide +kernel
theorem dksX23_holds_1 : cX23_holds.data.toList.drop 24 = dktX23_holds_1 := dk_seg dksX23_holds_0 24 rfl rfl
theorem dksX23_holds_2 : cX23_holds.data.toList.drop 46 = dktX23_holds_2 := dk_seg dksX23_holds_1 22 rfl rfl
theorem dksX23_holds_3 : cX23_holds.data.toList.drop 70 = dktX23_holds_3 := dk_seg dksX23_holds_2 24 rfl rfl
theorem dksX23_holds_4 : cX23_holds.data.toList.drop 92 = dktX23_holds_4 := dk_seg dksX23_holds_3 22 rfl rfl
theorem dX23_holds_0 : decode cX23_holds 0 = .ok (.aload_n 0, 1) := dk_42 (dk_at dksX23_holds_0 0 rfl rfl)
theorem dX23_holds_1 : decode cX23_holds 1 = .ok (.getfield 13, 3) := dk_180 0 13 (dk_at dksX23_holds_0 1 rfl rfl)
theorem dX23_holds_4 : decode cX23_holds 4 = .ok (.aload_n 1, 1) := dk_43 (dk_at dksX23_holds_0 4 rfl rfl)
theorem dX23_holds_5 : decode cX23_holds 5 = .ok (.invokevirtual 20, 3) := dk_182 0 20 (dk_at dksX23_holds_0 5 rfl rfl)
theorem dX23_holds_8 : decode cX23_holds 8 = .ok (.aload_n 0, 1) := dk_42 (dk_at dksX23_holds_0 8 rfl rfl)
theorem dX23_holds_9 : decode cX23_holds 9 = .ok (.getfield 17, 3) := dk_180 0 17 (dk_at dksX23_holds_0 9 rfl rfl)
theorem dX23_holds_12 : decode cX23_holds 12 = .ok (.aload_n 1, 1) := dk_43 (dk_at dksX23_holds_0 12 rfl rfl)
theorem dX23_holds_13 : decode cX23_holds 13 = .ok (.invokevirtual 20, 3) := dk_182 0 20 (dk_at dksX23_holds_0 13 rfl rfl)
theorem dX23_holds_16 : decode cX23_holds 16 = .ok (.invokestatic 26, 3) := dk_184 0 26 (dk_at dksX23_holds_0 16 rfl rfl)
theorem dX23_holds_19 : decode cX23_holds 19 = .ok (.istore_n 2, 1) := dk_61 (dk_at dksX23_holds_0 19 rfl rfl)
theorem dX23_holds_20 : decode cX23_holds 20 = .ok (.iload_n 2, 1) := dk_28 (dk_at dksX23_holds_0 20 rfl rfl)
theorem dX23_holds_21 : decode cX23_holds 21 = .ok (.ifCond .ge 24, 3) := dk_156 0 24 (dk_at dksX23_holds_0 21 rfl rfl)
theorem dX23_holds_24 : decode cX23_holds 24 = .ok (.aload_n 0, 1) := dk_42 (dk_at dksX23_holds_1 0 rfl rfl)
theorem dX23_holds_25 : decode cX23_holds 25 = .ok (.getfield 7, 3) := dk_180 0 7 (dk_at dksX23_holds_1 1 rfl rfl)
theorem dX23_holds_28 : decode cX23_holds 28 = .ok (.iconst 0, 1) := dk_3 (dk_at dksX23_holds_1 4 rfl rfl)
theorem dX23_holds_29 : decode cX23_holds 29 = .ok (.invokevirtual 32, 3) := dk_182 0 32 (dk_at dksX23_holds_1 5 rfl rfl)
theorem dX23_holds_32 : decode cX23_holds 32 = .ok (.bipush 60, 2) := dk_16 60 (dk_at dksX23_holds_1 8 rfl rfl)
theorem dX23_holds_34 : decode cX23_holds 34 = .ok (.if_icmp .ne 7, 3) := dk_160 0 7 (dk_at dksX23_holds_1 10 rfl rfl)
theorem dX23_holds_37 : decode cX23_holds 37 = .ok (.iconst 1, 1) := dk_4 (dk_at dksX23_holds_1 13 rfl rfl)
theorem dX23_holds_38 : decode cX23_holds 38 = .ok (.goto 58, 3) := dk_167 0 58 (dk_at dksX23_holds_1 14 rfl rfl)
theorem dX23_holds_41 : decode cX23_holds 41 = .ok (.iconst 0, 1) := dk_3 (dk_at dksX23_holds_1 17 rfl rfl)
theorem dX23_holds_42 : decode cX23_holds 42 = .ok (.goto 54, 3) := dk_167 0 54 (dk_at dksX23_holds_1 18 rfl rfl)
theorem dX23_holds_45 : decode cX23_holds 45 = .ok (.iload_n 2, 1) := dk_28 (dk_at dksX23_holds_1 21 rfl rfl)
theorem dX23_holds_46 : decode cX23_holds 46 = .ok (.ifCond .le 24, 3) := dk_158 0 24 (dk_at dksX23_holds_2 0 rfl rfl)
theorem dX23_holds_49 : decode cX23_holds 49 = .ok (.aload_n 0, 1) := dk_42 (dk_at dksX23_holds_2 3 rfl rfl)
theorem dX23_holds_50 : decode cX23_holds 50 = .ok (.getfield 7, 3) := dk_180 0 7 (dk_at dksX23_holds_2 4 rfl rfl)
theorem dX23_holds_53 : decode cX23_holds 53 = .ok (.iconst 0, 1) := dk_3 (dk_at dksX23_holds_2 7 rfl rfl)
theorem dX23_holds_54 : decode cX23_holds 54 = .ok (.invokevirtual 32, 3) := dk_182 0 32 (dk_at dksX23_holds_2 8 rfl rfl)
theorem dX23_holds_57 : decode cX23_holds 57 = .ok (.bipush 62, 2) := dk_16 62 (dk_at dksX23_holds_2 11 rfl rfl)
theorem dX23_holds_59 : decode cX23_holds 59 = .ok (.if_icmp .ne 7, 3) := dk_160 0 7 (dk_at dksX23_holds_2 13 rfl rfl)
theorem dX23_holds_62 : decode cX23_holds 62 = .ok (.iconst 1, 1) := dk_4 (dk_at dksX23_holds_2 16 rfl rfl)
theorem dX23_holds_63 : decode cX23_holds 63 = .ok (.goto 33, 3) := dk_167 0 33 (dk_at dksX23_holds_2 17 rfl rfl)
theorem dX23_holds_66 : decode cX23_holds 66 = .ok (.iconst 0, 1) := dk_3 (dk_at dksX23_holds_2 20 rfl rfl)
theorem dX23_holds_67 : decode cX23_holds 67 = .ok (.goto 29, 3) := dk_167 0 29 (dk_at dksX23_holds_2 21 rfl rfl)
theorem dX23_holds_70 : decode cX23_holds 70 = .ok (.aload_n 0, 1) := dk_42 (dk_at dksX23_holds_3 0 rfl rfl)
theorem dX23_holds_71 : decode cX23_holds 71 = .ok (.getfield 7, 3) := dk_180 0 7 (dk_at dksX23_holds_3 1 rfl rfl)
theorem dX23_holds_74 : decode cX23_holds 74 = .ok (.aload_n 0, 1) := dk_42 (dk_at dksX23_holds_3 4 rfl rfl)
theorem dX23_holds_75 : decode cX23_holds 75 = .ok (.getfield 7, 3) := dk_180 0 7 (dk_at dksX23_holds_3 5 rfl rfl)
theorem dX23_holds_78 : decode cX23_holds 78 = .ok (.invokevirtual 38, 3) := dk_182 0 38 (dk_at dksX23_holds_3 8 rfl rfl)
theorem dX23_holds_81 : decode cX23_holds 81 = .ok (.iconst 1, 1) := dk_4 (dk_at dksX23_holds_3 11 rfl rfl)
theorem dX23_holds_82 : decode cX23_holds 82 = .ok (.isub, 1) := dk_100 (dk_at dksX23_holds_3 12 rfl rfl)
theorem dX23_holds_83 : decode cX23_holds 83 = .ok (.invokevirtual 32, 3) := dk_182 0 32 (dk_at dksX23_holds_3 13 rfl rfl)
theorem dX23_holds_86 : decode cX23_holds 86 = .ok (.bipush 61, 2) := dk_16 61 (dk_at dksX23_holds_3 16 rfl rfl)
theorem dX23_holds_88 : decode cX23_holds 88 = .ok (.if_icmp .ne 7, 3) := dk_160 0 7 (dk_at dksX23_holds_3 18 rfl rfl)
theorem dX23_holds_91 : decode cX23_holds 91 = .ok (.iconst 1, 1) := dk_4 (dk_at dksX23_holds_3 21 rfl rfl)
theorem dX23_holds_92 : decode cX23_holds 92 = .ok (.goto 4, 3) := dk_167 0 4 (dk_at dksX23_holds_4 0 rfl rfl)
theorem dX23_holds_95 : decode cX23_holds 95 = .ok (.iconst 0, 1) := dk_3 (dk_at dksX23_holds_4 3 rfl rfl)
theorem dX23_holds_96 : decode cX23_holds 96 = .ok (.ireturn, 1) := dk_172 (dk_at dksX23_holds_4 4 rfl rfl)
theorem q130 : (Jvm.Cond.initialized "ShadowSpell$Compared") ∈ lw_all := lw_g (lw_at lw_m1 59 rfl) rfl
theorem q754 : (Jvm.Cond.selects "ShadowSpell$Compared" ({ cls := "java/lang/Object", name := "getClass", desc := "()Ljava/lang/Class;" } : Jvm.MethodName) ({ cls := "java/lang/Object", name := "getClass", desc := "()Ljava/lang/Class;" } : Jvm.MethodName)) ∈ lw_all := lw_g (lw_at lw_m3 203 rfl) rfl
theorem q985 : (Jvm.Cond.selects "ShadowSpell$Compared" ({ cls := "java/lang/Object", name := "hashCode", desc := "()I" } : Jvm.MethodName) ({ cls := "java/lang/Object", name := "hashCode", desc := "()I" } : Jvm.MethodName)) ∈ lw_all := lw_g (lw_at lw_m4 194 rfl) rfl
theorem q1099 : (Jvm.Cond.selects "ShadowSpell$Compared" ({ cls := "java/lang/Object", name := "equals", desc := "(Ljava/lang/Object;)Z" } : Jvm.MethodName) ({ cls := "java/lang/Object", name := "equals", desc := "(Ljava/lang/Object;)Z" } : Jvm.MethodName)) ∈ lw_all := lw_g (lw_at lw_m5 68 rfl) rfl
theorem q1938 : (Jvm.Cond.instantiable "ShadowSpell$Compared" (3 : Nat)) ∈ lw_all := lw_g (lw_at lw_m8 187 rfl) rfl
theorem q1940 : (Jvm.Cond.instanceMethod ({ cls := "ShadowSpell$Compared", name := "<init>", desc := "(Ljava/lang/String;LShadowSpell$Sum;LShadowSpell$Sum;)V" } : Jvm.MethodName)) ∈ lw_all := lw_g (lw_at lw_m8 189 rfl) rfl
theorem q1941 : (Jvm.Cond.code ({ cls := "ShadowSpell$Compared", name := "<init>", desc := "(Ljava/lang/String;LShadowSpell$Sum;LShadowSpell$Sum;)V" } : Jvm.MethodName) prog_8_method_1_code (4 : Nat) (Option.none : Option Jvm.ClassFile.FieldType)) ∈ lw_all := lw_g (lw_at lw_m8 190 rfl) rfl
theorem q1942 : (Jvm.Cond.methodLink "ShadowSpell$Compared" (1 : Nat) ({ cls := "java/lang/Object", name := "<init>", desc := "()V" } : Jvm.MethodName)) ∈ lw_all := lw_g (lw_at lw_m8 191 rfl) rfl
theorem q1943 : (Jvm.Cond.fieldLink "ShadowSpell$Compared" (7 : Nat) "ShadowSpell$Compared" "sign" "Ljava/lang/String;") ∈ lw_all := lw_g (lw_at lw_m8 192 rfl) rfl
theorem q1944 : (Jvm.Cond.fieldLink "ShadowSpell$Compared" (13 : Nat) "ShadowSpell$Compared" "left" "LShadowSpell$Sum;") ∈ lw_all := lw_g (lw_at lw_m8 193 rfl) rfl
theorem q1945 : (Jvm.Cond.fieldLink "ShadowSpell$Compared" (17 : Nat) "ShadowSpell$Compared" "right" "LShadowSpell$Sum;") ∈ lw_all := lw_g (lw_at lw_m8 194 rfl) rfl
theorem q1946 : (Jvm.Cond.laysFinal "ShadowSpell$Compared" "ShadowSpell$Compared" "sign" "Ljava/lang/String;") ∈ lw_all := lw_g (lw_at lw_m8 195 rfl) rfl
theorem q1947 : (Jvm.Cond.soleField "ShadowSpell$Compared" "sign") ∈ lw_all := lw_g (lw_at lw_m8 196 rfl) rfl
theorem q1948 : (Jvm.Cond.laysFinal "ShadowSpell$Compared" "ShadowSpell$Compared" "left" "LShadowSpell$Sum;") ∈ lw_all := lw_g (lw_at lw_m8 197 rfl) rfl
theorem q1949 : (Jvm.Cond.soleField "ShadowSpell$Compared" "left") ∈ lw_all := lw_g (lw_at lw_m8 198 rfl) rfl
theorem q1950 : (Jvm.Cond.laysFinal "ShadowSpell$Compared" "ShadowSpell$Compared" "right" "LShadowSpell$Sum;") ∈ lw_all := lw_g (lw_at lw_m8 199 rfl) rfl
theorem q1951 : (Jvm.Cond.soleField "ShadowSpell$Compared" "right") ∈ lw_all := lw_g (lw_at lw_m8 200 rfl) rfl
theorem q1952 : (Jvm.Cond.superclass "ShadowSpell$Compared" "java/lang/Object") ∈ lw_all := lw_g (lw_at lw_m8 201 rfl) rfl
theorem q2298 : (Jvm.Cond.castable "ShadowSpell$Compared" "ShadowSpell$Test") ∈ lw_tbl := lw_at lw_m10 67 rfl
theorem q2299 : (Jvm.Cond.selects "ShadowSpell$Compared" ({ cls := "ShadowSpell$Test", name := "holds", desc := "(LShadowSpell$Sky;)Z" } : Jvm.MethodName) ({ cls := "ShadowSpell$Compared", name := "holds", desc := "(LShadowSpell$Sky;)Z" } : Jvm.MethodName)) ∈ lw_all := lw_g (lw_at lw_m10 68 rfl) rfl
theorem q2300 : (Jvm.Cond.unhidden "ShadowSpell$Compared" "holds" "(LShadowSpell$Sky;)Z") ∈ lw_tbl := lw_at lw_m10 69 rfl
theorem q2301 : (Jvm.Cond.instanceMethod ({ cls := "ShadowSpell$Compared", name := "holds", desc := "(LShadowSpell$Sky;)Z" } : Jvm.MethodName)) ∈ lw_all := lw_g (lw_at lw_m10 70 rfl) rfl
theorem q2302 : (Jvm.Cond.publicMethod ({ cls := "ShadowSpell$Compared", name := "holds", desc := "(LShadowSpell$Sky;)Z" } : Jvm.MethodName)) ∈ lw_tbl := lw_at lw_m10 71 rfl
theorem q2303 : (Jvm.Cond.code ({ cls := "ShadowSpell$Compared", name := "holds", desc := "(LShadowSpell$Sky;)Z" } : Jvm.MethodName) prog_8_method_2_code (3 : Nat) (Option.some Jvm.ClassFile.FieldType.boolean)) ∈ lw_all := lw_g (lw_at lw_m10 72 rfl) rfl
theorem q2304 : (Jvm.Cond.methodLink "ShadowSpell$Compared" (20 : Nat) ({ cls := "ShadowSpell$Sum", name := "of", desc := "(LShadowSpell$Sky;)I" } : Jvm.MethodName)) ∈ lw_all := lw_g (lw_at lw_m10 73 rfl) rfl
theorem q2378 : (Jvm.Cond.methodLink "ShadowSpell$Compared" (26 : Nat) ({ cls := "java/lang/Integer", name := "compare", desc := "(II)I" } : Jvm.MethodName)) ∈ lw_all := lw_g (lw_at lw_m10 147 rfl) rfl
theorem q2379 : (Jvm.Cond.methodLink "ShadowSpell$Compared" (32 : Nat) ({ cls := "java/lang/String", name := "charAt", desc := "(I)C" } : Jvm.MethodName)) ∈ lw_all := lw_g (lw_at lw_m10 148 rfl) rfl
theorem q2380 : (Jvm.Cond.methodLink "ShadowSpell$Compared" (38 : Nat) ({ cls := "java/lang/String", name := "length", desc := "()I" } : Jvm.MethodName)) ∈ lw_all := lw_g (lw_at lw_m10 149 rfl) rfl
theorem q3262 : (Jvm.Cond.castable "ShadowSpell$Compared" "java/lang/Object") ∈ lw_tbl := lw_at lw_m14 71 rfl
theorem in_X23 : ∀ w ∈ wsX230, w ∈ lw_all := lw_in wsX230 [1946, 1948, 1950] (by decide +kernel) (by decide +kernel)

/-! ShadowSpell$Rule -/
set_option maxRecDepth 100000
def RX24 : String := "ShadowSpell$Rule"
def TX24 : u_T := fun k => match k with
  | 0 => ("ShadowSpell$Rule", "test", "LShadowSpell$Test;", true)
  | 1 => ("ShadowSpell$Rule", "sum", "LShadowSpell$Sum;", true)
  | 2 => ("ShadowSpell$Rule", "alphabet", "LShadowSpell$Alphabet;", true)
  | _ => ("ShadowSpell$Rule", "wrote", "I", false)
def tyX24 : Nat → FieldType := fun k => match k with
  | 0 => .object "ShadowSpell$Test"
  | 1 => .object "ShadowSpell$Sum"
  | 2 => .object "ShadowSpell$Alphabet"
  | _ => .int
abbrev wsX240 : List Cond := u_ws RX24 TX24 4
theorem nmX24 : ∀ a, a < 4 → ∀ b, b < 4 → a ≠ b → (TX24 a).2.1 ≠ (TX24 b).2.1 := by decide +kernel
theorem tyX24_ok : ∀ k, k < 4 → parseFieldDescriptor (TX24 k).2.2.1 = some (tyX24 k) := by decide +kernel
abbrev cX24_init : ByteArray := prog_15_method_1_code
def yX24_init : MethodName := ⟨RX24, "<init>", "(LShadowSpell$Test;LShadowSpell$Sum;LShadowSpell$Alphabet;)V"⟩
def dkwX24_init_0 : List UInt8 := [42, 183, 0, 1, 42, 43, 181, 0, 7, 42, 44, 181, 0, 13, 42, 45, 181, 0, 17, 177]
abbrev dktX24_init_0 : List UInt8 := dkwX24_init_0 ++ []
theorem dksX24_init_0 : cX24_init.data.toList.drop 0 = dktX24_init_0 := by decide +kernel
theorem dX24_init_0 : decode cX24_init 0 = .ok (.aload_n 0, 1) := dk_42 (dk_at dksX24_init_0 0 rfl rfl)
theorem dX24_init_1 : decode cX24_init 1 = .ok (.invokespecial 1, 3) := dk_183 0 1 (dk_at dksX24_init_0 1 rfl rfl)
theorem dX24_init_4 : decode cX24_init 4 = .ok (.aload_n 0, 1) := dk_42 (dk_at dksX24_init_0 4 rfl rfl)
theorem dX24_init_5 : decode cX24_init 5 = .ok (.aload_n 1, 1) := dk_43 (dk_at dksX24_init_0 5 rfl rfl)
theorem dX24_init_6 : decode cX24_init 6 = .ok (.putfield 7, 3) := dk_181 0 7 (dk_at dksX24_init_0 6 rfl rfl)
theorem dX24_init_9 : decode cX24_init 9 = .ok (.aload_n 0, 1) := dk_42 (dk_at dksX24_init_0 9 rfl rfl)
theorem dX24_init_10 : decode cX24_init 10 = .ok (.aload_n 2, 1) := dk_44 (dk_at dksX24_init_0 10 rfl rfl)
theorem dX24_init_11 : decode cX24_init 11 = .ok (.putfield 13, 3) := dk_181 0 13 (dk_at dksX24_init_0 11 rfl rfl)
theorem dX24_init_14 : decode cX24_init 14 = .ok (.aload_n 0, 1) := dk_42 (dk_at dksX24_init_0 14 rfl rfl)
theorem dX24_init_15 : decode cX24_init 15 = .ok (.aload_n 3, 1) := dk_45 (dk_at dksX24_init_0 15 rfl rfl)
theorem dX24_init_16 : decode cX24_init 16 = .ok (.putfield 17, 3) := dk_181 0 17 (dk_at dksX24_init_0 16 rfl rfl)
theorem dX24_init_19 : decode cX24_init 19 = .ok (.return_, 1) := dk_177 (dk_at dksX24_init_0 19 rfl rfl)
theorem q131 : (Jvm.Cond.initialized "ShadowSpell$Rule") ∈ lw_all := lw_g (lw_at lw_m1 60 rfl) rfl
theorem q761 : (Jvm.Cond.selects "ShadowSpell$Rule" ({ cls := "java/lang/Object", name := "getClass", desc := "()Ljava/lang/Class;" } : Jvm.MethodName) ({ cls := "java/lang/Object", name := "getClass", desc := "()Ljava/lang/Class;" } : Jvm.MethodName)) ∈ lw_all := lw_g (lw_at lw_m3 210 rfl) rfl
theorem q992 : (Jvm.Cond.selects "ShadowSpell$Rule" ({ cls := "java/lang/Object", name := "hashCode", desc := "()I" } : Jvm.MethodName) ({ cls := "java/lang/Object", name := "hashCode", desc := "()I" } : Jvm.MethodName)) ∈ lw_all := lw_g (lw_at lw_m4 201 rfl) rfl
theorem q1106 : (Jvm.Cond.selects "ShadowSpell$Rule" ({ cls := "java/lang/Object", name := "equals", desc := "(Ljava/lang/Object;)Z" } : Jvm.MethodName) ({ cls := "java/lang/Object", name := "equals", desc := "(Ljava/lang/Object;)Z" } : Jvm.MethodName)) ∈ lw_all := lw_g (lw_at lw_m5 75 rfl) rfl
theorem q1958 : (Jvm.Cond.instantiable "ShadowSpell$Rule" (4 : Nat)) ∈ lw_all := lw_g (lw_at lw_m8 207 rfl) rfl
theorem q1961 : (Jvm.Cond.instanceMethod ({ cls := "ShadowSpell$Rule", name := "<init>", desc := "(LShadowSpell$Test;LShadowSpell$Sum;LShadowSpell$Alphabet;)V" } : Jvm.MethodName)) ∈ lw_all := lw_g (lw_at lw_m8 210 rfl) rfl
theorem q1962 : (Jvm.Cond.code ({ cls := "ShadowSpell$Rule", name := "<init>", desc := "(LShadowSpell$Test;LShadowSpell$Sum;LShadowSpell$Alphabet;)V" } : Jvm.MethodName) prog_15_method_1_code (4 : Nat) (Option.none : Option Jvm.ClassFile.FieldType)) ∈ lw_all := lw_g (lw_at lw_m8 211 rfl) rfl
theorem q1963 : (Jvm.Cond.methodLink "ShadowSpell$Rule" (1 : Nat) ({ cls := "java/lang/Object", name := "<init>", desc := "()V" } : Jvm.MethodName)) ∈ lw_all := lw_g (lw_at lw_m8 212 rfl) rfl
theorem q1964 : (Jvm.Cond.fieldLink "ShadowSpell$Rule" (7 : Nat) "ShadowSpell$Rule" "test" "LShadowSpell$Test;") ∈ lw_all := lw_g (lw_at lw_m8 213 rfl) rfl
theorem q1966 : (Jvm.Cond.fieldLink "ShadowSpell$Rule" (13 : Nat) "ShadowSpell$Rule" "sum" "LShadowSpell$Sum;") ∈ lw_all := lw_g (lw_at lw_m8 215 rfl) rfl
theorem q1968 : (Jvm.Cond.fieldLink "ShadowSpell$Rule" (17 : Nat) "ShadowSpell$Rule" "alphabet" "LShadowSpell$Alphabet;") ∈ lw_all := lw_g (lw_at lw_m8 217 rfl) rfl
theorem q1972 : (Jvm.Cond.laysFinal "ShadowSpell$Rule" "ShadowSpell$Rule" "test" "LShadowSpell$Test;") ∈ lw_all := lw_g (lw_at lw_m8 221 rfl) rfl
theorem q1973 : (Jvm.Cond.soleField "ShadowSpell$Rule" "test") ∈ lw_all := lw_g (lw_at lw_m8 222 rfl) rfl
theorem q1974 : (Jvm.Cond.laysFinal "ShadowSpell$Rule" "ShadowSpell$Rule" "sum" "LShadowSpell$Sum;") ∈ lw_all := lw_g (lw_at lw_m8 223 rfl) rfl
theorem q1975 : (Jvm.Cond.soleField "ShadowSpell$Rule" "sum") ∈ lw_all := lw_g (lw_at lw_m8 224 rfl) rfl
theorem q1976 : (Jvm.Cond.laysFinal "ShadowSpell$Rule" "ShadowSpell$Rule" "alphabet" "LShadowSpell$Alphabet;") ∈ lw_all := lw_g (lw_at lw_m8 225 rfl) rfl
theorem q1977 : (Jvm.Cond.soleField "ShadowSpell$Rule" "alphabet") ∈ lw_all := lw_g (lw_at lw_m8 226 rfl) rfl
theorem q1978 : (Jvm.Cond.lays "ShadowSpell$Rule" "ShadowSpell$Rule" "wrote" "I") ∈ lw_all := lw_g (lw_at lw_m8 227 rfl) rfl
theorem q1979 : (Jvm.Cond.soleField "ShadowSpell$Rule" "wrote") ∈ lw_all := lw_g (lw_at lw_m8 228 rfl) rfl
theorem q1980 : (Jvm.Cond.superclass "ShadowSpell$Rule" "java/lang/Object") ∈ lw_all := lw_g (lw_at lw_m8 229 rfl) rfl
theorem q3263 : (Jvm.Cond.castable "ShadowSpell$Rule" "java/lang/Object") ∈ lw_tbl := lw_at lw_m14 72 rfl
theorem in_X24 : ∀ w ∈ wsX240, w ∈ lw_all := lw_in wsX240 [1972, 1974, 1976, 1978] (by decide +kernel) (by decide +kernel)

/-! ShadowSpell$What$3 -/
set_option maxRecDepth 100000
def RX25 : String := "ShadowSpell$What$3"
abbrev cX25_of : ByteArray := prog_37_method_2_code
def yX25_of : MethodName := ⟨RX25, "of", "(LShadowSpell$Sky;II)I"⟩
def dkwX25_of_0 : List UInt8 := [43, 180, 0, 7, 28, 182, 0, 13, 192, 0, 19, 180, 0, 21, 172]
abbrev dktX25_of_0 : List UInt8 := dkwX25_of_0 ++ []
theorem dksX25_of_0 : cX25_of.data.toList.drop 0 = dktX25_of_0 := by decide +kernel
theorem dX25_of_0 : decode cX25_of 0 = .ok (.aload_n 1, 1) := dk_43 (dk_at dksX25_of_0 0 rfl rfl)
theorem dX25_of_1 : decode cX25_of 1 = .ok (.getfield 7, 3) := dk_180 0 7 (dk_at dksX25_of_0 1 rfl rfl)
theorem dX25_of_4 : decode cX25_of 4 = .ok (.iload_n 2, 1) := dk_28 (dk_at dksX25_of_0 4 rfl rfl)
theorem dX25_of_5 : decode cX25_of 5 = .ok (.invokevirtual 13, 3) := dk_182 0 13 (dk_at dksX25_of_0 5 rfl rfl)
theorem dX25_of_8 : decode cX25_of 8 = .ok (.checkcast 19, 3) := dk_192 0 19 (dk_at dksX25_of_0 8 rfl rfl)
theorem dX25_of_11 : decode cX25_of 11 = .ok (.getfield 21, 3) := dk_180 0 21 (dk_at dksX25_of_0 11 rfl rfl)
theorem dX25_of_14 : decode cX25_of 14 = .ok (.ireturn, 1) := dk_172 (dk_at dksX25_of_0 14 rfl rfl)
theorem q230 : (Jvm.Cond.fieldLinkNest "ShadowSpell$What$3" (7 : Nat) "ShadowSpell$Sky" "planets" "Ljava/util/ArrayList;" "ShadowSpell") ∈ lw_tbl := lw_at lw_m1 159 rfl
theorem q779 : (Jvm.Cond.selects "ShadowSpell$What$3" ({ cls := "java/lang/Object", name := "getClass", desc := "()Ljava/lang/Class;" } : Jvm.MethodName) ({ cls := "java/lang/Object", name := "getClass", desc := "()Ljava/lang/Class;" } : Jvm.MethodName)) ∈ lw_all := lw_g (lw_at lw_m3 228 rfl) rfl
theorem q1010 : (Jvm.Cond.selects "ShadowSpell$What$3" ({ cls := "java/lang/Object", name := "hashCode", desc := "()I" } : Jvm.MethodName) ({ cls := "java/lang/Enum", name := "hashCode", desc := "()I" } : Jvm.MethodName)) ∈ lw_all := lw_g (lw_at lw_m4 219 rfl) rfl
theorem q1124 : (Jvm.Cond.selects "ShadowSpell$What$3" ({ cls := "java/lang/Object", name := "equals", desc := "(Ljava/lang/Object;)Z" } : Jvm.MethodName) ({ cls := "java/lang/Enum", name := "equals", desc := "(Ljava/lang/Object;)Z" } : Jvm.MethodName)) ∈ lw_all := lw_g (lw_at lw_m5 93 rfl) rfl
theorem q1197 : (Jvm.Cond.selects "ShadowSpell$What$3" ({ cls := "java/lang/Enum", name := "compareTo", desc := "(Ljava/lang/Enum;)I" } : Jvm.MethodName) ({ cls := "java/lang/Enum", name := "compareTo", desc := "(Ljava/lang/Enum;)I" } : Jvm.MethodName)) ∈ lw_all := lw_g (lw_at lw_m5 166 rfl) rfl
theorem q1217 : (Jvm.Cond.selects "ShadowSpell$What$3" ({ cls := "java/lang/Enum", name := "getDeclaringClass", desc := "()Ljava/lang/Class;" } : Jvm.MethodName) ({ cls := "java/lang/Enum", name := "getDeclaringClass", desc := "()Ljava/lang/Class;" } : Jvm.MethodName)) ∈ lw_all := lw_g (lw_at lw_m5 186 rfl) rfl
theorem q1254 : (Jvm.Cond.castable "ShadowSpell$What$3" "java/lang/Comparable") ∈ lw_tbl := lw_at lw_m5 223 rfl
theorem q1255 : (Jvm.Cond.selects "ShadowSpell$What$3" ({ cls := "java/lang/Comparable", name := "compareTo", desc := "(Ljava/lang/Object;)I" } : Jvm.MethodName) ({ cls := "java/lang/Enum", name := "compareTo", desc := "(Ljava/lang/Object;)I" } : Jvm.MethodName)) ∈ lw_all := lw_g (lw_at lw_m5 224 rfl) rfl
theorem q1256 : (Jvm.Cond.unhidden "ShadowSpell$What$3" "compareTo" "(Ljava/lang/Object;)I") ∈ lw_tbl := lw_at lw_m5 225 rfl
theorem q1671 : (Jvm.Cond.fieldLinkNest "ShadowSpell$What$3" (21 : Nat) "ShadowSpell$Planet" "angle" "I" "ShadowSpell") ∈ lw_tbl := lw_at lw_m7 160 rfl
theorem q2320 : (Jvm.Cond.selects "ShadowSpell$What$3" ({ cls := "ShadowSpell$What", name := "of", desc := "(LShadowSpell$Sky;II)I" } : Jvm.MethodName) ({ cls := "ShadowSpell$What$3", name := "of", desc := "(LShadowSpell$Sky;II)I" } : Jvm.MethodName)) ∈ lw_all := lw_g (lw_at lw_m10 89 rfl) rfl
theorem q2321 : (Jvm.Cond.instanceMethod ({ cls := "ShadowSpell$What$3", name := "of", desc := "(LShadowSpell$Sky;II)I" } : Jvm.MethodName)) ∈ lw_all := lw_g (lw_at lw_m10 90 rfl) rfl
theorem q2322 : (Jvm.Cond.code ({ cls := "ShadowSpell$What$3", name := "of", desc := "(LShadowSpell$Sky;II)I" } : Jvm.MethodName) prog_37_method_2_code (4 : Nat) (Option.some Jvm.ClassFile.FieldType.int)) ∈ lw_all := lw_g (lw_at lw_m10 91 rfl) rfl
theorem q2323 : (Jvm.Cond.methodLink "ShadowSpell$What$3" (13 : Nat) ({ cls := "java/util/ArrayList", name := "get", desc := "(I)Ljava/lang/Object;" } : Jvm.MethodName)) ∈ lw_all := lw_g (lw_at lw_m10 92 rfl) rfl
theorem q2324 : (Jvm.Cond.classLink "ShadowSpell$What$3" (19 : Nat) "ShadowSpell$Planet") ∈ lw_all := lw_g (lw_at lw_m10 93 rfl) rfl
theorem q3210 : (Jvm.Cond.castable "ShadowSpell$What$3" "java/lang/Enum") ∈ lw_tbl := lw_at lw_m14 19 rfl
theorem q3249 : (Jvm.Cond.castable "ShadowSpell$What$3" "java/lang/Object") ∈ lw_tbl := lw_at lw_m14 58 rfl

/-! ShadowSpell$What$4 -/
set_option maxRecDepth 100000
def RX26 : String := "ShadowSpell$What$4"
abbrev cX26_of : ByteArray := prog_38_method_2_code
def yX26_of : MethodName := ⟨RX26, "of", "(LShadowSpell$Sky;II)I"⟩
def dkwX26_of_0 : List UInt8 := [43, 180, 0, 7, 28, 182, 0, 13, 192, 0, 19, 180, 0, 21, 172]
abbrev dktX26_of_0 : List UInt8 := dkwX26_of_0 ++ []
theorem dksX26_of_0 : cX26_of.data.toList.drop 0 = dktX26_of_0 := by decide +kernel
theorem dX26_of_0 : decode cX26_of 0 = .ok (.aload_n 1, 1) := dk_43 (dk_at dksX26_of_0 0 rfl rfl)
theorem dX26_of_1 : decode cX26_of 1 = .ok (.getfield 7, 3) := dk_180 0 7 (dk_at dksX26_of_0 1 rfl rfl)
theorem dX26_of_4 : decode cX26_of 4 = .ok (.iload_n 2, 1) := dk_28 (dk_at dksX26_of_0 4 rfl rfl)
theorem dX26_of_5 : decode cX26_of 5 = .ok (.invokevirtual 13, 3) := dk_182 0 13 (dk_at dksX26_of_0 5 rfl rfl)
theorem dX26_of_8 : decode cX26_of 8 = .ok (.checkcast 19, 3) := dk_192 0 19 (dk_at dksX26_of_0 8 rfl rfl)
theorem dX26_of_11 : decode cX26_of 11 = .ok (.getfield 21, 3) := dk_180 0 21 (dk_at dksX26_of_0 11 rfl rfl)
theorem dX26_of_14 : decode cX26_of 14 = .ok (.ireturn, 1) := dk_172 (dk_at dksX26_of_0 14 rfl rfl)
theorem q231 : (Jvm.Cond.fieldLinkNest "ShadowSpell$What$4" (7 : Nat) "ShadowSpell$Sky" "planets" "Ljava/util/ArrayList;" "ShadowSpell") ∈ lw_tbl := lw_at lw_m1 160 rfl
theorem q780 : (Jvm.Cond.selects "ShadowSpell$What$4" ({ cls := "java/lang/Object", name := "getClass", desc := "()Ljava/lang/Class;" } : Jvm.MethodName) ({ cls := "java/lang/Object", name := "getClass", desc := "()Ljava/lang/Class;" } : Jvm.MethodName)) ∈ lw_all := lw_g (lw_at lw_m3 229 rfl) rfl
theorem q1011 : (Jvm.Cond.selects "ShadowSpell$What$4" ({ cls := "java/lang/Object", name := "hashCode", desc := "()I" } : Jvm.MethodName) ({ cls := "java/lang/Enum", name := "hashCode", desc := "()I" } : Jvm.MethodName)) ∈ lw_all := lw_g (lw_at lw_m4 220 rfl) rfl
theorem q1125 : (Jvm.Cond.selects "ShadowSpell$What$4" ({ cls := "java/lang/Object", name := "equals", desc := "(Ljava/lang/Object;)Z" } : Jvm.MethodName) ({ cls := "java/lang/Enum", name := "equals", desc := "(Ljava/lang/Object;)Z" } : Jvm.MethodName)) ∈ lw_all := lw_g (lw_at lw_m5 94 rfl) rfl
theorem q1198 : (Jvm.Cond.selects "ShadowSpell$What$4" ({ cls := "java/lang/Enum", name := "compareTo", desc := "(Ljava/lang/Enum;)I" } : Jvm.MethodName) ({ cls := "java/lang/Enum", name := "compareTo", desc := "(Ljava/lang/Enum;)I" } : Jvm.MethodName)) ∈ lw_all := lw_g (lw_at lw_m5 167 rfl) rfl
theorem q1218 : (Jvm.Cond.selects "ShadowSpell$What$4" ({ cls := "java/lang/Enum", name := "getDeclaringClass", desc := "()Ljava/lang/Class;" } : Jvm.MethodName) ({ cls := "java/lang/Enum", name := "getDeclaringClass", desc := "()Ljava/lang/Class;" } : Jvm.MethodName)) ∈ lw_all := lw_g (lw_at lw_m5 187 rfl) rfl
theorem q1257 : (Jvm.Cond.castable "ShadowSpell$What$4" "java/lang/Comparable") ∈ lw_tbl := lw_at lw_m5 226 rfl
theorem q1258 : (Jvm.Cond.selects "ShadowSpell$What$4" ({ cls := "java/lang/Comparable", name := "compareTo", desc := "(Ljava/lang/Object;)I" } : Jvm.MethodName) ({ cls := "java/lang/Enum", name := "compareTo", desc := "(Ljava/lang/Object;)I" } : Jvm.MethodName)) ∈ lw_all := lw_g (lw_at lw_m5 227 rfl) rfl
theorem q1259 : (Jvm.Cond.unhidden "ShadowSpell$What$4" "compareTo" "(Ljava/lang/Object;)I") ∈ lw_tbl := lw_at lw_m5 228 rfl
theorem q1678 : (Jvm.Cond.fieldLinkNest "ShadowSpell$What$4" (21 : Nat) "ShadowSpell$Planet" "lap" "I" "ShadowSpell") ∈ lw_tbl := lw_at lw_m7 167 rfl
theorem q2325 : (Jvm.Cond.selects "ShadowSpell$What$4" ({ cls := "ShadowSpell$What", name := "of", desc := "(LShadowSpell$Sky;II)I" } : Jvm.MethodName) ({ cls := "ShadowSpell$What$4", name := "of", desc := "(LShadowSpell$Sky;II)I" } : Jvm.MethodName)) ∈ lw_all := lw_g (lw_at lw_m10 94 rfl) rfl
theorem q2326 : (Jvm.Cond.instanceMethod ({ cls := "ShadowSpell$What$4", name := "of", desc := "(LShadowSpell$Sky;II)I" } : Jvm.MethodName)) ∈ lw_all := lw_g (lw_at lw_m10 95 rfl) rfl
theorem q2327 : (Jvm.Cond.code ({ cls := "ShadowSpell$What$4", name := "of", desc := "(LShadowSpell$Sky;II)I" } : Jvm.MethodName) prog_38_method_2_code (4 : Nat) (Option.some Jvm.ClassFile.FieldType.int)) ∈ lw_all := lw_g (lw_at lw_m10 96 rfl) rfl
theorem q2328 : (Jvm.Cond.methodLink "ShadowSpell$What$4" (13 : Nat) ({ cls := "java/util/ArrayList", name := "get", desc := "(I)Ljava/lang/Object;" } : Jvm.MethodName)) ∈ lw_all := lw_g (lw_at lw_m10 97 rfl) rfl
theorem q2329 : (Jvm.Cond.classLink "ShadowSpell$What$4" (19 : Nat) "ShadowSpell$Planet") ∈ lw_all := lw_g (lw_at lw_m10 98 rfl) rfl
theorem q3211 : (Jvm.Cond.castable "ShadowSpell$What$4" "java/lang/Enum") ∈ lw_tbl := lw_at lw_m14 20 rfl
theorem q3250 : (Jvm.Cond.castable "ShadowSpell$What$4" "java/lang/Object") ∈ lw_tbl := lw_at lw_m14 59 rfl

/-! ShadowSpell$What$2 -/
set_option maxRecDepth 100000
def RX27 : String := "ShadowSpell$What$2"
abbrev cX27_of : ByteArray := prog_36_method_2_code
def yX27_of : MethodName := ⟨RX27, "of", "(LShadowSpell$Sky;II)I"⟩
def dkwX27_of_0 : List UInt8 := [43, 180, 0, 7, 182, 0, 13, 172]
abbrev dktX27_of_0 : List UInt8 := dkwX27_of_0 ++ []
theorem dksX27_of_0 : cX27_of.data.toList.drop 0 = dktX27_of_0 := by decide +kernel
theorem dX27_of_0 : decode cX27_of 0 = .ok (.aload_n 1, 1) := dk_43 (dk_at dksX27_of_0 0 rfl rfl)
theorem dX27_of_1 : decode cX27_of 1 = .ok (.getfield 7, 3) := dk_180 0 7 (dk_at dksX27_of_0 1 rfl rfl)
theorem dX27_of_4 : decode cX27_of 4 = .ok (.invokevirtual 13, 3) := dk_182 0 13 (dk_at dksX27_of_0 4 rfl rfl)
theorem dX27_of_7 : decode cX27_of 7 = .ok (.ireturn, 1) := dk_172 (dk_at dksX27_of_0 7 rfl rfl)
theorem q242 : (Jvm.Cond.fieldLinkNest "ShadowSpell$What$2" (7 : Nat) "ShadowSpell$Sky" "paper" "Ljava/lang/StringBuilder;" "ShadowSpell") ∈ lw_tbl := lw_at lw_m1 171 rfl
theorem q778 : (Jvm.Cond.selects "ShadowSpell$What$2" ({ cls := "java/lang/Object", name := "getClass", desc := "()Ljava/lang/Class;" } : Jvm.MethodName) ({ cls := "java/lang/Object", name := "getClass", desc := "()Ljava/lang/Class;" } : Jvm.MethodName)) ∈ lw_all := lw_g (lw_at lw_m3 227 rfl) rfl
theorem q1009 : (Jvm.Cond.selects "ShadowSpell$What$2" ({ cls := "java/lang/Object", name := "hashCode", desc := "()I" } : Jvm.MethodName) ({ cls := "java/lang/Enum", name := "hashCode", desc := "()I" } : Jvm.MethodName)) ∈ lw_all := lw_g (lw_at lw_m4 218 rfl) rfl
theorem q1123 : (Jvm.Cond.selects "ShadowSpell$What$2" ({ cls := "java/lang/Object", name := "equals", desc := "(Ljava/lang/Object;)Z" } : Jvm.MethodName) ({ cls := "java/lang/Enum", name := "equals", desc := "(Ljava/lang/Object;)Z" } : Jvm.MethodName)) ∈ lw_all := lw_g (lw_at lw_m5 92 rfl) rfl
theorem q1196 : (Jvm.Cond.selects "ShadowSpell$What$2" ({ cls := "java/lang/Enum", name := "compareTo", desc := "(Ljava/lang/Enum;)I" } : Jvm.MethodName) ({ cls := "java/lang/Enum", name := "compareTo", desc := "(Ljava/lang/Enum;)I" } : Jvm.MethodName)) ∈ lw_all := lw_g (lw_at lw_m5 165 rfl) rfl
theorem q1216 : (Jvm.Cond.selects "ShadowSpell$What$2" ({ cls := "java/lang/Enum", name := "getDeclaringClass", desc := "()Ljava/lang/Class;" } : Jvm.MethodName) ({ cls := "java/lang/Enum", name := "getDeclaringClass", desc := "()Ljava/lang/Class;" } : Jvm.MethodName)) ∈ lw_all := lw_g (lw_at lw_m5 185 rfl) rfl
theorem q1251 : (Jvm.Cond.castable "ShadowSpell$What$2" "java/lang/Comparable") ∈ lw_tbl := lw_at lw_m5 220 rfl
theorem q1252 : (Jvm.Cond.selects "ShadowSpell$What$2" ({ cls := "java/lang/Comparable", name := "compareTo", desc := "(Ljava/lang/Object;)I" } : Jvm.MethodName) ({ cls := "java/lang/Enum", name := "compareTo", desc := "(Ljava/lang/Object;)I" } : Jvm.MethodName)) ∈ lw_all := lw_g (lw_at lw_m5 221 rfl) rfl
theorem q1253 : (Jvm.Cond.unhidden "ShadowSpell$What$2" "compareTo" "(Ljava/lang/Object;)I") ∈ lw_tbl := lw_at lw_m5 222 rfl
theorem q2316 : (Jvm.Cond.selects "ShadowSpell$What$2" ({ cls := "ShadowSpell$What", name := "of", desc := "(LShadowSpell$Sky;II)I" } : Jvm.MethodName) ({ cls := "ShadowSpell$What$2", name := "of", desc := "(LShadowSpell$Sky;II)I" } : Jvm.MethodName)) ∈ lw_all := lw_g (lw_at lw_m10 85 rfl) rfl
theorem q2317 : (Jvm.Cond.instanceMethod ({ cls := "ShadowSpell$What$2", name := "of", desc := "(LShadowSpell$Sky;II)I" } : Jvm.MethodName)) ∈ lw_all := lw_g (lw_at lw_m10 86 rfl) rfl
theorem q2318 : (Jvm.Cond.code ({ cls := "ShadowSpell$What$2", name := "of", desc := "(LShadowSpell$Sky;II)I" } : Jvm.MethodName) prog_36_method_2_code (4 : Nat) (Option.some Jvm.ClassFile.FieldType.int)) ∈ lw_all := lw_g (lw_at lw_m10 87 rfl) rfl
theorem q2319 : (Jvm.Cond.methodLink "ShadowSpell$What$2" (13 : Nat) ({ cls := "java/lang/StringBuilder", name := "length", desc := "()I" } : Jvm.MethodName)) ∈ lw_all := lw_g (lw_at lw_m10 88 rfl) rfl
theorem q3209 : (Jvm.Cond.castable "ShadowSpell$What$2" "java/lang/Enum") ∈ lw_tbl := lw_at lw_m14 18 rfl
theorem q3248 : (Jvm.Cond.castable "ShadowSpell$What$2" "java/lang/Object") ∈ lw_tbl := lw_at lw_m14 57 rfl

/-! ShadowSpell$What$1 -/
set_option maxRecDepth 100000
def RX28 : String := "ShadowSpell$What$1"
abbrev cX28_of : ByteArray := prog_35_method_2_code
def yX28_of : MethodName := ⟨RX28, "of", "(LShadowSpell$Sky;II)I"⟩
theorem dX28_of_0 : decode cX28_of 0 = .ok (.aload_n 1, 1) := by decide +kernel
theorem dX28_of_1 : decode cX28_of 1 = .ok (.getfield 7, 3) := by decide +kernel
theorem dX28_of_4 : decode cX28_of 4 = .ok (.ireturn, 1) := by decide +kernel
theorem q244 : (Jvm.Cond.fieldLinkNest "ShadowSpell$What$1" (7 : Nat) "ShadowSpell$Sky" "day" "I" "ShadowSpell") ∈ lw_tbl := lw_at lw_m1 173 rfl
theorem q777 : (Jvm.Cond.selects "ShadowSpell$What$1" ({ cls := "java/lang/Object", name := "getClass", desc := "()Ljava/lang/Class;" } : Jvm.MethodName) ({ cls := "java/lang/Object", name := "getClass", desc := "()Ljava/lang/Class;" } : Jvm.MethodName)) ∈ lw_all := lw_g (lw_at lw_m3 226 rfl) rfl
theorem q1008 : (Jvm.Cond.selects "ShadowSpell$What$1" ({ cls := "java/lang/Object", name := "hashCode", desc := "()I" } : Jvm.MethodName) ({ cls := "java/lang/Enum", name := "hashCode", desc := "()I" } : Jvm.MethodName)) ∈ lw_all := lw_g (lw_at lw_m4 217 rfl) rfl
theorem q1122 : (Jvm.Cond.selects "ShadowSpell$What$1" ({ cls := "java/lang/Object", name := "equals", desc := "(Ljava/lang/Object;)Z" } : Jvm.MethodName) ({ cls := "java/lang/Enum", name := "equals", desc := "(Ljava/lang/Object;)Z" } : Jvm.MethodName)) ∈ lw_all := lw_g (lw_at lw_m5 91 rfl) rfl
theorem q1195 : (Jvm.Cond.selects "ShadowSpell$What$1" ({ cls := "java/lang/Enum", name := "compareTo", desc := "(Ljava/lang/Enum;)I" } : Jvm.MethodName) ({ cls := "java/lang/Enum", name := "compareTo", desc := "(Ljava/lang/Enum;)I" } : Jvm.MethodName)) ∈ lw_all := lw_g (lw_at lw_m5 164 rfl) rfl
theorem q1215 : (Jvm.Cond.selects "ShadowSpell$What$1" ({ cls := "java/lang/Enum", name := "getDeclaringClass", desc := "()Ljava/lang/Class;" } : Jvm.MethodName) ({ cls := "java/lang/Enum", name := "getDeclaringClass", desc := "()Ljava/lang/Class;" } : Jvm.MethodName)) ∈ lw_all := lw_g (lw_at lw_m5 184 rfl) rfl
theorem q1248 : (Jvm.Cond.castable "ShadowSpell$What$1" "java/lang/Comparable") ∈ lw_tbl := lw_at lw_m5 217 rfl
theorem q1249 : (Jvm.Cond.selects "ShadowSpell$What$1" ({ cls := "java/lang/Comparable", name := "compareTo", desc := "(Ljava/lang/Object;)I" } : Jvm.MethodName) ({ cls := "java/lang/Enum", name := "compareTo", desc := "(Ljava/lang/Object;)I" } : Jvm.MethodName)) ∈ lw_all := lw_g (lw_at lw_m5 218 rfl) rfl
theorem q1250 : (Jvm.Cond.unhidden "ShadowSpell$What$1" "compareTo" "(Ljava/lang/Object;)I") ∈ lw_tbl := lw_at lw_m5 219 rfl
theorem q2313 : (Jvm.Cond.selects "ShadowSpell$What$1" ({ cls := "ShadowSpell$What", name := "of", desc := "(LShadowSpell$Sky;II)I" } : Jvm.MethodName) ({ cls := "ShadowSpell$What$1", name := "of", desc := "(LShadowSpell$Sky;II)I" } : Jvm.MethodName)) ∈ lw_all := lw_g (lw_at lw_m10 82 rfl) rfl
theorem q2314 : (Jvm.Cond.instanceMethod ({ cls := "ShadowSpell$What$1", name := "of", desc := "(LShadowSpell$Sky;II)I" } : Jvm.MethodName)) ∈ lw_all := lw_g (lw_at lw_m10 83 rfl) rfl
theorem q2315 : (Jvm.Cond.code ({ cls := "ShadowSpell$What$1", name := "of", desc := "(LShadowSpell$Sky;II)I" } : Jvm.MethodName) prog_35_method_2_code (4 : Nat) (Option.some Jvm.ClassFile.FieldType.int)) ∈ lw_all := lw_g (lw_at lw_m10 84 rfl) rfl
theorem q3208 : (Jvm.Cond.castable "ShadowSpell$What$1" "java/lang/Enum") ∈ lw_tbl := lw_at lw_m14 17 rfl
theorem q3247 : (Jvm.Cond.castable "ShadowSpell$What$1" "java/lang/Object") ∈ lw_tbl := lw_at lw_m14 56 rfl

/-! ShadowSpell$Aspect$1 -/
set_option maxRecDepth 100000
def RX29 : String := "ShadowSpell$Aspect$1"
abbrev cX29_turned : ByteArray := prog_5_method_2_code
def yX29_turned : MethodName := ⟨RX29, "turned", "()I"⟩
theorem dX29_turned_0 : decode cX29_turned 0 = .ok (.iconst 0, 1) := by decide +kernel
theorem dX29_turned_1 : decode cX29_turned 1 = .ok (.ireturn, 1) := by decide +kernel
theorem q751 : (Jvm.Cond.selects "ShadowSpell$Aspect$1" ({ cls := "java/lang/Object", name := "getClass", desc := "()Ljava/lang/Class;" } : Jvm.MethodName) ({ cls := "java/lang/Object", name := "getClass", desc := "()Ljava/lang/Class;" } : Jvm.MethodName)) ∈ lw_all := lw_g (lw_at lw_m3 200 rfl) rfl
theorem q977 : (Jvm.Cond.selects "ShadowSpell$Aspect$1" ({ cls := "java/lang/Object", name := "hashCode", desc := "()I" } : Jvm.MethodName) ({ cls := "java/lang/Enum", name := "hashCode", desc := "()I" } : Jvm.MethodName)) ∈ lw_all := lw_g (lw_at lw_m4 186 rfl) rfl
theorem q1094 : (Jvm.Cond.selects "ShadowSpell$Aspect$1" ({ cls := "java/lang/Object", name := "equals", desc := "(Ljava/lang/Object;)Z" } : Jvm.MethodName) ({ cls := "java/lang/Enum", name := "equals", desc := "(Ljava/lang/Object;)Z" } : Jvm.MethodName)) ∈ lw_all := lw_g (lw_at lw_m5 63 rfl) rfl
theorem q1175 : (Jvm.Cond.castable "ShadowSpell$Aspect$1" "java/lang/Comparable") ∈ lw_tbl := lw_at lw_m5 144 rfl
theorem q1176 : (Jvm.Cond.selects "ShadowSpell$Aspect$1" ({ cls := "java/lang/Comparable", name := "compareTo", desc := "(Ljava/lang/Object;)I" } : Jvm.MethodName) ({ cls := "java/lang/Enum", name := "compareTo", desc := "(Ljava/lang/Object;)I" } : Jvm.MethodName)) ∈ lw_all := lw_g (lw_at lw_m5 145 rfl) rfl
theorem q1177 : (Jvm.Cond.unhidden "ShadowSpell$Aspect$1" "compareTo" "(Ljava/lang/Object;)I") ∈ lw_tbl := lw_at lw_m5 146 rfl
theorem q1185 : (Jvm.Cond.selects "ShadowSpell$Aspect$1" ({ cls := "java/lang/Enum", name := "compareTo", desc := "(Ljava/lang/Enum;)I" } : Jvm.MethodName) ({ cls := "java/lang/Enum", name := "compareTo", desc := "(Ljava/lang/Enum;)I" } : Jvm.MethodName)) ∈ lw_all := lw_g (lw_at lw_m5 154 rfl) rfl
theorem q1205 : (Jvm.Cond.selects "ShadowSpell$Aspect$1" ({ cls := "java/lang/Enum", name := "getDeclaringClass", desc := "()Ljava/lang/Class;" } : Jvm.MethodName) ({ cls := "java/lang/Enum", name := "getDeclaringClass", desc := "()Ljava/lang/Class;" } : Jvm.MethodName)) ∈ lw_all := lw_g (lw_at lw_m5 174 rfl) rfl
theorem q2401 : (Jvm.Cond.selects "ShadowSpell$Aspect$1" ({ cls := "ShadowSpell$Aspect", name := "is", desc := "(LShadowSpell$Planet;LShadowSpell$Planet;)Z" } : Jvm.MethodName) ({ cls := "ShadowSpell$Aspect", name := "is", desc := "(LShadowSpell$Planet;LShadowSpell$Planet;)Z" } : Jvm.MethodName)) ∈ lw_all := lw_g (lw_at lw_m10 170 rfl) rfl
theorem q2407 : (Jvm.Cond.selects "ShadowSpell$Aspect$1" ({ cls := "ShadowSpell$Aspect", name := "turned", desc := "()I" } : Jvm.MethodName) ({ cls := "ShadowSpell$Aspect$1", name := "turned", desc := "()I" } : Jvm.MethodName)) ∈ lw_all := lw_g (lw_at lw_m10 176 rfl) rfl
theorem q2408 : (Jvm.Cond.instanceMethod ({ cls := "ShadowSpell$Aspect$1", name := "turned", desc := "()I" } : Jvm.MethodName)) ∈ lw_all := lw_g (lw_at lw_m10 177 rfl) rfl
theorem q2409 : (Jvm.Cond.code ({ cls := "ShadowSpell$Aspect$1", name := "turned", desc := "()I" } : Jvm.MethodName) prog_5_method_2_code (1 : Nat) (Option.some Jvm.ClassFile.FieldType.int)) ∈ lw_all := lw_g (lw_at lw_m10 178 rfl) rfl
theorem q3198 : (Jvm.Cond.castable "ShadowSpell$Aspect$1" "java/lang/Enum") ∈ lw_tbl := lw_at lw_m14 7 rfl
theorem q3244 : (Jvm.Cond.castable "ShadowSpell$Aspect$1" "java/lang/Object") ∈ lw_tbl := lw_at lw_m14 53 rfl

/-! ShadowSpell$Aspect$2 -/
set_option maxRecDepth 100000
def RX30 : String := "ShadowSpell$Aspect$2"
abbrev cX30_turned : ByteArray := prog_6_method_2_code
def yX30_turned : MethodName := ⟨RX30, "turned", "()I"⟩
theorem dX30_turned_0 : decode cX30_turned 0 = .ok (.sipush 180, 3) := by decide +kernel
theorem dX30_turned_3 : decode cX30_turned 3 = .ok (.ireturn, 1) := by decide +kernel
theorem q752 : (Jvm.Cond.selects "ShadowSpell$Aspect$2" ({ cls := "java/lang/Object", name := "getClass", desc := "()Ljava/lang/Class;" } : Jvm.MethodName) ({ cls := "java/lang/Object", name := "getClass", desc := "()Ljava/lang/Class;" } : Jvm.MethodName)) ∈ lw_all := lw_g (lw_at lw_m3 201 rfl) rfl
theorem q983 : (Jvm.Cond.selects "ShadowSpell$Aspect$2" ({ cls := "java/lang/Object", name := "hashCode", desc := "()I" } : Jvm.MethodName) ({ cls := "java/lang/Enum", name := "hashCode", desc := "()I" } : Jvm.MethodName)) ∈ lw_all := lw_g (lw_at lw_m4 192 rfl) rfl
theorem q1097 : (Jvm.Cond.selects "ShadowSpell$Aspect$2" ({ cls := "java/lang/Object", name := "equals", desc := "(Ljava/lang/Object;)Z" } : Jvm.MethodName) ({ cls := "java/lang/Enum", name := "equals", desc := "(Ljava/lang/Object;)Z" } : Jvm.MethodName)) ∈ lw_all := lw_g (lw_at lw_m5 66 rfl) rfl
theorem q1186 : (Jvm.Cond.selects "ShadowSpell$Aspect$2" ({ cls := "java/lang/Enum", name := "compareTo", desc := "(Ljava/lang/Enum;)I" } : Jvm.MethodName) ({ cls := "java/lang/Enum", name := "compareTo", desc := "(Ljava/lang/Enum;)I" } : Jvm.MethodName)) ∈ lw_all := lw_g (lw_at lw_m5 155 rfl) rfl
theorem q1206 : (Jvm.Cond.selects "ShadowSpell$Aspect$2" ({ cls := "java/lang/Enum", name := "getDeclaringClass", desc := "()Ljava/lang/Class;" } : Jvm.MethodName) ({ cls := "java/lang/Enum", name := "getDeclaringClass", desc := "()Ljava/lang/Class;" } : Jvm.MethodName)) ∈ lw_all := lw_g (lw_at lw_m5 175 rfl) rfl
theorem q1221 : (Jvm.Cond.castable "ShadowSpell$Aspect$2" "java/lang/Comparable") ∈ lw_tbl := lw_at lw_m5 190 rfl
theorem q1222 : (Jvm.Cond.selects "ShadowSpell$Aspect$2" ({ cls := "java/lang/Comparable", name := "compareTo", desc := "(Ljava/lang/Object;)I" } : Jvm.MethodName) ({ cls := "java/lang/Enum", name := "compareTo", desc := "(Ljava/lang/Object;)I" } : Jvm.MethodName)) ∈ lw_all := lw_g (lw_at lw_m5 191 rfl) rfl
theorem q1223 : (Jvm.Cond.unhidden "ShadowSpell$Aspect$2" "compareTo" "(Ljava/lang/Object;)I") ∈ lw_tbl := lw_at lw_m5 192 rfl
theorem q2402 : (Jvm.Cond.selects "ShadowSpell$Aspect$2" ({ cls := "ShadowSpell$Aspect", name := "is", desc := "(LShadowSpell$Planet;LShadowSpell$Planet;)Z" } : Jvm.MethodName) ({ cls := "ShadowSpell$Aspect", name := "is", desc := "(LShadowSpell$Planet;LShadowSpell$Planet;)Z" } : Jvm.MethodName)) ∈ lw_all := lw_g (lw_at lw_m10 171 rfl) rfl
theorem q2410 : (Jvm.Cond.selects "ShadowSpell$Aspect$2" ({ cls := "ShadowSpell$Aspect", name := "turned", desc := "()I" } : Jvm.MethodName) ({ cls := "ShadowSpell$Aspect$2", name := "turned", desc := "()I" } : Jvm.MethodName)) ∈ lw_all := lw_g (lw_at lw_m10 179 rfl) rfl
theorem q2411 : (Jvm.Cond.instanceMethod ({ cls := "ShadowSpell$Aspect$2", name := "turned", desc := "()I" } : Jvm.MethodName)) ∈ lw_all := lw_g (lw_at lw_m10 180 rfl) rfl
theorem q2412 : (Jvm.Cond.code ({ cls := "ShadowSpell$Aspect$2", name := "turned", desc := "()I" } : Jvm.MethodName) prog_6_method_2_code (1 : Nat) (Option.some Jvm.ClassFile.FieldType.int)) ∈ lw_all := lw_g (lw_at lw_m10 181 rfl) rfl
theorem q3199 : (Jvm.Cond.castable "ShadowSpell$Aspect$2" "java/lang/Enum") ∈ lw_tbl := lw_at lw_m14 8 rfl
theorem q3243 : (Jvm.Cond.castable "ShadowSpell$Aspect$2" "java/lang/Object") ∈ lw_tbl := lw_at lw_m14 52 rfl

/-! ShadowSpell$Sign$1 -/
set_option maxRecDepth 100000
def RX31 : String := "ShadowSpell$Sign$1"
abbrev cX31_join : ByteArray := prog_20_method_2_code
def yX31_join : MethodName := ⟨RX31, "join", "(II)I"⟩
def dkwX31_join_0 : List UInt8 := [27, 28, 96, 172]
abbrev dktX31_join_0 : List UInt8 := dkwX31_join_0 ++ []
theorem dksX31_join_0 : cX31_join.data.toList.drop 0 = dktX31_join_0 := by decide +kernel
theorem dX31_join_0 : decode cX31_join 0 = .ok (.iload_n 1, 1) := dk_27 (dk_at dksX31_join_0 0 rfl rfl)
theorem dX31_join_1 : decode cX31_join 1 = .ok (.iload_n 2, 1) := dk_28 (dk_at dksX31_join_0 1 rfl rfl)
theorem dX31_join_2 : decode cX31_join 2 = .ok (.iadd, 1) := dk_96 (dk_at dksX31_join_0 2 rfl rfl)
theorem dX31_join_3 : decode cX31_join 3 = .ok (.ireturn, 1) := dk_172 (dk_at dksX31_join_0 3 rfl rfl)
theorem q765 : (Jvm.Cond.selects "ShadowSpell$Sign$1" ({ cls := "java/lang/Object", name := "getClass", desc := "()Ljava/lang/Class;" } : Jvm.MethodName) ({ cls := "java/lang/Object", name := "getClass", desc := "()Ljava/lang/Class;" } : Jvm.MethodName)) ∈ lw_all := lw_g (lw_at lw_m3 214 rfl) rfl
theorem q996 : (Jvm.Cond.selects "ShadowSpell$Sign$1" ({ cls := "java/lang/Object", name := "hashCode", desc := "()I" } : Jvm.MethodName) ({ cls := "java/lang/Enum", name := "hashCode", desc := "()I" } : Jvm.MethodName)) ∈ lw_all := lw_g (lw_at lw_m4 205 rfl) rfl
theorem q1110 : (Jvm.Cond.selects "ShadowSpell$Sign$1" ({ cls := "java/lang/Object", name := "equals", desc := "(Ljava/lang/Object;)Z" } : Jvm.MethodName) ({ cls := "java/lang/Enum", name := "equals", desc := "(Ljava/lang/Object;)Z" } : Jvm.MethodName)) ∈ lw_all := lw_g (lw_at lw_m5 79 rfl) rfl
theorem q1187 : (Jvm.Cond.selects "ShadowSpell$Sign$1" ({ cls := "java/lang/Enum", name := "compareTo", desc := "(Ljava/lang/Enum;)I" } : Jvm.MethodName) ({ cls := "java/lang/Enum", name := "compareTo", desc := "(Ljava/lang/Enum;)I" } : Jvm.MethodName)) ∈ lw_all := lw_g (lw_at lw_m5 156 rfl) rfl
theorem q1207 : (Jvm.Cond.selects "ShadowSpell$Sign$1" ({ cls := "java/lang/Enum", name := "getDeclaringClass", desc := "()Ljava/lang/Class;" } : Jvm.MethodName) ({ cls := "java/lang/Enum", name := "getDeclaringClass", desc := "()Ljava/lang/Class;" } : Jvm.MethodName)) ∈ lw_all := lw_g (lw_at lw_m5 176 rfl) rfl
theorem q1224 : (Jvm.Cond.castable "ShadowSpell$Sign$1" "java/lang/Comparable") ∈ lw_tbl := lw_at lw_m5 193 rfl
theorem q1225 : (Jvm.Cond.selects "ShadowSpell$Sign$1" ({ cls := "java/lang/Comparable", name := "compareTo", desc := "(Ljava/lang/Object;)I" } : Jvm.MethodName) ({ cls := "java/lang/Enum", name := "compareTo", desc := "(Ljava/lang/Object;)I" } : Jvm.MethodName)) ∈ lw_all := lw_g (lw_at lw_m5 194 rfl) rfl
theorem q1226 : (Jvm.Cond.unhidden "ShadowSpell$Sign$1" "compareTo" "(Ljava/lang/Object;)I") ∈ lw_tbl := lw_at lw_m5 195 rfl
theorem q2353 : (Jvm.Cond.selects "ShadowSpell$Sign$1" ({ cls := "ShadowSpell$Sign", name := "join", desc := "(II)I" } : Jvm.MethodName) ({ cls := "ShadowSpell$Sign$1", name := "join", desc := "(II)I" } : Jvm.MethodName)) ∈ lw_all := lw_g (lw_at lw_m10 122 rfl) rfl
theorem q2354 : (Jvm.Cond.instanceMethod ({ cls := "ShadowSpell$Sign$1", name := "join", desc := "(II)I" } : Jvm.MethodName)) ∈ lw_all := lw_g (lw_at lw_m10 123 rfl) rfl
theorem q2355 : (Jvm.Cond.code ({ cls := "ShadowSpell$Sign$1", name := "join", desc := "(II)I" } : Jvm.MethodName) prog_20_method_2_code (3 : Nat) (Option.some Jvm.ClassFile.FieldType.int)) ∈ lw_all := lw_g (lw_at lw_m10 124 rfl) rfl
theorem q3200 : (Jvm.Cond.castable "ShadowSpell$Sign$1" "java/lang/Enum") ∈ lw_tbl := lw_at lw_m14 9 rfl
theorem q3260 : (Jvm.Cond.castable "ShadowSpell$Sign$1" "java/lang/Object") ∈ lw_tbl := lw_at lw_m14 69 rfl

/-! ShadowSpell$Sign$2 -/
set_option maxRecDepth 100000
def RX32 : String := "ShadowSpell$Sign$2"
abbrev cX32_join : ByteArray := prog_21_method_2_code
def yX32_join : MethodName := ⟨RX32, "join", "(II)I"⟩
def dkwX32_join_0 : List UInt8 := [27, 28, 100, 172]
abbrev dktX32_join_0 : List UInt8 := dkwX32_join_0 ++ []
theorem dksX32_join_0 : cX32_join.data.toList.drop 0 = dktX32_join_0 := by decide +kernel
theorem dX32_join_0 : decode cX32_join 0 = .ok (.iload_n 1, 1) := dk_27 (dk_at dksX32_join_0 0 rfl rfl)
theorem dX32_join_1 : decode cX32_join 1 = .ok (.iload_n 2, 1) := dk_28 (dk_at dksX32_join_0 1 rfl rfl)
theorem dX32_join_2 : decode cX32_join 2 = .ok (.isub, 1) := dk_100 (dk_at dksX32_join_0 2 rfl rfl)
theorem dX32_join_3 : decode cX32_join 3 = .ok (.ireturn, 1) := dk_172 (dk_at dksX32_join_0 3 rfl rfl)
theorem q766 : (Jvm.Cond.selects "ShadowSpell$Sign$2" ({ cls := "java/lang/Object", name := "getClass", desc := "()Ljava/lang/Class;" } : Jvm.MethodName) ({ cls := "java/lang/Object", name := "getClass", desc := "()Ljava/lang/Class;" } : Jvm.MethodName)) ∈ lw_all := lw_g (lw_at lw_m3 215 rfl) rfl
theorem q997 : (Jvm.Cond.selects "ShadowSpell$Sign$2" ({ cls := "java/lang/Object", name := "hashCode", desc := "()I" } : Jvm.MethodName) ({ cls := "java/lang/Enum", name := "hashCode", desc := "()I" } : Jvm.MethodName)) ∈ lw_all := lw_g (lw_at lw_m4 206 rfl) rfl
theorem q1111 : (Jvm.Cond.selects "ShadowSpell$Sign$2" ({ cls := "java/lang/Object", name := "equals", desc := "(Ljava/lang/Object;)Z" } : Jvm.MethodName) ({ cls := "java/lang/Enum", name := "equals", desc := "(Ljava/lang/Object;)Z" } : Jvm.MethodName)) ∈ lw_all := lw_g (lw_at lw_m5 80 rfl) rfl
theorem q1188 : (Jvm.Cond.selects "ShadowSpell$Sign$2" ({ cls := "java/lang/Enum", name := "compareTo", desc := "(Ljava/lang/Enum;)I" } : Jvm.MethodName) ({ cls := "java/lang/Enum", name := "compareTo", desc := "(Ljava/lang/Enum;)I" } : Jvm.MethodName)) ∈ lw_all := lw_g (lw_at lw_m5 157 rfl) rfl
theorem q1208 : (Jvm.Cond.selects "ShadowSpell$Sign$2" ({ cls := "java/lang/Enum", name := "getDeclaringClass", desc := "()Ljava/lang/Class;" } : Jvm.MethodName) ({ cls := "java/lang/Enum", name := "getDeclaringClass", desc := "()Ljava/lang/Class;" } : Jvm.MethodName)) ∈ lw_all := lw_g (lw_at lw_m5 177 rfl) rfl
theorem q1227 : (Jvm.Cond.castable "ShadowSpell$Sign$2" "java/lang/Comparable") ∈ lw_tbl := lw_at lw_m5 196 rfl
theorem q1228 : (Jvm.Cond.selects "ShadowSpell$Sign$2" ({ cls := "java/lang/Comparable", name := "compareTo", desc := "(Ljava/lang/Object;)I" } : Jvm.MethodName) ({ cls := "java/lang/Enum", name := "compareTo", desc := "(Ljava/lang/Object;)I" } : Jvm.MethodName)) ∈ lw_all := lw_g (lw_at lw_m5 197 rfl) rfl
theorem q1229 : (Jvm.Cond.unhidden "ShadowSpell$Sign$2" "compareTo" "(Ljava/lang/Object;)I") ∈ lw_tbl := lw_at lw_m5 198 rfl
theorem q2356 : (Jvm.Cond.selects "ShadowSpell$Sign$2" ({ cls := "ShadowSpell$Sign", name := "join", desc := "(II)I" } : Jvm.MethodName) ({ cls := "ShadowSpell$Sign$2", name := "join", desc := "(II)I" } : Jvm.MethodName)) ∈ lw_all := lw_g (lw_at lw_m10 125 rfl) rfl
theorem q2357 : (Jvm.Cond.instanceMethod ({ cls := "ShadowSpell$Sign$2", name := "join", desc := "(II)I" } : Jvm.MethodName)) ∈ lw_all := lw_g (lw_at lw_m10 126 rfl) rfl
theorem q2358 : (Jvm.Cond.code ({ cls := "ShadowSpell$Sign$2", name := "join", desc := "(II)I" } : Jvm.MethodName) prog_21_method_2_code (3 : Nat) (Option.some Jvm.ClassFile.FieldType.int)) ∈ lw_all := lw_g (lw_at lw_m10 127 rfl) rfl
theorem q3201 : (Jvm.Cond.castable "ShadowSpell$Sign$2" "java/lang/Enum") ∈ lw_tbl := lw_at lw_m14 10 rfl
theorem q3261 : (Jvm.Cond.castable "ShadowSpell$Sign$2" "java/lang/Object") ∈ lw_tbl := lw_at lw_m14 70 rfl

/-! ShadowSpell$Sign$3 -/
set_option maxRecDepth 100000
def RX33 : String := "ShadowSpell$Sign$3"
abbrev cX33_join : ByteArray := prog_22_method_2_code
def yX33_join : MethodName := ⟨RX33, "join", "(II)I"⟩
def dkwX33_join_0 : List UInt8 := [27, 28, 104, 172]
abbrev dktX33_join_0 : List UInt8 := dkwX33_join_0 ++ []
theorem dksX33_join_0 : cX33_join.data.toList.drop 0 = dktX33_join_0 := by decide +kernel
theorem dX33_join_0 : decode cX33_join 0 = .ok (.iload_n 1, 1) := dk_27 (dk_at dksX33_join_0 0 rfl rfl)
theorem dX33_join_1 : decode cX33_join 1 = .ok (.iload_n 2, 1) := dk_28 (dk_at dksX33_join_0 1 rfl rfl)
theorem dX33_join_2 : decode cX33_join 2 = .ok (.imul, 1) := dk_104 (dk_at dksX33_join_0 2 rfl rfl)
theorem dX33_join_3 : decode cX33_join 3 = .ok (.ireturn, 1) := dk_172 (dk_at dksX33_join_0 3 rfl rfl)
theorem q767 : (Jvm.Cond.selects "ShadowSpell$Sign$3" ({ cls := "java/lang/Object", name := "getClass", desc := "()Ljava/lang/Class;" } : Jvm.MethodName) ({ cls := "java/lang/Object", name := "getClass", desc := "()Ljava/lang/Class;" } : Jvm.MethodName)) ∈ lw_all := lw_g (lw_at lw_m3 216 rfl) rfl
theorem q998 : (Jvm.Cond.selects "ShadowSpell$Sign$3" ({ cls := "java/lang/Object", name := "hashCode", desc := "()I" } : Jvm.MethodName) ({ cls := "java/lang/Enum", name := "hashCode", desc := "()I" } : Jvm.MethodName)) ∈ lw_all := lw_g (lw_at lw_m4 207 rfl) rfl
theorem q1112 : (Jvm.Cond.selects "ShadowSpell$Sign$3" ({ cls := "java/lang/Object", name := "equals", desc := "(Ljava/lang/Object;)Z" } : Jvm.MethodName) ({ cls := "java/lang/Enum", name := "equals", desc := "(Ljava/lang/Object;)Z" } : Jvm.MethodName)) ∈ lw_all := lw_g (lw_at lw_m5 81 rfl) rfl
theorem q1189 : (Jvm.Cond.selects "ShadowSpell$Sign$3" ({ cls := "java/lang/Enum", name := "compareTo", desc := "(Ljava/lang/Enum;)I" } : Jvm.MethodName) ({ cls := "java/lang/Enum", name := "compareTo", desc := "(Ljava/lang/Enum;)I" } : Jvm.MethodName)) ∈ lw_all := lw_g (lw_at lw_m5 158 rfl) rfl
theorem q1209 : (Jvm.Cond.selects "ShadowSpell$Sign$3" ({ cls := "java/lang/Enum", name := "getDeclaringClass", desc := "()Ljava/lang/Class;" } : Jvm.MethodName) ({ cls := "java/lang/Enum", name := "getDeclaringClass", desc := "()Ljava/lang/Class;" } : Jvm.MethodName)) ∈ lw_all := lw_g (lw_at lw_m5 178 rfl) rfl
theorem q1230 : (Jvm.Cond.castable "ShadowSpell$Sign$3" "java/lang/Comparable") ∈ lw_tbl := lw_at lw_m5 199 rfl
theorem q1231 : (Jvm.Cond.selects "ShadowSpell$Sign$3" ({ cls := "java/lang/Comparable", name := "compareTo", desc := "(Ljava/lang/Object;)I" } : Jvm.MethodName) ({ cls := "java/lang/Enum", name := "compareTo", desc := "(Ljava/lang/Object;)I" } : Jvm.MethodName)) ∈ lw_all := lw_g (lw_at lw_m5 200 rfl) rfl
theorem q1232 : (Jvm.Cond.unhidden "ShadowSpell$Sign$3" "compareTo" "(Ljava/lang/Object;)I") ∈ lw_tbl := lw_at lw_m5 201 rfl
theorem q2359 : (Jvm.Cond.selects "ShadowSpell$Sign$3" ({ cls := "ShadowSpell$Sign", name := "join", desc := "(II)I" } : Jvm.MethodName) ({ cls := "ShadowSpell$Sign$3", name := "join", desc := "(II)I" } : Jvm.MethodName)) ∈ lw_all := lw_g (lw_at lw_m10 128 rfl) rfl
theorem q2360 : (Jvm.Cond.instanceMethod ({ cls := "ShadowSpell$Sign$3", name := "join", desc := "(II)I" } : Jvm.MethodName)) ∈ lw_all := lw_g (lw_at lw_m10 129 rfl) rfl
theorem q2361 : (Jvm.Cond.code ({ cls := "ShadowSpell$Sign$3", name := "join", desc := "(II)I" } : Jvm.MethodName) prog_22_method_2_code (3 : Nat) (Option.some Jvm.ClassFile.FieldType.int)) ∈ lw_all := lw_g (lw_at lw_m10 130 rfl) rfl
theorem q3202 : (Jvm.Cond.castable "ShadowSpell$Sign$3" "java/lang/Enum") ∈ lw_tbl := lw_at lw_m14 11 rfl
theorem q3257 : (Jvm.Cond.castable "ShadowSpell$Sign$3" "java/lang/Object") ∈ lw_tbl := lw_at lw_m14 66 rfl

/-! ShadowSpell$Sign$4 -/
set_option maxRecDepth 100000
def RX34 : String := "ShadowSpell$Sign$4"
abbrev cX34_join : ByteArray := prog_23_method_2_code
def yX34_join : MethodName := ⟨RX34, "join", "(II)I"⟩
def dkwX34_join_0 : List UInt8 := [28, 154, 0, 7, 3, 167, 0, 6, 27, 28, 108, 172]
abbrev dktX34_join_0 : List UInt8 := dkwX34_join_0 ++ []
theorem dksX34_join_0 : cX34_join.data.toList.drop 0 = dktX34_join_0 := by decide +kernel
theorem dX34_join_0 : decode cX34_join 0 = .ok (.iload_n 2, 1) := dk_28 (dk_at dksX34_join_0 0 rfl rfl)
theorem dX34_join_1 : decode cX34_join 1 = .ok (.ifCond .ne 7, 3) := dk_154 0 7 (dk_at dksX34_join_0 1 rfl rfl)
theorem dX34_join_4 : decode cX34_join 4 = .ok (.iconst 0, 1) := dk_3 (dk_at dksX34_join_0 4 rfl rfl)
theorem dX34_join_5 : decode cX34_join 5 = .ok (.goto 6, 3) := dk_167 0 6 (dk_at dksX34_join_0 5 rfl rfl)
theorem dX34_join_8 : decode cX34_join 8 = .ok (.iload_n 1, 1) := dk_27 (dk_at dksX34_join_0 8 rfl rfl)
theorem dX34_join_9 : decode cX34_join 9 = .ok (.iload_n 2, 1) := dk_28 (dk_at dksX34_join_0 9 rfl rfl)
theorem dX34_join_10 : decode cX34_join 10 = .ok (.idiv, 1) := dk_108 (dk_at dksX34_join_0 10 rfl rfl)
theorem dX34_join_11 : decode cX34_join 11 = .ok (.ireturn, 1) := dk_172 (dk_at dksX34_join_0 11 rfl rfl)
theorem q768 : (Jvm.Cond.selects "ShadowSpell$Sign$4" ({ cls := "java/lang/Object", name := "getClass", desc := "()Ljava/lang/Class;" } : Jvm.MethodName) ({ cls := "java/lang/Object", name := "getClass", desc := "()Ljava/lang/Class;" } : Jvm.MethodName)) ∈ lw_all := lw_g (lw_at lw_m3 217 rfl) rfl
theorem q999 : (Jvm.Cond.selects "ShadowSpell$Sign$4" ({ cls := "java/lang/Object", name := "hashCode", desc := "()I" } : Jvm.MethodName) ({ cls := "java/lang/Enum", name := "hashCode", desc := "()I" } : Jvm.MethodName)) ∈ lw_all := lw_g (lw_at lw_m4 208 rfl) rfl
theorem q1113 : (Jvm.Cond.selects "ShadowSpell$Sign$4" ({ cls := "java/lang/Object", name := "equals", desc := "(Ljava/lang/Object;)Z" } : Jvm.MethodName) ({ cls := "java/lang/Enum", name := "equals", desc := "(Ljava/lang/Object;)Z" } : Jvm.MethodName)) ∈ lw_all := lw_g (lw_at lw_m5 82 rfl) rfl
theorem q1190 : (Jvm.Cond.selects "ShadowSpell$Sign$4" ({ cls := "java/lang/Enum", name := "compareTo", desc := "(Ljava/lang/Enum;)I" } : Jvm.MethodName) ({ cls := "java/lang/Enum", name := "compareTo", desc := "(Ljava/lang/Enum;)I" } : Jvm.MethodName)) ∈ lw_all := lw_g (lw_at lw_m5 159 rfl) rfl
theorem q1210 : (Jvm.Cond.selects "ShadowSpell$Sign$4" ({ cls := "java/lang/Enum", name := "getDeclaringClass", desc := "()Ljava/lang/Class;" } : Jvm.MethodName) ({ cls := "java/lang/Enum", name := "getDeclaringClass", desc := "()Ljava/lang/Class;" } : Jvm.MethodName)) ∈ lw_all := lw_g (lw_at lw_m5 179 rfl) rfl
theorem q1233 : (Jvm.Cond.castable "ShadowSpell$Sign$4" "java/lang/Comparable") ∈ lw_tbl := lw_at lw_m5 202 rfl
theorem q1234 : (Jvm.Cond.selects "ShadowSpell$Sign$4" ({ cls := "java/lang/Comparable", name := "compareTo", desc := "(Ljava/lang/Object;)I" } : Jvm.MethodName) ({ cls := "java/lang/Enum", name := "compareTo", desc := "(Ljava/lang/Object;)I" } : Jvm.MethodName)) ∈ lw_all := lw_g (lw_at lw_m5 203 rfl) rfl
theorem q1235 : (Jvm.Cond.unhidden "ShadowSpell$Sign$4" "compareTo" "(Ljava/lang/Object;)I") ∈ lw_tbl := lw_at lw_m5 204 rfl
theorem q2362 : (Jvm.Cond.selects "ShadowSpell$Sign$4" ({ cls := "ShadowSpell$Sign", name := "join", desc := "(II)I" } : Jvm.MethodName) ({ cls := "ShadowSpell$Sign$4", name := "join", desc := "(II)I" } : Jvm.MethodName)) ∈ lw_all := lw_g (lw_at lw_m10 131 rfl) rfl
theorem q2363 : (Jvm.Cond.instanceMethod ({ cls := "ShadowSpell$Sign$4", name := "join", desc := "(II)I" } : Jvm.MethodName)) ∈ lw_all := lw_g (lw_at lw_m10 132 rfl) rfl
theorem q2364 : (Jvm.Cond.code ({ cls := "ShadowSpell$Sign$4", name := "join", desc := "(II)I" } : Jvm.MethodName) prog_23_method_2_code (3 : Nat) (Option.some Jvm.ClassFile.FieldType.int)) ∈ lw_all := lw_g (lw_at lw_m10 133 rfl) rfl
theorem q3203 : (Jvm.Cond.castable "ShadowSpell$Sign$4" "java/lang/Enum") ∈ lw_tbl := lw_at lw_m14 12 rfl
theorem q3258 : (Jvm.Cond.castable "ShadowSpell$Sign$4" "java/lang/Object") ∈ lw_tbl := lw_at lw_m14 67 rfl

/-! ShadowSpell$Sign$5 -/
set_option maxRecDepth 100000
def RX35 : String := "ShadowSpell$Sign$5"
abbrev cX35_join : ByteArray := prog_24_method_2_code
def yX35_join : MethodName := ⟨RX35, "join", "(II)I"⟩
def dkwX35_join_0 : List UInt8 := [28, 154, 0, 7, 3, 167, 0, 6, 27, 28, 112, 172]
abbrev dktX35_join_0 : List UInt8 := dkwX35_join_0 ++ []
theorem dksX35_join_0 : cX35_join.data.toList.drop 0 = dktX35_join_0 := by decide +kernel
theorem dX35_join_0 : decode cX35_join 0 = .ok (.iload_n 2, 1) := dk_28 (dk_at dksX35_join_0 0 rfl rfl)
theorem dX35_join_1 : decode cX35_join 1 = .ok (.ifCond .ne 7, 3) := dk_154 0 7 (dk_at dksX35_join_0 1 rfl rfl)
theorem dX35_join_4 : decode cX35_join 4 = .ok (.iconst 0, 1) := dk_3 (dk_at dksX35_join_0 4 rfl rfl)
theorem dX35_join_5 : decode cX35_join 5 = .ok (.goto 6, 3) := dk_167 0 6 (dk_at dksX35_join_0 5 rfl rfl)
theorem dX35_join_8 : decode cX35_join 8 = .ok (.iload_n 1, 1) := dk_27 (dk_at dksX35_join_0 8 rfl rfl)
theorem dX35_join_9 : decode cX35_join 9 = .ok (.iload_n 2, 1) := dk_28 (dk_at dksX35_join_0 9 rfl rfl)
theorem dX35_join_10 : decode cX35_join 10 = .ok (.irem, 1) := dk_112 (dk_at dksX35_join_0 10 rfl rfl)
theorem dX35_join_11 : decode cX35_join 11 = .ok (.ireturn, 1) := dk_172 (dk_at dksX35_join_0 11 rfl rfl)
theorem q769 : (Jvm.Cond.selects "ShadowSpell$Sign$5" ({ cls := "java/lang/Object", name := "getClass", desc := "()Ljava/lang/Class;" } : Jvm.MethodName) ({ cls := "java/lang/Object", name := "getClass", desc := "()Ljava/lang/Class;" } : Jvm.MethodName)) ∈ lw_all := lw_g (lw_at lw_m3 218 rfl) rfl
theorem q1000 : (Jvm.Cond.selects "ShadowSpell$Sign$5" ({ cls := "java/lang/Object", name := "hashCode", desc := "()I" } : Jvm.MethodName) ({ cls := "java/lang/Enum", name := "hashCode", desc := "()I" } : Jvm.MethodName)) ∈ lw_all := lw_g (lw_at lw_m4 209 rfl) rfl
theorem q1114 : (Jvm.Cond.selects "ShadowSpell$Sign$5" ({ cls := "java/lang/Object", name := "equals", desc := "(Ljava/lang/Object;)Z" } : Jvm.MethodName) ({ cls := "java/lang/Enum", name := "equals", desc := "(Ljava/lang/Object;)Z" } : Jvm.MethodName)) ∈ lw_all := lw_g (lw_at lw_m5 83 rfl) rfl
theorem q1191 : (Jvm.Cond.selects "ShadowSpell$Sign$5" ({ cls := "java/lang/Enum", name := "compareTo", desc := "(Ljava/lang/Enum;)I" } : Jvm.MethodName) ({ cls := "java/lang/Enum", name := "compareTo", desc := "(Ljava/lang/Enum;)I" } : Jvm.MethodName)) ∈ lw_all := lw_g (lw_at lw_m5 160 rfl) rfl
theorem q1211 : (Jvm.Cond.selects "ShadowSpell$Sign$5" ({ cls := "java/lang/Enum", name := "getDeclaringClass", desc := "()Ljava/lang/Class;" } : Jvm.MethodName) ({ cls := "java/lang/Enum", name := "getDeclaringClass", desc := "()Ljava/lang/Class;" } : Jvm.MethodName)) ∈ lw_all := lw_g (lw_at lw_m5 180 rfl) rfl
theorem q1236 : (Jvm.Cond.castable "ShadowSpell$Sign$5" "java/lang/Comparable") ∈ lw_tbl := lw_at lw_m5 205 rfl
theorem q1237 : (Jvm.Cond.selects "ShadowSpell$Sign$5" ({ cls := "java/lang/Comparable", name := "compareTo", desc := "(Ljava/lang/Object;)I" } : Jvm.MethodName) ({ cls := "java/lang/Enum", name := "compareTo", desc := "(Ljava/lang/Object;)I" } : Jvm.MethodName)) ∈ lw_all := lw_g (lw_at lw_m5 206 rfl) rfl
theorem q1238 : (Jvm.Cond.unhidden "ShadowSpell$Sign$5" "compareTo" "(Ljava/lang/Object;)I") ∈ lw_tbl := lw_at lw_m5 207 rfl
theorem q2365 : (Jvm.Cond.selects "ShadowSpell$Sign$5" ({ cls := "ShadowSpell$Sign", name := "join", desc := "(II)I" } : Jvm.MethodName) ({ cls := "ShadowSpell$Sign$5", name := "join", desc := "(II)I" } : Jvm.MethodName)) ∈ lw_all := lw_g (lw_at lw_m10 134 rfl) rfl
theorem q2366 : (Jvm.Cond.instanceMethod ({ cls := "ShadowSpell$Sign$5", name := "join", desc := "(II)I" } : Jvm.MethodName)) ∈ lw_all := lw_g (lw_at lw_m10 135 rfl) rfl
theorem q2367 : (Jvm.Cond.code ({ cls := "ShadowSpell$Sign$5", name := "join", desc := "(II)I" } : Jvm.MethodName) prog_24_method_2_code (3 : Nat) (Option.some Jvm.ClassFile.FieldType.int)) ∈ lw_all := lw_g (lw_at lw_m10 136 rfl) rfl
theorem q3204 : (Jvm.Cond.castable "ShadowSpell$Sign$5" "java/lang/Enum") ∈ lw_tbl := lw_at lw_m14 13 rfl
theorem q3259 : (Jvm.Cond.castable "ShadowSpell$Sign$5" "java/lang/Object") ∈ lw_tbl := lw_at lw_m14 68 rfl

/-! ShadowSpell$Sign$6 -/
set_option maxRecDepth 100000
def RX36 : String := "ShadowSpell$Sign$6"
abbrev cX36_join : ByteArray := prog_25_method_2_code
def yX36_join : MethodName := ⟨RX36, "join", "(II)I"⟩
def dkwX36_join_0 : List UInt8 := [27, 28, 184, 0, 7, 172]
abbrev dktX36_join_0 : List UInt8 := dkwX36_join_0 ++ []
theorem dksX36_join_0 : cX36_join.data.toList.drop 0 = dktX36_join_0 := by decide +kernel
theorem dX36_join_0 : decode cX36_join 0 = .ok (.iload_n 1, 1) := dk_27 (dk_at dksX36_join_0 0 rfl rfl)
theorem dX36_join_1 : decode cX36_join 1 = .ok (.iload_n 2, 1) := dk_28 (dk_at dksX36_join_0 1 rfl rfl)
theorem dX36_join_2 : decode cX36_join 2 = .ok (.invokestatic 7, 3) := dk_184 0 7 (dk_at dksX36_join_0 2 rfl rfl)
theorem dX36_join_5 : decode cX36_join 5 = .ok (.ireturn, 1) := dk_172 (dk_at dksX36_join_0 5 rfl rfl)
theorem q770 : (Jvm.Cond.selects "ShadowSpell$Sign$6" ({ cls := "java/lang/Object", name := "getClass", desc := "()Ljava/lang/Class;" } : Jvm.MethodName) ({ cls := "java/lang/Object", name := "getClass", desc := "()Ljava/lang/Class;" } : Jvm.MethodName)) ∈ lw_all := lw_g (lw_at lw_m3 219 rfl) rfl
theorem q1001 : (Jvm.Cond.selects "ShadowSpell$Sign$6" ({ cls := "java/lang/Object", name := "hashCode", desc := "()I" } : Jvm.MethodName) ({ cls := "java/lang/Enum", name := "hashCode", desc := "()I" } : Jvm.MethodName)) ∈ lw_all := lw_g (lw_at lw_m4 210 rfl) rfl
theorem q1115 : (Jvm.Cond.selects "ShadowSpell$Sign$6" ({ cls := "java/lang/Object", name := "equals", desc := "(Ljava/lang/Object;)Z" } : Jvm.MethodName) ({ cls := "java/lang/Enum", name := "equals", desc := "(Ljava/lang/Object;)Z" } : Jvm.MethodName)) ∈ lw_all := lw_g (lw_at lw_m5 84 rfl) rfl
theorem q1192 : (Jvm.Cond.selects "ShadowSpell$Sign$6" ({ cls := "java/lang/Enum", name := "compareTo", desc := "(Ljava/lang/Enum;)I" } : Jvm.MethodName) ({ cls := "java/lang/Enum", name := "compareTo", desc := "(Ljava/lang/Enum;)I" } : Jvm.MethodName)) ∈ lw_all := lw_g (lw_at lw_m5 161 rfl) rfl
theorem q1212 : (Jvm.Cond.selects "ShadowSpell$Sign$6" ({ cls := "java/lang/Enum", name := "getDeclaringClass", desc := "()Ljava/lang/Class;" } : Jvm.MethodName) ({ cls := "java/lang/Enum", name := "getDeclaringClass", desc := "()Ljava/lang/Class;" } : Jvm.MethodName)) ∈ lw_all := lw_g (lw_at lw_m5 181 rfl) rfl
theorem q1239 : (Jvm.Cond.castable "ShadowSpell$Sign$6" "java/lang/Comparable") ∈ lw_tbl := lw_at lw_m5 208 rfl
theorem q1240 : (Jvm.Cond.selects "ShadowSpell$Sign$6" ({ cls := "java/lang/Comparable", name := "compareTo", desc := "(Ljava/lang/Object;)I" } : Jvm.MethodName) ({ cls := "java/lang/Enum", name := "compareTo", desc := "(Ljava/lang/Object;)I" } : Jvm.MethodName)) ∈ lw_all := lw_g (lw_at lw_m5 209 rfl) rfl
theorem q1241 : (Jvm.Cond.unhidden "ShadowSpell$Sign$6" "compareTo" "(Ljava/lang/Object;)I") ∈ lw_tbl := lw_at lw_m5 210 rfl
theorem q2368 : (Jvm.Cond.selects "ShadowSpell$Sign$6" ({ cls := "ShadowSpell$Sign", name := "join", desc := "(II)I" } : Jvm.MethodName) ({ cls := "ShadowSpell$Sign$6", name := "join", desc := "(II)I" } : Jvm.MethodName)) ∈ lw_all := lw_g (lw_at lw_m10 137 rfl) rfl
theorem q2369 : (Jvm.Cond.instanceMethod ({ cls := "ShadowSpell$Sign$6", name := "join", desc := "(II)I" } : Jvm.MethodName)) ∈ lw_all := lw_g (lw_at lw_m10 138 rfl) rfl
theorem q2370 : (Jvm.Cond.code ({ cls := "ShadowSpell$Sign$6", name := "join", desc := "(II)I" } : Jvm.MethodName) prog_25_method_2_code (3 : Nat) (Option.some Jvm.ClassFile.FieldType.int)) ∈ lw_all := lw_g (lw_at lw_m10 139 rfl) rfl
theorem q2371 : (Jvm.Cond.methodLink "ShadowSpell$Sign$6" (7 : Nat) ({ cls := "java/lang/Math", name := "min", desc := "(II)I" } : Jvm.MethodName)) ∈ lw_all := lw_g (lw_at lw_m10 140 rfl) rfl
theorem q3205 : (Jvm.Cond.castable "ShadowSpell$Sign$6" "java/lang/Enum") ∈ lw_tbl := lw_at lw_m14 14 rfl
theorem q3254 : (Jvm.Cond.castable "ShadowSpell$Sign$6" "java/lang/Object") ∈ lw_tbl := lw_at lw_m14 63 rfl

/-! ShadowSpell$Sign$7 -/
set_option maxRecDepth 100000
def RX37 : String := "ShadowSpell$Sign$7"
abbrev cX37_join : ByteArray := prog_26_method_2_code
def yX37_join : MethodName := ⟨RX37, "join", "(II)I"⟩
def dkwX37_join_0 : List UInt8 := [27, 28, 184, 0, 7, 172]
abbrev dktX37_join_0 : List UInt8 := dkwX37_join_0 ++ []
theorem dksX37_join_0 : cX37_join.data.toList.drop 0 = dktX37_join_0 := by decide +kernel
theorem dX37_join_0 : decode cX37_join 0 = .ok (.iload_n 1, 1) := dk_27 (dk_at dksX37_join_0 0 rfl rfl)
theorem dX37_join_1 : decode cX37_join 1 = .ok (.iload_n 2, 1) := dk_28 (dk_at dksX37_join_0 1 rfl rfl)
theorem dX37_join_2 : decode cX37_join 2 = .ok (.invokestatic 7, 3) := dk_184 0 7 (dk_at dksX37_join_0 2 rfl rfl)
theorem dX37_join_5 : decode cX37_join 5 = .ok (.ireturn, 1) := dk_172 (dk_at dksX37_join_0 5 rfl rfl)
theorem q771 : (Jvm.Cond.selects "ShadowSpell$Sign$7" ({ cls := "java/lang/Object", name := "getClass", desc := "()Ljava/lang/Class;" } : Jvm.MethodName) ({ cls := "java/lang/Object", name := "getClass", desc := "()Ljava/lang/Class;" } : Jvm.MethodName)) ∈ lw_all := lw_g (lw_at lw_m3 220 rfl) rfl
theorem q1002 : (Jvm.Cond.selects "ShadowSpell$Sign$7" ({ cls := "java/lang/Object", name := "hashCode", desc := "()I" } : Jvm.MethodName) ({ cls := "java/lang/Enum", name := "hashCode", desc := "()I" } : Jvm.MethodName)) ∈ lw_all := lw_g (lw_at lw_m4 211 rfl) rfl
theorem q1116 : (Jvm.Cond.selects "ShadowSpell$Sign$7" ({ cls := "java/lang/Object", name := "equals", desc := "(Ljava/lang/Object;)Z" } : Jvm.MethodName) ({ cls := "java/lang/Enum", name := "equals", desc := "(Ljava/lang/Object;)Z" } : Jvm.MethodName)) ∈ lw_all := lw_g (lw_at lw_m5 85 rfl) rfl
theorem q1193 : (Jvm.Cond.selects "ShadowSpell$Sign$7" ({ cls := "java/lang/Enum", name := "compareTo", desc := "(Ljava/lang/Enum;)I" } : Jvm.MethodName) ({ cls := "java/lang/Enum", name := "compareTo", desc := "(Ljava/lang/Enum;)I" } : Jvm.MethodName)) ∈ lw_all := lw_g (lw_at lw_m5 162 rfl) rfl
theorem q1213 : (Jvm.Cond.selects "ShadowSpell$Sign$7" ({ cls := "java/lang/Enum", name := "getDeclaringClass", desc := "()Ljava/lang/Class;" } : Jvm.MethodName) ({ cls := "java/lang/Enum", name := "getDeclaringClass", desc := "()Ljava/lang/Class;" } : Jvm.MethodName)) ∈ lw_all := lw_g (lw_at lw_m5 182 rfl) rfl
theorem q1242 : (Jvm.Cond.castable "ShadowSpell$Sign$7" "java/lang/Comparable") ∈ lw_tbl := lw_at lw_m5 211 rfl
theorem q1243 : (Jvm.Cond.selects "ShadowSpell$Sign$7" ({ cls := "java/lang/Comparable", name := "compareTo", desc := "(Ljava/lang/Object;)I" } : Jvm.MethodName) ({ cls := "java/lang/Enum", name := "compareTo", desc := "(Ljava/lang/Object;)I" } : Jvm.MethodName)) ∈ lw_all := lw_g (lw_at lw_m5 212 rfl) rfl
theorem q1244 : (Jvm.Cond.unhidden "ShadowSpell$Sign$7" "compareTo" "(Ljava/lang/Object;)I") ∈ lw_tbl := lw_at lw_m5 213 rfl
theorem q2372 : (Jvm.Cond.selects "ShadowSpell$Sign$7" ({ cls := "ShadowSpell$Sign", name := "join", desc := "(II)I" } : Jvm.MethodName) ({ cls := "ShadowSpell$Sign$7", name := "join", desc := "(II)I" } : Jvm.MethodName)) ∈ lw_all := lw_g (lw_at lw_m10 141 rfl) rfl
theorem q2373 : (Jvm.Cond.instanceMethod ({ cls := "ShadowSpell$Sign$7", name := "join", desc := "(II)I" } : Jvm.MethodName)) ∈ lw_all := lw_g (lw_at lw_m10 142 rfl) rfl
theorem q2374 : (Jvm.Cond.code ({ cls := "ShadowSpell$Sign$7", name := "join", desc := "(II)I" } : Jvm.MethodName) prog_26_method_2_code (3 : Nat) (Option.some Jvm.ClassFile.FieldType.int)) ∈ lw_all := lw_g (lw_at lw_m10 143 rfl) rfl
theorem q2375 : (Jvm.Cond.methodLink "ShadowSpell$Sign$7" (7 : Nat) ({ cls := "java/lang/Math", name := "max", desc := "(II)I" } : Jvm.MethodName)) ∈ lw_all := lw_g (lw_at lw_m10 144 rfl) rfl
theorem q3206 : (Jvm.Cond.castable "ShadowSpell$Sign$7" "java/lang/Enum") ∈ lw_tbl := lw_at lw_m14 15 rfl
theorem q3255 : (Jvm.Cond.castable "ShadowSpell$Sign$7" "java/lang/Object") ∈ lw_tbl := lw_at lw_m14 64 rfl

/-! ShadowSpell$What$5 -/
set_option maxRecDepth 100000
def RX38 : String := "ShadowSpell$What$5"
abbrev cX38_of : ByteArray := prog_39_method_2_code
def yX38_of : MethodName := ⟨RX38, "of", "(LShadowSpell$Sky;II)I"⟩
def dkwX38_of_0 : List UInt8 := [43, 28, 29, 182, 0, 7, 172]
abbrev dktX38_of_0 : List UInt8 := dkwX38_of_0 ++ []
theorem dksX38_of_0 : cX38_of.data.toList.drop 0 = dktX38_of_0 := by decide +kernel
theorem dX38_of_0 : decode cX38_of 0 = .ok (.aload_n 1, 1) := dk_43 (dk_at dksX38_of_0 0 rfl rfl)
theorem dX38_of_1 : decode cX38_of 1 = .ok (.iload_n 2, 1) := dk_28 (dk_at dksX38_of_0 1 rfl rfl)
theorem dX38_of_2 : decode cX38_of 2 = .ok (.iload_n 3, 1) := dk_29 (dk_at dksX38_of_0 2 rfl rfl)
theorem dX38_of_3 : decode cX38_of 3 = .ok (.invokevirtual 7, 3) := dk_182 0 7 (dk_at dksX38_of_0 3 rfl rfl)
theorem dX38_of_6 : decode cX38_of 6 = .ok (.ireturn, 1) := dk_172 (dk_at dksX38_of_0 6 rfl rfl)
theorem q781 : (Jvm.Cond.selects "ShadowSpell$What$5" ({ cls := "java/lang/Object", name := "getClass", desc := "()Ljava/lang/Class;" } : Jvm.MethodName) ({ cls := "java/lang/Object", name := "getClass", desc := "()Ljava/lang/Class;" } : Jvm.MethodName)) ∈ lw_all := lw_g (lw_at lw_m3 230 rfl) rfl
theorem q1012 : (Jvm.Cond.selects "ShadowSpell$What$5" ({ cls := "java/lang/Object", name := "hashCode", desc := "()I" } : Jvm.MethodName) ({ cls := "java/lang/Enum", name := "hashCode", desc := "()I" } : Jvm.MethodName)) ∈ lw_all := lw_g (lw_at lw_m4 221 rfl) rfl
theorem q1126 : (Jvm.Cond.selects "ShadowSpell$What$5" ({ cls := "java/lang/Object", name := "equals", desc := "(Ljava/lang/Object;)Z" } : Jvm.MethodName) ({ cls := "java/lang/Enum", name := "equals", desc := "(Ljava/lang/Object;)Z" } : Jvm.MethodName)) ∈ lw_all := lw_g (lw_at lw_m5 95 rfl) rfl
theorem q1199 : (Jvm.Cond.selects "ShadowSpell$What$5" ({ cls := "java/lang/Enum", name := "compareTo", desc := "(Ljava/lang/Enum;)I" } : Jvm.MethodName) ({ cls := "java/lang/Enum", name := "compareTo", desc := "(Ljava/lang/Enum;)I" } : Jvm.MethodName)) ∈ lw_all := lw_g (lw_at lw_m5 168 rfl) rfl
theorem q1219 : (Jvm.Cond.selects "ShadowSpell$What$5" ({ cls := "java/lang/Enum", name := "getDeclaringClass", desc := "()Ljava/lang/Class;" } : Jvm.MethodName) ({ cls := "java/lang/Enum", name := "getDeclaringClass", desc := "()Ljava/lang/Class;" } : Jvm.MethodName)) ∈ lw_all := lw_g (lw_at lw_m5 188 rfl) rfl
theorem q1260 : (Jvm.Cond.castable "ShadowSpell$What$5" "java/lang/Comparable") ∈ lw_tbl := lw_at lw_m5 229 rfl
theorem q1261 : (Jvm.Cond.selects "ShadowSpell$What$5" ({ cls := "java/lang/Comparable", name := "compareTo", desc := "(Ljava/lang/Object;)I" } : Jvm.MethodName) ({ cls := "java/lang/Enum", name := "compareTo", desc := "(Ljava/lang/Object;)I" } : Jvm.MethodName)) ∈ lw_all := lw_g (lw_at lw_m5 230 rfl) rfl
theorem q1262 : (Jvm.Cond.unhidden "ShadowSpell$What$5" "compareTo" "(Ljava/lang/Object;)I") ∈ lw_tbl := lw_at lw_m5 231 rfl
theorem q2330 : (Jvm.Cond.selects "ShadowSpell$What$5" ({ cls := "ShadowSpell$What", name := "of", desc := "(LShadowSpell$Sky;II)I" } : Jvm.MethodName) ({ cls := "ShadowSpell$What$5", name := "of", desc := "(LShadowSpell$Sky;II)I" } : Jvm.MethodName)) ∈ lw_all := lw_g (lw_at lw_m10 99 rfl) rfl
theorem q2331 : (Jvm.Cond.instanceMethod ({ cls := "ShadowSpell$What$5", name := "of", desc := "(LShadowSpell$Sky;II)I" } : Jvm.MethodName)) ∈ lw_all := lw_g (lw_at lw_m10 100 rfl) rfl
theorem q2332 : (Jvm.Cond.code ({ cls := "ShadowSpell$What$5", name := "of", desc := "(LShadowSpell$Sky;II)I" } : Jvm.MethodName) prog_39_method_2_code (4 : Nat) (Option.some Jvm.ClassFile.FieldType.int)) ∈ lw_all := lw_g (lw_at lw_m10 101 rfl) rfl
theorem q2333 : (Jvm.Cond.methodLink "ShadowSpell$What$5" (7 : Nat) ({ cls := "ShadowSpell$Sky", name := "gap", desc := "(II)I" } : Jvm.MethodName)) ∈ lw_all := lw_g (lw_at lw_m10 102 rfl) rfl
theorem q3212 : (Jvm.Cond.castable "ShadowSpell$What$5" "java/lang/Enum") ∈ lw_tbl := lw_at lw_m14 21 rfl
theorem q3251 : (Jvm.Cond.castable "ShadowSpell$What$5" "java/lang/Object") ∈ lw_tbl := lw_at lw_m14 60 rfl

