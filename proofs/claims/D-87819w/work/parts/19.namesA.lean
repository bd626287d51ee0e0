theorem q84 : (Jvm.Cond.arrayOver (Jvm.ClassFile.FieldType.object "FarTypewriter$Line")) ∈ lw_tbl := lw_at lw_m1 31 rfl
set_option maxRecDepth 100000
theorem q91 : (Jvm.Cond.arrayOver (Jvm.ClassFile.FieldType.object "FarTypewriter$Letter")) ∈ lw_tbl := lw_at lw_m1 38 rfl
theorem q106 : (Jvm.Cond.arrayClass Jvm.ClassFile.FieldType.int) ∈ lw_all := lw_g (lw_at lw_m1 53 rfl) rfl
theorem q107 : (Jvm.Cond.arrayClass Jvm.ClassFile.FieldType.byte) ∈ lw_all := lw_g (lw_at lw_m1 54 rfl) rfl
theorem q126 : (Jvm.Cond.arrayOver (Jvm.ClassFile.FieldType.object "FarTypewriter$State")) ∈ lw_tbl := lw_at lw_m1 73 rfl
theorem q139 : (Jvm.Cond.arrayOver (Jvm.ClassFile.FieldType.array Jvm.ClassFile.FieldType.byte)) ∈ lw_tbl := lw_at lw_m1 86 rfl
theorem q207 : (Jvm.Cond.arrayOver (Jvm.ClassFile.FieldType.object "FarTypewriter$Guess")) ∈ lw_tbl := lw_at lw_m1 154 rfl
theorem q63 : (Jvm.Cond.initialized "java/lang/System") ∈ lw_all := lw_g (lw_at lw_m1 10 rfl) rfl
set_option maxRecDepth 100000
theorem q251 : (Jvm.Cond.static ({ cls := "java/lang/System", name := "arraycopy", desc := "(Ljava/lang/Object;ILjava/lang/Object;II)V" } : Jvm.MethodName)) ∈ lw_all := lw_g (lw_at lw_m1 198 rfl) rfl
theorem q252 : (Jvm.Cond.native ({ cls := "java/lang/System", name := "arraycopy", desc := "(Ljava/lang/Object;ILjava/lang/Object;II)V" } : Jvm.MethodName)) ∈ lw_all := lw_g (lw_at lw_m1 199 rfl) rfl
/-! java/lang/Object -/
set_option maxRecDepth 100000
def RJ7 : String := "java/lang/Object"
abbrev cJ7_init : ByteArray := object_method_1_code
def yJ7_init : MethodName := ⟨RJ7, "<init>", "()V"⟩
theorem dJ7_init_0 : decode cJ7_init 0 = .ok (.return_, 1) := by decide +kernel
theorem q81 : (Jvm.Cond.instanceMethod ({ cls := "java/lang/Object", name := "<init>", desc := "()V" } : Jvm.MethodName)) ∈ lw_all := lw_g (lw_at lw_m1 28 rfl) rfl
theorem q82 : (Jvm.Cond.code ({ cls := "java/lang/Object", name := "<init>", desc := "()V" } : Jvm.MethodName) object_method_1_code (1 : Nat) (Option.none : Option Jvm.ClassFile.FieldType)) ∈ lw_all := lw_g (lw_at lw_m1 29 rfl) rfl
/-! java/lang/Math -/
set_option maxRecDepth 100000
def RJ0 : String := "java/lang/Math"
abbrev cJ0_min : ByteArray := prog_18_method_69_code
def yJ0_min : MethodName := ⟨RJ0, "min", "(II)I"⟩
theorem dJ0_min_0 : decode cJ0_min 0 = .ok (.iload_n 0, 1) := by decide +kernel
theorem dJ0_min_1 : decode cJ0_min 1 = .ok (.iload_n 1, 1) := by decide +kernel
theorem dJ0_min_2 : decode cJ0_min 2 = .ok (.if_icmp .gt 7, 3) := by decide +kernel
theorem dJ0_min_5 : decode cJ0_min 5 = .ok (.iload_n 0, 1) := by decide +kernel
theorem dJ0_min_6 : decode cJ0_min 6 = .ok (.goto 4, 3) := by decide +kernel
theorem dJ0_min_9 : decode cJ0_min 9 = .ok (.iload_n 1, 1) := by decide +kernel
theorem dJ0_min_10 : decode cJ0_min 10 = .ok (.ireturn, 1) := by decide +kernel
abbrev cJ0_max : ByteArray := prog_18_method_65_code
def yJ0_max : MethodName := ⟨RJ0, "max", "(II)I"⟩
theorem dJ0_max_0 : decode cJ0_max 0 = .ok (.iload_n 0, 1) := by decide +kernel
theorem dJ0_max_1 : decode cJ0_max 1 = .ok (.iload_n 1, 1) := by decide +kernel
theorem dJ0_max_2 : decode cJ0_max 2 = .ok (.if_icmp .lt 7, 3) := by decide +kernel
theorem dJ0_max_5 : decode cJ0_max 5 = .ok (.iload_n 0, 1) := by decide +kernel
theorem dJ0_max_6 : decode cJ0_max 6 = .ok (.goto 4, 3) := by decide +kernel
theorem dJ0_max_9 : decode cJ0_max 9 = .ok (.iload_n 1, 1) := by decide +kernel
theorem dJ0_max_10 : decode cJ0_max 10 = .ok (.ireturn, 1) := by decide +kernel
theorem q68 : (Jvm.Cond.initialized "java/lang/Math") ∈ lw_all := lw_g (lw_at lw_m1 15 rfl) rfl
theorem q547 : (Jvm.Cond.static ({ cls := "java/lang/Math", name := "min", desc := "(II)I" } : Jvm.MethodName)) ∈ lw_all := lw_g (lw_at lw_m3 14 rfl) rfl
theorem q548 : (Jvm.Cond.code ({ cls := "java/lang/Math", name := "min", desc := "(II)I" } : Jvm.MethodName) prog_18_method_69_code (2 : Nat) (Option.some Jvm.ClassFile.FieldType.int)) ∈ lw_all := lw_g (lw_at lw_m3 15 rfl) rfl
theorem q676 : (Jvm.Cond.static ({ cls := "java/lang/Math", name := "max", desc := "(II)I" } : Jvm.MethodName)) ∈ lw_all := lw_g (lw_at lw_m3 143 rfl) rfl
theorem q677 : (Jvm.Cond.code ({ cls := "java/lang/Math", name := "max", desc := "(II)I" } : Jvm.MethodName) prog_18_method_65_code (2 : Nat) (Option.some Jvm.ClassFile.FieldType.int)) ∈ lw_all := lw_g (lw_at lw_m3 144 rfl) rfl
/-! FarTypewriter$Line -/
set_option maxRecDepth 100000
def RX1 : String := "FarTypewriter$Line"
def TX1 : u_T := fun k => match k with
  | 0 => ("FarTypewriter$Line", "letters", "[LFarTypewriter$Letter;", true)
  | _ => ("FarTypewriter$Line", "size", "I", false)
def tyX1 : Nat → FieldType := fun k => match k with
  | 0 => .array (.object "FarTypewriter$Letter")
  | _ => .int
abbrev wsX10 : List Cond := u_ws RX1 TX1 2
theorem nmX1 : ∀ a, a < 2 → ∀ b, b < 2 → a ≠ b → (TX1 a).2.1 ≠ (TX1 b).2.1 := by decide +kernel
theorem tyX1_ok : ∀ k, k < 2 → parseFieldDescriptor (TX1 k).2.2.1 = some (tyX1 k) := by decide +kernel
abbrev cX1_init : ByteArray := prog_5_method_1_code
def yX1_init : MethodName := ⟨RX1, "<init>", "()V"⟩
theorem dX1_init_0 : decode cX1_init 0 = .ok (.aload_n 0, 1) := by decide +kernel
theorem dX1_init_1 : decode cX1_init 1 = .ok (.invokespecial 3, 3) := by decide +kernel
theorem dX1_init_4 : decode cX1_init 4 = .ok (.aload_n 0, 1) := by decide +kernel
theorem dX1_init_5 : decode cX1_init 5 = .ok (.bipush 40, 2) := by decide +kernel
theorem dX1_init_7 : decode cX1_init 7 = .ok (.anewarray 9, 3) := by decide +kernel
theorem dX1_init_10 : decode cX1_init 10 = .ok (.putfield 11, 3) := by decide +kernel
theorem dX1_init_13 : decode cX1_init 13 = .ok (.iconst 0, 1) := by decide +kernel
theorem dX1_init_14 : decode cX1_init 14 = .ok (.istore_n 1, 1) := by decide +kernel
theorem dX1_init_15 : decode cX1_init 15 = .ok (.iload_n 1, 1) := by decide +kernel
theorem dX1_init_16 : decode cX1_init 16 = .ok (.bipush 40, 2) := by decide +kernel
theorem dX1_init_18 : decode cX1_init 18 = .ok (.if_icmp .ge 22, 3) := by decide +kernel
theorem dX1_init_21 : decode cX1_init 21 = .ok (.aload_n 0, 1) := by decide +kernel
theorem dX1_init_22 : decode cX1_init 22 = .ok (.getfield 11, 3) := by decide +kernel
theorem dX1_init_25 : decode cX1_init 25 = .ok (.iload_n 1, 1) := by decide +kernel
theorem dX1_init_26 : decode cX1_init 26 = .ok (.new 9, 3) := by decide +kernel
theorem dX1_init_29 : decode cX1_init 29 = .ok (.dup, 1) := by decide +kernel
theorem dX1_init_30 : decode cX1_init 30 = .ok (.invokespecial 17, 3) := by decide +kernel
theorem dX1_init_33 : decode cX1_init 33 = .ok (.aastore, 1) := by decide +kernel
theorem dX1_init_34 : decode cX1_init 34 = .ok (.iinc 1 1, 3) := by decide +kernel
theorem dX1_init_37 : decode cX1_init 37 = .ok (.goto (-22), 3) := by decide +kernel
theorem dX1_init_40 : decode cX1_init 40 = .ok (.return_, 1) := by decide +kernel
abbrev cX1_goes : ByteArray := prog_5_method_2_code
def yX1_goes : MethodName := ⟨RX1, "goes", "(I)V"⟩
theorem dX1_goes_0 : decode cX1_goes 0 = .ok (.aload_n 0, 1) := by decide +kernel
theorem dX1_goes_1 : decode cX1_goes 1 = .ok (.getfield 11, 3) := by decide +kernel
theorem dX1_goes_4 : decode cX1_goes 4 = .ok (.iload_n 1, 1) := by decide +kernel
theorem dX1_goes_5 : decode cX1_goes 5 = .ok (.aaload, 1) := by decide +kernel
theorem dX1_goes_6 : decode cX1_goes 6 = .ok (.astore_n 2, 1) := by decide +kernel
theorem dX1_goes_7 : decode cX1_goes 7 = .ok (.aload_n 0, 1) := by decide +kernel
theorem dX1_goes_8 : decode cX1_goes 8 = .ok (.getfield 11, 3) := by decide +kernel
theorem dX1_goes_11 : decode cX1_goes 11 = .ok (.iload_n 1, 1) := by decide +kernel
theorem dX1_goes_12 : decode cX1_goes 12 = .ok (.iconst 1, 1) := by decide +kernel
theorem dX1_goes_13 : decode cX1_goes 13 = .ok (.iadd, 1) := by decide +kernel
theorem dX1_goes_14 : decode cX1_goes 14 = .ok (.aload_n 0, 1) := by decide +kernel
theorem dX1_goes_15 : decode cX1_goes 15 = .ok (.getfield 11, 3) := by decide +kernel
theorem dX1_goes_18 : decode cX1_goes 18 = .ok (.iload_n 1, 1) := by decide +kernel
theorem dX1_goes_19 : decode cX1_goes 19 = .ok (.bipush 40, 2) := by decide +kernel
theorem dX1_goes_21 : decode cX1_goes 21 = .ok (.iload_n 1, 1) := by decide +kernel
theorem dX1_goes_22 : decode cX1_goes 22 = .ok (.isub, 1) := by decide +kernel
theorem dX1_goes_23 : decode cX1_goes 23 = .ok (.iconst 1, 1) := by decide +kernel
theorem dX1_goes_24 : decode cX1_goes 24 = .ok (.isub, 1) := by decide +kernel
theorem dX1_goes_25 : decode cX1_goes 25 = .ok (.invokestatic 18, 3) := by decide +kernel
theorem dX1_goes_28 : decode cX1_goes 28 = .ok (.aload_n 0, 1) := by decide +kernel
theorem dX1_goes_29 : decode cX1_goes 29 = .ok (.getfield 11, 3) := by decide +kernel
theorem dX1_goes_32 : decode cX1_goes 32 = .ok (.bipush 39, 2) := by decide +kernel
theorem dX1_goes_34 : decode cX1_goes 34 = .ok (.aload_n 2, 1) := by decide +kernel
theorem dX1_goes_35 : decode cX1_goes 35 = .ok (.aastore, 1) := by decide +kernel
theorem dX1_goes_36 : decode cX1_goes 36 = .ok (.aload_n 0, 1) := by decide +kernel
theorem dX1_goes_37 : decode cX1_goes 37 = .ok (.dup, 1) := by decide +kernel
theorem dX1_goes_38 : decode cX1_goes 38 = .ok (.getfield 24, 3) := by decide +kernel
theorem dX1_goes_41 : decode cX1_goes 41 = .ok (.iconst 1, 1) := by decide +kernel
theorem dX1_goes_42 : decode cX1_goes 42 = .ok (.isub, 1) := by decide +kernel
theorem dX1_goes_43 : decode cX1_goes 43 = .ok (.putfield 24, 3) := by decide +kernel
theorem dX1_goes_46 : decode cX1_goes 46 = .ok (.return_, 1) := by decide +kernel
theorem q55 : (Jvm.Cond.initialized "FarTypewriter$Line") ∈ lw_all := lw_g (lw_at lw_m1 2 rfl) rfl
theorem q85 : (Jvm.Cond.instantiable "FarTypewriter$Line" (2 : Nat)) ∈ lw_all := lw_g (lw_at lw_m1 32 rfl) rfl
theorem q87 : (Jvm.Cond.instanceMethod ({ cls := "FarTypewriter$Line", name := "<init>", desc := "()V" } : Jvm.MethodName)) ∈ lw_all := lw_g (lw_at lw_m1 34 rfl) rfl
theorem q88 : (Jvm.Cond.code ({ cls := "FarTypewriter$Line", name := "<init>", desc := "()V" } : Jvm.MethodName) prog_5_method_1_code (2 : Nat) (Option.none : Option Jvm.ClassFile.FieldType)) ∈ lw_all := lw_g (lw_at lw_m1 35 rfl) rfl
theorem q89 : (Jvm.Cond.methodLink "FarTypewriter$Line" (3 : Nat) ({ cls := "java/lang/Object", name := "<init>", desc := "()V" } : Jvm.MethodName)) ∈ lw_all := lw_g (lw_at lw_m1 36 rfl) rfl
theorem q90 : (Jvm.Cond.classLink "FarTypewriter$Line" (9 : Nat) "FarTypewriter$Letter") ∈ lw_all := lw_g (lw_at lw_m1 37 rfl) rfl
theorem q93 : (Jvm.Cond.methodLinkNest "FarTypewriter$Line" (17 : Nat) ({ cls := "FarTypewriter$Letter", name := "<init>", desc := "()V" } : Jvm.MethodName) "FarTypewriter") ∈ lw_tbl := lw_at lw_m1 40 rfl
theorem q108 : (Jvm.Cond.fieldLink "FarTypewriter$Line" (11 : Nat) "FarTypewriter$Line" "letters" "[LFarTypewriter$Letter;") ∈ lw_all := lw_g (lw_at lw_m1 55 rfl) rfl
theorem q110 : (Jvm.Cond.fieldLink "FarTypewriter$Line" (24 : Nat) "FarTypewriter$Line" "size" "I") ∈ lw_all := lw_g (lw_at lw_m1 57 rfl) rfl
theorem q112 : (Jvm.Cond.laysFinal "FarTypewriter$Line" "FarTypewriter$Line" "letters" "[LFarTypewriter$Letter;") ∈ lw_all := lw_g (lw_at lw_m1 59 rfl) rfl
theorem q113 : (Jvm.Cond.soleField "FarTypewriter$Line" "letters") ∈ lw_all := lw_g (lw_at lw_m1 60 rfl) rfl
theorem q114 : (Jvm.Cond.lays "FarTypewriter$Line" "FarTypewriter$Line" "size" "I") ∈ lw_all := lw_g (lw_at lw_m1 61 rfl) rfl
theorem q115 : (Jvm.Cond.soleField "FarTypewriter$Line" "size") ∈ lw_all := lw_g (lw_at lw_m1 62 rfl) rfl
theorem q116 : (Jvm.Cond.superclass "FarTypewriter$Line" "java/lang/Object") ∈ lw_all := lw_g (lw_at lw_m1 63 rfl) rfl
theorem q622 : (Jvm.Cond.instanceMethod ({ cls := "FarTypewriter$Line", name := "goes", desc := "(I)V" } : Jvm.MethodName)) ∈ lw_all := lw_g (lw_at lw_m3 89 rfl) rfl
theorem q623 : (Jvm.Cond.selects "FarTypewriter$Line" ({ cls := "FarTypewriter$Line", name := "goes", desc := "(I)V" } : Jvm.MethodName) ({ cls := "FarTypewriter$Line", name := "goes", desc := "(I)V" } : Jvm.MethodName)) ∈ lw_all := lw_g (lw_at lw_m3 90 rfl) rfl
theorem q624 : (Jvm.Cond.code ({ cls := "FarTypewriter$Line", name := "goes", desc := "(I)V" } : Jvm.MethodName) prog_5_method_2_code (3 : Nat) (Option.none : Option Jvm.ClassFile.FieldType)) ∈ lw_all := lw_g (lw_at lw_m3 91 rfl) rfl
theorem q625 : (Jvm.Cond.methodLink "FarTypewriter$Line" (18 : Nat) ({ cls := "java/lang/System", name := "arraycopy", desc := "(Ljava/lang/Object;ILjava/lang/Object;II)V" } : Jvm.MethodName)) ∈ lw_all := lw_g (lw_at lw_m3 92 rfl) rfl
theorem in_X1 : ∀ w ∈ wsX10, w ∈ lw_all := lw_in wsX10 [112, 114] (by decide +kernel) (by decide +kernel)
/-! FarTypewriter$Letter -/
set_option maxRecDepth 100000
def RX2 : String := "FarTypewriter$Letter"
def TX2 : u_T := fun k => match k with
  | 0 => ("FarTypewriter$Letter", "bytes", "[B", true)
  | _ => ("FarTypewriter$Letter", "size", "I", false)
def tyX2 : Nat → FieldType := fun k => match k with
  | 0 => .array .byte
  | _ => .int
abbrev wsX20 : List Cond := u_ws RX2 TX2 2
theorem nmX2 : ∀ a, a < 2 → ∀ b, b < 2 → a ≠ b → (TX2 a).2.1 ≠ (TX2 b).2.1 := by decide +kernel
theorem tyX2_ok : ∀ k, k < 2 → parseFieldDescriptor (TX2 k).2.2.1 = some (tyX2 k) := by decide +kernel
abbrev cX2_init : ByteArray := prog_4_method_1_code
def yX2_init : MethodName := ⟨RX2, "<init>", "()V"⟩
theorem dX2_init_0 : decode cX2_init 0 = .ok (.aload_n 0, 1) := by decide +kernel
theorem dX2_init_1 : decode cX2_init 1 = .ok (.invokespecial 3, 3) := by decide +kernel
theorem dX2_init_4 : decode cX2_init 4 = .ok (.aload_n 0, 1) := by decide +kernel
theorem dX2_init_5 : decode cX2_init 5 = .ok (.sipush 1100, 3) := by decide +kernel
theorem dX2_init_8 : decode cX2_init 8 = .ok (.newarray .byte, 2) := by decide +kernel
theorem dX2_init_10 : decode cX2_init 10 = .ok (.putfield 9, 3) := by decide +kernel
theorem dX2_init_13 : decode cX2_init 13 = .ok (.return_, 1) := by decide +kernel
abbrev cX2_put : ByteArray := prog_4_method_2_code
def yX2_put : MethodName := ⟨RX2, "put", "(I)V"⟩
theorem dX2_put_0 : decode cX2_put 0 = .ok (.aload_n 0, 1) := by decide +kernel
theorem dX2_put_1 : decode cX2_put 1 = .ok (.getfield 9, 3) := by decide +kernel
theorem dX2_put_4 : decode cX2_put 4 = .ok (.aload_n 0, 1) := by decide +kernel
theorem dX2_put_5 : decode cX2_put 5 = .ok (.getfield 15, 3) := by decide +kernel
theorem dX2_put_8 : decode cX2_put 8 = .ok (.iload_n 1, 1) := by decide +kernel
theorem dX2_put_9 : decode cX2_put 9 = .ok (.i2b, 1) := by decide +kernel
theorem dX2_put_10 : decode cX2_put 10 = .ok (.bastore, 1) := by decide +kernel
theorem dX2_put_11 : decode cX2_put 11 = .ok (.aload_n 0, 1) := by decide +kernel
theorem dX2_put_12 : decode cX2_put 12 = .ok (.dup, 1) := by decide +kernel
theorem dX2_put_13 : decode cX2_put 13 = .ok (.getfield 15, 3) := by decide +kernel
theorem dX2_put_16 : decode cX2_put 16 = .ok (.iconst 1, 1) := by decide +kernel
theorem dX2_put_17 : decode cX2_put 17 = .ok (.iadd, 1) := by decide +kernel
theorem dX2_put_18 : decode cX2_put 18 = .ok (.putfield 15, 3) := by decide +kernel
theorem dX2_put_21 : decode cX2_put 21 = .ok (.return_, 1) := by decide +kernel
abbrev cX2_two : ByteArray := prog_4_method_3_code
def yX2_two : MethodName := ⟨RX2, "two", "(I)V"⟩
theorem dX2_two_0 : decode cX2_two 0 = .ok (.aload_n 0, 1) := by decide +kernel
theorem dX2_two_1 : decode cX2_two 1 = .ok (.iload_n 1, 1) := by decide +kernel
theorem dX2_two_2 : decode cX2_two 2 = .ok (.bipush 8, 2) := by decide +kernel
theorem dX2_two_4 : decode cX2_two 4 = .ok (.ishr, 1) := by decide +kernel
theorem dX2_two_5 : decode cX2_two 5 = .ok (.invokevirtual 19, 3) := by decide +kernel
theorem dX2_two_8 : decode cX2_two 8 = .ok (.aload_n 0, 1) := by decide +kernel
theorem dX2_two_9 : decode cX2_two 9 = .ok (.iload_n 1, 1) := by decide +kernel
theorem dX2_two_10 : decode cX2_two 10 = .ok (.invokevirtual 19, 3) := by decide +kernel
theorem dX2_two_13 : decode cX2_two 13 = .ok (.return_, 1) := by decide +kernel
abbrev cX2_sum : ByteArray := prog_4_method_6_code
def yX2_sum : MethodName := ⟨RX2, "sum", "(I)I"⟩
theorem dX2_sum_0 : decode cX2_sum 0 = .ok (.iconst 1, 1) := by decide +kernel
theorem dX2_sum_1 : decode cX2_sum 1 = .ok (.istore_n 2, 1) := by decide +kernel
theorem dX2_sum_2 : decode cX2_sum 2 = .ok (.iconst 0, 1) := by decide +kernel
theorem dX2_sum_3 : decode cX2_sum 3 = .ok (.istore_n 3, 1) := by decide +kernel
theorem dX2_sum_4 : decode cX2_sum 4 = .ok (.iload_n 3, 1) := by decide +kernel
theorem dX2_sum_5 : decode cX2_sum 5 = .ok (.iload_n 1, 1) := by decide +kernel
theorem dX2_sum_6 : decode cX2_sum 6 = .ok (.if_icmp .ge 23, 3) := by decide +kernel
theorem dX2_sum_9 : decode cX2_sum 9 = .ok (.bipush 31, 2) := by decide +kernel
theorem dX2_sum_11 : decode cX2_sum 11 = .ok (.iload_n 2, 1) := by decide +kernel
theorem dX2_sum_12 : decode cX2_sum 12 = .ok (.imul, 1) := by decide +kernel
theorem dX2_sum_13 : decode cX2_sum 13 = .ok (.aload_n 0, 1) := by decide +kernel
theorem dX2_sum_14 : decode cX2_sum 14 = .ok (.iload_n 3, 1) := by decide +kernel
theorem dX2_sum_15 : decode cX2_sum 15 = .ok (.invokevirtual 23, 3) := by decide +kernel
theorem dX2_sum_18 : decode cX2_sum 18 = .ok (.iadd, 1) := by decide +kernel
theorem dX2_sum_19 : decode cX2_sum 19 = .ok (.ldc 27, 2) := by decide +kernel
theorem dX2_sum_21 : decode cX2_sum 21 = .ok (.irem, 1) := by decide +kernel
theorem dX2_sum_22 : decode cX2_sum 22 = .ok (.istore_n 2, 1) := by decide +kernel
theorem dX2_sum_23 : decode cX2_sum 23 = .ok (.iinc 3 1, 3) := by decide +kernel
theorem dX2_sum_26 : decode cX2_sum 26 = .ok (.goto (-22), 3) := by decide +kernel
theorem dX2_sum_29 : decode cX2_sum 29 = .ok (.iload_n 2, 1) := by decide +kernel
theorem dX2_sum_30 : decode cX2_sum 30 = .ok (.ireturn, 1) := by decide +kernel
abbrev cX2_at : ByteArray := prog_4_method_4_code
def yX2_at : MethodName := ⟨RX2, "at", "(I)I"⟩
theorem dX2_at_0 : decode cX2_at 0 = .ok (.aload_n 0, 1) := by decide +kernel
theorem dX2_at_1 : decode cX2_at 1 = .ok (.getfield 9, 3) := by decide +kernel
theorem dX2_at_4 : decode cX2_at 4 = .ok (.iload_n 1, 1) := by decide +kernel
theorem dX2_at_5 : decode cX2_at 5 = .ok (.baload, 1) := by decide +kernel
theorem dX2_at_6 : decode cX2_at 6 = .ok (.sipush 255, 3) := by decide +kernel
theorem dX2_at_9 : decode cX2_at 9 = .ok (.iand, 1) := by decide +kernel
theorem dX2_at_10 : decode cX2_at 10 = .ok (.ireturn, 1) := by decide +kernel
abbrev cX2_copies : ByteArray := prog_4_method_8_code
def yX2_copies : MethodName := ⟨RX2, "copies", "(LFarTypewriter$Letter;)V"⟩
theorem dX2_copies_0 : decode cX2_copies 0 = .ok (.aload_n 1, 1) := by decide +kernel
theorem dX2_copies_1 : decode cX2_copies 1 = .ok (.getfield 9, 3) := by decide +kernel
theorem dX2_copies_4 : decode cX2_copies 4 = .ok (.iconst 0, 1) := by decide +kernel
theorem dX2_copies_5 : decode cX2_copies 5 = .ok (.aload_n 0, 1) := by decide +kernel
theorem dX2_copies_6 : decode cX2_copies 6 = .ok (.getfield 9, 3) := by decide +kernel
theorem dX2_copies_9 : decode cX2_copies 9 = .ok (.iconst 0, 1) := by decide +kernel
theorem dX2_copies_10 : decode cX2_copies 10 = .ok (.aload_n 1, 1) := by decide +kernel
theorem dX2_copies_11 : decode cX2_copies 11 = .ok (.getfield 15, 3) := by decide +kernel
theorem dX2_copies_14 : decode cX2_copies 14 = .ok (.invokestatic 34, 3) := by decide +kernel
theorem dX2_copies_17 : decode cX2_copies 17 = .ok (.aload_n 0, 1) := by decide +kernel
theorem dX2_copies_18 : decode cX2_copies 18 = .ok (.aload_n 1, 1) := by decide +kernel
theorem dX2_copies_19 : decode cX2_copies 19 = .ok (.getfield 15, 3) := by decide +kernel
theorem dX2_copies_22 : decode cX2_copies 22 = .ok (.putfield 15, 3) := by decide +kernel
theorem dX2_copies_25 : decode cX2_copies 25 = .ok (.return_, 1) := by decide +kernel
abbrev cX2_isWhole : ByteArray := prog_4_method_7_code
def yX2_isWhole : MethodName := ⟨RX2, "isWhole", "(I)Z"⟩
theorem dX2_isWhole_0 : decode cX2_isWhole 0 = .ok (.aload_n 0, 1) := by decide +kernel
theorem dX2_isWhole_1 : decode cX2_isWhole 1 = .ok (.getfield 15, 3) := by decide +kernel
theorem dX2_isWhole_4 : decode cX2_isWhole 4 = .ok (.iconst 2, 1) := by decide +kernel
theorem dX2_isWhole_5 : decode cX2_isWhole 5 = .ok (.if_icmp .le 39, 3) := by decide +kernel
theorem dX2_isWhole_8 : decode cX2_isWhole 8 = .ok (.aload_n 0, 1) := by decide +kernel
theorem dX2_isWhole_9 : decode cX2_isWhole 9 = .ok (.iconst 0, 1) := by decide +kernel
theorem dX2_isWhole_10 : decode cX2_isWhole 10 = .ok (.invokevirtual 23, 3) := by decide +kernel
theorem dX2_isWhole_13 : decode cX2_isWhole 13 = .ok (.iload_n 1, 1) := by decide +kernel
theorem dX2_isWhole_14 : decode cX2_isWhole 14 = .ok (.if_icmp .ne 30, 3) := by decide +kernel
theorem dX2_isWhole_17 : decode cX2_isWhole 17 = .ok (.aload_n 0, 1) := by decide +kernel
theorem dX2_isWhole_18 : decode cX2_isWhole 18 = .ok (.aload_n 0, 1) := by decide +kernel
theorem dX2_isWhole_19 : decode cX2_isWhole 19 = .ok (.getfield 15, 3) := by decide +kernel
theorem dX2_isWhole_22 : decode cX2_isWhole 22 = .ok (.iconst 2, 1) := by decide +kernel
theorem dX2_isWhole_23 : decode cX2_isWhole 23 = .ok (.isub, 1) := by decide +kernel
theorem dX2_isWhole_24 : decode cX2_isWhole 24 = .ok (.invokevirtual 28, 3) := by decide +kernel
theorem dX2_isWhole_27 : decode cX2_isWhole 27 = .ok (.aload_n 0, 1) := by decide +kernel
theorem dX2_isWhole_28 : decode cX2_isWhole 28 = .ok (.aload_n 0, 1) := by decide +kernel
theorem dX2_isWhole_29 : decode cX2_isWhole 29 = .ok (.getfield 15, 3) := by decide +kernel
theorem dX2_isWhole_32 : decode cX2_isWhole 32 = .ok (.iconst 2, 1) := by decide +kernel
theorem dX2_isWhole_33 : decode cX2_isWhole 33 = .ok (.isub, 1) := by decide +kernel
theorem dX2_isWhole_34 : decode cX2_isWhole 34 = .ok (.invokevirtual 31, 3) := by decide +kernel
theorem dX2_isWhole_37 : decode cX2_isWhole 37 = .ok (.if_icmp .ne 7, 3) := by decide +kernel
theorem dX2_isWhole_40 : decode cX2_isWhole 40 = .ok (.iconst 1, 1) := by decide +kernel
theorem dX2_isWhole_41 : decode cX2_isWhole 41 = .ok (.goto 4, 3) := by decide +kernel
theorem dX2_isWhole_44 : decode cX2_isWhole 44 = .ok (.iconst 0, 1) := by decide +kernel
theorem dX2_isWhole_45 : decode cX2_isWhole 45 = .ok (.ireturn, 1) := by decide +kernel
abbrev cX2_twoAt : ByteArray := prog_4_method_5_code
def yX2_twoAt : MethodName := ⟨RX2, "twoAt", "(I)I"⟩
theorem dX2_twoAt_0 : decode cX2_twoAt 0 = .ok (.aload_n 0, 1) := by decide +kernel
theorem dX2_twoAt_1 : decode cX2_twoAt 1 = .ok (.iload_n 1, 1) := by decide +kernel
theorem dX2_twoAt_2 : decode cX2_twoAt 2 = .ok (.invokevirtual 23, 3) := by decide +kernel
theorem dX2_twoAt_5 : decode cX2_twoAt 5 = .ok (.bipush 8, 2) := by decide +kernel
theorem dX2_twoAt_7 : decode cX2_twoAt 7 = .ok (.ishl, 1) := by decide +kernel
theorem dX2_twoAt_8 : decode cX2_twoAt 8 = .ok (.aload_n 0, 1) := by decide +kernel
theorem dX2_twoAt_9 : decode cX2_twoAt 9 = .ok (.iload_n 1, 1) := by decide +kernel
theorem dX2_twoAt_10 : decode cX2_twoAt 10 = .ok (.iconst 1, 1) := by decide +kernel
theorem dX2_twoAt_11 : decode cX2_twoAt 11 = .ok (.iadd, 1) := by decide +kernel
theorem dX2_twoAt_12 : decode cX2_twoAt 12 = .ok (.invokevirtual 23, 3) := by decide +kernel
theorem dX2_twoAt_15 : decode cX2_twoAt 15 = .ok (.ior, 1) := by decide +kernel
theorem dX2_twoAt_16 : decode cX2_twoAt 16 = .ok (.ireturn, 1) := by decide +kernel
theorem q56 : (Jvm.Cond.initialized "FarTypewriter$Letter") ∈ lw_all := lw_g (lw_at lw_m1 3 rfl) rfl
theorem q92 : (Jvm.Cond.instantiable "FarTypewriter$Letter" (2 : Nat)) ∈ lw_all := lw_g (lw_at lw_m1 39 rfl) rfl
theorem q94 : (Jvm.Cond.instanceMethod ({ cls := "FarTypewriter$Letter", name := "<init>", desc := "()V" } : Jvm.MethodName)) ∈ lw_all := lw_g (lw_at lw_m1 41 rfl) rfl
theorem q95 : (Jvm.Cond.code ({ cls := "FarTypewriter$Letter", name := "<init>", desc := "()V" } : Jvm.MethodName) prog_4_method_1_code (1 : Nat) (Option.none : Option Jvm.ClassFile.FieldType)) ∈ lw_all := lw_g (lw_at lw_m1 42 rfl) rfl
theorem q96 : (Jvm.Cond.methodLink "FarTypewriter$Letter" (3 : Nat) ({ cls := "java/lang/Object", name := "<init>", desc := "()V" } : Jvm.MethodName)) ∈ lw_all := lw_g (lw_at lw_m1 43 rfl) rfl
theorem q97 : (Jvm.Cond.fieldLink "FarTypewriter$Letter" (9 : Nat) "FarTypewriter$Letter" "bytes" "[B") ∈ lw_all := lw_g (lw_at lw_m1 44 rfl) rfl
theorem q99 : (Jvm.Cond.fieldLink "FarTypewriter$Letter" (15 : Nat) "FarTypewriter$Letter" "size" "I") ∈ lw_all := lw_g (lw_at lw_m1 46 rfl) rfl
theorem q101 : (Jvm.Cond.laysFinal "FarTypewriter$Letter" "FarTypewriter$Letter" "bytes" "[B") ∈ lw_all := lw_g (lw_at lw_m1 48 rfl) rfl
theorem q102 : (Jvm.Cond.soleField "FarTypewriter$Letter" "bytes") ∈ lw_all := lw_g (lw_at lw_m1 49 rfl) rfl
theorem q103 : (Jvm.Cond.lays "FarTypewriter$Letter" "FarTypewriter$Letter" "size" "I") ∈ lw_all := lw_g (lw_at lw_m1 50 rfl) rfl
theorem q104 : (Jvm.Cond.soleField "FarTypewriter$Letter" "size") ∈ lw_all := lw_g (lw_at lw_m1 51 rfl) rfl
theorem q105 : (Jvm.Cond.superclass "FarTypewriter$Letter" "java/lang/Object") ∈ lw_all := lw_g (lw_at lw_m1 52 rfl) rfl
theorem q570 : (Jvm.Cond.instanceMethod ({ cls := "FarTypewriter$Letter", name := "put", desc := "(I)V" } : Jvm.MethodName)) ∈ lw_all := lw_g (lw_at lw_m3 37 rfl) rfl
theorem q571 : (Jvm.Cond.selects "FarTypewriter$Letter" ({ cls := "FarTypewriter$Letter", name := "put", desc := "(I)V" } : Jvm.MethodName) ({ cls := "FarTypewriter$Letter", name := "put", desc := "(I)V" } : Jvm.MethodName)) ∈ lw_all := lw_g (lw_at lw_m3 38 rfl) rfl
theorem q572 : (Jvm.Cond.code ({ cls := "FarTypewriter$Letter", name := "put", desc := "(I)V" } : Jvm.MethodName) prog_4_method_2_code (2 : Nat) (Option.none : Option Jvm.ClassFile.FieldType)) ∈ lw_all := lw_g (lw_at lw_m3 39 rfl) rfl
theorem q574 : (Jvm.Cond.instanceMethod ({ cls := "FarTypewriter$Letter", name := "two", desc := "(I)V" } : Jvm.MethodName)) ∈ lw_all := lw_g (lw_at lw_m3 41 rfl) rfl
theorem q575 : (Jvm.Cond.selects "FarTypewriter$Letter" ({ cls := "FarTypewriter$Letter", name := "two", desc := "(I)V" } : Jvm.MethodName) ({ cls := "FarTypewriter$Letter", name := "two", desc := "(I)V" } : Jvm.MethodName)) ∈ lw_all := lw_g (lw_at lw_m3 42 rfl) rfl
theorem q576 : (Jvm.Cond.code ({ cls := "FarTypewriter$Letter", name := "two", desc := "(I)V" } : Jvm.MethodName) prog_4_method_3_code (2 : Nat) (Option.none : Option Jvm.ClassFile.FieldType)) ∈ lw_all := lw_g (lw_at lw_m3 43 rfl) rfl
theorem q577 : (Jvm.Cond.methodLink "FarTypewriter$Letter" (19 : Nat) ({ cls := "FarTypewriter$Letter", name := "put", desc := "(I)V" } : Jvm.MethodName)) ∈ lw_all := lw_g (lw_at lw_m3 44 rfl) rfl
theorem q599 : (Jvm.Cond.instanceMethod ({ cls := "FarTypewriter$Letter", name := "sum", desc := "(I)I" } : Jvm.MethodName)) ∈ lw_all := lw_g (lw_at lw_m3 66 rfl) rfl
theorem q600 : (Jvm.Cond.selects "FarTypewriter$Letter" ({ cls := "FarTypewriter$Letter", name := "sum", desc := "(I)I" } : Jvm.MethodName) ({ cls := "FarTypewriter$Letter", name := "sum", desc := "(I)I" } : Jvm.MethodName)) ∈ lw_all := lw_g (lw_at lw_m3 67 rfl) rfl
theorem q601 : (Jvm.Cond.code ({ cls := "FarTypewriter$Letter", name := "sum", desc := "(I)I" } : Jvm.MethodName) prog_4_method_6_code (4 : Nat) (Option.some Jvm.ClassFile.FieldType.int)) ∈ lw_all := lw_g (lw_at lw_m3 68 rfl) rfl
theorem q602 : (Jvm.Cond.methodLink "FarTypewriter$Letter" (23 : Nat) ({ cls := "FarTypewriter$Letter", name := "at", desc := "(I)I" } : Jvm.MethodName)) ∈ lw_all := lw_g (lw_at lw_m3 69 rfl) rfl
theorem q603 : (Jvm.Cond.instanceMethod ({ cls := "FarTypewriter$Letter", name := "at", desc := "(I)I" } : Jvm.MethodName)) ∈ lw_all := lw_g (lw_at lw_m3 70 rfl) rfl
theorem q604 : (Jvm.Cond.selects "FarTypewriter$Letter" ({ cls := "FarTypewriter$Letter", name := "at", desc := "(I)I" } : Jvm.MethodName) ({ cls := "FarTypewriter$Letter", name := "at", desc := "(I)I" } : Jvm.MethodName)) ∈ lw_all := lw_g (lw_at lw_m3 71 rfl) rfl
theorem q605 : (Jvm.Cond.code ({ cls := "FarTypewriter$Letter", name := "at", desc := "(I)I" } : Jvm.MethodName) prog_4_method_4_code (2 : Nat) (Option.some Jvm.ClassFile.FieldType.int)) ∈ lw_all := lw_g (lw_at lw_m3 72 rfl) rfl
theorem q606 : (Jvm.Cond.constant "FarTypewriter$Letter" (27 : Nat) (65521 : Int32)) ∈ lw_all := lw_g (lw_at lw_m3 73 rfl) rfl
theorem q608 : (Jvm.Cond.instanceMethod ({ cls := "FarTypewriter$Letter", name := "copies", desc := "(LFarTypewriter$Letter;)V" } : Jvm.MethodName)) ∈ lw_all := lw_g (lw_at lw_m3 75 rfl) rfl
theorem q609 : (Jvm.Cond.selects "FarTypewriter$Letter" ({ cls := "FarTypewriter$Letter", name := "copies", desc := "(LFarTypewriter$Letter;)V" } : Jvm.MethodName) ({ cls := "FarTypewriter$Letter", name := "copies", desc := "(LFarTypewriter$Letter;)V" } : Jvm.MethodName)) ∈ lw_all := lw_g (lw_at lw_m3 76 rfl) rfl
theorem q610 : (Jvm.Cond.code ({ cls := "FarTypewriter$Letter", name := "copies", desc := "(LFarTypewriter$Letter;)V" } : Jvm.MethodName) prog_4_method_8_code (2 : Nat) (Option.none : Option Jvm.ClassFile.FieldType)) ∈ lw_all := lw_g (lw_at lw_m3 77 rfl) rfl
theorem q611 : (Jvm.Cond.methodLink "FarTypewriter$Letter" (34 : Nat) ({ cls := "java/lang/System", name := "arraycopy", desc := "(Ljava/lang/Object;ILjava/lang/Object;II)V" } : Jvm.MethodName)) ∈ lw_all := lw_g (lw_at lw_m3 78 rfl) rfl
theorem q631 : (Jvm.Cond.instanceMethod ({ cls := "FarTypewriter$Letter", name := "isWhole", desc := "(I)Z" } : Jvm.MethodName)) ∈ lw_all := lw_g (lw_at lw_m3 98 rfl) rfl
theorem q632 : (Jvm.Cond.selects "FarTypewriter$Letter" ({ cls := "FarTypewriter$Letter", name := "isWhole", desc := "(I)Z" } : Jvm.MethodName) ({ cls := "FarTypewriter$Letter", name := "isWhole", desc := "(I)Z" } : Jvm.MethodName)) ∈ lw_all := lw_g (lw_at lw_m3 99 rfl) rfl
theorem q633 : (Jvm.Cond.code ({ cls := "FarTypewriter$Letter", name := "isWhole", desc := "(I)Z" } : Jvm.MethodName) prog_4_method_7_code (2 : Nat) (Option.some Jvm.ClassFile.FieldType.boolean)) ∈ lw_all := lw_g (lw_at lw_m3 100 rfl) rfl
theorem q634 : (Jvm.Cond.methodLink "FarTypewriter$Letter" (28 : Nat) ({ cls := "FarTypewriter$Letter", name := "twoAt", desc := "(I)I" } : Jvm.MethodName)) ∈ lw_all := lw_g (lw_at lw_m3 101 rfl) rfl
theorem q635 : (Jvm.Cond.instanceMethod ({ cls := "FarTypewriter$Letter", name := "twoAt", desc := "(I)I" } : Jvm.MethodName)) ∈ lw_all := lw_g (lw_at lw_m3 102 rfl) rfl
theorem q636 : (Jvm.Cond.selects "FarTypewriter$Letter" ({ cls := "FarTypewriter$Letter", name := "twoAt", desc := "(I)I" } : Jvm.MethodName) ({ cls := "FarTypewriter$Letter", name := "twoAt", desc := "(I)I" } : Jvm.MethodName)) ∈ lw_all := lw_g (lw_at lw_m3 103 rfl) rfl
theorem q637 : (Jvm.Cond.code ({ cls := "FarTypewriter$Letter", name := "twoAt", desc := "(I)I" } : Jvm.MethodName) prog_4_method_5_code (2 : Nat) (Option.some Jvm.ClassFile.FieldType.int)) ∈ lw_all := lw_g (lw_at lw_m3 104 rfl) rfl
theorem q638 : (Jvm.Cond.methodLink "FarTypewriter$Letter" (31 : Nat) ({ cls := "FarTypewriter$Letter", name := "sum", desc := "(I)I" } : Jvm.MethodName)) ∈ lw_all := lw_g (lw_at lw_m3 105 rfl) rfl
theorem in_X2 : ∀ w ∈ wsX20, w ∈ lw_all := lw_in wsX20 [101, 103] (by decide +kernel) (by decide +kernel)
/-! FarTypewriter$Shelf -/
set_option maxRecDepth 100000
def RX3 : String := "FarTypewriter$Shelf"
def TX3 : u_T := fun k => match k with
  | 0 => ("FarTypewriter$Shelf", "states", "[LFarTypewriter$State;", true)
  | _ => ("FarTypewriter$Shelf", "size", "I", false)
def tyX3 : Nat → FieldType := fun k => match k with
  | 0 => .array (.object "FarTypewriter$State")
  | _ => .int
abbrev wsX30 : List Cond := u_ws RX3 TX3 2
theorem nmX3 : ∀ a, a < 2 → ∀ b, b < 2 → a ≠ b → (TX3 a).2.1 ≠ (TX3 b).2.1 := by decide +kernel
theorem tyX3_ok : ∀ k, k < 2 → parseFieldDescriptor (TX3 k).2.2.1 = some (tyX3 k) := by decide +kernel
abbrev cX3_init : ByteArray := prog_11_method_1_code
def yX3_init : MethodName := ⟨RX3, "<init>", "()V"⟩
theorem dX3_init_0 : decode cX3_init 0 = .ok (.aload_n 0, 1) := by decide +kernel
theorem dX3_init_1 : decode cX3_init 1 = .ok (.invokespecial 3, 3) := by decide +kernel
theorem dX3_init_4 : decode cX3_init 4 = .ok (.aload_n 0, 1) := by decide +kernel
theorem dX3_init_5 : decode cX3_init 5 = .ok (.bipush 32, 2) := by decide +kernel
theorem dX3_init_7 : decode cX3_init 7 = .ok (.anewarray 9, 3) := by decide +kernel
theorem dX3_init_10 : decode cX3_init 10 = .ok (.putfield 11, 3) := by decide +kernel
theorem dX3_init_13 : decode cX3_init 13 = .ok (.iconst 0, 1) := by decide +kernel
theorem dX3_init_14 : decode cX3_init 14 = .ok (.istore_n 1, 1) := by decide +kernel
theorem dX3_init_15 : decode cX3_init 15 = .ok (.iload_n 1, 1) := by decide +kernel
theorem dX3_init_16 : decode cX3_init 16 = .ok (.aload_n 0, 1) := by decide +kernel
theorem dX3_init_17 : decode cX3_init 17 = .ok (.getfield 11, 3) := by decide +kernel
theorem dX3_init_20 : decode cX3_init 20 = .ok (.arraylength, 1) := by decide +kernel
theorem dX3_init_21 : decode cX3_init 21 = .ok (.if_icmp .ge 22, 3) := by decide +kernel
theorem dX3_init_24 : decode cX3_init 24 = .ok (.aload_n 0, 1) := by decide +kernel
theorem dX3_init_25 : decode cX3_init 25 = .ok (.getfield 11, 3) := by decide +kernel
theorem dX3_init_28 : decode cX3_init 28 = .ok (.iload_n 1, 1) := by decide +kernel
theorem dX3_init_29 : decode cX3_init 29 = .ok (.new 9, 3) := by decide +kernel
theorem dX3_init_32 : decode cX3_init 32 = .ok (.dup, 1) := by decide +kernel
theorem dX3_init_33 : decode cX3_init 33 = .ok (.invokespecial 17, 3) := by decide +kernel
theorem dX3_init_36 : decode cX3_init 36 = .ok (.aastore, 1) := by decide +kernel
theorem dX3_init_37 : decode cX3_init 37 = .ok (.iinc 1 1, 3) := by decide +kernel
theorem dX3_init_40 : decode cX3_init 40 = .ok (.goto (-25), 3) := by decide +kernel
theorem dX3_init_43 : decode cX3_init 43 = .ok (.return_, 1) := by decide +kernel
abbrev cX3_next : ByteArray := prog_11_method_4_code
def yX3_next : MethodName := ⟨RX3, "next", "()LFarTypewriter$State;"⟩
theorem dX3_next_0 : decode cX3_next 0 = .ok (.aload_n 0, 1) := by decide +kernel
theorem dX3_next_1 : decode cX3_next 1 = .ok (.dup, 1) := by decide +kernel
theorem dX3_next_2 : decode cX3_next 2 = .ok (.getfield 18, 3) := by decide +kernel
theorem dX3_next_5 : decode cX3_next 5 = .ok (.iconst 1, 1) := by decide +kernel
theorem dX3_next_6 : decode cX3_next 6 = .ok (.iadd, 1) := by decide +kernel
theorem dX3_next_7 : decode cX3_next 7 = .ok (.putfield 18, 3) := by decide +kernel
theorem dX3_next_10 : decode cX3_next 10 = .ok (.aload_n 0, 1) := by decide +kernel
theorem dX3_next_11 : decode cX3_next 11 = .ok (.invokevirtual 25, 3) := by decide +kernel
theorem dX3_next_14 : decode cX3_next 14 = .ok (.areturn, 1) := by decide +kernel
abbrev cX3_newest : ByteArray := prog_11_method_2_code
def yX3_newest : MethodName := ⟨RX3, "newest", "()LFarTypewriter$State;"⟩
theorem dX3_newest_0 : decode cX3_newest 0 = .ok (.aload_n 0, 1) := by decide +kernel
theorem dX3_newest_1 : decode cX3_newest 1 = .ok (.getfield 11, 3) := by decide +kernel
theorem dX3_newest_4 : decode cX3_newest 4 = .ok (.aload_n 0, 1) := by decide +kernel
theorem dX3_newest_5 : decode cX3_newest 5 = .ok (.getfield 18, 3) := by decide +kernel
theorem dX3_newest_8 : decode cX3_newest 8 = .ok (.iconst 1, 1) := by decide +kernel
theorem dX3_newest_9 : decode cX3_newest 9 = .ok (.isub, 1) := by decide +kernel
theorem dX3_newest_10 : decode cX3_newest 10 = .ok (.aaload, 1) := by decide +kernel
theorem dX3_newest_11 : decode cX3_newest 11 = .ok (.areturn, 1) := by decide +kernel
abbrev cX3_find : ByteArray := prog_11_method_3_code
def yX3_find : MethodName := ⟨RX3, "find", "(I)I"⟩
theorem dX3_find_0 : decode cX3_find 0 = .ok (.iconst (-1), 1) := by decide +kernel
theorem dX3_find_1 : decode cX3_find 1 = .ok (.istore_n 2, 1) := by decide +kernel
theorem dX3_find_2 : decode cX3_find 2 = .ok (.iconst 0, 1) := by decide +kernel
theorem dX3_find_3 : decode cX3_find 3 = .ok (.istore_n 3, 1) := by decide +kernel
theorem dX3_find_4 : decode cX3_find 4 = .ok (.iload_n 3, 1) := by decide +kernel
theorem dX3_find_5 : decode cX3_find 5 = .ok (.aload_n 0, 1) := by decide +kernel
theorem dX3_find_6 : decode cX3_find 6 = .ok (.getfield 18, 3) := by decide +kernel
theorem dX3_find_9 : decode cX3_find 9 = .ok (.if_icmp .ge 28, 3) := by decide +kernel
theorem dX3_find_12 : decode cX3_find 12 = .ok (.aload_n 0, 1) := by decide +kernel
theorem dX3_find_13 : decode cX3_find 13 = .ok (.getfield 11, 3) := by decide +kernel
theorem dX3_find_16 : decode cX3_find 16 = .ok (.iload_n 3, 1) := by decide +kernel
theorem dX3_find_17 : decode cX3_find 17 = .ok (.aaload, 1) := by decide +kernel
theorem dX3_find_18 : decode cX3_find 18 = .ok (.getfield 22, 3) := by decide +kernel
theorem dX3_find_21 : decode cX3_find 21 = .ok (.iload_n 1, 1) := by decide +kernel
theorem dX3_find_22 : decode cX3_find 22 = .ok (.if_icmp .ne 7, 3) := by decide +kernel
theorem dX3_find_25 : decode cX3_find 25 = .ok (.iload_n 3, 1) := by decide +kernel
theorem dX3_find_26 : decode cX3_find 26 = .ok (.goto 4, 3) := by decide +kernel
theorem dX3_find_29 : decode cX3_find 29 = .ok (.iload_n 2, 1) := by decide +kernel
theorem dX3_find_30 : decode cX3_find 30 = .ok (.istore_n 2, 1) := by decide +kernel
theorem dX3_find_31 : decode cX3_find 31 = .ok (.iinc 3 1, 3) := by decide +kernel
theorem dX3_find_34 : decode cX3_find 34 = .ok (.goto (-30), 3) := by decide +kernel
theorem dX3_find_37 : decode cX3_find 37 = .ok (.iload_n 2, 1) := by decide +kernel
theorem dX3_find_38 : decode cX3_find 38 = .ok (.ireturn, 1) := by decide +kernel
abbrev cX3_givesUp : ByteArray := prog_11_method_6_code
def yX3_givesUp : MethodName := ⟨RX3, "givesUp", "(I)V"⟩
theorem dX3_givesUp_0 : decode cX3_givesUp 0 = .ok (.aload_n 0, 1) := by decide +kernel
theorem dX3_givesUp_1 : decode cX3_givesUp 1 = .ok (.getfield 18, 3) := by decide +kernel
theorem dX3_givesUp_4 : decode cX3_givesUp 4 = .ok (.iconst 1, 1) := by decide +kernel
theorem dX3_givesUp_5 : decode cX3_givesUp 5 = .ok (.if_icmp .le 24, 3) := by decide +kernel
theorem dX3_givesUp_8 : decode cX3_givesUp 8 = .ok (.aload_n 0, 1) := by decide +kernel
theorem dX3_givesUp_9 : decode cX3_givesUp 9 = .ok (.getfield 11, 3) := by decide +kernel
theorem dX3_givesUp_12 : decode cX3_givesUp 12 = .ok (.iconst 0, 1) := by decide +kernel
theorem dX3_givesUp_13 : decode cX3_givesUp 13 = .ok (.aaload, 1) := by decide +kernel
theorem dX3_givesUp_14 : decode cX3_givesUp 14 = .ok (.getfield 22, 3) := by decide +kernel
theorem dX3_givesUp_17 : decode cX3_givesUp 17 = .ok (.iload_n 1, 1) := by decide +kernel
theorem dX3_givesUp_18 : decode cX3_givesUp 18 = .ok (.if_icmp .ge 11, 3) := by decide +kernel
theorem dX3_givesUp_21 : decode cX3_givesUp 21 = .ok (.aload_n 0, 1) := by decide +kernel
theorem dX3_givesUp_22 : decode cX3_givesUp 22 = .ok (.iconst 0, 1) := by decide +kernel
theorem dX3_givesUp_23 : decode cX3_givesUp 23 = .ok (.invokevirtual 35, 3) := by decide +kernel
theorem dX3_givesUp_26 : decode cX3_givesUp 26 = .ok (.goto (-26), 3) := by decide +kernel
theorem dX3_givesUp_29 : decode cX3_givesUp 29 = .ok (.return_, 1) := by decide +kernel
abbrev cX3_goes : ByteArray := prog_11_method_5_code
def yX3_goes : MethodName := ⟨RX3, "goes", "(I)V"⟩
theorem dX3_goes_0 : decode cX3_goes 0 = .ok (.aload_n 0, 1) := by decide +kernel
theorem dX3_goes_1 : decode cX3_goes 1 = .ok (.getfield 11, 3) := by decide +kernel
theorem dX3_goes_4 : decode cX3_goes 4 = .ok (.iload_n 1, 1) := by decide +kernel
theorem dX3_goes_5 : decode cX3_goes 5 = .ok (.aaload, 1) := by decide +kernel
theorem dX3_goes_6 : decode cX3_goes 6 = .ok (.astore_n 2, 1) := by decide +kernel
theorem dX3_goes_7 : decode cX3_goes 7 = .ok (.aload_n 0, 1) := by decide +kernel
theorem dX3_goes_8 : decode cX3_goes 8 = .ok (.getfield 11, 3) := by decide +kernel
theorem dX3_goes_11 : decode cX3_goes 11 = .ok (.iload_n 1, 1) := by decide +kernel
theorem dX3_goes_12 : decode cX3_goes 12 = .ok (.iconst 1, 1) := by decide +kernel
theorem dX3_goes_13 : decode cX3_goes 13 = .ok (.iadd, 1) := by decide +kernel
theorem dX3_goes_14 : decode cX3_goes 14 = .ok (.aload_n 0, 1) := by decide +kernel
theorem dX3_goes_15 : decode cX3_goes 15 = .ok (.getfield 11, 3) := by decide +kernel
theorem dX3_goes_18 : decode cX3_goes 18 = .ok (.iload_n 1, 1) := by decide +kernel
theorem dX3_goes_19 : decode cX3_goes 19 = .ok (.aload_n 0, 1) := by decide +kernel
theorem dX3_goes_20 : decode cX3_goes 20 = .ok (.getfield 11, 3) := by decide +kernel
theorem dX3_goes_23 : decode cX3_goes 23 = .ok (.arraylength, 1) := by decide +kernel
theorem dX3_goes_24 : decode cX3_goes 24 = .ok (.iload_n 1, 1) := by decide +kernel
theorem dX3_goes_25 : decode cX3_goes 25 = .ok (.isub, 1) := by decide +kernel
theorem dX3_goes_26 : decode cX3_goes 26 = .ok (.iconst 1, 1) := by decide +kernel
theorem dX3_goes_27 : decode cX3_goes 27 = .ok (.isub, 1) := by decide +kernel
theorem dX3_goes_28 : decode cX3_goes 28 = .ok (.invokestatic 29, 3) := by decide +kernel
theorem dX3_goes_31 : decode cX3_goes 31 = .ok (.aload_n 0, 1) := by decide +kernel
theorem dX3_goes_32 : decode cX3_goes 32 = .ok (.getfield 11, 3) := by decide +kernel
theorem dX3_goes_35 : decode cX3_goes 35 = .ok (.aload_n 0, 1) := by decide +kernel
theorem dX3_goes_36 : decode cX3_goes 36 = .ok (.getfield 11, 3) := by decide +kernel
theorem dX3_goes_39 : decode cX3_goes 39 = .ok (.arraylength, 1) := by decide +kernel
theorem dX3_goes_40 : decode cX3_goes 40 = .ok (.iconst 1, 1) := by decide +kernel
theorem dX3_goes_41 : decode cX3_goes 41 = .ok (.isub, 1) := by decide +kernel
theorem dX3_goes_42 : decode cX3_goes 42 = .ok (.aload_n 2, 1) := by decide +kernel
theorem dX3_goes_43 : decode cX3_goes 43 = .ok (.aastore, 1) := by decide +kernel
theorem dX3_goes_44 : decode cX3_goes 44 = .ok (.aload_n 0, 1) := by decide +kernel
theorem dX3_goes_45 : decode cX3_goes 45 = .ok (.dup, 1) := by decide +kernel
theorem dX3_goes_46 : decode cX3_goes 46 = .ok (.getfield 18, 3) := by decide +kernel
theorem dX3_goes_49 : decode cX3_goes 49 = .ok (.iconst 1, 1) := by decide +kernel
theorem dX3_goes_50 : decode cX3_goes 50 = .ok (.isub, 1) := by decide +kernel
theorem dX3_goes_51 : decode cX3_goes 51 = .ok (.putfield 18, 3) := by decide +kernel
theorem dX3_goes_54 : decode cX3_goes 54 = .ok (.return_, 1) := by decide +kernel
theorem q57 : (Jvm.Cond.initialized "FarTypewriter$Shelf") ∈ lw_all := lw_g (lw_at lw_m1 4 rfl) rfl
theorem q120 : (Jvm.Cond.instantiable "FarTypewriter$Shelf" (2 : Nat)) ∈ lw_all := lw_g (lw_at lw_m1 67 rfl) rfl
theorem q122 : (Jvm.Cond.instanceMethod ({ cls := "FarTypewriter$Shelf", name := "<init>", desc := "()V" } : Jvm.MethodName)) ∈ lw_all := lw_g (lw_at lw_m1 69 rfl) rfl
theorem q123 : (Jvm.Cond.code ({ cls := "FarTypewriter$Shelf", name := "<init>", desc := "()V" } : Jvm.MethodName) prog_11_method_1_code (2 : Nat) (Option.none : Option Jvm.ClassFile.FieldType)) ∈ lw_all := lw_g (lw_at lw_m1 70 rfl) rfl
theorem q124 : (Jvm.Cond.methodLink "FarTypewriter$Shelf" (3 : Nat) ({ cls := "java/lang/Object", name := "<init>", desc := "()V" } : Jvm.MethodName)) ∈ lw_all := lw_g (lw_at lw_m1 71 rfl) rfl
theorem q125 : (Jvm.Cond.classLink "FarTypewriter$Shelf" (9 : Nat) "FarTypewriter$State") ∈ lw_all := lw_g (lw_at lw_m1 72 rfl) rfl
theorem q128 : (Jvm.Cond.methodLinkNest "FarTypewriter$Shelf" (17 : Nat) ({ cls := "FarTypewriter$State", name := "<init>", desc := "()V" } : Jvm.MethodName) "FarTypewriter") ∈ lw_tbl := lw_at lw_m1 75 rfl
theorem q174 : (Jvm.Cond.fieldLinkNest "FarTypewriter$Shelf" (22 : Nat) "FarTypewriter$State" "number" "I" "FarTypewriter") ∈ lw_tbl := lw_at lw_m1 121 rfl
theorem q185 : (Jvm.Cond.fieldLink "FarTypewriter$Shelf" (11 : Nat) "FarTypewriter$Shelf" "states" "[LFarTypewriter$State;") ∈ lw_all := lw_g (lw_at lw_m1 132 rfl) rfl
theorem q187 : (Jvm.Cond.fieldLink "FarTypewriter$Shelf" (18 : Nat) "FarTypewriter$Shelf" "size" "I") ∈ lw_all := lw_g (lw_at lw_m1 134 rfl) rfl
theorem q189 : (Jvm.Cond.laysFinal "FarTypewriter$Shelf" "FarTypewriter$Shelf" "states" "[LFarTypewriter$State;") ∈ lw_all := lw_g (lw_at lw_m1 136 rfl) rfl
theorem q190 : (Jvm.Cond.soleField "FarTypewriter$Shelf" "states") ∈ lw_all := lw_g (lw_at lw_m1 137 rfl) rfl
theorem q191 : (Jvm.Cond.lays "FarTypewriter$Shelf" "FarTypewriter$Shelf" "size" "I") ∈ lw_all := lw_g (lw_at lw_m1 138 rfl) rfl
theorem q192 : (Jvm.Cond.soleField "FarTypewriter$Shelf" "size") ∈ lw_all := lw_g (lw_at lw_m1 139 rfl) rfl
theorem q193 : (Jvm.Cond.superclass "FarTypewriter$Shelf" "java/lang/Object") ∈ lw_all := lw_g (lw_at lw_m1 140 rfl) rfl
theorem q254 : (Jvm.Cond.instanceMethod ({ cls := "FarTypewriter$Shelf", name := "next", desc := "()LFarTypewriter$State;" } : Jvm.MethodName)) ∈ lw_all := lw_g (lw_at lw_m1 201 rfl) rfl
theorem q255 : (Jvm.Cond.selects "FarTypewriter$Shelf" ({ cls := "FarTypewriter$Shelf", name := "next", desc := "()LFarTypewriter$State;" } : Jvm.MethodName) ({ cls := "FarTypewriter$Shelf", name := "next", desc := "()LFarTypewriter$State;" } : Jvm.MethodName)) ∈ lw_all := lw_g (lw_at lw_m1 202 rfl) rfl
theorem q256 : (Jvm.Cond.code ({ cls := "FarTypewriter$Shelf", name := "next", desc := "()LFarTypewriter$State;" } : Jvm.MethodName) prog_11_method_4_code (1 : Nat) (Option.some (Jvm.ClassFile.FieldType.object "FarTypewriter$State"))) ∈ lw_all := lw_g (lw_at lw_m1 203 rfl) rfl
theorem q257 : (Jvm.Cond.methodLink "FarTypewriter$Shelf" (25 : Nat) ({ cls := "FarTypewriter$Shelf", name := "newest", desc := "()LFarTypewriter$State;" } : Jvm.MethodName)) ∈ lw_all := lw_g (lw_at lw_m1 204 rfl) rfl
theorem q258 : (Jvm.Cond.instanceMethod ({ cls := "FarTypewriter$Shelf", name := "newest", desc := "()LFarTypewriter$State;" } : Jvm.MethodName)) ∈ lw_all := lw_g (lw_at lw_m1 205 rfl) rfl
theorem q259 : (Jvm.Cond.selects "FarTypewriter$Shelf" ({ cls := "FarTypewriter$Shelf", name := "newest", desc := "()LFarTypewriter$State;" } : Jvm.MethodName) ({ cls := "FarTypewriter$Shelf", name := "newest", desc := "()LFarTypewriter$State;" } : Jvm.MethodName)) ∈ lw_all := lw_g (lw_at lw_m1 206 rfl) rfl
theorem q260 : (Jvm.Cond.code ({ cls := "FarTypewriter$Shelf", name := "newest", desc := "()LFarTypewriter$State;" } : Jvm.MethodName) prog_11_method_2_code (1 : Nat) (Option.some (Jvm.ClassFile.FieldType.object "FarTypewriter$State"))) ∈ lw_all := lw_g (lw_at lw_m1 207 rfl) rfl
theorem q566 : (Jvm.Cond.instanceMethod ({ cls := "FarTypewriter$Shelf", name := "find", desc := "(I)I" } : Jvm.MethodName)) ∈ lw_all := lw_g (lw_at lw_m3 33 rfl) rfl
theorem q567 : (Jvm.Cond.selects "FarTypewriter$Shelf" ({ cls := "FarTypewriter$Shelf", name := "find", desc := "(I)I" } : Jvm.MethodName) ({ cls := "FarTypewriter$Shelf", name := "find", desc := "(I)I" } : Jvm.MethodName)) ∈ lw_all := lw_g (lw_at lw_m3 34 rfl) rfl
theorem q568 : (Jvm.Cond.code ({ cls := "FarTypewriter$Shelf", name := "find", desc := "(I)I" } : Jvm.MethodName) prog_11_method_3_code (4 : Nat) (Option.some Jvm.ClassFile.FieldType.int)) ∈ lw_all := lw_g (lw_at lw_m3 35 rfl) rfl
theorem q681 : (Jvm.Cond.instanceMethod ({ cls := "FarTypewriter$Shelf", name := "givesUp", desc := "(I)V" } : Jvm.MethodName)) ∈ lw_all := lw_g (lw_at lw_m3 148 rfl) rfl
theorem q682 : (Jvm.Cond.selects "FarTypewriter$Shelf" ({ cls := "FarTypewriter$Shelf", name := "givesUp", desc := "(I)V" } : Jvm.MethodName) ({ cls := "FarTypewriter$Shelf", name := "givesUp", desc := "(I)V" } : Jvm.MethodName)) ∈ lw_all := lw_g (lw_at lw_m3 149 rfl) rfl
theorem q683 : (Jvm.Cond.code ({ cls := "FarTypewriter$Shelf", name := "givesUp", desc := "(I)V" } : Jvm.MethodName) prog_11_method_6_code (2 : Nat) (Option.none : Option Jvm.ClassFile.FieldType)) ∈ lw_all := lw_g (lw_at lw_m3 150 rfl) rfl
theorem q684 : (Jvm.Cond.methodLink "FarTypewriter$Shelf" (35 : Nat) ({ cls := "FarTypewriter$Shelf", name := "goes", desc := "(I)V" } : Jvm.MethodName)) ∈ lw_all := lw_g (lw_at lw_m3 151 rfl) rfl
theorem q685 : (Jvm.Cond.privateMethod ({ cls := "FarTypewriter$Shelf", name := "goes", desc := "(I)V" } : Jvm.MethodName)) ∈ lw_tbl := lw_at lw_m3 152 rfl
theorem q686 : (Jvm.Cond.instanceMethod ({ cls := "FarTypewriter$Shelf", name := "goes", desc := "(I)V" } : Jvm.MethodName)) ∈ lw_all := lw_g (lw_at lw_m3 153 rfl) rfl
theorem q687 : (Jvm.Cond.code ({ cls := "FarTypewriter$Shelf", name := "goes", desc := "(I)V" } : Jvm.MethodName) prog_11_method_5_code (3 : Nat) (Option.none : Option Jvm.ClassFile.FieldType)) ∈ lw_all := lw_g (lw_at lw_m3 154 rfl) rfl
theorem q688 : (Jvm.Cond.methodLink "FarTypewriter$Shelf" (29 : Nat) ({ cls := "java/lang/System", name := "arraycopy", desc := "(Ljava/lang/Object;ILjava/lang/Object;II)V" } : Jvm.MethodName)) ∈ lw_all := lw_g (lw_at lw_m3 155 rfl) rfl
theorem in_X3 : ∀ w ∈ wsX30, w ∈ lw_all := lw_in wsX30 [189, 191] (by decide +kernel) (by decide +kernel)
/-! FarTypewriter$State -/
set_option maxRecDepth 100000
def RX4 : String := "FarTypewriter$State"
def TX4 : u_T := fun k => match k with
  | 0 => ("FarTypewriter$State", "screen", "LFarTypewriter$Screen;", true)
  | 1 => ("FarTypewriter$State", "number", "I", false)
  | _ => ("FarTypewriter$State", "took", "I", false)
def tyX4 : Nat → FieldType := fun k => match k with
  | 0 => .object "FarTypewriter$Screen"
  | 1 => .int
  | _ => .int
abbrev wsX40 : List Cond := u_ws RX4 TX4 3
theorem nmX4 : ∀ a, a < 3 → ∀ b, b < 3 → a ≠ b → (TX4 a).2.1 ≠ (TX4 b).2.1 := by decide +kernel
theorem tyX4_ok : ∀ k, k < 3 → parseFieldDescriptor (TX4 k).2.2.1 = some (tyX4 k) := by decide +kernel
abbrev cX4_init : ByteArray := prog_12_method_1_code
def yX4_init : MethodName := ⟨RX4, "<init>", "()V"⟩
theorem dX4_init_0 : decode cX4_init 0 = .ok (.aload_n 0, 1) := by decide +kernel
theorem dX4_init_1 : decode cX4_init 1 = .ok (.invokespecial 1, 3) := by decide +kernel
theorem dX4_init_4 : decode cX4_init 4 = .ok (.aload_n 0, 1) := by decide +kernel
theorem dX4_init_5 : decode cX4_init 5 = .ok (.new 7, 3) := by decide +kernel
theorem dX4_init_8 : decode cX4_init 8 = .ok (.dup, 1) := by decide +kernel
theorem dX4_init_9 : decode cX4_init 9 = .ok (.invokespecial 9, 3) := by decide +kernel
theorem dX4_init_12 : decode cX4_init 12 = .ok (.putfield 10, 3) := by decide +kernel
theorem dX4_init_15 : decode cX4_init 15 = .ok (.return_, 1) := by decide +kernel
theorem q58 : (Jvm.Cond.initialized "FarTypewriter$State") ∈ lw_all := lw_g (lw_at lw_m1 5 rfl) rfl
theorem q127 : (Jvm.Cond.instantiable "FarTypewriter$State" (3 : Nat)) ∈ lw_all := lw_g (lw_at lw_m1 74 rfl) rfl
theorem q129 : (Jvm.Cond.instanceMethod ({ cls := "FarTypewriter$State", name := "<init>", desc := "()V" } : Jvm.MethodName)) ∈ lw_all := lw_g (lw_at lw_m1 76 rfl) rfl
theorem q130 : (Jvm.Cond.code ({ cls := "FarTypewriter$State", name := "<init>", desc := "()V" } : Jvm.MethodName) prog_12_method_1_code (1 : Nat) (Option.none : Option Jvm.ClassFile.FieldType)) ∈ lw_all := lw_g (lw_at lw_m1 77 rfl) rfl
theorem q131 : (Jvm.Cond.methodLink "FarTypewriter$State" (1 : Nat) ({ cls := "java/lang/Object", name := "<init>", desc := "()V" } : Jvm.MethodName)) ∈ lw_all := lw_g (lw_at lw_m1 78 rfl) rfl
theorem q132 : (Jvm.Cond.classLink "FarTypewriter$State" (7 : Nat) "FarTypewriter$Screen") ∈ lw_all := lw_g (lw_at lw_m1 79 rfl) rfl
theorem q134 : (Jvm.Cond.methodLink "FarTypewriter$State" (9 : Nat) ({ cls := "FarTypewriter$Screen", name := "<init>", desc := "()V" } : Jvm.MethodName)) ∈ lw_all := lw_g (lw_at lw_m1 81 rfl) rfl
theorem q171 : (Jvm.Cond.fieldLink "FarTypewriter$State" (10 : Nat) "FarTypewriter$State" "screen" "LFarTypewriter$Screen;") ∈ lw_all := lw_g (lw_at lw_m1 118 rfl) rfl
theorem q178 : (Jvm.Cond.laysFinal "FarTypewriter$State" "FarTypewriter$State" "screen" "LFarTypewriter$Screen;") ∈ lw_all := lw_g (lw_at lw_m1 125 rfl) rfl
theorem q179 : (Jvm.Cond.soleField "FarTypewriter$State" "screen") ∈ lw_all := lw_g (lw_at lw_m1 126 rfl) rfl
theorem q180 : (Jvm.Cond.lays "FarTypewriter$State" "FarTypewriter$State" "number" "I") ∈ lw_all := lw_g (lw_at lw_m1 127 rfl) rfl
theorem q181 : (Jvm.Cond.soleField "FarTypewriter$State" "number") ∈ lw_all := lw_g (lw_at lw_m1 128 rfl) rfl
theorem q182 : (Jvm.Cond.lays "FarTypewriter$State" "FarTypewriter$State" "took" "I") ∈ lw_all := lw_g (lw_at lw_m1 129 rfl) rfl
theorem q183 : (Jvm.Cond.soleField "FarTypewriter$State" "took") ∈ lw_all := lw_g (lw_at lw_m1 130 rfl) rfl
theorem q184 : (Jvm.Cond.superclass "FarTypewriter$State" "java/lang/Object") ∈ lw_all := lw_g (lw_at lw_m1 131 rfl) rfl
theorem in_X4 : ∀ w ∈ wsX40, w ∈ lw_all := lw_in wsX40 [178, 180, 182] (by decide +kernel) (by decide +kernel)
/-! FarTypewriter$Screen -/
set_option maxRecDepth 100000
def RX5 : String := "FarTypewriter$Screen"
def TX5 : u_T := fun k => match k with
  | 0 => ("FarTypewriter$Screen", "signs", "[[B", true)
  | 1 => ("FarTypewriter$Screen", "marks", "[[B", true)
  | 2 => ("FarTypewriter$Screen", "row", "I", false)
  | _ => ("FarTypewriter$Screen", "column", "I", false)
def tyX5 : Nat → FieldType := fun k => match k with
  | 0 => .array (.array .byte)
  | 1 => .array (.array .byte)
  | 2 => .int
  | _ => .int
abbrev wsX50 : List Cond := u_ws RX5 TX5 4
theorem nmX5 : ∀ a, a < 4 → ∀ b, b < 4 → a ≠ b → (TX5 a).2.1 ≠ (TX5 b).2.1 := by decide +kernel
theorem tyX5_ok : ∀ k, k < 4 → parseFieldDescriptor (TX5 k).2.2.1 = some (tyX5 k) := by decide +kernel
abbrev cX5_init : ByteArray := prog_10_method_1_code
def yX5_init : MethodName := ⟨RX5, "<init>", "()V"⟩
theorem dX5_init_0 : decode cX5_init 0 = .ok (.aload_n 0, 1) := by decide +kernel
theorem dX5_init_1 : decode cX5_init 1 = .ok (.invokespecial 3, 3) := by decide +kernel
theorem dX5_init_4 : decode cX5_init 4 = .ok (.aload_n 0, 1) := by decide +kernel
theorem dX5_init_5 : decode cX5_init 5 = .ok (.bipush 8, 2) := by decide +kernel
theorem dX5_init_7 : decode cX5_init 7 = .ok (.bipush 24, 2) := by decide +kernel
theorem dX5_init_9 : decode cX5_init 9 = .ok (.multianewarray 9 2, 4) := by decide +kernel
theorem dX5_init_13 : decode cX5_init 13 = .ok (.putfield 11, 3) := by decide +kernel
theorem dX5_init_16 : decode cX5_init 16 = .ok (.aload_n 0, 1) := by decide +kernel
theorem dX5_init_17 : decode cX5_init 17 = .ok (.bipush 8, 2) := by decide +kernel
theorem dX5_init_19 : decode cX5_init 19 = .ok (.bipush 24, 2) := by decide +kernel
theorem dX5_init_21 : decode cX5_init 21 = .ok (.multianewarray 9 2, 4) := by decide +kernel
theorem dX5_init_25 : decode cX5_init 25 = .ok (.putfield 16, 3) := by decide +kernel
theorem dX5_init_28 : decode cX5_init 28 = .ok (.iconst 0, 1) := by decide +kernel
theorem dX5_init_29 : decode cX5_init 29 = .ok (.istore_n 1, 1) := by decide +kernel
theorem dX5_init_30 : decode cX5_init 30 = .ok (.iload_n 1, 1) := by decide +kernel
theorem dX5_init_31 : decode cX5_init 31 = .ok (.bipush 8, 2) := by decide +kernel
theorem dX5_init_33 : decode cX5_init 33 = .ok (.if_icmp .ge 14, 3) := by decide +kernel
theorem dX5_init_36 : decode cX5_init 36 = .ok (.aload_n 0, 1) := by decide +kernel
theorem dX5_init_37 : decode cX5_init 37 = .ok (.iload_n 1, 1) := by decide +kernel
theorem dX5_init_38 : decode cX5_init 38 = .ok (.invokevirtual 19, 3) := by decide +kernel
theorem dX5_init_41 : decode cX5_init 41 = .ok (.iinc 1 1, 3) := by decide +kernel
theorem dX5_init_44 : decode cX5_init 44 = .ok (.goto (-14), 3) := by decide +kernel
theorem dX5_init_47 : decode cX5_init 47 = .ok (.return_, 1) := by decide +kernel
abbrev cX5_wipe : ByteArray := prog_10_method_3_code
def yX5_wipe : MethodName := ⟨RX5, "wipe", "(I)V"⟩
theorem dX5_wipe_0 : decode cX5_wipe 0 = .ok (.iconst 0, 1) := by decide +kernel
theorem dX5_wipe_1 : decode cX5_wipe 1 = .ok (.istore_n 2, 1) := by decide +kernel
theorem dX5_wipe_2 : decode cX5_wipe 2 = .ok (.iload_n 2, 1) := by decide +kernel
theorem dX5_wipe_3 : decode cX5_wipe 3 = .ok (.bipush 24, 2) := by decide +kernel
theorem dX5_wipe_5 : decode cX5_wipe 5 = .ok (.if_icmp .ge 18, 3) := by decide +kernel
theorem dX5_wipe_8 : decode cX5_wipe 8 = .ok (.aload_n 0, 1) := by decide +kernel
theorem dX5_wipe_9 : decode cX5_wipe 9 = .ok (.iload_n 1, 1) := by decide +kernel
theorem dX5_wipe_10 : decode cX5_wipe 10 = .ok (.iload_n 2, 1) := by decide +kernel
theorem dX5_wipe_11 : decode cX5_wipe 11 = .ok (.bipush 32, 2) := by decide +kernel
theorem dX5_wipe_13 : decode cX5_wipe 13 = .ok (.iconst 0, 1) := by decide +kernel
theorem dX5_wipe_14 : decode cX5_wipe 14 = .ok (.invokevirtual 36, 3) := by decide +kernel
theorem dX5_wipe_17 : decode cX5_wipe 17 = .ok (.iinc 2 1, 3) := by decide +kernel
theorem dX5_wipe_20 : decode cX5_wipe 20 = .ok (.goto (-18), 3) := by decide +kernel
theorem dX5_wipe_23 : decode cX5_wipe 23 = .ok (.return_, 1) := by decide +kernel
abbrev cX5_put : ByteArray := prog_10_method_4_code
def yX5_put : MethodName := ⟨RX5, "put", "(IIII)V"⟩
theorem dX5_put_0 : decode cX5_put 0 = .ok (.aload_n 0, 1) := by decide +kernel
theorem dX5_put_1 : decode cX5_put 1 = .ok (.getfield 11, 3) := by decide +kernel
theorem dX5_put_4 : decode cX5_put 4 = .ok (.iload_n 1, 1) := by decide +kernel
theorem dX5_put_5 : decode cX5_put 5 = .ok (.aaload, 1) := by decide +kernel
theorem dX5_put_6 : decode cX5_put 6 = .ok (.iload_n 2, 1) := by decide +kernel
theorem dX5_put_7 : decode cX5_put 7 = .ok (.iload_n 3, 1) := by decide +kernel
theorem dX5_put_8 : decode cX5_put 8 = .ok (.i2b, 1) := by decide +kernel
theorem dX5_put_9 : decode cX5_put 9 = .ok (.bastore, 1) := by decide +kernel
theorem dX5_put_10 : decode cX5_put 10 = .ok (.aload_n 0, 1) := by decide +kernel
theorem dX5_put_11 : decode cX5_put 11 = .ok (.getfield 16, 3) := by decide +kernel
theorem dX5_put_14 : decode cX5_put 14 = .ok (.iload_n 1, 1) := by decide +kernel
theorem dX5_put_15 : decode cX5_put 15 = .ok (.aaload, 1) := by decide +kernel
theorem dX5_put_16 : decode cX5_put 16 = .ok (.iload_n 2, 1) := by decide +kernel
theorem dX5_put_17 : decode cX5_put 17 = .ok (.iload 4, 2) := by decide +kernel
theorem dX5_put_19 : decode cX5_put 19 = .ok (.i2b, 1) := by decide +kernel
theorem dX5_put_20 : decode cX5_put 20 = .ok (.bastore, 1) := by decide +kernel
theorem dX5_put_21 : decode cX5_put 21 = .ok (.return_, 1) := by decide +kernel
abbrev cX5_copies : ByteArray := prog_10_method_2_code
def yX5_copies : MethodName := ⟨RX5, "copies", "(LFarTypewriter$Screen;)V"⟩
theorem dX5_copies_0 : decode cX5_copies 0 = .ok (.iconst 0, 1) := by decide +kernel
theorem dX5_copies_1 : decode cX5_copies 1 = .ok (.istore_n 2, 1) := by decide +kernel
theorem dX5_copies_2 : decode cX5_copies 2 = .ok (.iload_n 2, 1) := by decide +kernel
theorem dX5_copies_3 : decode cX5_copies 3 = .ok (.bipush 8, 2) := by decide +kernel
theorem dX5_copies_5 : decode cX5_copies 5 = .ok (.if_icmp .ge 47, 3) := by decide +kernel
theorem dX5_copies_8 : decode cX5_copies 8 = .ok (.aload_n 1, 1) := by decide +kernel
theorem dX5_copies_9 : decode cX5_copies 9 = .ok (.getfield 11, 3) := by decide +kernel
theorem dX5_copies_12 : decode cX5_copies 12 = .ok (.iload_n 2, 1) := by decide +kernel
theorem dX5_copies_13 : decode cX5_copies 13 = .ok (.aaload, 1) := by decide +kernel
theorem dX5_copies_14 : decode cX5_copies 14 = .ok (.iconst 0, 1) := by decide +kernel
theorem dX5_copies_15 : decode cX5_copies 15 = .ok (.aload_n 0, 1) := by decide +kernel
theorem dX5_copies_16 : decode cX5_copies 16 = .ok (.getfield 11, 3) := by decide +kernel
theorem dX5_copies_19 : decode cX5_copies 19 = .ok (.iload_n 2, 1) := by decide +kernel
theorem dX5_copies_20 : decode cX5_copies 20 = .ok (.aaload, 1) := by decide +kernel
theorem dX5_copies_21 : decode cX5_copies 21 = .ok (.iconst 0, 1) := by decide +kernel
theorem dX5_copies_22 : decode cX5_copies 22 = .ok (.bipush 24, 2) := by decide +kernel
theorem dX5_copies_24 : decode cX5_copies 24 = .ok (.invokestatic 23, 3) := by decide +kernel
theorem dX5_copies_27 : decode cX5_copies 27 = .ok (.aload_n 1, 1) := by decide +kernel
theorem dX5_copies_28 : decode cX5_copies 28 = .ok (.getfield 16, 3) := by decide +kernel
theorem dX5_copies_31 : decode cX5_copies 31 = .ok (.iload_n 2, 1) := by decide +kernel
theorem dX5_copies_32 : decode cX5_copies 32 = .ok (.aaload, 1) := by decide +kernel
theorem dX5_copies_33 : decode cX5_copies 33 = .ok (.iconst 0, 1) := by decide +kernel
theorem dX5_copies_34 : decode cX5_copies 34 = .ok (.aload_n 0, 1) := by decide +kernel
theorem dX5_copies_35 : decode cX5_copies 35 = .ok (.getfield 16, 3) := by decide +kernel
theorem dX5_copies_38 : decode cX5_copies 38 = .ok (.iload_n 2, 1) := by decide +kernel
theorem dX5_copies_39 : decode cX5_copies 39 = .ok (.aaload, 1) := by decide +kernel
theorem dX5_copies_40 : decode cX5_copies 40 = .ok (.iconst 0, 1) := by decide +kernel
theorem dX5_copies_41 : decode cX5_copies 41 = .ok (.bipush 24, 2) := by decide +kernel
theorem dX5_copies_43 : decode cX5_copies 43 = .ok (.invokestatic 23, 3) := by decide +kernel
theorem dX5_copies_46 : decode cX5_copies 46 = .ok (.iinc 2 1, 3) := by decide +kernel
theorem dX5_copies_49 : decode cX5_copies 49 = .ok (.goto (-47), 3) := by decide +kernel
theorem dX5_copies_52 : decode cX5_copies 52 = .ok (.aload_n 0, 1) := by decide +kernel
theorem dX5_copies_53 : decode cX5_copies 53 = .ok (.aload_n 1, 1) := by decide +kernel
theorem dX5_copies_54 : decode cX5_copies 54 = .ok (.getfield 29, 3) := by decide +kernel
theorem dX5_copies_57 : decode cX5_copies 57 = .ok (.putfield 29, 3) := by decide +kernel
theorem dX5_copies_60 : decode cX5_copies 60 = .ok (.aload_n 0, 1) := by decide +kernel
theorem dX5_copies_61 : decode cX5_copies 61 = .ok (.aload_n 1, 1) := by decide +kernel
theorem dX5_copies_62 : decode cX5_copies 62 = .ok (.getfield 33, 3) := by decide +kernel
theorem dX5_copies_65 : decode cX5_copies 65 = .ok (.putfield 33, 3) := by decide +kernel
theorem dX5_copies_68 : decode cX5_copies 68 = .ok (.return_, 1) := by decide +kernel
abbrev cX5_letter : ByteArray := prog_10_method_7_code
def yX5_letter : MethodName := ⟨RX5, "letter", "(II)V"⟩
theorem dX5_letter_0 : decode cX5_letter 0 = .ok (.aload_n 0, 1) := by decide +kernel
theorem dX5_letter_1 : decode cX5_letter 1 = .ok (.aload_n 0, 1) := by decide +kernel
theorem dX5_letter_2 : decode cX5_letter 2 = .ok (.getfield 29, 3) := by decide +kernel
theorem dX5_letter_5 : decode cX5_letter 5 = .ok (.aload_n 0, 1) := by decide +kernel
theorem dX5_letter_6 : decode cX5_letter 6 = .ok (.getfield 33, 3) := by decide +kernel
theorem dX5_letter_9 : decode cX5_letter 9 = .ok (.iload_n 1, 1) := by decide +kernel
theorem dX5_letter_10 : decode cX5_letter 10 = .ok (.iload_n 2, 1) := by decide +kernel
theorem dX5_letter_11 : decode cX5_letter 11 = .ok (.invokevirtual 36, 3) := by decide +kernel
theorem dX5_letter_14 : decode cX5_letter 14 = .ok (.aload_n 0, 1) := by decide +kernel
theorem dX5_letter_15 : decode cX5_letter 15 = .ok (.getfield 33, 3) := by decide +kernel
theorem dX5_letter_18 : decode cX5_letter 18 = .ok (.iconst 1, 1) := by decide +kernel
theorem dX5_letter_19 : decode cX5_letter 19 = .ok (.iadd, 1) := by decide +kernel
theorem dX5_letter_20 : decode cX5_letter 20 = .ok (.bipush 24, 2) := by decide +kernel
theorem dX5_letter_22 : decode cX5_letter 22 = .ok (.if_icmp .ge 16, 3) := by decide +kernel
theorem dX5_letter_25 : decode cX5_letter 25 = .ok (.aload_n 0, 1) := by decide +kernel
theorem dX5_letter_26 : decode cX5_letter 26 = .ok (.dup, 1) := by decide +kernel
theorem dX5_letter_27 : decode cX5_letter 27 = .ok (.getfield 33, 3) := by decide +kernel
theorem dX5_letter_30 : decode cX5_letter 30 = .ok (.iconst 1, 1) := by decide +kernel
theorem dX5_letter_31 : decode cX5_letter 31 = .ok (.iadd, 1) := by decide +kernel
theorem dX5_letter_32 : decode cX5_letter 32 = .ok (.putfield 33, 3) := by decide +kernel
theorem dX5_letter_35 : decode cX5_letter 35 = .ok (.goto 7, 3) := by decide +kernel
theorem dX5_letter_38 : decode cX5_letter 38 = .ok (.aload_n 0, 1) := by decide +kernel
theorem dX5_letter_39 : decode cX5_letter 39 = .ok (.invokevirtual 43, 3) := by decide +kernel
theorem dX5_letter_42 : decode cX5_letter 42 = .ok (.return_, 1) := by decide +kernel
abbrev cX5_newLine : ByteArray := prog_10_method_6_code
def yX5_newLine : MethodName := ⟨RX5, "newLine", "()V"⟩
theorem dX5_newLine_0 : decode cX5_newLine 0 = .ok (.aload_n 0, 1) := by decide +kernel
theorem dX5_newLine_1 : decode cX5_newLine 1 = .ok (.iconst 0, 1) := by decide +kernel
theorem dX5_newLine_2 : decode cX5_newLine 2 = .ok (.putfield 33, 3) := by decide +kernel
theorem dX5_newLine_5 : decode cX5_newLine 5 = .ok (.aload_n 0, 1) := by decide +kernel
theorem dX5_newLine_6 : decode cX5_newLine 6 = .ok (.getfield 29, 3) := by decide +kernel
theorem dX5_newLine_9 : decode cX5_newLine 9 = .ok (.iconst 1, 1) := by decide +kernel
theorem dX5_newLine_10 : decode cX5_newLine 10 = .ok (.iadd, 1) := by decide +kernel
theorem dX5_newLine_11 : decode cX5_newLine 11 = .ok (.bipush 8, 2) := by decide +kernel
theorem dX5_newLine_13 : decode cX5_newLine 13 = .ok (.if_icmp .ge 16, 3) := by decide +kernel
theorem dX5_newLine_16 : decode cX5_newLine 16 = .ok (.aload_n 0, 1) := by decide +kernel
theorem dX5_newLine_17 : decode cX5_newLine 17 = .ok (.dup, 1) := by decide +kernel
theorem dX5_newLine_18 : decode cX5_newLine 18 = .ok (.getfield 29, 3) := by decide +kernel
theorem dX5_newLine_21 : decode cX5_newLine 21 = .ok (.iconst 1, 1) := by decide +kernel
theorem dX5_newLine_22 : decode cX5_newLine 22 = .ok (.iadd, 1) := by decide +kernel
theorem dX5_newLine_23 : decode cX5_newLine 23 = .ok (.putfield 29, 3) := by decide +kernel
theorem dX5_newLine_26 : decode cX5_newLine 26 = .ok (.goto 8, 3) := by decide +kernel
theorem dX5_newLine_29 : decode cX5_newLine 29 = .ok (.aload_n 0, 1) := by decide +kernel
theorem dX5_newLine_30 : decode cX5_newLine 30 = .ok (.iconst 1, 1) := by decide +kernel
theorem dX5_newLine_31 : decode cX5_newLine 31 = .ok (.invokevirtual 40, 3) := by decide +kernel
theorem dX5_newLine_34 : decode cX5_newLine 34 = .ok (.return_, 1) := by decide +kernel
abbrev cX5_scroll : ByteArray := prog_10_method_5_code
def yX5_scroll : MethodName := ⟨RX5, "scroll", "(I)V"⟩
theorem dX5_scroll_0 : decode cX5_scroll 0 = .ok (.iconst 0, 1) := by decide +kernel
theorem dX5_scroll_1 : decode cX5_scroll 1 = .ok (.istore_n 2, 1) := by decide +kernel
theorem dX5_scroll_2 : decode cX5_scroll 2 = .ok (.iload_n 2, 1) := by decide +kernel
theorem dX5_scroll_3 : decode cX5_scroll 3 = .ok (.iload_n 1, 1) := by decide +kernel
theorem dX5_scroll_4 : decode cX5_scroll 4 = .ok (.if_icmp .ge 77, 3) := by decide +kernel
theorem dX5_scroll_7 : decode cX5_scroll 7 = .ok (.aload_n 0, 1) := by decide +kernel
theorem dX5_scroll_8 : decode cX5_scroll 8 = .ok (.getfield 11, 3) := by decide +kernel
theorem dX5_scroll_11 : decode cX5_scroll 11 = .ok (.iconst 0, 1) := by decide +kernel
theorem dX5_scroll_12 : decode cX5_scroll 12 = .ok (.aaload, 1) := by decide +kernel
theorem dX5_scroll_13 : decode cX5_scroll 13 = .ok (.astore_n 3, 1) := by decide +kernel
theorem dX5_scroll_14 : decode cX5_scroll 14 = .ok (.aload_n 0, 1) := by decide +kernel
theorem dX5_scroll_15 : decode cX5_scroll 15 = .ok (.getfield 16, 3) := by decide +kernel
theorem dX5_scroll_18 : decode cX5_scroll 18 = .ok (.iconst 0, 1) := by decide +kernel
theorem dX5_scroll_19 : decode cX5_scroll 19 = .ok (.aaload, 1) := by decide +kernel
theorem dX5_scroll_20 : decode cX5_scroll 20 = .ok (.astore 4, 2) := by decide +kernel
theorem dX5_scroll_22 : decode cX5_scroll 22 = .ok (.aload_n 0, 1) := by decide +kernel
theorem dX5_scroll_23 : decode cX5_scroll 23 = .ok (.getfield 11, 3) := by decide +kernel
theorem dX5_scroll_26 : decode cX5_scroll 26 = .ok (.iconst 1, 1) := by decide +kernel
theorem dX5_scroll_27 : decode cX5_scroll 27 = .ok (.aload_n 0, 1) := by decide +kernel
theorem dX5_scroll_28 : decode cX5_scroll 28 = .ok (.getfield 11, 3) := by decide +kernel
theorem dX5_scroll_31 : decode cX5_scroll 31 = .ok (.iconst 0, 1) := by decide +kernel
theorem dX5_scroll_32 : decode cX5_scroll 32 = .ok (.bipush 7, 2) := by decide +kernel
theorem dX5_scroll_34 : decode cX5_scroll 34 = .ok (.invokestatic 23, 3) := by decide +kernel
theorem dX5_scroll_37 : decode cX5_scroll 37 = .ok (.aload_n 0, 1) := by decide +kernel
theorem dX5_scroll_38 : decode cX5_scroll 38 = .ok (.getfield 16, 3) := by decide +kernel
theorem dX5_scroll_41 : decode cX5_scroll 41 = .ok (.iconst 1, 1) := by decide +kernel
theorem dX5_scroll_42 : decode cX5_scroll 42 = .ok (.aload_n 0, 1) := by decide +kernel
theorem dX5_scroll_43 : decode cX5_scroll 43 = .ok (.getfield 16, 3) := by decide +kernel
theorem dX5_scroll_46 : decode cX5_scroll 46 = .ok (.iconst 0, 1) := by decide +kernel
theorem dX5_scroll_47 : decode cX5_scroll 47 = .ok (.bipush 7, 2) := by decide +kernel
theorem dX5_scroll_49 : decode cX5_scroll 49 = .ok (.invokestatic 23, 3) := by decide +kernel
theorem dX5_scroll_52 : decode cX5_scroll 52 = .ok (.aload_n 0, 1) := by decide +kernel
theorem dX5_scroll_53 : decode cX5_scroll 53 = .ok (.getfield 11, 3) := by decide +kernel
theorem dX5_scroll_56 : decode cX5_scroll 56 = .ok (.bipush 7, 2) := by decide +kernel
theorem dX5_scroll_58 : decode cX5_scroll 58 = .ok (.aload_n 3, 1) := by decide +kernel
theorem dX5_scroll_59 : decode cX5_scroll 59 = .ok (.aastore, 1) := by decide +kernel
theorem dX5_scroll_60 : decode cX5_scroll 60 = .ok (.aload_n 0, 1) := by decide +kernel
theorem dX5_scroll_61 : decode cX5_scroll 61 = .ok (.getfield 16, 3) := by decide +kernel
theorem dX5_scroll_64 : decode cX5_scroll 64 = .ok (.bipush 7, 2) := by decide +kernel
theorem dX5_scroll_66 : decode cX5_scroll 66 = .ok (.aload 4, 2) := by decide +kernel
theorem dX5_scroll_68 : decode cX5_scroll 68 = .ok (.aastore, 1) := by decide +kernel
theorem dX5_scroll_69 : decode cX5_scroll 69 = .ok (.aload_n 0, 1) := by decide +kernel
theorem dX5_scroll_70 : decode cX5_scroll 70 = .ok (.bipush 7, 2) := by decide +kernel
theorem dX5_scroll_72 : decode cX5_scroll 72 = .ok (.invokevirtual 19, 3) := by decide +kernel
theorem dX5_scroll_75 : decode cX5_scroll 75 = .ok (.iinc 2 1, 3) := by decide +kernel
theorem dX5_scroll_78 : decode cX5_scroll 78 = .ok (.goto (-76), 3) := by decide +kernel
theorem dX5_scroll_81 : decode cX5_scroll 81 = .ok (.return_, 1) := by decide +kernel
abbrev cX5_back : ByteArray := prog_10_method_8_code
def yX5_back : MethodName := ⟨RX5, "back", "()V"⟩
theorem dX5_back_0 : decode cX5_back 0 = .ok (.aload_n 0, 1) := by decide +kernel
theorem dX5_back_1 : decode cX5_back 1 = .ok (.getfield 33, 3) := by decide +kernel
theorem dX5_back_4 : decode cX5_back 4 = .ok (.ifCond .ne 4, 3) := by decide +kernel
theorem dX5_back_7 : decode cX5_back 7 = .ok (.return_, 1) := by decide +kernel
theorem dX5_back_8 : decode cX5_back 8 = .ok (.aload_n 0, 1) := by decide +kernel
theorem dX5_back_9 : decode cX5_back 9 = .ok (.dup, 1) := by decide +kernel
theorem dX5_back_10 : decode cX5_back 10 = .ok (.getfield 33, 3) := by decide +kernel
theorem dX5_back_13 : decode cX5_back 13 = .ok (.iconst 1, 1) := by decide +kernel
theorem dX5_back_14 : decode cX5_back 14 = .ok (.isub, 1) := by decide +kernel
theorem dX5_back_15 : decode cX5_back 15 = .ok (.putfield 33, 3) := by decide +kernel
theorem dX5_back_18 : decode cX5_back 18 = .ok (.aload_n 0, 1) := by decide +kernel
theorem dX5_back_19 : decode cX5_back 19 = .ok (.aload_n 0, 1) := by decide +kernel
theorem dX5_back_20 : decode cX5_back 20 = .ok (.getfield 29, 3) := by decide +kernel
theorem dX5_back_23 : decode cX5_back 23 = .ok (.aload_n 0, 1) := by decide +kernel
theorem dX5_back_24 : decode cX5_back 24 = .ok (.getfield 33, 3) := by decide +kernel
theorem dX5_back_27 : decode cX5_back 27 = .ok (.bipush 32, 2) := by decide +kernel
theorem dX5_back_29 : decode cX5_back 29 = .ok (.iconst 0, 1) := by decide +kernel
theorem dX5_back_30 : decode cX5_back 30 = .ok (.invokevirtual 36, 3) := by decide +kernel
theorem dX5_back_33 : decode cX5_back 33 = .ok (.return_, 1) := by decide +kernel
abbrev cX5_isCell : ByteArray := prog_10_method_10_code
def yX5_isCell : MethodName := ⟨RX5, "isCell", "(II)Z"⟩
theorem dX5_isCell_0 : decode cX5_isCell 0 = .ok (.iload_n 0, 1) := by decide +kernel
theorem dX5_isCell_1 : decode cX5_isCell 1 = .ok (.ifCond .lt 23, 3) := by decide +kernel
theorem dX5_isCell_4 : decode cX5_isCell 4 = .ok (.iload_n 0, 1) := by decide +kernel
theorem dX5_isCell_5 : decode cX5_isCell 5 = .ok (.bipush 8, 2) := by decide +kernel
theorem dX5_isCell_7 : decode cX5_isCell 7 = .ok (.if_icmp .ge 17, 3) := by decide +kernel
theorem dX5_isCell_10 : decode cX5_isCell 10 = .ok (.iload_n 1, 1) := by decide +kernel
theorem dX5_isCell_11 : decode cX5_isCell 11 = .ok (.ifCond .lt 13, 3) := by decide +kernel
theorem dX5_isCell_14 : decode cX5_isCell 14 = .ok (.iload_n 1, 1) := by decide +kernel
theorem dX5_isCell_15 : decode cX5_isCell 15 = .ok (.bipush 24, 2) := by decide +kernel
theorem dX5_isCell_17 : decode cX5_isCell 17 = .ok (.if_icmp .ge 7, 3) := by decide +kernel
theorem dX5_isCell_20 : decode cX5_isCell 20 = .ok (.iconst 1, 1) := by decide +kernel
theorem dX5_isCell_21 : decode cX5_isCell 21 = .ok (.goto 4, 3) := by decide +kernel
theorem dX5_isCell_24 : decode cX5_isCell 24 = .ok (.iconst 0, 1) := by decide +kernel
theorem dX5_isCell_25 : decode cX5_isCell 25 = .ok (.ireturn, 1) := by decide +kernel
abbrev cX5_isSame : ByteArray := prog_10_method_12_code
def yX5_isSame : MethodName := ⟨RX5, "isSame", "(LFarTypewriter$Screen;)Z"⟩
theorem dX5_isSame_0 : decode cX5_isSame 0 = .ok (.aload_n 0, 1) := by decide +kernel
theorem dX5_isSame_1 : decode cX5_isSame 1 = .ok (.getfield 29, 3) := by decide +kernel
theorem dX5_isSame_4 : decode cX5_isSame 4 = .ok (.aload_n 1, 1) := by decide +kernel
theorem dX5_isSame_5 : decode cX5_isSame 5 = .ok (.getfield 29, 3) := by decide +kernel
theorem dX5_isSame_8 : decode cX5_isSame 8 = .ok (.if_icmp .ne 18, 3) := by decide +kernel
theorem dX5_isSame_11 : decode cX5_isSame 11 = .ok (.aload_n 0, 1) := by decide +kernel
theorem dX5_isSame_12 : decode cX5_isSame 12 = .ok (.getfield 33, 3) := by decide +kernel
theorem dX5_isSame_15 : decode cX5_isSame 15 = .ok (.aload_n 1, 1) := by decide +kernel
theorem dX5_isSame_16 : decode cX5_isSame 16 = .ok (.getfield 33, 3) := by decide +kernel
theorem dX5_isSame_19 : decode cX5_isSame 19 = .ok (.if_icmp .ne 7, 3) := by decide +kernel
theorem dX5_isSame_22 : decode cX5_isSame 22 = .ok (.iconst 1, 1) := by decide +kernel
theorem dX5_isSame_23 : decode cX5_isSame 23 = .ok (.goto 4, 3) := by decide +kernel
theorem dX5_isSame_26 : decode cX5_isSame 26 = .ok (.iconst 0, 1) := by decide +kernel
theorem dX5_isSame_27 : decode cX5_isSame 27 = .ok (.istore_n 2, 1) := by decide +kernel
theorem dX5_isSame_28 : decode cX5_isSame 28 = .ok (.iconst 0, 1) := by decide +kernel
theorem dX5_isSame_29 : decode cX5_isSame 29 = .ok (.istore_n 3, 1) := by decide +kernel
theorem dX5_isSame_30 : decode cX5_isSame 30 = .ok (.iload_n 3, 1) := by decide +kernel
theorem dX5_isSame_31 : decode cX5_isSame 31 = .ok (.sipush 192, 3) := by decide +kernel
theorem dX5_isSame_34 : decode cX5_isSame 34 = .ok (.if_icmp .ge 27, 3) := by decide +kernel
theorem dX5_isSame_37 : decode cX5_isSame 37 = .ok (.iload_n 2, 1) := by decide +kernel
theorem dX5_isSame_38 : decode cX5_isSame 38 = .ok (.ifCond .eq 23, 3) := by decide +kernel
theorem dX5_isSame_41 : decode cX5_isSame 41 = .ok (.aload_n 0, 1) := by decide +kernel
theorem dX5_isSame_42 : decode cX5_isSame 42 = .ok (.aload_n 1, 1) := by decide +kernel
theorem dX5_isSame_43 : decode cX5_isSame 43 = .ok (.iload_n 3, 1) := by decide +kernel
theorem dX5_isSame_44 : decode cX5_isSame 44 = .ok (.bipush 24, 2) := by decide +kernel
theorem dX5_isSame_46 : decode cX5_isSame 46 = .ok (.idiv, 1) := by decide +kernel
theorem dX5_isSame_47 : decode cX5_isSame 47 = .ok (.iload_n 3, 1) := by decide +kernel
theorem dX5_isSame_48 : decode cX5_isSame 48 = .ok (.bipush 24, 2) := by decide +kernel
theorem dX5_isSame_50 : decode cX5_isSame 50 = .ok (.irem, 1) := by decide +kernel
theorem dX5_isSame_51 : decode cX5_isSame 51 = .ok (.invokevirtual 50, 3) := by decide +kernel
theorem dX5_isSame_54 : decode cX5_isSame 54 = .ok (.istore_n 2, 1) := by decide +kernel
theorem dX5_isSame_55 : decode cX5_isSame 55 = .ok (.iinc 3 1, 3) := by decide +kernel
theorem dX5_isSame_58 : decode cX5_isSame 58 = .ok (.goto (-28), 3) := by decide +kernel
theorem dX5_isSame_61 : decode cX5_isSame 61 = .ok (.iload_n 2, 1) := by decide +kernel
theorem dX5_isSame_62 : decode cX5_isSame 62 = .ok (.ireturn, 1) := by decide +kernel
abbrev cX5_isLike : ByteArray := prog_10_method_11_code
def yX5_isLike : MethodName := ⟨RX5, "isLike", "(LFarTypewriter$Screen;II)Z"⟩
theorem dX5_isLike_0 : decode cX5_isLike 0 = .ok (.aload_n 0, 1) := by decide +kernel
theorem dX5_isLike_1 : decode cX5_isLike 1 = .ok (.getfield 11, 3) := by decide +kernel
theorem dX5_isLike_4 : decode cX5_isLike 4 = .ok (.iload_n 2, 1) := by decide +kernel
theorem dX5_isLike_5 : decode cX5_isLike 5 = .ok (.aaload, 1) := by decide +kernel
theorem dX5_isLike_6 : decode cX5_isLike 6 = .ok (.iload_n 3, 1) := by decide +kernel
theorem dX5_isLike_7 : decode cX5_isLike 7 = .ok (.baload, 1) := by decide +kernel
theorem dX5_isLike_8 : decode cX5_isLike 8 = .ok (.aload_n 1, 1) := by decide +kernel
theorem dX5_isLike_9 : decode cX5_isLike 9 = .ok (.getfield 11, 3) := by decide +kernel
theorem dX5_isLike_12 : decode cX5_isLike 12 = .ok (.iload_n 2, 1) := by decide +kernel
theorem dX5_isLike_13 : decode cX5_isLike 13 = .ok (.aaload, 1) := by decide +kernel
theorem dX5_isLike_14 : decode cX5_isLike 14 = .ok (.iload_n 3, 1) := by decide +kernel
theorem dX5_isLike_15 : decode cX5_isLike 15 = .ok (.baload, 1) := by decide +kernel
theorem dX5_isLike_16 : decode cX5_isLike 16 = .ok (.if_icmp .ne 26, 3) := by decide +kernel
theorem dX5_isLike_19 : decode cX5_isLike 19 = .ok (.aload_n 0, 1) := by decide +kernel
theorem dX5_isLike_20 : decode cX5_isLike 20 = .ok (.getfield 16, 3) := by decide +kernel
theorem dX5_isLike_23 : decode cX5_isLike 23 = .ok (.iload_n 2, 1) := by decide +kernel
theorem dX5_isLike_24 : decode cX5_isLike 24 = .ok (.aaload, 1) := by decide +kernel
theorem dX5_isLike_25 : decode cX5_isLike 25 = .ok (.iload_n 3, 1) := by decide +kernel
theorem dX5_isLike_26 : decode cX5_isLike 26 = .ok (.baload, 1) := by decide +kernel
theorem dX5_isLike_27 : decode cX5_isLike 27 = .ok (.aload_n 1, 1) := by decide +kernel
theorem dX5_isLike_28 : decode cX5_isLike 28 = .ok (.getfield 16, 3) := by decide +kernel
theorem dX5_isLike_31 : decode cX5_isLike 31 = .ok (.iload_n 2, 1) := by decide +kernel
theorem dX5_isLike_32 : decode cX5_isLike 32 = .ok (.aaload, 1) := by decide +kernel
theorem dX5_isLike_33 : decode cX5_isLike 33 = .ok (.iload_n 3, 1) := by decide +kernel
theorem dX5_isLike_34 : decode cX5_isLike 34 = .ok (.baload, 1) := by decide +kernel
theorem dX5_isLike_35 : decode cX5_isLike 35 = .ok (.if_icmp .ne 7, 3) := by decide +kernel
theorem dX5_isLike_38 : decode cX5_isLike 38 = .ok (.iconst 1, 1) := by decide +kernel
theorem dX5_isLike_39 : decode cX5_isLike 39 = .ok (.goto 4, 3) := by decide +kernel
theorem dX5_isLike_42 : decode cX5_isLike 42 = .ok (.iconst 0, 1) := by decide +kernel
theorem dX5_isLike_43 : decode cX5_isLike 43 = .ok (.ireturn, 1) := by decide +kernel
abbrev cX5_differs : ByteArray := prog_10_method_13_code
def yX5_differs : MethodName := ⟨RX5, "differs", "(LFarTypewriter$Screen;IZ)I"⟩
theorem dX5_differs_0 : decode cX5_differs 0 = .ok (.iconst (-1), 1) := by decide +kernel
theorem dX5_differs_1 : decode cX5_differs 1 = .ok (.istore 4, 2) := by decide +kernel
theorem dX5_differs_3 : decode cX5_differs 3 = .ok (.iconst 0, 1) := by decide +kernel
theorem dX5_differs_4 : decode cX5_differs 4 = .ok (.istore 5, 2) := by decide +kernel
theorem dX5_differs_6 : decode cX5_differs 6 = .ok (.iload 5, 2) := by decide +kernel
theorem dX5_differs_8 : decode cX5_differs 8 = .ok (.bipush 24, 2) := by decide +kernel
theorem dX5_differs_10 : decode cX5_differs 10 = .ok (.if_icmp .ge 37, 3) := by decide +kernel
theorem dX5_differs_13 : decode cX5_differs 13 = .ok (.aload_n 0, 1) := by decide +kernel
theorem dX5_differs_14 : decode cX5_differs 14 = .ok (.aload_n 1, 1) := by decide +kernel
theorem dX5_differs_15 : decode cX5_differs 15 = .ok (.iload_n 2, 1) := by decide +kernel
theorem dX5_differs_16 : decode cX5_differs 16 = .ok (.iload 5, 2) := by decide +kernel
theorem dX5_differs_18 : decode cX5_differs 18 = .ok (.invokevirtual 50, 3) := by decide +kernel
theorem dX5_differs_21 : decode cX5_differs 21 = .ok (.ifCond .ne 20, 3) := by decide +kernel
theorem dX5_differs_24 : decode cX5_differs 24 = .ok (.iload_n 3, 1) := by decide +kernel
theorem dX5_differs_25 : decode cX5_differs 25 = .ok (.ifCond .eq 12, 3) := by decide +kernel
theorem dX5_differs_28 : decode cX5_differs 28 = .ok (.iload 4, 2) := by decide +kernel
theorem dX5_differs_30 : decode cX5_differs 30 = .ok (.iconst (-1), 1) := by decide +kernel
theorem dX5_differs_31 : decode cX5_differs 31 = .ok (.if_icmp .eq 6, 3) := by decide +kernel
theorem dX5_differs_34 : decode cX5_differs 34 = .ok (.goto 7, 3) := by decide +kernel
theorem dX5_differs_37 : decode cX5_differs 37 = .ok (.iload 5, 2) := by decide +kernel
theorem dX5_differs_39 : decode cX5_differs 39 = .ok (.istore 4, 2) := by decide +kernel
theorem dX5_differs_41 : decode cX5_differs 41 = .ok (.iinc 5 1, 3) := by decide +kernel
theorem dX5_differs_44 : decode cX5_differs 44 = .ok (.goto (-38), 3) := by decide +kernel
theorem dX5_differs_47 : decode cX5_differs 47 = .ok (.iload 4, 2) := by decide +kernel
theorem dX5_differs_49 : decode cX5_differs 49 = .ok (.ireturn, 1) := by decide +kernel
abbrev cX5_isRun : ByteArray := prog_10_method_14_code
def yX5_isRun : MethodName := ⟨RX5, "isRun", "(III)Z"⟩
theorem dX5_isRun_0 : decode cX5_isRun 0 = .ok (.iconst 1, 1) := by decide +kernel
theorem dX5_isRun_1 : decode cX5_isRun 1 = .ok (.istore 4, 2) := by decide +kernel
theorem dX5_isRun_3 : decode cX5_isRun 3 = .ok (.iload_n 2, 1) := by decide +kernel
theorem dX5_isRun_4 : decode cX5_isRun 4 = .ok (.istore 5, 2) := by decide +kernel
theorem dX5_isRun_6 : decode cX5_isRun 6 = .ok (.iload 5, 2) := by decide +kernel
theorem dX5_isRun_8 : decode cX5_isRun 8 = .ok (.iload_n 3, 1) := by decide +kernel
theorem dX5_isRun_9 : decode cX5_isRun 9 = .ok (.if_icmp .gt 61, 3) := by decide +kernel
theorem dX5_isRun_12 : decode cX5_isRun 12 = .ok (.iload 4, 2) := by decide +kernel
theorem dX5_isRun_14 : decode cX5_isRun 14 = .ok (.ifCond .eq 56, 3) := by decide +kernel
theorem dX5_isRun_17 : decode cX5_isRun 17 = .ok (.aload_n 0, 1) := by decide +kernel
theorem dX5_isRun_18 : decode cX5_isRun 18 = .ok (.getfield 11, 3) := by decide +kernel
theorem dX5_isRun_21 : decode cX5_isRun 21 = .ok (.iload_n 1, 1) := by decide +kernel
theorem dX5_isRun_22 : decode cX5_isRun 22 = .ok (.aaload, 1) := by decide +kernel
theorem dX5_isRun_23 : decode cX5_isRun 23 = .ok (.iload 5, 2) := by decide +kernel
theorem dX5_isRun_25 : decode cX5_isRun 25 = .ok (.baload, 1) := by decide +kernel
theorem dX5_isRun_26 : decode cX5_isRun 26 = .ok (.aload_n 0, 1) := by decide +kernel
theorem dX5_isRun_27 : decode cX5_isRun 27 = .ok (.getfield 11, 3) := by decide +kernel
theorem dX5_isRun_30 : decode cX5_isRun 30 = .ok (.iload_n 1, 1) := by decide +kernel
theorem dX5_isRun_31 : decode cX5_isRun 31 = .ok (.aaload, 1) := by decide +kernel
theorem dX5_isRun_32 : decode cX5_isRun 32 = .ok (.iload_n 2, 1) := by decide +kernel
theorem dX5_isRun_33 : decode cX5_isRun 33 = .ok (.baload, 1) := by decide +kernel
theorem dX5_isRun_34 : decode cX5_isRun 34 = .ok (.if_icmp .ne 27, 3) := by decide +kernel
theorem dX5_isRun_37 : decode cX5_isRun 37 = .ok (.aload_n 0, 1) := by decide +kernel
theorem dX5_isRun_38 : decode cX5_isRun 38 = .ok (.getfield 16, 3) := by decide +kernel
theorem dX5_isRun_41 : decode cX5_isRun 41 = .ok (.iload_n 1, 1) := by decide +kernel
theorem dX5_isRun_42 : decode cX5_isRun 42 = .ok (.aaload, 1) := by decide +kernel
theorem dX5_isRun_43 : decode cX5_isRun 43 = .ok (.iload 5, 2) := by decide +kernel
theorem dX5_isRun_45 : decode cX5_isRun 45 = .ok (.baload, 1) := by decide +kernel
theorem dX5_isRun_46 : decode cX5_isRun 46 = .ok (.aload_n 0, 1) := by decide +kernel
theorem dX5_isRun_47 : decode cX5_isRun 47 = .ok (.getfield 16, 3) := by decide +kernel
theorem dX5_isRun_50 : decode cX5_isRun 50 = .ok (.iload_n 1, 1) := by decide +kernel
theorem dX5_isRun_51 : decode cX5_isRun 51 = .ok (.aaload, 1) := by decide +kernel
theorem dX5_isRun_52 : decode cX5_isRun 52 = .ok (.iload_n 2, 1) := by decide +kernel
theorem dX5_isRun_53 : decode cX5_isRun 53 = .ok (.baload, 1) := by decide +kernel
theorem dX5_isRun_54 : decode cX5_isRun 54 = .ok (.if_icmp .ne 7, 3) := by decide +kernel
theorem dX5_isRun_57 : decode cX5_isRun 57 = .ok (.iconst 1, 1) := by decide +kernel
theorem dX5_isRun_58 : decode cX5_isRun 58 = .ok (.goto 4, 3) := by decide +kernel
theorem dX5_isRun_61 : decode cX5_isRun 61 = .ok (.iconst 0, 1) := by decide +kernel
theorem dX5_isRun_62 : decode cX5_isRun 62 = .ok (.istore 4, 2) := by decide +kernel
theorem dX5_isRun_64 : decode cX5_isRun 64 = .ok (.iinc 5 1, 3) := by decide +kernel
theorem dX5_isRun_67 : decode cX5_isRun 67 = .ok (.goto (-61), 3) := by decide +kernel
theorem dX5_isRun_70 : decode cX5_isRun 70 = .ok (.iload 4, 2) := by decide +kernel
theorem dX5_isRun_72 : decode cX5_isRun 72 = .ok (.ireturn, 1) := by decide +kernel
abbrev cX5_steps : ByteArray := prog_10_method_9_code
def yX5_steps : MethodName := ⟨RX5, "steps", "(II)V"⟩
theorem dX5_steps_0 : decode cX5_steps 0 = .ok (.aload_n 0, 1) := by decide +kernel
theorem dX5_steps_1 : decode cX5_steps 1 = .ok (.getfield 29, 3) := by decide +kernel
theorem dX5_steps_4 : decode cX5_steps 4 = .ok (.iload_n 1, 1) := by decide +kernel
theorem dX5_steps_5 : decode cX5_steps 5 = .ok (.iadd, 1) := by decide +kernel
theorem dX5_steps_6 : decode cX5_steps 6 = .ok (.aload_n 0, 1) := by decide +kernel
theorem dX5_steps_7 : decode cX5_steps 7 = .ok (.getfield 33, 3) := by decide +kernel
theorem dX5_steps_10 : decode cX5_steps 10 = .ok (.iload_n 2, 1) := by decide +kernel
theorem dX5_steps_11 : decode cX5_steps 11 = .ok (.iadd, 1) := by decide +kernel
theorem dX5_steps_12 : decode cX5_steps 12 = .ok (.invokestatic 46, 3) := by decide +kernel
theorem dX5_steps_15 : decode cX5_steps 15 = .ok (.ifCond .ne 4, 3) := by decide +kernel
theorem dX5_steps_18 : decode cX5_steps 18 = .ok (.return_, 1) := by decide +kernel
theorem dX5_steps_19 : decode cX5_steps 19 = .ok (.aload_n 0, 1) := by decide +kernel
theorem dX5_steps_20 : decode cX5_steps 20 = .ok (.dup, 1) := by decide +kernel
theorem dX5_steps_21 : decode cX5_steps 21 = .ok (.getfield 29, 3) := by decide +kernel
theorem dX5_steps_24 : decode cX5_steps 24 = .ok (.iload_n 1, 1) := by decide +kernel
theorem dX5_steps_25 : decode cX5_steps 25 = .ok (.iadd, 1) := by decide +kernel
theorem dX5_steps_26 : decode cX5_steps 26 = .ok (.putfield 29, 3) := by decide +kernel
theorem dX5_steps_29 : decode cX5_steps 29 = .ok (.aload_n 0, 1) := by decide +kernel
theorem dX5_steps_30 : decode cX5_steps 30 = .ok (.dup, 1) := by decide +kernel
theorem dX5_steps_31 : decode cX5_steps 31 = .ok (.getfield 33, 3) := by decide +kernel
theorem dX5_steps_34 : decode cX5_steps 34 = .ok (.iload_n 2, 1) := by decide +kernel
theorem dX5_steps_35 : decode cX5_steps 35 = .ok (.iadd, 1) := by decide +kernel
theorem dX5_steps_36 : decode cX5_steps 36 = .ok (.putfield 33, 3) := by decide +kernel
theorem dX5_steps_39 : decode cX5_steps 39 = .ok (.return_, 1) := by decide +kernel
theorem q59 : (Jvm.Cond.initialized "FarTypewriter$Screen") ∈ lw_all := lw_g (lw_at lw_m1 6 rfl) rfl
theorem q133 : (Jvm.Cond.instantiable "FarTypewriter$Screen" (4 : Nat)) ∈ lw_all := lw_g (lw_at lw_m1 80 rfl) rfl
theorem q135 : (Jvm.Cond.instanceMethod ({ cls := "FarTypewriter$Screen", name := "<init>", desc := "()V" } : Jvm.MethodName)) ∈ lw_all := lw_g (lw_at lw_m1 82 rfl) rfl
theorem q136 : (Jvm.Cond.code ({ cls := "FarTypewriter$Screen", name := "<init>", desc := "()V" } : Jvm.MethodName) prog_10_method_1_code (2 : Nat) (Option.none : Option Jvm.ClassFile.FieldType)) ∈ lw_all := lw_g (lw_at lw_m1 83 rfl) rfl
theorem q137 : (Jvm.Cond.methodLink "FarTypewriter$Screen" (3 : Nat) ({ cls := "java/lang/Object", name := "<init>", desc := "()V" } : Jvm.MethodName)) ∈ lw_all := lw_g (lw_at lw_m1 84 rfl) rfl
theorem q138 : (Jvm.Cond.classLink "FarTypewriter$Screen" (9 : Nat) "[[B") ∈ lw_all := lw_g (lw_at lw_m1 85 rfl) rfl
theorem q140 : (Jvm.Cond.methodLink "FarTypewriter$Screen" (19 : Nat) ({ cls := "FarTypewriter$Screen", name := "wipe", desc := "(I)V" } : Jvm.MethodName)) ∈ lw_all := lw_g (lw_at lw_m1 87 rfl) rfl
theorem q141 : (Jvm.Cond.instanceMethod ({ cls := "FarTypewriter$Screen", name := "wipe", desc := "(I)V" } : Jvm.MethodName)) ∈ lw_all := lw_g (lw_at lw_m1 88 rfl) rfl
theorem q142 : (Jvm.Cond.selects "FarTypewriter$Screen" ({ cls := "FarTypewriter$Screen", name := "wipe", desc := "(I)V" } : Jvm.MethodName) ({ cls := "FarTypewriter$Screen", name := "wipe", desc := "(I)V" } : Jvm.MethodName)) ∈ lw_all := lw_g (lw_at lw_m1 89 rfl) rfl
theorem q143 : (Jvm.Cond.code ({ cls := "FarTypewriter$Screen", name := "wipe", desc := "(I)V" } : Jvm.MethodName) prog_10_method_3_code (3 : Nat) (Option.none : Option Jvm.ClassFile.FieldType)) ∈ lw_all := lw_g (lw_at lw_m1 90 rfl) rfl
theorem q144 : (Jvm.Cond.methodLink "FarTypewriter$Screen" (36 : Nat) ({ cls := "FarTypewriter$Screen", name := "put", desc := "(IIII)V" } : Jvm.MethodName)) ∈ lw_all := lw_g (lw_at lw_m1 91 rfl) rfl
theorem q145 : (Jvm.Cond.instanceMethod ({ cls := "FarTypewriter$Screen", name := "put", desc := "(IIII)V" } : Jvm.MethodName)) ∈ lw_all := lw_g (lw_at lw_m1 92 rfl) rfl
theorem q146 : (Jvm.Cond.selects "FarTypewriter$Screen" ({ cls := "FarTypewriter$Screen", name := "put", desc := "(IIII)V" } : Jvm.MethodName) ({ cls := "FarTypewriter$Screen", name := "put", desc := "(IIII)V" } : Jvm.MethodName)) ∈ lw_all := lw_g (lw_at lw_m1 93 rfl) rfl
theorem q147 : (Jvm.Cond.code ({ cls := "FarTypewriter$Screen", name := "put", desc := "(IIII)V" } : Jvm.MethodName) prog_10_method_4_code (5 : Nat) (Option.none : Option Jvm.ClassFile.FieldType)) ∈ lw_all := lw_g (lw_at lw_m1 94 rfl) rfl
theorem q148 : (Jvm.Cond.fieldLink "FarTypewriter$Screen" (11 : Nat) "FarTypewriter$Screen" "signs" "[[B") ∈ lw_all := lw_g (lw_at lw_m1 95 rfl) rfl
theorem q151 : (Jvm.Cond.fieldLink "FarTypewriter$Screen" (16 : Nat) "FarTypewriter$Screen" "marks" "[[B") ∈ lw_all := lw_g (lw_at lw_m1 98 rfl) rfl
theorem q154 : (Jvm.Cond.fieldLink "FarTypewriter$Screen" (29 : Nat) "FarTypewriter$Screen" "row" "I") ∈ lw_all := lw_g (lw_at lw_m1 101 rfl) rfl
theorem q159 : (Jvm.Cond.fieldLink "FarTypewriter$Screen" (33 : Nat) "FarTypewriter$Screen" "column" "I") ∈ lw_all := lw_g (lw_at lw_m1 106 rfl) rfl
theorem q162 : (Jvm.Cond.laysFinal "FarTypewriter$Screen" "FarTypewriter$Screen" "signs" "[[B") ∈ lw_all := lw_g (lw_at lw_m1 109 rfl) rfl
theorem q163 : (Jvm.Cond.soleField "FarTypewriter$Screen" "signs") ∈ lw_all := lw_g (lw_at lw_m1 110 rfl) rfl
theorem q164 : (Jvm.Cond.laysFinal "FarTypewriter$Screen" "FarTypewriter$Screen" "marks" "[[B") ∈ lw_all := lw_g (lw_at lw_m1 111 rfl) rfl
theorem q165 : (Jvm.Cond.soleField "FarTypewriter$Screen" "marks") ∈ lw_all := lw_g (lw_at lw_m1 112 rfl) rfl
theorem q166 : (Jvm.Cond.lays "FarTypewriter$Screen" "FarTypewriter$Screen" "row" "I") ∈ lw_all := lw_g (lw_at lw_m1 113 rfl) rfl
theorem q167 : (Jvm.Cond.soleField "FarTypewriter$Screen" "row") ∈ lw_all := lw_g (lw_at lw_m1 114 rfl) rfl
theorem q168 : (Jvm.Cond.lays "FarTypewriter$Screen" "FarTypewriter$Screen" "column" "I") ∈ lw_all := lw_g (lw_at lw_m1 115 rfl) rfl
theorem q169 : (Jvm.Cond.soleField "FarTypewriter$Screen" "column") ∈ lw_all := lw_g (lw_at lw_m1 116 rfl) rfl
theorem q170 : (Jvm.Cond.superclass "FarTypewriter$Screen" "java/lang/Object") ∈ lw_all := lw_g (lw_at lw_m1 117 rfl) rfl
theorem q247 : (Jvm.Cond.instanceMethod ({ cls := "FarTypewriter$Screen", name := "copies", desc := "(LFarTypewriter$Screen;)V" } : Jvm.MethodName)) ∈ lw_all := lw_g (lw_at lw_m1 194 rfl) rfl
theorem q248 : (Jvm.Cond.selects "FarTypewriter$Screen" ({ cls := "FarTypewriter$Screen", name := "copies", desc := "(LFarTypewriter$Screen;)V" } : Jvm.MethodName) ({ cls := "FarTypewriter$Screen", name := "copies", desc := "(LFarTypewriter$Screen;)V" } : Jvm.MethodName)) ∈ lw_all := lw_g (lw_at lw_m1 195 rfl) rfl
theorem q249 : (Jvm.Cond.code ({ cls := "FarTypewriter$Screen", name := "copies", desc := "(LFarTypewriter$Screen;)V" } : Jvm.MethodName) prog_10_method_2_code (3 : Nat) (Option.none : Option Jvm.ClassFile.FieldType)) ∈ lw_all := lw_g (lw_at lw_m1 196 rfl) rfl
theorem q250 : (Jvm.Cond.methodLink "FarTypewriter$Screen" (23 : Nat) ({ cls := "java/lang/System", name := "arraycopy", desc := "(Ljava/lang/Object;ILjava/lang/Object;II)V" } : Jvm.MethodName)) ∈ lw_all := lw_g (lw_at lw_m1 197 rfl) rfl
theorem q404 : (Jvm.Cond.instanceMethod ({ cls := "FarTypewriter$Screen", name := "letter", desc := "(II)V" } : Jvm.MethodName)) ∈ lw_all := lw_g (lw_at lw_m2 111 rfl) rfl
theorem q405 : (Jvm.Cond.selects "FarTypewriter$Screen" ({ cls := "FarTypewriter$Screen", name := "letter", desc := "(II)V" } : Jvm.MethodName) ({ cls := "FarTypewriter$Screen", name := "letter", desc := "(II)V" } : Jvm.MethodName)) ∈ lw_all := lw_g (lw_at lw_m2 112 rfl) rfl
theorem q406 : (Jvm.Cond.code ({ cls := "FarTypewriter$Screen", name := "letter", desc := "(II)V" } : Jvm.MethodName) prog_10_method_7_code (3 : Nat) (Option.none : Option Jvm.ClassFile.FieldType)) ∈ lw_all := lw_g (lw_at lw_m2 113 rfl) rfl
theorem q407 : (Jvm.Cond.methodLink "FarTypewriter$Screen" (43 : Nat) ({ cls := "FarTypewriter$Screen", name := "newLine", desc := "()V" } : Jvm.MethodName)) ∈ lw_all := lw_g (lw_at lw_m2 114 rfl) rfl
theorem q408 : (Jvm.Cond.instanceMethod ({ cls := "FarTypewriter$Screen", name := "newLine", desc := "()V" } : Jvm.MethodName)) ∈ lw_all := lw_g (lw_at lw_m2 115 rfl) rfl
theorem q409 : (Jvm.Cond.selects "FarTypewriter$Screen" ({ cls := "FarTypewriter$Screen", name := "newLine", desc := "()V" } : Jvm.MethodName) ({ cls := "FarTypewriter$Screen", name := "newLine", desc := "()V" } : Jvm.MethodName)) ∈ lw_all := lw_g (lw_at lw_m2 116 rfl) rfl
theorem q410 : (Jvm.Cond.code ({ cls := "FarTypewriter$Screen", name := "newLine", desc := "()V" } : Jvm.MethodName) prog_10_method_6_code (1 : Nat) (Option.none : Option Jvm.ClassFile.FieldType)) ∈ lw_all := lw_g (lw_at lw_m2 117 rfl) rfl
theorem q411 : (Jvm.Cond.methodLink "FarTypewriter$Screen" (40 : Nat) ({ cls := "FarTypewriter$Screen", name := "scroll", desc := "(I)V" } : Jvm.MethodName)) ∈ lw_all := lw_g (lw_at lw_m2 118 rfl) rfl
theorem q412 : (Jvm.Cond.instanceMethod ({ cls := "FarTypewriter$Screen", name := "scroll", desc := "(I)V" } : Jvm.MethodName)) ∈ lw_all := lw_g (lw_at lw_m2 119 rfl) rfl
theorem q413 : (Jvm.Cond.selects "FarTypewriter$Screen" ({ cls := "FarTypewriter$Screen", name := "scroll", desc := "(I)V" } : Jvm.MethodName) ({ cls := "FarTypewriter$Screen", name := "scroll", desc := "(I)V" } : Jvm.MethodName)) ∈ lw_all := lw_g (lw_at lw_m2 120 rfl) rfl
theorem q414 : (Jvm.Cond.code ({ cls := "FarTypewriter$Screen", name := "scroll", desc := "(I)V" } : Jvm.MethodName) prog_10_method_5_code (5 : Nat) (Option.none : Option Jvm.ClassFile.FieldType)) ∈ lw_all := lw_g (lw_at lw_m2 121 rfl) rfl
theorem q417 : (Jvm.Cond.instanceMethod ({ cls := "FarTypewriter$Screen", name := "back", desc := "()V" } : Jvm.MethodName)) ∈ lw_all := lw_g (lw_at lw_m2 124 rfl) rfl
theorem q418 : (Jvm.Cond.selects "FarTypewriter$Screen" ({ cls := "FarTypewriter$Screen", name := "back", desc := "()V" } : Jvm.MethodName) ({ cls := "FarTypewriter$Screen", name := "back", desc := "()V" } : Jvm.MethodName)) ∈ lw_all := lw_g (lw_at lw_m2 125 rfl) rfl
theorem q419 : (Jvm.Cond.code ({ cls := "FarTypewriter$Screen", name := "back", desc := "()V" } : Jvm.MethodName) prog_10_method_8_code (1 : Nat) (Option.none : Option Jvm.ClassFile.FieldType)) ∈ lw_all := lw_g (lw_at lw_m2 126 rfl) rfl
theorem q425 : (Jvm.Cond.static ({ cls := "FarTypewriter$Screen", name := "isCell", desc := "(II)Z" } : Jvm.MethodName)) ∈ lw_all := lw_g (lw_at lw_m2 132 rfl) rfl
theorem q426 : (Jvm.Cond.code ({ cls := "FarTypewriter$Screen", name := "isCell", desc := "(II)Z" } : Jvm.MethodName) prog_10_method_10_code (2 : Nat) (Option.some Jvm.ClassFile.FieldType.boolean)) ∈ lw_all := lw_g (lw_at lw_m2 133 rfl) rfl
theorem q554 : (Jvm.Cond.instanceMethod ({ cls := "FarTypewriter$Screen", name := "isSame", desc := "(LFarTypewriter$Screen;)Z" } : Jvm.MethodName)) ∈ lw_all := lw_g (lw_at lw_m3 21 rfl) rfl
theorem q555 : (Jvm.Cond.selects "FarTypewriter$Screen" ({ cls := "FarTypewriter$Screen", name := "isSame", desc := "(LFarTypewriter$Screen;)Z" } : Jvm.MethodName) ({ cls := "FarTypewriter$Screen", name := "isSame", desc := "(LFarTypewriter$Screen;)Z" } : Jvm.MethodName)) ∈ lw_all := lw_g (lw_at lw_m3 22 rfl) rfl
theorem q556 : (Jvm.Cond.code ({ cls := "FarTypewriter$Screen", name := "isSame", desc := "(LFarTypewriter$Screen;)Z" } : Jvm.MethodName) prog_10_method_12_code (4 : Nat) (Option.some Jvm.ClassFile.FieldType.boolean)) ∈ lw_all := lw_g (lw_at lw_m3 23 rfl) rfl
theorem q557 : (Jvm.Cond.methodLink "FarTypewriter$Screen" (50 : Nat) ({ cls := "FarTypewriter$Screen", name := "isLike", desc := "(LFarTypewriter$Screen;II)Z" } : Jvm.MethodName)) ∈ lw_all := lw_g (lw_at lw_m3 24 rfl) rfl
theorem q558 : (Jvm.Cond.instanceMethod ({ cls := "FarTypewriter$Screen", name := "isLike", desc := "(LFarTypewriter$Screen;II)Z" } : Jvm.MethodName)) ∈ lw_all := lw_g (lw_at lw_m3 25 rfl) rfl
theorem q559 : (Jvm.Cond.selects "FarTypewriter$Screen" ({ cls := "FarTypewriter$Screen", name := "isLike", desc := "(LFarTypewriter$Screen;II)Z" } : Jvm.MethodName) ({ cls := "FarTypewriter$Screen", name := "isLike", desc := "(LFarTypewriter$Screen;II)Z" } : Jvm.MethodName)) ∈ lw_all := lw_g (lw_at lw_m3 26 rfl) rfl
theorem q560 : (Jvm.Cond.code ({ cls := "FarTypewriter$Screen", name := "isLike", desc := "(LFarTypewriter$Screen;II)Z" } : Jvm.MethodName) prog_10_method_11_code (4 : Nat) (Option.some Jvm.ClassFile.FieldType.boolean)) ∈ lw_all := lw_g (lw_at lw_m3 27 rfl) rfl
theorem q587 : (Jvm.Cond.instanceMethod ({ cls := "FarTypewriter$Screen", name := "differs", desc := "(LFarTypewriter$Screen;IZ)I" } : Jvm.MethodName)) ∈ lw_all := lw_g (lw_at lw_m3 54 rfl) rfl
theorem q588 : (Jvm.Cond.selects "FarTypewriter$Screen" ({ cls := "FarTypewriter$Screen", name := "differs", desc := "(LFarTypewriter$Screen;IZ)I" } : Jvm.MethodName) ({ cls := "FarTypewriter$Screen", name := "differs", desc := "(LFarTypewriter$Screen;IZ)I" } : Jvm.MethodName)) ∈ lw_all := lw_g (lw_at lw_m3 55 rfl) rfl
theorem q589 : (Jvm.Cond.code ({ cls := "FarTypewriter$Screen", name := "differs", desc := "(LFarTypewriter$Screen;IZ)I" } : Jvm.MethodName) prog_10_method_13_code (6 : Nat) (Option.some Jvm.ClassFile.FieldType.int)) ∈ lw_all := lw_g (lw_at lw_m3 56 rfl) rfl
theorem q591 : (Jvm.Cond.instanceMethod ({ cls := "FarTypewriter$Screen", name := "isRun", desc := "(III)Z" } : Jvm.MethodName)) ∈ lw_all := lw_g (lw_at lw_m3 58 rfl) rfl
theorem q592 : (Jvm.Cond.selects "FarTypewriter$Screen" ({ cls := "FarTypewriter$Screen", name := "isRun", desc := "(III)Z" } : Jvm.MethodName) ({ cls := "FarTypewriter$Screen", name := "isRun", desc := "(III)Z" } : Jvm.MethodName)) ∈ lw_all := lw_g (lw_at lw_m3 59 rfl) rfl
theorem q593 : (Jvm.Cond.code ({ cls := "FarTypewriter$Screen", name := "isRun", desc := "(III)Z" } : Jvm.MethodName) prog_10_method_14_code (6 : Nat) (Option.some Jvm.ClassFile.FieldType.boolean)) ∈ lw_all := lw_g (lw_at lw_m3 60 rfl) rfl
theorem q652 : (Jvm.Cond.instanceMethod ({ cls := "FarTypewriter$Screen", name := "steps", desc := "(II)V" } : Jvm.MethodName)) ∈ lw_all := lw_g (lw_at lw_m3 119 rfl) rfl
theorem q653 : (Jvm.Cond.selects "FarTypewriter$Screen" ({ cls := "FarTypewriter$Screen", name := "steps", desc := "(II)V" } : Jvm.MethodName) ({ cls := "FarTypewriter$Screen", name := "steps", desc := "(II)V" } : Jvm.MethodName)) ∈ lw_all := lw_g (lw_at lw_m3 120 rfl) rfl
theorem q654 : (Jvm.Cond.code ({ cls := "FarTypewriter$Screen", name := "steps", desc := "(II)V" } : Jvm.MethodName) prog_10_method_9_code (3 : Nat) (Option.none : Option Jvm.ClassFile.FieldType)) ∈ lw_all := lw_g (lw_at lw_m3 121 rfl) rfl
theorem q655 : (Jvm.Cond.methodLink "FarTypewriter$Screen" (46 : Nat) ({ cls := "FarTypewriter$Screen", name := "isCell", desc := "(II)Z" } : Jvm.MethodName)) ∈ lw_all := lw_g (lw_at lw_m3 122 rfl) rfl
theorem in_X5 : ∀ w ∈ wsX50, w ∈ lw_all := lw_in wsX50 [162, 164, 166, 168] (by decide +kernel) (by decide +kernel)
/-! FarTypewriter$Program -/
set_option maxRecDepth 100000
def RX6 : String := "FarTypewriter$Program"
abbrev cX6_init : ByteArray := prog_9_method_1_code
def yX6_init : MethodName := ⟨RX6, "<init>", "()V"⟩
theorem dX6_init_0 : decode cX6_init 0 = .ok (.aload_n 0, 1) := by decide +kernel
theorem dX6_init_1 : decode cX6_init 1 = .ok (.invokespecial 1, 3) := by decide +kernel
theorem dX6_init_4 : decode cX6_init 4 = .ok (.return_, 1) := by decide +kernel
abbrev cX6_isPlain : ByteArray := prog_9_method_4_code
def yX6_isPlain : MethodName := ⟨RX6, "isPlain", "()Z"⟩
theorem dX6_isPlain_0 : decode cX6_isPlain 0 = .ok (.iconst 1, 1) := by decide +kernel
theorem dX6_isPlain_1 : decode cX6_isPlain 1 = .ok (.ireturn, 1) := by decide +kernel
abbrev cX6_counted : ByteArray := prog_9_method_3_code
def yX6_counted : MethodName := ⟨RX6, "counted", "()I"⟩
theorem dX6_counted_0 : decode cX6_counted 0 = .ok (.iconst 0, 1) := by decide +kernel
theorem dX6_counted_1 : decode cX6_counted 1 = .ok (.ireturn, 1) := by decide +kernel
theorem q60 : (Jvm.Cond.initialized "FarTypewriter$Program") ∈ lw_all := lw_g (lw_at lw_m1 7 rfl) rfl
theorem q200 : (Jvm.Cond.instanceMethod ({ cls := "FarTypewriter$Program", name := "<init>", desc := "()V" } : Jvm.MethodName)) ∈ lw_all := lw_g (lw_at lw_m1 147 rfl) rfl
theorem q201 : (Jvm.Cond.code ({ cls := "FarTypewriter$Program", name := "<init>", desc := "()V" } : Jvm.MethodName) prog_9_method_1_code (1 : Nat) (Option.none : Option Jvm.ClassFile.FieldType)) ∈ lw_all := lw_g (lw_at lw_m1 148 rfl) rfl
theorem q202 : (Jvm.Cond.methodLink "FarTypewriter$Program" (1 : Nat) ({ cls := "java/lang/Object", name := "<init>", desc := "()V" } : Jvm.MethodName)) ∈ lw_all := lw_g (lw_at lw_m1 149 rfl) rfl
theorem q523 : (Jvm.Cond.instanceMethod ({ cls := "FarTypewriter$Program", name := "isPlain", desc := "()Z" } : Jvm.MethodName)) ∈ lw_all := lw_g (lw_at lw_m2 230 rfl) rfl
theorem q524 : (Jvm.Cond.sameMethod "FarTypewriter$Program" "FarTypewriter$Program" "isPlain" "()Z") ∈ lw_all := lw_g (lw_at lw_m2 231 rfl) rfl
theorem q531 : (Jvm.Cond.code ({ cls := "FarTypewriter$Program", name := "isPlain", desc := "()Z" } : Jvm.MethodName) prog_9_method_4_code (1 : Nat) (Option.some Jvm.ClassFile.FieldType.boolean)) ∈ lw_all := lw_g (lw_at lw_m2 238 rfl) rfl
theorem q646 : (Jvm.Cond.declares ({ cls := "FarTypewriter$Program", name := "takes", desc := "(ILFarTypewriter$Screen;I)V" } : Jvm.MethodName)) ∈ lw_tbl := lw_at lw_m3 113 rfl
theorem q647 : (Jvm.Cond.sameMethod "FarTypewriter$Program" "FarTypewriter$Program" "takes" "(ILFarTypewriter$Screen;I)V") ∈ lw_all := lw_g (lw_at lw_m3 114 rfl) rfl
theorem q739 : (Jvm.Cond.instanceMethod ({ cls := "FarTypewriter$Program", name := "counted", desc := "()I" } : Jvm.MethodName)) ∈ lw_all := lw_g (lw_at lw_m3 206 rfl) rfl
theorem q740 : (Jvm.Cond.sameMethod "FarTypewriter$Program" "FarTypewriter$Program" "counted" "()I") ∈ lw_all := lw_g (lw_at lw_m3 207 rfl) rfl
theorem q747 : (Jvm.Cond.code ({ cls := "FarTypewriter$Program", name := "counted", desc := "()I" } : Jvm.MethodName) prog_9_method_3_code (1 : Nat) (Option.some Jvm.ClassFile.FieldType.int)) ∈ lw_all := lw_g (lw_at lw_m3 214 rfl) rfl
/-! FarTypewriter$Echo -/
set_option maxRecDepth 100000
def RX7 : String := "FarTypewriter$Echo"
abbrev cX7_init : ByteArray := prog_2_method_1_code
def yX7_init : MethodName := ⟨RX7, "<init>", "()V"⟩
theorem dX7_init_0 : decode cX7_init 0 = .ok (.aload_n 0, 1) := by decide +kernel
theorem dX7_init_1 : decode cX7_init 1 = .ok (.invokespecial 1, 3) := by decide +kernel
theorem dX7_init_4 : decode cX7_init 4 = .ok (.return_, 1) := by decide +kernel
abbrev cX7_takes : ByteArray := prog_2_method_2_code
def yX7_takes : MethodName := ⟨RX7, "takes", "(ILFarTypewriter$Screen;I)V"⟩
theorem dX7_takes_0 : decode cX7_takes 0 = .ok (.iload_n 1, 1) := by decide +kernel
theorem dX7_takes_1 : decode cX7_takes 1 = .ok (.tableswitch 117 1 13 #[67, 76, 85, 94, 117, 117, 117, 103, 117, 117, 117, 117, 110], 67) := by decide +kernel
theorem dX7_takes_68 : decode cX7_takes 68 = .ok (.aload_n 2, 1) := by decide +kernel
theorem dX7_takes_69 : decode cX7_takes 69 = .ok (.iconst (-1), 1) := by decide +kernel
theorem dX7_takes_70 : decode cX7_takes 70 = .ok (.iconst 0, 1) := by decide +kernel
theorem dX7_takes_71 : decode cX7_takes 71 = .ok (.invokevirtual 7, 3) := by decide +kernel
theorem dX7_takes_74 : decode cX7_takes 74 = .ok (.goto 50, 3) := by decide +kernel
theorem dX7_takes_77 : decode cX7_takes 77 = .ok (.aload_n 2, 1) := by decide +kernel
theorem dX7_takes_78 : decode cX7_takes 78 = .ok (.iconst 1, 1) := by decide +kernel
theorem dX7_takes_79 : decode cX7_takes 79 = .ok (.iconst 0, 1) := by decide +kernel
theorem dX7_takes_80 : decode cX7_takes 80 = .ok (.invokevirtual 7, 3) := by decide +kernel
theorem dX7_takes_83 : decode cX7_takes 83 = .ok (.goto 41, 3) := by decide +kernel
theorem dX7_takes_86 : decode cX7_takes 86 = .ok (.aload_n 2, 1) := by decide +kernel
theorem dX7_takes_87 : decode cX7_takes 87 = .ok (.iconst 0, 1) := by decide +kernel
theorem dX7_takes_88 : decode cX7_takes 88 = .ok (.iconst 1, 1) := by decide +kernel
theorem dX7_takes_89 : decode cX7_takes 89 = .ok (.invokevirtual 7, 3) := by decide +kernel
theorem dX7_takes_92 : decode cX7_takes 92 = .ok (.goto 32, 3) := by decide +kernel
theorem dX7_takes_95 : decode cX7_takes 95 = .ok (.aload_n 2, 1) := by decide +kernel
theorem dX7_takes_96 : decode cX7_takes 96 = .ok (.iconst 0, 1) := by decide +kernel
theorem dX7_takes_97 : decode cX7_takes 97 = .ok (.iconst (-1), 1) := by decide +kernel
theorem dX7_takes_98 : decode cX7_takes 98 = .ok (.invokevirtual 7, 3) := by decide +kernel
theorem dX7_takes_101 : decode cX7_takes 101 = .ok (.goto 23, 3) := by decide +kernel
theorem dX7_takes_104 : decode cX7_takes 104 = .ok (.aload_n 2, 1) := by decide +kernel
theorem dX7_takes_105 : decode cX7_takes 105 = .ok (.invokevirtual 13, 3) := by decide +kernel
theorem dX7_takes_108 : decode cX7_takes 108 = .ok (.goto 16, 3) := by decide +kernel
theorem dX7_takes_111 : decode cX7_takes 111 = .ok (.aload_n 2, 1) := by decide +kernel
theorem dX7_takes_112 : decode cX7_takes 112 = .ok (.invokevirtual 16, 3) := by decide +kernel
theorem dX7_takes_115 : decode cX7_takes 115 = .ok (.goto 9, 3) := by decide +kernel
theorem dX7_takes_118 : decode cX7_takes 118 = .ok (.aload_n 2, 1) := by decide +kernel
theorem dX7_takes_119 : decode cX7_takes 119 = .ok (.iload_n 1, 1) := by decide +kernel
theorem dX7_takes_120 : decode cX7_takes 120 = .ok (.iload_n 3, 1) := by decide +kernel
theorem dX7_takes_121 : decode cX7_takes 121 = .ok (.invokevirtual 19, 3) := by decide +kernel
theorem dX7_takes_124 : decode cX7_takes 124 = .ok (.return_, 1) := by decide +kernel
theorem q61 : (Jvm.Cond.initialized "FarTypewriter$Echo") ∈ lw_all := lw_g (lw_at lw_m1 8 rfl) rfl
theorem q195 : (Jvm.Cond.instantiable "FarTypewriter$Echo" (0 : Nat)) ∈ lw_all := lw_g (lw_at lw_m1 142 rfl) rfl
theorem q197 : (Jvm.Cond.instanceMethod ({ cls := "FarTypewriter$Echo", name := "<init>", desc := "()V" } : Jvm.MethodName)) ∈ lw_all := lw_g (lw_at lw_m1 144 rfl) rfl
theorem q198 : (Jvm.Cond.code ({ cls := "FarTypewriter$Echo", name := "<init>", desc := "()V" } : Jvm.MethodName) prog_2_method_1_code (1 : Nat) (Option.none : Option Jvm.ClassFile.FieldType)) ∈ lw_all := lw_g (lw_at lw_m1 145 rfl) rfl
theorem q199 : (Jvm.Cond.methodLinkNest "FarTypewriter$Echo" (1 : Nat) ({ cls := "FarTypewriter$Program", name := "<init>", desc := "()V" } : Jvm.MethodName) "FarTypewriter") ∈ lw_tbl := lw_at lw_m1 146 rfl
theorem q203 : (Jvm.Cond.superclass "FarTypewriter$Echo" "FarTypewriter$Program") ∈ lw_all := lw_g (lw_at lw_m1 150 rfl) rfl
theorem q525 : (Jvm.Cond.selects "FarTypewriter$Echo" ({ cls := "FarTypewriter$Program", name := "isPlain", desc := "()Z" } : Jvm.MethodName) ({ cls := "FarTypewriter$Program", name := "isPlain", desc := "()Z" } : Jvm.MethodName)) ∈ lw_all := lw_g (lw_at lw_m2 232 rfl) rfl
theorem q648 : (Jvm.Cond.selects "FarTypewriter$Echo" ({ cls := "FarTypewriter$Program", name := "takes", desc := "(ILFarTypewriter$Screen;I)V" } : Jvm.MethodName) ({ cls := "FarTypewriter$Echo", name := "takes", desc := "(ILFarTypewriter$Screen;I)V" } : Jvm.MethodName)) ∈ lw_all := lw_g (lw_at lw_m3 115 rfl) rfl
theorem q649 : (Jvm.Cond.instanceMethod ({ cls := "FarTypewriter$Echo", name := "takes", desc := "(ILFarTypewriter$Screen;I)V" } : Jvm.MethodName)) ∈ lw_all := lw_g (lw_at lw_m3 116 rfl) rfl
theorem q650 : (Jvm.Cond.code ({ cls := "FarTypewriter$Echo", name := "takes", desc := "(ILFarTypewriter$Screen;I)V" } : Jvm.MethodName) prog_2_method_2_code (4 : Nat) (Option.none : Option Jvm.ClassFile.FieldType)) ∈ lw_all := lw_g (lw_at lw_m3 117 rfl) rfl
theorem q651 : (Jvm.Cond.methodLink "FarTypewriter$Echo" (7 : Nat) ({ cls := "FarTypewriter$Screen", name := "steps", desc := "(II)V" } : Jvm.MethodName)) ∈ lw_all := lw_g (lw_at lw_m3 118 rfl) rfl
theorem q656 : (Jvm.Cond.methodLink "FarTypewriter$Echo" (13 : Nat) ({ cls := "FarTypewriter$Screen", name := "back", desc := "()V" } : Jvm.MethodName)) ∈ lw_all := lw_g (lw_at lw_m3 123 rfl) rfl
theorem q657 : (Jvm.Cond.methodLink "FarTypewriter$Echo" (16 : Nat) ({ cls := "FarTypewriter$Screen", name := "newLine", desc := "()V" } : Jvm.MethodName)) ∈ lw_all := lw_g (lw_at lw_m3 124 rfl) rfl
theorem q658 : (Jvm.Cond.methodLink "FarTypewriter$Echo" (19 : Nat) ({ cls := "FarTypewriter$Screen", name := "letter", desc := "(II)V" } : Jvm.MethodName)) ∈ lw_all := lw_g (lw_at lw_m3 125 rfl) rfl
theorem q741 : (Jvm.Cond.selects "FarTypewriter$Echo" ({ cls := "FarTypewriter$Program", name := "counted", desc := "()I" } : Jvm.MethodName) ({ cls := "FarTypewriter$Program", name := "counted", desc := "()I" } : Jvm.MethodName)) ∈ lw_all := lw_g (lw_at lw_m3 208 rfl) rfl
theorem q1151 : (Jvm.Cond.sameMethod "FarTypewriter$Echo" "FarTypewriter$Echo" "takes" "(ILFarTypewriter$Screen;I)V") ∈ lw_all := lw_g (lw_at lw_m5 138 rfl) rfl
/-! FarTypewriter$Guess -/
set_option maxRecDepth 100000
def RX8 : String := "FarTypewriter$Guess"
def TX8 : u_T := fun k => match k with
  | 0 => ("FarTypewriter$Guess", "key", "I", false)
  | 1 => ("FarTypewriter$Guess", "age", "I", false)
  | 2 => ("FarTypewriter$Guess", "row", "I", false)
  | 3 => ("FarTypewriter$Guess", "column", "I", false)
  | 4 => ("FarTypewriter$Guess", "sign", "I", false)
  | 5 => ("FarTypewriter$Guess", "cursorRow", "I", false)
  | _ => ("FarTypewriter$Guess", "cursorColumn", "I", false)
def tyX8 : Nat → FieldType := fun k => match k with
  | 0 => .int
  | 1 => .int
  | 2 => .int
  | 3 => .int
  | 4 => .int
  | 5 => .int
  | _ => .int
abbrev wsX80 : List Cond := u_ws RX8 TX8 7
theorem nmX8 : ∀ a, a < 7 → ∀ b, b < 7 → a ≠ b → (TX8 a).2.1 ≠ (TX8 b).2.1 := by decide +kernel
theorem tyX8_ok : ∀ k, k < 7 → parseFieldDescriptor (TX8 k).2.2.1 = some (tyX8 k) := by decide +kernel
abbrev cX8_init : ByteArray := prog_3_method_1_code
def yX8_init : MethodName := ⟨RX8, "<init>", "()V"⟩
theorem dX8_init_0 : decode cX8_init 0 = .ok (.aload_n 0, 1) := by decide +kernel
theorem dX8_init_1 : decode cX8_init 1 = .ok (.invokespecial 3, 3) := by decide +kernel
theorem dX8_init_4 : decode cX8_init 4 = .ok (.return_, 1) := by decide +kernel
abbrev cX8_lays : ByteArray := prog_3_method_4_code
def yX8_lays : MethodName := ⟨RX8, "lays", "(LFarTypewriter$Screen;)V"⟩
theorem dX8_lays_0 : decode cX8_lays 0 = .ok (.aload_n 0, 1) := by decide +kernel
theorem dX8_lays_1 : decode cX8_lays 1 = .ok (.invokevirtual 33, 3) := by decide +kernel
theorem dX8_lays_4 : decode cX8_lays 4 = .ok (.ifCond .eq 20, 3) := by decide +kernel
theorem dX8_lays_7 : decode cX8_lays 7 = .ok (.aload_n 1, 1) := by decide +kernel
theorem dX8_lays_8 : decode cX8_lays 8 = .ok (.aload_n 0, 1) := by decide +kernel
theorem dX8_lays_9 : decode cX8_lays 9 = .ok (.getfield 18, 3) := by decide +kernel
theorem dX8_lays_12 : decode cX8_lays 12 = .ok (.aload_n 0, 1) := by decide +kernel
theorem dX8_lays_13 : decode cX8_lays 13 = .ok (.getfield 21, 3) := by decide +kernel
theorem dX8_lays_16 : decode cX8_lays 16 = .ok (.aload_n 0, 1) := by decide +kernel
theorem dX8_lays_17 : decode cX8_lays 17 = .ok (.getfield 24, 3) := by decide +kernel
theorem dX8_lays_20 : decode cX8_lays 20 = .ok (.iconst 3, 1) := by decide +kernel
theorem dX8_lays_21 : decode cX8_lays 21 = .ok (.invokevirtual 37, 3) := by decide +kernel
theorem dX8_lays_24 : decode cX8_lays 24 = .ok (.aload_n 1, 1) := by decide +kernel
theorem dX8_lays_25 : decode cX8_lays 25 = .ok (.aload_n 0, 1) := by decide +kernel
theorem dX8_lays_26 : decode cX8_lays 26 = .ok (.getfield 27, 3) := by decide +kernel
theorem dX8_lays_29 : decode cX8_lays 29 = .ok (.putfield 43, 3) := by decide +kernel
theorem dX8_lays_32 : decode cX8_lays 32 = .ok (.aload_n 1, 1) := by decide +kernel
theorem dX8_lays_33 : decode cX8_lays 33 = .ok (.aload_n 0, 1) := by decide +kernel
theorem dX8_lays_34 : decode cX8_lays 34 = .ok (.getfield 30, 3) := by decide +kernel
theorem dX8_lays_37 : decode cX8_lays 37 = .ok (.putfield 44, 3) := by decide +kernel
theorem dX8_lays_40 : decode cX8_lays 40 = .ok (.return_, 1) := by decide +kernel
abbrev cX8_hasCell : ByteArray := prog_3_method_3_code
def yX8_hasCell : MethodName := ⟨RX8, "hasCell", "()Z"⟩
theorem dX8_hasCell_0 : decode cX8_hasCell 0 = .ok (.aload_n 0, 1) := by decide +kernel
theorem dX8_hasCell_1 : decode cX8_hasCell 1 = .ok (.getfield 18, 3) := by decide +kernel
theorem dX8_hasCell_4 : decode cX8_hasCell 4 = .ok (.iconst (-1), 1) := by decide +kernel
theorem dX8_hasCell_5 : decode cX8_hasCell 5 = .ok (.if_icmp .eq 7, 3) := by decide +kernel
theorem dX8_hasCell_8 : decode cX8_hasCell 8 = .ok (.iconst 1, 1) := by decide +kernel
theorem dX8_hasCell_9 : decode cX8_hasCell 9 = .ok (.goto 4, 3) := by decide +kernel
theorem dX8_hasCell_12 : decode cX8_hasCell 12 = .ok (.iconst 0, 1) := by decide +kernel
theorem dX8_hasCell_13 : decode cX8_hasCell 13 = .ok (.ireturn, 1) := by decide +kernel
abbrev cX8_isRight : ByteArray := prog_3_method_5_code
def yX8_isRight : MethodName := ⟨RX8, "isRight", "(LFarTypewriter$State;)Z"⟩
theorem dX8_isRight_0 : decode cX8_isRight 0 = .ok (.aload_n 0, 1) := by decide +kernel
theorem dX8_isRight_1 : decode cX8_isRight 1 = .ok (.invokevirtual 33, 3) := by decide +kernel
theorem dX8_isRight_4 : decode cX8_isRight 4 = .ok (.ifCond .eq 33, 3) := by decide +kernel
theorem dX8_isRight_7 : decode cX8_isRight 7 = .ok (.aload_n 1, 1) := by decide +kernel
theorem dX8_isRight_8 : decode cX8_isRight 8 = .ok (.getfield 45, 3) := by decide +kernel
theorem dX8_isRight_11 : decode cX8_isRight 11 = .ok (.getfield 51, 3) := by decide +kernel
theorem dX8_isRight_14 : decode cX8_isRight 14 = .ok (.aload_n 0, 1) := by decide +kernel
theorem dX8_isRight_15 : decode cX8_isRight 15 = .ok (.getfield 18, 3) := by decide +kernel
theorem dX8_isRight_18 : decode cX8_isRight 18 = .ok (.aaload, 1) := by decide +kernel
theorem dX8_isRight_19 : decode cX8_isRight 19 = .ok (.aload_n 0, 1) := by decide +kernel
theorem dX8_isRight_20 : decode cX8_isRight 20 = .ok (.getfield 21, 3) := by decide +kernel
theorem dX8_isRight_23 : decode cX8_isRight 23 = .ok (.baload, 1) := by decide +kernel
theorem dX8_isRight_24 : decode cX8_isRight 24 = .ok (.aload_n 0, 1) := by decide +kernel
theorem dX8_isRight_25 : decode cX8_isRight 25 = .ok (.getfield 24, 3) := by decide +kernel
theorem dX8_isRight_28 : decode cX8_isRight 28 = .ok (.if_icmp .ne 7, 3) := by decide +kernel
theorem dX8_isRight_31 : decode cX8_isRight 31 = .ok (.iconst 1, 1) := by decide +kernel
theorem dX8_isRight_32 : decode cX8_isRight 32 = .ok (.goto 4, 3) := by decide +kernel
theorem dX8_isRight_35 : decode cX8_isRight 35 = .ok (.iconst 0, 1) := by decide +kernel
theorem dX8_isRight_36 : decode cX8_isRight 36 = .ok (.ireturn, 1) := by decide +kernel
theorem dX8_isRight_37 : decode cX8_isRight 37 = .ok (.aload_n 0, 1) := by decide +kernel
theorem dX8_isRight_38 : decode cX8_isRight 38 = .ok (.getfield 9, 3) := by decide +kernel
theorem dX8_isRight_41 : decode cX8_isRight 41 = .ok (.aload_n 1, 1) := by decide +kernel
theorem dX8_isRight_42 : decode cX8_isRight 42 = .ok (.getfield 55, 3) := by decide +kernel
theorem dX8_isRight_45 : decode cX8_isRight 45 = .ok (.if_icmp .lt 31, 3) := by decide +kernel
theorem dX8_isRight_48 : decode cX8_isRight 48 = .ok (.aload_n 1, 1) := by decide +kernel
theorem dX8_isRight_49 : decode cX8_isRight 49 = .ok (.getfield 45, 3) := by decide +kernel
theorem dX8_isRight_52 : decode cX8_isRight 52 = .ok (.getfield 43, 3) := by decide +kernel
theorem dX8_isRight_55 : decode cX8_isRight 55 = .ok (.aload_n 0, 1) := by decide +kernel
theorem dX8_isRight_56 : decode cX8_isRight 56 = .ok (.getfield 27, 3) := by decide +kernel
theorem dX8_isRight_59 : decode cX8_isRight 59 = .ok (.if_icmp .ne 21, 3) := by decide +kernel
theorem dX8_isRight_62 : decode cX8_isRight 62 = .ok (.aload_n 1, 1) := by decide +kernel
theorem dX8_isRight_63 : decode cX8_isRight 63 = .ok (.getfield 45, 3) := by decide +kernel
theorem dX8_isRight_66 : decode cX8_isRight 66 = .ok (.getfield 44, 3) := by decide +kernel
theorem dX8_isRight_69 : decode cX8_isRight 69 = .ok (.aload_n 0, 1) := by decide +kernel
theorem dX8_isRight_70 : decode cX8_isRight 70 = .ok (.getfield 30, 3) := by decide +kernel
theorem dX8_isRight_73 : decode cX8_isRight 73 = .ok (.if_icmp .ne 7, 3) := by decide +kernel
theorem dX8_isRight_76 : decode cX8_isRight 76 = .ok (.iconst 1, 1) := by decide +kernel
theorem dX8_isRight_77 : decode cX8_isRight 77 = .ok (.goto 4, 3) := by decide +kernel
theorem dX8_isRight_80 : decode cX8_isRight 80 = .ok (.iconst 0, 1) := by decide +kernel
theorem dX8_isRight_81 : decode cX8_isRight 81 = .ok (.ireturn, 1) := by decide +kernel
abbrev cX8_copies : ByteArray := prog_3_method_2_code
def yX8_copies : MethodName := ⟨RX8, "copies", "(LFarTypewriter$Guess;)V"⟩
theorem dX8_copies_0 : decode cX8_copies 0 = .ok (.aload_n 0, 1) := by decide +kernel
theorem dX8_copies_1 : decode cX8_copies 1 = .ok (.aload_n 1, 1) := by decide +kernel
theorem dX8_copies_2 : decode cX8_copies 2 = .ok (.getfield 9, 3) := by decide +kernel
theorem dX8_copies_5 : decode cX8_copies 5 = .ok (.putfield 9, 3) := by decide +kernel
theorem dX8_copies_8 : decode cX8_copies 8 = .ok (.aload_n 0, 1) := by decide +kernel
theorem dX8_copies_9 : decode cX8_copies 9 = .ok (.aload_n 1, 1) := by decide +kernel
theorem dX8_copies_10 : decode cX8_copies 10 = .ok (.getfield 15, 3) := by decide +kernel
theorem dX8_copies_13 : decode cX8_copies 13 = .ok (.putfield 15, 3) := by decide +kernel
theorem dX8_copies_16 : decode cX8_copies 16 = .ok (.aload_n 0, 1) := by decide +kernel
theorem dX8_copies_17 : decode cX8_copies 17 = .ok (.aload_n 1, 1) := by decide +kernel
theorem dX8_copies_18 : decode cX8_copies 18 = .ok (.getfield 18, 3) := by decide +kernel
theorem dX8_copies_21 : decode cX8_copies 21 = .ok (.putfield 18, 3) := by decide +kernel
theorem dX8_copies_24 : decode cX8_copies 24 = .ok (.aload_n 0, 1) := by decide +kernel
theorem dX8_copies_25 : decode cX8_copies 25 = .ok (.aload_n 1, 1) := by decide +kernel
theorem dX8_copies_26 : decode cX8_copies 26 = .ok (.getfield 21, 3) := by decide +kernel
theorem dX8_copies_29 : decode cX8_copies 29 = .ok (.putfield 21, 3) := by decide +kernel
theorem dX8_copies_32 : decode cX8_copies 32 = .ok (.aload_n 0, 1) := by decide +kernel
theorem dX8_copies_33 : decode cX8_copies 33 = .ok (.aload_n 1, 1) := by decide +kernel
theorem dX8_copies_34 : decode cX8_copies 34 = .ok (.getfield 24, 3) := by decide +kernel
theorem dX8_copies_37 : decode cX8_copies 37 = .ok (.putfield 24, 3) := by decide +kernel
theorem dX8_copies_40 : decode cX8_copies 40 = .ok (.aload_n 0, 1) := by decide +kernel
theorem dX8_copies_41 : decode cX8_copies 41 = .ok (.aload_n 1, 1) := by decide +kernel
theorem dX8_copies_42 : decode cX8_copies 42 = .ok (.getfield 27, 3) := by decide +kernel
theorem dX8_copies_45 : decode cX8_copies 45 = .ok (.putfield 27, 3) := by decide +kernel
theorem dX8_copies_48 : decode cX8_copies 48 = .ok (.aload_n 0, 1) := by decide +kernel
theorem dX8_copies_49 : decode cX8_copies 49 = .ok (.aload_n 1, 1) := by decide +kernel
theorem dX8_copies_50 : decode cX8_copies 50 = .ok (.getfield 30, 3) := by decide +kernel
theorem dX8_copies_53 : decode cX8_copies 53 = .ok (.putfield 30, 3) := by decide +kernel
theorem dX8_copies_56 : decode cX8_copies 56 = .ok (.return_, 1) := by decide +kernel
theorem q62 : (Jvm.Cond.initialized "FarTypewriter$Guess") ∈ lw_all := lw_g (lw_at lw_m1 9 rfl) rfl
theorem q149 : (Jvm.Cond.fieldLinkNest "FarTypewriter$Guess" (51 : Nat) "FarTypewriter$Screen" "signs" "[[B" "FarTypewriter") ∈ lw_tbl := lw_at lw_m1 96 rfl
theorem q155 : (Jvm.Cond.fieldLinkNest "FarTypewriter$Guess" (43 : Nat) "FarTypewriter$Screen" "row" "I" "FarTypewriter") ∈ lw_tbl := lw_at lw_m1 102 rfl
theorem q160 : (Jvm.Cond.fieldLinkNest "FarTypewriter$Guess" (44 : Nat) "FarTypewriter$Screen" "column" "I" "FarTypewriter") ∈ lw_tbl := lw_at lw_m1 107 rfl
theorem q173 : (Jvm.Cond.fieldLinkNest "FarTypewriter$Guess" (45 : Nat) "FarTypewriter$State" "screen" "LFarTypewriter$Screen;" "FarTypewriter") ∈ lw_tbl := lw_at lw_m1 120 rfl
theorem q177 : (Jvm.Cond.fieldLinkNest "FarTypewriter$Guess" (55 : Nat) "FarTypewriter$State" "took" "I" "FarTypewriter") ∈ lw_tbl := lw_at lw_m1 124 rfl
theorem q208 : (Jvm.Cond.instantiable "FarTypewriter$Guess" (7 : Nat)) ∈ lw_all := lw_g (lw_at lw_m1 155 rfl) rfl
theorem q210 : (Jvm.Cond.instanceMethod ({ cls := "FarTypewriter$Guess", name := "<init>", desc := "()V" } : Jvm.MethodName)) ∈ lw_all := lw_g (lw_at lw_m1 157 rfl) rfl
theorem q211 : (Jvm.Cond.code ({ cls := "FarTypewriter$Guess", name := "<init>", desc := "()V" } : Jvm.MethodName) prog_3_method_1_code (1 : Nat) (Option.none : Option Jvm.ClassFile.FieldType)) ∈ lw_all := lw_g (lw_at lw_m1 158 rfl) rfl
theorem q212 : (Jvm.Cond.methodLink "FarTypewriter$Guess" (3 : Nat) ({ cls := "java/lang/Object", name := "<init>", desc := "()V" } : Jvm.MethodName)) ∈ lw_all := lw_g (lw_at lw_m1 159 rfl) rfl
theorem q213 : (Jvm.Cond.fieldLink "FarTypewriter$Guess" (9 : Nat) "FarTypewriter$Guess" "key" "I") ∈ lw_all := lw_g (lw_at lw_m1 160 rfl) rfl
theorem q215 : (Jvm.Cond.fieldLink "FarTypewriter$Guess" (15 : Nat) "FarTypewriter$Guess" "age" "I") ∈ lw_all := lw_g (lw_at lw_m1 162 rfl) rfl
theorem q217 : (Jvm.Cond.fieldLink "FarTypewriter$Guess" (18 : Nat) "FarTypewriter$Guess" "row" "I") ∈ lw_all := lw_g (lw_at lw_m1 164 rfl) rfl
theorem q219 : (Jvm.Cond.fieldLink "FarTypewriter$Guess" (21 : Nat) "FarTypewriter$Guess" "column" "I") ∈ lw_all := lw_g (lw_at lw_m1 166 rfl) rfl
theorem q221 : (Jvm.Cond.fieldLink "FarTypewriter$Guess" (24 : Nat) "FarTypewriter$Guess" "sign" "I") ∈ lw_all := lw_g (lw_at lw_m1 168 rfl) rfl
theorem q223 : (Jvm.Cond.fieldLink "FarTypewriter$Guess" (27 : Nat) "FarTypewriter$Guess" "cursorRow" "I") ∈ lw_all := lw_g (lw_at lw_m1 170 rfl) rfl
theorem q225 : (Jvm.Cond.fieldLink "FarTypewriter$Guess" (30 : Nat) "FarTypewriter$Guess" "cursorColumn" "I") ∈ lw_all := lw_g (lw_at lw_m1 172 rfl) rfl
theorem q227 : (Jvm.Cond.lays "FarTypewriter$Guess" "FarTypewriter$Guess" "key" "I") ∈ lw_all := lw_g (lw_at lw_m1 174 rfl) rfl
theorem q228 : (Jvm.Cond.soleField "FarTypewriter$Guess" "key") ∈ lw_all := lw_g (lw_at lw_m1 175 rfl) rfl
theorem q229 : (Jvm.Cond.lays "FarTypewriter$Guess" "FarTypewriter$Guess" "age" "I") ∈ lw_all := lw_g (lw_at lw_m1 176 rfl) rfl
theorem q230 : (Jvm.Cond.soleField "FarTypewriter$Guess" "age") ∈ lw_all := lw_g (lw_at lw_m1 177 rfl) rfl
theorem q231 : (Jvm.Cond.lays "FarTypewriter$Guess" "FarTypewriter$Guess" "row" "I") ∈ lw_all := lw_g (lw_at lw_m1 178 rfl) rfl
theorem q232 : (Jvm.Cond.soleField "FarTypewriter$Guess" "row") ∈ lw_all := lw_g (lw_at lw_m1 179 rfl) rfl
theorem q233 : (Jvm.Cond.lays "FarTypewriter$Guess" "FarTypewriter$Guess" "column" "I") ∈ lw_all := lw_g (lw_at lw_m1 180 rfl) rfl
theorem q234 : (Jvm.Cond.soleField "FarTypewriter$Guess" "column") ∈ lw_all := lw_g (lw_at lw_m1 181 rfl) rfl
theorem q235 : (Jvm.Cond.lays "FarTypewriter$Guess" "FarTypewriter$Guess" "sign" "I") ∈ lw_all := lw_g (lw_at lw_m1 182 rfl) rfl
theorem q236 : (Jvm.Cond.soleField "FarTypewriter$Guess" "sign") ∈ lw_all := lw_g (lw_at lw_m1 183 rfl) rfl
theorem q237 : (Jvm.Cond.lays "FarTypewriter$Guess" "FarTypewriter$Guess" "cursorRow" "I") ∈ lw_all := lw_g (lw_at lw_m1 184 rfl) rfl
theorem q238 : (Jvm.Cond.soleField "FarTypewriter$Guess" "cursorRow") ∈ lw_all := lw_g (lw_at lw_m1 185 rfl) rfl
theorem q239 : (Jvm.Cond.lays "FarTypewriter$Guess" "FarTypewriter$Guess" "cursorColumn" "I") ∈ lw_all := lw_g (lw_at lw_m1 186 rfl) rfl
theorem q240 : (Jvm.Cond.soleField "FarTypewriter$Guess" "cursorColumn") ∈ lw_all := lw_g (lw_at lw_m1 187 rfl) rfl
theorem q241 : (Jvm.Cond.superclass "FarTypewriter$Guess" "java/lang/Object") ∈ lw_all := lw_g (lw_at lw_m1 188 rfl) rfl
theorem q538 : (Jvm.Cond.instanceMethod ({ cls := "FarTypewriter$Guess", name := "lays", desc := "(LFarTypewriter$Screen;)V" } : Jvm.MethodName)) ∈ lw_all := lw_g (lw_at lw_m3 5 rfl) rfl
theorem q539 : (Jvm.Cond.selects "FarTypewriter$Guess" ({ cls := "FarTypewriter$Guess", name := "lays", desc := "(LFarTypewriter$Screen;)V" } : Jvm.MethodName) ({ cls := "FarTypewriter$Guess", name := "lays", desc := "(LFarTypewriter$Screen;)V" } : Jvm.MethodName)) ∈ lw_all := lw_g (lw_at lw_m3 6 rfl) rfl
theorem q540 : (Jvm.Cond.code ({ cls := "FarTypewriter$Guess", name := "lays", desc := "(LFarTypewriter$Screen;)V" } : Jvm.MethodName) prog_3_method_4_code (2 : Nat) (Option.none : Option Jvm.ClassFile.FieldType)) ∈ lw_all := lw_g (lw_at lw_m3 7 rfl) rfl
theorem q541 : (Jvm.Cond.methodLink "FarTypewriter$Guess" (33 : Nat) ({ cls := "FarTypewriter$Guess", name := "hasCell", desc := "()Z" } : Jvm.MethodName)) ∈ lw_all := lw_g (lw_at lw_m3 8 rfl) rfl
theorem q542 : (Jvm.Cond.instanceMethod ({ cls := "FarTypewriter$Guess", name := "hasCell", desc := "()Z" } : Jvm.MethodName)) ∈ lw_all := lw_g (lw_at lw_m3 9 rfl) rfl
theorem q543 : (Jvm.Cond.selects "FarTypewriter$Guess" ({ cls := "FarTypewriter$Guess", name := "hasCell", desc := "()Z" } : Jvm.MethodName) ({ cls := "FarTypewriter$Guess", name := "hasCell", desc := "()Z" } : Jvm.MethodName)) ∈ lw_all := lw_g (lw_at lw_m3 10 rfl) rfl
theorem q544 : (Jvm.Cond.code ({ cls := "FarTypewriter$Guess", name := "hasCell", desc := "()Z" } : Jvm.MethodName) prog_3_method_3_code (1 : Nat) (Option.some Jvm.ClassFile.FieldType.boolean)) ∈ lw_all := lw_g (lw_at lw_m3 11 rfl) rfl
theorem q545 : (Jvm.Cond.methodLink "FarTypewriter$Guess" (37 : Nat) ({ cls := "FarTypewriter$Screen", name := "put", desc := "(IIII)V" } : Jvm.MethodName)) ∈ lw_all := lw_g (lw_at lw_m3 12 rfl) rfl
theorem q703 : (Jvm.Cond.instanceMethod ({ cls := "FarTypewriter$Guess", name := "isRight", desc := "(LFarTypewriter$State;)Z" } : Jvm.MethodName)) ∈ lw_all := lw_g (lw_at lw_m3 170 rfl) rfl
theorem q704 : (Jvm.Cond.selects "FarTypewriter$Guess" ({ cls := "FarTypewriter$Guess", name := "isRight", desc := "(LFarTypewriter$State;)Z" } : Jvm.MethodName) ({ cls := "FarTypewriter$Guess", name := "isRight", desc := "(LFarTypewriter$State;)Z" } : Jvm.MethodName)) ∈ lw_all := lw_g (lw_at lw_m3 171 rfl) rfl
theorem q705 : (Jvm.Cond.code ({ cls := "FarTypewriter$Guess", name := "isRight", desc := "(LFarTypewriter$State;)Z" } : Jvm.MethodName) prog_3_method_5_code (2 : Nat) (Option.some Jvm.ClassFile.FieldType.boolean)) ∈ lw_all := lw_g (lw_at lw_m3 172 rfl) rfl
theorem q707 : (Jvm.Cond.instanceMethod ({ cls := "FarTypewriter$Guess", name := "copies", desc := "(LFarTypewriter$Guess;)V" } : Jvm.MethodName)) ∈ lw_all := lw_g (lw_at lw_m3 174 rfl) rfl
theorem q708 : (Jvm.Cond.selects "FarTypewriter$Guess" ({ cls := "FarTypewriter$Guess", name := "copies", desc := "(LFarTypewriter$Guess;)V" } : Jvm.MethodName) ({ cls := "FarTypewriter$Guess", name := "copies", desc := "(LFarTypewriter$Guess;)V" } : Jvm.MethodName)) ∈ lw_all := lw_g (lw_at lw_m3 175 rfl) rfl
theorem q709 : (Jvm.Cond.code ({ cls := "FarTypewriter$Guess", name := "copies", desc := "(LFarTypewriter$Guess;)V" } : Jvm.MethodName) prog_3_method_2_code (2 : Nat) (Option.none : Option Jvm.ClassFile.FieldType)) ∈ lw_all := lw_g (lw_at lw_m3 176 rfl) rfl
theorem in_X8 : ∀ w ∈ wsX80, w ∈ lw_all := lw_in wsX80 [227, 229, 231, 233, 235, 237, 239] (by decide +kernel) (by decide +kernel)
/-! FarTypewriter$Lines -/
set_option maxRecDepth 100000
def RX10 : String := "FarTypewriter$Lines"
abbrev cX10_init : ByteArray := prog_6_method_1_code
def yX10_init : MethodName := ⟨RX10, "<init>", "()V"⟩
theorem dX10_init_0 : decode cX10_init 0 = .ok (.aload_n 0, 1) := by decide +kernel
theorem dX10_init_1 : decode cX10_init 1 = .ok (.invokespecial 3, 3) := by decide +kernel
theorem dX10_init_4 : decode cX10_init 4 = .ok (.return_, 1) := by decide +kernel
abbrev cX10_takes : ByteArray := prog_6_method_2_code
def yX10_takes : MethodName := ⟨RX10, "takes", "(ILFarTypewriter$Screen;I)V"⟩
theorem dX10_takes_0 : decode cX10_takes 0 = .ok (.iload_n 1, 1) := by decide +kernel
theorem dX10_takes_1 : decode cX10_takes 1 = .ok (.invokestatic 9, 3) := by decide +kernel
theorem dX10_takes_4 : decode cX10_takes 4 = .ok (.ifCond .eq 12, 3) := by decide +kernel
theorem dX10_takes_7 : decode cX10_takes 7 = .ok (.aload_n 2, 1) := by decide +kernel
theorem dX10_takes_8 : decode cX10_takes 8 = .ok (.getfield 13, 3) := by decide +kernel
theorem dX10_takes_11 : decode cX10_takes 11 = .ok (.bipush 23, 2) := by decide +kernel
theorem dX10_takes_13 : decode cX10_takes 13 = .ok (.if_icmp .eq 32, 3) := by decide +kernel
theorem dX10_takes_16 : decode cX10_takes 16 = .ok (.iload_n 1, 1) := by decide +kernel
theorem dX10_takes_17 : decode cX10_takes 17 = .ok (.iconst 1, 1) := by decide +kernel
theorem dX10_takes_18 : decode cX10_takes 18 = .ok (.if_icmp .eq 27, 3) := by decide +kernel
theorem dX10_takes_21 : decode cX10_takes 21 = .ok (.iload_n 1, 1) := by decide +kernel
theorem dX10_takes_22 : decode cX10_takes 22 = .ok (.iconst 2, 1) := by decide +kernel
theorem dX10_takes_23 : decode cX10_takes 23 = .ok (.if_icmp .eq 22, 3) := by decide +kernel
theorem dX10_takes_26 : decode cX10_takes 26 = .ok (.iload_n 1, 1) := by decide +kernel
theorem dX10_takes_27 : decode cX10_takes 27 = .ok (.iconst 4, 1) := by decide +kernel
theorem dX10_takes_28 : decode cX10_takes 28 = .ok (.if_icmp .eq 9, 3) := by decide +kernel
theorem dX10_takes_31 : decode cX10_takes 31 = .ok (.iload_n 1, 1) := by decide +kernel
theorem dX10_takes_32 : decode cX10_takes 32 = .ok (.bipush 8, 2) := by decide +kernel
theorem dX10_takes_34 : decode cX10_takes 34 = .ok (.if_icmp .ne 15, 3) := by decide +kernel
theorem dX10_takes_37 : decode cX10_takes 37 = .ok (.aload_n 2, 1) := by decide +kernel
theorem dX10_takes_38 : decode cX10_takes 38 = .ok (.getfield 13, 3) := by decide +kernel
theorem dX10_takes_41 : decode cX10_takes 41 = .ok (.iconst 1, 1) := by decide +kernel
theorem dX10_takes_42 : decode cX10_takes 42 = .ok (.if_icmp .gt 7, 3) := by decide +kernel
theorem dX10_takes_45 : decode cX10_takes 45 = .ok (.iconst 1, 1) := by decide +kernel
theorem dX10_takes_46 : decode cX10_takes 46 = .ok (.goto 4, 3) := by decide +kernel
theorem dX10_takes_49 : decode cX10_takes 49 = .ok (.iconst 0, 1) := by decide +kernel
theorem dX10_takes_50 : decode cX10_takes 50 = .ok (.istore 4, 2) := by decide +kernel
theorem dX10_takes_52 : decode cX10_takes 52 = .ok (.iload 4, 2) := by decide +kernel
theorem dX10_takes_54 : decode cX10_takes 54 = .ok (.ifCond .eq 4, 3) := by decide +kernel
theorem dX10_takes_57 : decode cX10_takes 57 = .ok (.return_, 1) := by decide +kernel
theorem dX10_takes_58 : decode cX10_takes 58 = .ok (.aload_n 0, 1) := by decide +kernel
theorem dX10_takes_59 : decode cX10_takes 59 = .ok (.iload_n 1, 1) := by decide +kernel
theorem dX10_takes_60 : decode cX10_takes 60 = .ok (.aload_n 2, 1) := by decide +kernel
theorem dX10_takes_61 : decode cX10_takes 61 = .ok (.iload_n 3, 1) := by decide +kernel
theorem dX10_takes_62 : decode cX10_takes 62 = .ok (.invokespecial 19, 3) := by decide +kernel
theorem dX10_takes_65 : decode cX10_takes 65 = .ok (.iload_n 1, 1) := by decide +kernel
theorem dX10_takes_66 : decode cX10_takes 66 = .ok (.bipush 13, 2) := by decide +kernel
theorem dX10_takes_68 : decode cX10_takes 68 = .ok (.if_icmp .ne 11, 3) := by decide +kernel
theorem dX10_takes_71 : decode cX10_takes 71 = .ok (.aload_n 0, 1) := by decide +kernel
theorem dX10_takes_72 : decode cX10_takes 72 = .ok (.bipush 62, 2) := by decide +kernel
theorem dX10_takes_74 : decode cX10_takes 74 = .ok (.aload_n 2, 1) := by decide +kernel
theorem dX10_takes_75 : decode cX10_takes 75 = .ok (.iload_n 3, 1) := by decide +kernel
theorem dX10_takes_76 : decode cX10_takes 76 = .ok (.invokespecial 19, 3) := by decide +kernel
theorem dX10_takes_79 : decode cX10_takes 79 = .ok (.return_, 1) := by decide +kernel
theorem q65 : (Jvm.Cond.initialized "FarTypewriter$Lines") ∈ lw_all := lw_g (lw_at lw_m1 12 rfl) rfl
theorem q157 : (Jvm.Cond.fieldLinkNest "FarTypewriter$Lines" (13 : Nat) "FarTypewriter$Screen" "column" "I" "FarTypewriter") ∈ lw_tbl := lw_at lw_m1 104 rfl
theorem q369 : (Jvm.Cond.instantiable "FarTypewriter$Lines" (0 : Nat)) ∈ lw_all := lw_g (lw_at lw_m2 76 rfl) rfl
theorem q371 : (Jvm.Cond.instanceMethod ({ cls := "FarTypewriter$Lines", name := "<init>", desc := "()V" } : Jvm.MethodName)) ∈ lw_all := lw_g (lw_at lw_m2 78 rfl) rfl
theorem q372 : (Jvm.Cond.code ({ cls := "FarTypewriter$Lines", name := "<init>", desc := "()V" } : Jvm.MethodName) prog_6_method_1_code (1 : Nat) (Option.none : Option Jvm.ClassFile.FieldType)) ∈ lw_all := lw_g (lw_at lw_m2 79 rfl) rfl
theorem q373 : (Jvm.Cond.methodLinkNest "FarTypewriter$Lines" (3 : Nat) ({ cls := "FarTypewriter$Echo", name := "<init>", desc := "()V" } : Jvm.MethodName) "FarTypewriter") ∈ lw_tbl := lw_at lw_m2 80 rfl
theorem q374 : (Jvm.Cond.superclass "FarTypewriter$Lines" "FarTypewriter$Echo") ∈ lw_all := lw_g (lw_at lw_m2 81 rfl) rfl
theorem q526 : (Jvm.Cond.selects "FarTypewriter$Lines" ({ cls := "FarTypewriter$Program", name := "isPlain", desc := "()Z" } : Jvm.MethodName) ({ cls := "FarTypewriter$Program", name := "isPlain", desc := "()Z" } : Jvm.MethodName)) ∈ lw_all := lw_g (lw_at lw_m2 233 rfl) rfl
theorem q659 : (Jvm.Cond.selects "FarTypewriter$Lines" ({ cls := "FarTypewriter$Program", name := "takes", desc := "(ILFarTypewriter$Screen;I)V" } : Jvm.MethodName) ({ cls := "FarTypewriter$Lines", name := "takes", desc := "(ILFarTypewriter$Screen;I)V" } : Jvm.MethodName)) ∈ lw_all := lw_g (lw_at lw_m3 126 rfl) rfl
theorem q660 : (Jvm.Cond.instanceMethod ({ cls := "FarTypewriter$Lines", name := "takes", desc := "(ILFarTypewriter$Screen;I)V" } : Jvm.MethodName)) ∈ lw_all := lw_g (lw_at lw_m3 127 rfl) rfl
theorem q661 : (Jvm.Cond.code ({ cls := "FarTypewriter$Lines", name := "takes", desc := "(ILFarTypewriter$Screen;I)V" } : Jvm.MethodName) prog_6_method_2_code (5 : Nat) (Option.none : Option Jvm.ClassFile.FieldType)) ∈ lw_all := lw_g (lw_at lw_m3 128 rfl) rfl
theorem q662 : (Jvm.Cond.methodLinkNest "FarTypewriter$Lines" (9 : Nat) ({ cls := "FarTypewriter", name := "isLetter", desc := "(I)Z" } : Jvm.MethodName) "FarTypewriter") ∈ lw_tbl := lw_at lw_m3 129 rfl
theorem q663 : (Jvm.Cond.methodLink "FarTypewriter$Lines" (19 : Nat) ({ cls := "FarTypewriter$Echo", name := "takes", desc := "(ILFarTypewriter$Screen;I)V" } : Jvm.MethodName)) ∈ lw_all := lw_g (lw_at lw_m3 130 rfl) rfl
theorem q742 : (Jvm.Cond.selects "FarTypewriter$Lines" ({ cls := "FarTypewriter$Program", name := "counted", desc := "()I" } : Jvm.MethodName) ({ cls := "FarTypewriter$Program", name := "counted", desc := "()I" } : Jvm.MethodName)) ∈ lw_all := lw_g (lw_at lw_m3 209 rfl) rfl
/-! FarTypewriter$Pass -/
set_option maxRecDepth 100000
def RX11 : String := "FarTypewriter$Pass"
def TX11 : u_T := fun k => match k with
  | _ => ("FarTypewriter$Pass", "n", "I", false)
def tyX11 : Nat → FieldType := fun k => match k with
  | _ => .int
abbrev wsX110 : List Cond := u_ws RX11 TX11 1
theorem nmX11 : ∀ a, a < 1 → ∀ b, b < 1 → a ≠ b → (TX11 a).2.1 ≠ (TX11 b).2.1 := by decide +kernel
theorem tyX11_ok : ∀ k, k < 1 → parseFieldDescriptor (TX11 k).2.2.1 = some (tyX11 k) := by decide +kernel
abbrev cX11_init : ByteArray := prog_8_method_1_code
def yX11_init : MethodName := ⟨RX11, "<init>", "()V"⟩
theorem dX11_init_0 : decode cX11_init 0 = .ok (.aload_n 0, 1) := by decide +kernel
theorem dX11_init_1 : decode cX11_init 1 = .ok (.invokespecial 3, 3) := by decide +kernel
theorem dX11_init_4 : decode cX11_init 4 = .ok (.return_, 1) := by decide +kernel
abbrev cX11_isPlain : ByteArray := prog_8_method_3_code
def yX11_isPlain : MethodName := ⟨RX11, "isPlain", "()Z"⟩
theorem dX11_isPlain_0 : decode cX11_isPlain 0 = .ok (.iconst 0, 1) := by decide +kernel
theorem dX11_isPlain_1 : decode cX11_isPlain 1 = .ok (.ireturn, 1) := by decide +kernel
abbrev cX11_takes : ByteArray := prog_8_method_4_code
def yX11_takes : MethodName := ⟨RX11, "takes", "(ILFarTypewriter$Screen;I)V"⟩
theorem dX11_takes_0 : decode cX11_takes 0 = .ok (.iload_n 1, 1) := by decide +kernel
theorem dX11_takes_1 : decode cX11_takes 1 = .ok (.invokestatic 15, 3) := by decide +kernel
theorem dX11_takes_4 : decode cX11_takes 4 = .ok (.ifCond .eq 21, 3) := by decide +kernel
theorem dX11_takes_7 : decode cX11_takes 7 = .ok (.aload_n 0, 1) := by decide +kernel
theorem dX11_takes_8 : decode cX11_takes 8 = .ok (.bipush 20, 2) := by decide +kernel
theorem dX11_takes_10 : decode cX11_takes 10 = .ok (.aload_n 0, 1) := by decide +kernel
theorem dX11_takes_11 : decode cX11_takes 11 = .ok (.getfield 9, 3) := by decide +kernel
theorem dX11_takes_14 : decode cX11_takes 14 = .ok (.iconst 1, 1) := by decide +kernel
theorem dX11_takes_15 : decode cX11_takes 15 = .ok (.iadd, 1) := by decide +kernel
theorem dX11_takes_16 : decode cX11_takes 16 = .ok (.invokestatic 19, 3) := by decide +kernel
theorem dX11_takes_19 : decode cX11_takes 19 = .ok (.putfield 9, 3) := by decide +kernel
theorem dX11_takes_22 : decode cX11_takes 22 = .ok (.goto 63, 3) := by decide +kernel
theorem dX11_takes_25 : decode cX11_takes 25 = .ok (.iload_n 1, 1) := by decide +kernel
theorem dX11_takes_26 : decode cX11_takes 26 = .ok (.bipush 8, 2) := by decide +kernel
theorem dX11_takes_28 : decode cX11_takes 28 = .ok (.if_icmp .ne 20, 3) := by decide +kernel
theorem dX11_takes_31 : decode cX11_takes 31 = .ok (.aload_n 0, 1) := by decide +kernel
theorem dX11_takes_32 : decode cX11_takes 32 = .ok (.iconst 0, 1) := by decide +kernel
theorem dX11_takes_33 : decode cX11_takes 33 = .ok (.aload_n 0, 1) := by decide +kernel
theorem dX11_takes_34 : decode cX11_takes 34 = .ok (.getfield 9, 3) := by decide +kernel
theorem dX11_takes_37 : decode cX11_takes 37 = .ok (.iconst 1, 1) := by decide +kernel
theorem dX11_takes_38 : decode cX11_takes 38 = .ok (.isub, 1) := by decide +kernel
theorem dX11_takes_39 : decode cX11_takes 39 = .ok (.invokestatic 25, 3) := by decide +kernel
theorem dX11_takes_42 : decode cX11_takes 42 = .ok (.putfield 9, 3) := by decide +kernel
theorem dX11_takes_45 : decode cX11_takes 45 = .ok (.goto 40, 3) := by decide +kernel
theorem dX11_takes_48 : decode cX11_takes 48 = .ok (.iload_n 1, 1) := by decide +kernel
theorem dX11_takes_49 : decode cX11_takes 49 = .ok (.bipush 13, 2) := by decide +kernel
theorem dX11_takes_51 : decode cX11_takes 51 = .ok (.if_icmp .ne 34, 3) := by decide +kernel
theorem dX11_takes_54 : decode cX11_takes 54 = .ok (.aload_n 0, 1) := by decide +kernel
theorem dX11_takes_55 : decode cX11_takes 55 = .ok (.getfield 9, 3) := by decide +kernel
theorem dX11_takes_58 : decode cX11_takes 58 = .ok (.ifCond .le 23, 3) := by decide +kernel
theorem dX11_takes_61 : decode cX11_takes 61 = .ok (.aload_n 2, 1) := by decide +kernel
theorem dX11_takes_62 : decode cX11_takes 62 = .ok (.bipush 42, 2) := by decide +kernel
theorem dX11_takes_64 : decode cX11_takes 64 = .ok (.iload_n 3, 1) := by decide +kernel
theorem dX11_takes_65 : decode cX11_takes 65 = .ok (.invokevirtual 28, 3) := by decide +kernel
theorem dX11_takes_68 : decode cX11_takes 68 = .ok (.aload_n 0, 1) := by decide +kernel
theorem dX11_takes_69 : decode cX11_takes 69 = .ok (.dup, 1) := by decide +kernel
theorem dX11_takes_70 : decode cX11_takes 70 = .ok (.getfield 9, 3) := by decide +kernel
theorem dX11_takes_73 : decode cX11_takes 73 = .ok (.iconst 1, 1) := by decide +kernel
theorem dX11_takes_74 : decode cX11_takes 74 = .ok (.isub, 1) := by decide +kernel
theorem dX11_takes_75 : decode cX11_takes 75 = .ok (.putfield 9, 3) := by decide +kernel
theorem dX11_takes_78 : decode cX11_takes 78 = .ok (.goto (-24), 3) := by decide +kernel
theorem dX11_takes_81 : decode cX11_takes 81 = .ok (.aload_n 2, 1) := by decide +kernel
theorem dX11_takes_82 : decode cX11_takes 82 = .ok (.invokevirtual 34, 3) := by decide +kernel
theorem dX11_takes_85 : decode cX11_takes 85 = .ok (.return_, 1) := by decide +kernel
abbrev cX11_counted : ByteArray := prog_8_method_2_code
def yX11_counted : MethodName := ⟨RX11, "counted", "()I"⟩
theorem dX11_counted_0 : decode cX11_counted 0 = .ok (.aload_n 0, 1) := by decide +kernel
theorem dX11_counted_1 : decode cX11_counted 1 = .ok (.getfield 9, 3) := by decide +kernel
theorem dX11_counted_4 : decode cX11_counted 4 = .ok (.ireturn, 1) := by decide +kernel
theorem q66 : (Jvm.Cond.initialized "FarTypewriter$Pass") ∈ lw_all := lw_g (lw_at lw_m1 13 rfl) rfl
theorem q376 : (Jvm.Cond.instantiable "FarTypewriter$Pass" (1 : Nat)) ∈ lw_all := lw_g (lw_at lw_m2 83 rfl) rfl
theorem q378 : (Jvm.Cond.instanceMethod ({ cls := "FarTypewriter$Pass", name := "<init>", desc := "()V" } : Jvm.MethodName)) ∈ lw_all := lw_g (lw_at lw_m2 85 rfl) rfl
theorem q379 : (Jvm.Cond.code ({ cls := "FarTypewriter$Pass", name := "<init>", desc := "()V" } : Jvm.MethodName) prog_8_method_1_code (1 : Nat) (Option.none : Option Jvm.ClassFile.FieldType)) ∈ lw_all := lw_g (lw_at lw_m2 86 rfl) rfl
theorem q380 : (Jvm.Cond.methodLinkNest "FarTypewriter$Pass" (3 : Nat) ({ cls := "FarTypewriter$Program", name := "<init>", desc := "()V" } : Jvm.MethodName) "FarTypewriter") ∈ lw_tbl := lw_at lw_m2 87 rfl
theorem q381 : (Jvm.Cond.fieldLink "FarTypewriter$Pass" (9 : Nat) "FarTypewriter$Pass" "n" "I") ∈ lw_all := lw_g (lw_at lw_m2 88 rfl) rfl
theorem q382 : (Jvm.Cond.lays "FarTypewriter$Pass" "FarTypewriter$Pass" "n" "I") ∈ lw_all := lw_g (lw_at lw_m2 89 rfl) rfl
theorem q383 : (Jvm.Cond.soleField "FarTypewriter$Pass" "n") ∈ lw_all := lw_g (lw_at lw_m2 90 rfl) rfl
theorem q384 : (Jvm.Cond.superclass "FarTypewriter$Pass" "FarTypewriter$Program") ∈ lw_all := lw_g (lw_at lw_m2 91 rfl) rfl
theorem q528 : (Jvm.Cond.selects "FarTypewriter$Pass" ({ cls := "FarTypewriter$Program", name := "isPlain", desc := "()Z" } : Jvm.MethodName) ({ cls := "FarTypewriter$Pass", name := "isPlain", desc := "()Z" } : Jvm.MethodName)) ∈ lw_all := lw_g (lw_at lw_m2 235 rfl) rfl
theorem q529 : (Jvm.Cond.instanceMethod ({ cls := "FarTypewriter$Pass", name := "isPlain", desc := "()Z" } : Jvm.MethodName)) ∈ lw_all := lw_g (lw_at lw_m2 236 rfl) rfl
theorem q530 : (Jvm.Cond.code ({ cls := "FarTypewriter$Pass", name := "isPlain", desc := "()Z" } : Jvm.MethodName) prog_8_method_3_code (1 : Nat) (Option.some Jvm.ClassFile.FieldType.boolean)) ∈ lw_all := lw_g (lw_at lw_m2 237 rfl) rfl
theorem q670 : (Jvm.Cond.selects "FarTypewriter$Pass" ({ cls := "FarTypewriter$Program", name := "takes", desc := "(ILFarTypewriter$Screen;I)V" } : Jvm.MethodName) ({ cls := "FarTypewriter$Pass", name := "takes", desc := "(ILFarTypewriter$Screen;I)V" } : Jvm.MethodName)) ∈ lw_all := lw_g (lw_at lw_m3 137 rfl) rfl
theorem q671 : (Jvm.Cond.instanceMethod ({ cls := "FarTypewriter$Pass", name := "takes", desc := "(ILFarTypewriter$Screen;I)V" } : Jvm.MethodName)) ∈ lw_all := lw_g (lw_at lw_m3 138 rfl) rfl
theorem q672 : (Jvm.Cond.code ({ cls := "FarTypewriter$Pass", name := "takes", desc := "(ILFarTypewriter$Screen;I)V" } : Jvm.MethodName) prog_8_method_4_code (4 : Nat) (Option.none : Option Jvm.ClassFile.FieldType)) ∈ lw_all := lw_g (lw_at lw_m3 139 rfl) rfl
theorem q673 : (Jvm.Cond.methodLinkNest "FarTypewriter$Pass" (15 : Nat) ({ cls := "FarTypewriter", name := "isLetter", desc := "(I)Z" } : Jvm.MethodName) "FarTypewriter") ∈ lw_tbl := lw_at lw_m3 140 rfl
theorem q674 : (Jvm.Cond.methodLink "FarTypewriter$Pass" (19 : Nat) ({ cls := "java/lang/Math", name := "min", desc := "(II)I" } : Jvm.MethodName)) ∈ lw_all := lw_g (lw_at lw_m3 141 rfl) rfl
theorem q675 : (Jvm.Cond.methodLink "FarTypewriter$Pass" (25 : Nat) ({ cls := "java/lang/Math", name := "max", desc := "(II)I" } : Jvm.MethodName)) ∈ lw_all := lw_g (lw_at lw_m3 142 rfl) rfl
theorem q678 : (Jvm.Cond.methodLink "FarTypewriter$Pass" (28 : Nat) ({ cls := "FarTypewriter$Screen", name := "letter", desc := "(II)V" } : Jvm.MethodName)) ∈ lw_all := lw_g (lw_at lw_m3 145 rfl) rfl
theorem q679 : (Jvm.Cond.methodLink "FarTypewriter$Pass" (34 : Nat) ({ cls := "FarTypewriter$Screen", name := "newLine", desc := "()V" } : Jvm.MethodName)) ∈ lw_all := lw_g (lw_at lw_m3 146 rfl) rfl
theorem q744 : (Jvm.Cond.selects "FarTypewriter$Pass" ({ cls := "FarTypewriter$Program", name := "counted", desc := "()I" } : Jvm.MethodName) ({ cls := "FarTypewriter$Pass", name := "counted", desc := "()I" } : Jvm.MethodName)) ∈ lw_all := lw_g (lw_at lw_m3 211 rfl) rfl
theorem q745 : (Jvm.Cond.instanceMethod ({ cls := "FarTypewriter$Pass", name := "counted", desc := "()I" } : Jvm.MethodName)) ∈ lw_all := lw_g (lw_at lw_m3 212 rfl) rfl
theorem q746 : (Jvm.Cond.code ({ cls := "FarTypewriter$Pass", name := "counted", desc := "()I" } : Jvm.MethodName) prog_8_method_2_code (1 : Nat) (Option.some Jvm.ClassFile.FieldType.int)) ∈ lw_all := lw_g (lw_at lw_m3 213 rfl) rfl
theorem in_X11 : ∀ w ∈ wsX110, w ∈ lw_all := lw_in wsX110 [382] (by decide +kernel) (by decide +kernel)
/-! FarTypewriter$Pager -/
set_option maxRecDepth 100000
def RX12 : String := "FarTypewriter$Pager"
abbrev cX12_init : ByteArray := prog_7_method_1_code
def yX12_init : MethodName := ⟨RX12, "<init>", "()V"⟩
theorem dX12_init_0 : decode cX12_init 0 = .ok (.aload_n 0, 1) := by decide +kernel
theorem dX12_init_1 : decode cX12_init 1 = .ok (.invokespecial 3, 3) := by decide +kernel
theorem dX12_init_4 : decode cX12_init 4 = .ok (.return_, 1) := by decide +kernel
abbrev cX12_takes : ByteArray := prog_7_method_2_code
def yX12_takes : MethodName := ⟨RX12, "takes", "(ILFarTypewriter$Screen;I)V"⟩
theorem dX12_takes_0 : decode cX12_takes 0 = .ok (.iload_n 1, 1) := by decide +kernel
theorem dX12_takes_1 : decode cX12_takes 1 = .ok (.invokestatic 9, 3) := by decide +kernel
theorem dX12_takes_4 : decode cX12_takes 4 = .ok (.ifCond .ne 4, 3) := by decide +kernel
theorem dX12_takes_7 : decode cX12_takes 7 = .ok (.return_, 1) := by decide +kernel
theorem dX12_takes_8 : decode cX12_takes 8 = .ok (.aload_n 2, 1) := by decide +kernel
theorem dX12_takes_9 : decode cX12_takes 9 = .ok (.iconst 1, 1) := by decide +kernel
theorem dX12_takes_10 : decode cX12_takes 10 = .ok (.invokevirtual 13, 3) := by decide +kernel
theorem dX12_takes_13 : decode cX12_takes 13 = .ok (.iconst 0, 1) := by decide +kernel
theorem dX12_takes_14 : decode cX12_takes 14 = .ok (.istore 4, 2) := by decide +kernel
theorem dX12_takes_16 : decode cX12_takes 16 = .ok (.iload 4, 2) := by decide +kernel
theorem dX12_takes_18 : decode cX12_takes 18 = .ok (.bipush 24, 2) := by decide +kernel
theorem dX12_takes_20 : decode cX12_takes 20 = .ok (.if_icmp .ge 19, 3) := by decide +kernel
theorem dX12_takes_23 : decode cX12_takes 23 = .ok (.aload_n 2, 1) := by decide +kernel
theorem dX12_takes_24 : decode cX12_takes 24 = .ok (.bipush 7, 2) := by decide +kernel
theorem dX12_takes_26 : decode cX12_takes 26 = .ok (.iload 4, 2) := by decide +kernel
theorem dX12_takes_28 : decode cX12_takes 28 = .ok (.iload_n 1, 1) := by decide +kernel
theorem dX12_takes_29 : decode cX12_takes 29 = .ok (.iload_n 3, 1) := by decide +kernel
theorem dX12_takes_30 : decode cX12_takes 30 = .ok (.invokevirtual 19, 3) := by decide +kernel
theorem dX12_takes_33 : decode cX12_takes 33 = .ok (.iinc 4 1, 3) := by decide +kernel
theorem dX12_takes_36 : decode cX12_takes 36 = .ok (.goto (-20), 3) := by decide +kernel
theorem dX12_takes_39 : decode cX12_takes 39 = .ok (.aload_n 2, 1) := by decide +kernel
theorem dX12_takes_40 : decode cX12_takes 40 = .ok (.bipush 7, 2) := by decide +kernel
theorem dX12_takes_42 : decode cX12_takes 42 = .ok (.putfield 23, 3) := by decide +kernel
theorem dX12_takes_45 : decode cX12_takes 45 = .ok (.aload_n 2, 1) := by decide +kernel
theorem dX12_takes_46 : decode cX12_takes 46 = .ok (.iconst 0, 1) := by decide +kernel
theorem dX12_takes_47 : decode cX12_takes 47 = .ok (.putfield 27, 3) := by decide +kernel
theorem dX12_takes_50 : decode cX12_takes 50 = .ok (.return_, 1) := by decide +kernel
theorem q67 : (Jvm.Cond.initialized "FarTypewriter$Pager") ∈ lw_all := lw_g (lw_at lw_m1 14 rfl) rfl
theorem q153 : (Jvm.Cond.fieldLinkNest "FarTypewriter$Pager" (23 : Nat) "FarTypewriter$Screen" "row" "I" "FarTypewriter") ∈ lw_tbl := lw_at lw_m1 100 rfl
theorem q158 : (Jvm.Cond.fieldLinkNest "FarTypewriter$Pager" (27 : Nat) "FarTypewriter$Screen" "column" "I" "FarTypewriter") ∈ lw_tbl := lw_at lw_m1 105 rfl
theorem q386 : (Jvm.Cond.instantiable "FarTypewriter$Pager" (0 : Nat)) ∈ lw_all := lw_g (lw_at lw_m2 93 rfl) rfl
theorem q388 : (Jvm.Cond.instanceMethod ({ cls := "FarTypewriter$Pager", name := "<init>", desc := "()V" } : Jvm.MethodName)) ∈ lw_all := lw_g (lw_at lw_m2 95 rfl) rfl
theorem q389 : (Jvm.Cond.code ({ cls := "FarTypewriter$Pager", name := "<init>", desc := "()V" } : Jvm.MethodName) prog_7_method_1_code (1 : Nat) (Option.none : Option Jvm.ClassFile.FieldType)) ∈ lw_all := lw_g (lw_at lw_m2 96 rfl) rfl
theorem q390 : (Jvm.Cond.methodLinkNest "FarTypewriter$Pager" (3 : Nat) ({ cls := "FarTypewriter$Program", name := "<init>", desc := "()V" } : Jvm.MethodName) "FarTypewriter") ∈ lw_tbl := lw_at lw_m2 97 rfl
theorem q391 : (Jvm.Cond.superclass "FarTypewriter$Pager" "FarTypewriter$Program") ∈ lw_all := lw_g (lw_at lw_m2 98 rfl) rfl
theorem q527 : (Jvm.Cond.selects "FarTypewriter$Pager" ({ cls := "FarTypewriter$Program", name := "isPlain", desc := "()Z" } : Jvm.MethodName) ({ cls := "FarTypewriter$Program", name := "isPlain", desc := "()Z" } : Jvm.MethodName)) ∈ lw_all := lw_g (lw_at lw_m2 234 rfl) rfl
theorem q664 : (Jvm.Cond.selects "FarTypewriter$Pager" ({ cls := "FarTypewriter$Program", name := "takes", desc := "(ILFarTypewriter$Screen;I)V" } : Jvm.MethodName) ({ cls := "FarTypewriter$Pager", name := "takes", desc := "(ILFarTypewriter$Screen;I)V" } : Jvm.MethodName)) ∈ lw_all := lw_g (lw_at lw_m3 131 rfl) rfl
theorem q665 : (Jvm.Cond.instanceMethod ({ cls := "FarTypewriter$Pager", name := "takes", desc := "(ILFarTypewriter$Screen;I)V" } : Jvm.MethodName)) ∈ lw_all := lw_g (lw_at lw_m3 132 rfl) rfl
theorem q666 : (Jvm.Cond.code ({ cls := "FarTypewriter$Pager", name := "takes", desc := "(ILFarTypewriter$Screen;I)V" } : Jvm.MethodName) prog_7_method_2_code (5 : Nat) (Option.none : Option Jvm.ClassFile.FieldType)) ∈ lw_all := lw_g (lw_at lw_m3 133 rfl) rfl
theorem q667 : (Jvm.Cond.methodLinkNest "FarTypewriter$Pager" (9 : Nat) ({ cls := "FarTypewriter", name := "isLetter", desc := "(I)Z" } : Jvm.MethodName) "FarTypewriter") ∈ lw_tbl := lw_at lw_m3 134 rfl
theorem q668 : (Jvm.Cond.methodLink "FarTypewriter$Pager" (13 : Nat) ({ cls := "FarTypewriter$Screen", name := "scroll", desc := "(I)V" } : Jvm.MethodName)) ∈ lw_all := lw_g (lw_at lw_m3 135 rfl) rfl
theorem q669 : (Jvm.Cond.methodLink "FarTypewriter$Pager" (19 : Nat) ({ cls := "FarTypewriter$Screen", name := "put", desc := "(IIII)V" } : Jvm.MethodName)) ∈ lw_all := lw_g (lw_at lw_m3 136 rfl) rfl
theorem q743 : (Jvm.Cond.selects "FarTypewriter$Pager" ({ cls := "FarTypewriter$Program", name := "counted", desc := "()I" } : Jvm.MethodName) ({ cls := "FarTypewriter$Program", name := "counted", desc := "()I" } : Jvm.MethodName)) ∈ lw_all := lw_g (lw_at lw_m3 210 rfl) rfl
