/-! FarTypewriterModel -/
set_option maxRecDepth 100000
def RX9 : String := "FarTypewriterModel"
def TX9 : u_T := fun k => match k with
  | 0 => ("FarTypewriterModel", "letter", "[I", true)
  | 1 => ("FarTypewriterModel", "mark", "[I", true)
  | 2 => ("FarTypewriterModel", "cursorRow", "[I", true)
  | 3 => ("FarTypewriterModel", "cursorColumn", "[I", true)
  | 4 => ("FarTypewriterModel", "number", "[I", true)
  | 5 => ("FarTypewriterModel", "tookThen", "[I", true)
  | 6 => ("FarTypewriterModel", "pen", "I", false)
  | 7 => ("FarTypewriterModel", "program", "I", false)
  | 8 => ("FarTypewriterModel", "passed", "I", false)
  | 9 => ("FarTypewriterModel", "frame", "I", false)
  | 10 => ("FarTypewriterModel", "again", "I", false)
  | 11 => ("FarTypewriterModel", "clock", "I", false)
  | 12 => ("FarTypewriterModel", "took", "I", false)
  | 13 => ("FarTypewriterModel", "sure", "I", false)
  | 14 => ("FarTypewriterModel", "farStates", "I", false)
  | 15 => ("FarTypewriterModel", "farLast", "I", false)
  | 16 => ("FarTypewriterModel", "farSent", "I", false)
  | 17 => ("FarTypewriterModel", "farOwes", "Z", false)
  | 18 => ("FarTypewriterModel", "farAddress", "I", false)
  | 19 => ("FarTypewriterModel", "mostKeys", "I", false)
  | 20 => ("FarTypewriterModel", "key", "[I", true)
  | 21 => ("FarTypewriterModel", "keys", "I", false)
  | 22 => ("FarTypewriterModel", "known", "I", false)
  | 23 => ("FarTypewriterModel", "nearStates", "I", false)
  | 24 => ("FarTypewriterModel", "nearLast", "I", false)
  | 25 => ("FarTypewriterModel", "nearSent", "I", false)
  | 26 => ("FarTypewriterModel", "nearOwes", "Z", false)
  | 27 => ("FarTypewriterModel", "address", "I", false)
  | 28 => ("FarTypewriterModel", "sureTold", "I", false)
  | 29 => ("FarTypewriterModel", "counts", "[I", true)
  | 30 => ("FarTypewriterModel", "many", "[I", true)
  | 31 => ("FarTypewriterModel", "bytes", "[I", true)
  | 32 => ("FarTypewriterModel", "sizes", "[I", true)
  | 33 => ("FarTypewriterModel", "hand", "[I", true)
  | 34 => ("FarTypewriterModel", "size", "I", false)
  | 35 => ("FarTypewriterModel", "first", "I", false)
  | 36 => ("FarTypewriterModel", "last", "I", false)
  | 37 => ("FarTypewriterModel", "guesses", "I", false)
  | 38 => ("FarTypewriterModel", "confirmed", "I", false)
  | 39 => ("FarTypewriterModel", "age", "I", false)
  | 40 => ("FarTypewriterModel", "guessKey", "[I", true)
  | 41 => ("FarTypewriterModel", "guessAge", "[I", true)
  | 42 => ("FarTypewriterModel", "guessCell", "[I", true)
  | 43 => ("FarTypewriterModel", "guessLetter", "[I", true)
  | 44 => ("FarTypewriterModel", "guessRow", "[I", true)
  | _ => ("FarTypewriterModel", "guessColumn", "[I", true)
def tyX9 : Nat → FieldType := fun k => match k with
  | 0 => .array .int
  | 1 => .array .int
  | 2 => .array .int
  | 3 => .array .int
  | 4 => .array .int
  | 5 => .array .int
  | 6 => .int
  | 7 => .int
  | 8 => .int
  | 9 => .int
  | 10 => .int
  | 11 => .int
  | 12 => .int
  | 13 => .int
  | 14 => .int
  | 15 => .int
  | 16 => .int
  | 17 => .boolean
  | 18 => .int
  | 19 => .int
  | 20 => .array .int
  | 21 => .int
  | 22 => .int
  | 23 => .int
  | 24 => .int
  | 25 => .int
  | 26 => .boolean
  | 27 => .int
  | 28 => .int
  | 29 => .array .int
  | 30 => .array .int
  | 31 => .array .int
  | 32 => .array .int
  | 33 => .array .int
  | 34 => .int
  | 35 => .int
  | 36 => .int
  | 37 => .int
  | 38 => .int
  | 39 => .int
  | 40 => .array .int
  | 41 => .array .int
  | 42 => .array .int
  | 43 => .array .int
  | 44 => .array .int
  | _ => .array .int
abbrev wsX90 : List Cond := u_ws RX9 TX9 46
set_option maxRecDepth 100000 in
theorem nmX9 : ∀ a, a < 46 → ∀ b, b < 46 → a ≠ b → (TX9 a).2.1 ≠ (TX9 b).2.1 := by decide +kernel
set_option maxRecDepth 100000 in
theorem tyX9_ok : ∀ k, k < 46 → parseFieldDescriptor (TX9 k).2.2.1 = some (tyX9 k) := by decide +kernel
abbrev cX9_init : ByteArray := prog_14_method_1_code
def yX9_init : MethodName := ⟨RX9, "<init>", "()V"⟩
theorem dX9_init_0 : decode cX9_init 0 = .ok (.aload_n 0, 1) := by decide +kernel
theorem dX9_init_1 : decode cX9_init 1 = .ok (.invokespecial 1, 3) := by decide +kernel
theorem dX9_init_4 : decode cX9_init 4 = .ok (.aload_n 0, 1) := by decide +kernel
theorem dX9_init_5 : decode cX9_init 5 = .ok (.sipush 13248, 3) := by decide +kernel
theorem dX9_init_8 : decode cX9_init 8 = .ok (.newarray .int, 2) := by decide +kernel
theorem dX9_init_10 : decode cX9_init 10 = .ok (.putfield 7, 3) := by decide +kernel
theorem dX9_init_13 : decode cX9_init 13 = .ok (.aload_n 0, 1) := by decide +kernel
theorem dX9_init_14 : decode cX9_init 14 = .ok (.sipush 13248, 3) := by decide +kernel
theorem dX9_init_17 : decode cX9_init 17 = .ok (.newarray .int, 2) := by decide +kernel
theorem dX9_init_19 : decode cX9_init 19 = .ok (.putfield 13, 3) := by decide +kernel
theorem dX9_init_22 : decode cX9_init 22 = .ok (.aload_n 0, 1) := by decide +kernel
theorem dX9_init_23 : decode cX9_init 23 = .ok (.bipush 69, 2) := by decide +kernel
theorem dX9_init_25 : decode cX9_init 25 = .ok (.newarray .int, 2) := by decide +kernel
theorem dX9_init_27 : decode cX9_init 27 = .ok (.putfield 16, 3) := by decide +kernel
theorem dX9_init_30 : decode cX9_init 30 = .ok (.aload_n 0, 1) := by decide +kernel
theorem dX9_init_31 : decode cX9_init 31 = .ok (.bipush 69, 2) := by decide +kernel
theorem dX9_init_33 : decode cX9_init 33 = .ok (.newarray .int, 2) := by decide +kernel
theorem dX9_init_35 : decode cX9_init 35 = .ok (.putfield 19, 3) := by decide +kernel
theorem dX9_init_38 : decode cX9_init 38 = .ok (.aload_n 0, 1) := by decide +kernel
theorem dX9_init_39 : decode cX9_init 39 = .ok (.bipush 69, 2) := by decide +kernel
theorem dX9_init_41 : decode cX9_init 41 = .ok (.newarray .int, 2) := by decide +kernel
theorem dX9_init_43 : decode cX9_init 43 = .ok (.putfield 22, 3) := by decide +kernel
theorem dX9_init_46 : decode cX9_init 46 = .ok (.aload_n 0, 1) := by decide +kernel
theorem dX9_init_47 : decode cX9_init 47 = .ok (.bipush 69, 2) := by decide +kernel
theorem dX9_init_49 : decode cX9_init 49 = .ok (.newarray .int, 2) := by decide +kernel
theorem dX9_init_51 : decode cX9_init 51 = .ok (.putfield 25, 3) := by decide +kernel
theorem dX9_init_54 : decode cX9_init 54 = .ok (.aload_n 0, 1) := by decide +kernel
theorem dX9_init_55 : decode cX9_init 55 = .ok (.iconst 2, 1) := by decide +kernel
theorem dX9_init_56 : decode cX9_init 56 = .ok (.putfield 28, 3) := by decide +kernel
theorem dX9_init_59 : decode cX9_init 59 = .ok (.aload_n 0, 1) := by decide +kernel
theorem dX9_init_60 : decode cX9_init 60 = .ok (.iconst 5, 1) := by decide +kernel
theorem dX9_init_61 : decode cX9_init 61 = .ok (.putfield 32, 3) := by decide +kernel
theorem dX9_init_64 : decode cX9_init 64 = .ok (.aload_n 0, 1) := by decide +kernel
theorem dX9_init_65 : decode cX9_init 65 = .ok (.sipush 1000, 3) := by decide +kernel
theorem dX9_init_68 : decode cX9_init 68 = .ok (.newarray .int, 2) := by decide +kernel
theorem dX9_init_70 : decode cX9_init 70 = .ok (.putfield 35, 3) := by decide +kernel
theorem dX9_init_73 : decode cX9_init 73 = .ok (.aload_n 0, 1) := by decide +kernel
theorem dX9_init_74 : decode cX9_init 74 = .ok (.bipush 10, 2) := by decide +kernel
theorem dX9_init_76 : decode cX9_init 76 = .ok (.newarray .int, 2) := by decide +kernel
theorem dX9_init_78 : decode cX9_init 78 = .ok (.putfield 38, 3) := by decide +kernel
theorem dX9_init_81 : decode cX9_init 81 = .ok (.aload_n 0, 1) := by decide +kernel
theorem dX9_init_82 : decode cX9_init 82 = .ok (.iconst 2, 1) := by decide +kernel
theorem dX9_init_83 : decode cX9_init 83 = .ok (.newarray .int, 2) := by decide +kernel
theorem dX9_init_85 : decode cX9_init 85 = .ok (.putfield 41, 3) := by decide +kernel
theorem dX9_init_88 : decode cX9_init 88 = .ok (.aload_n 0, 1) := by decide +kernel
theorem dX9_init_89 : decode cX9_init 89 = .ok (.ldc 44, 2) := by decide +kernel
theorem dX9_init_91 : decode cX9_init 91 = .ok (.newarray .int, 2) := by decide +kernel
theorem dX9_init_93 : decode cX9_init 93 = .ok (.putfield 45, 3) := by decide +kernel
theorem dX9_init_96 : decode cX9_init 96 = .ok (.aload_n 0, 1) := by decide +kernel
theorem dX9_init_97 : decode cX9_init 97 = .ok (.bipush 80, 2) := by decide +kernel
theorem dX9_init_99 : decode cX9_init 99 = .ok (.newarray .int, 2) := by decide +kernel
theorem dX9_init_101 : decode cX9_init 101 = .ok (.putfield 48, 3) := by decide +kernel
theorem dX9_init_104 : decode cX9_init 104 = .ok (.aload_n 0, 1) := by decide +kernel
theorem dX9_init_105 : decode cX9_init 105 = .ok (.sipush 1100, 3) := by decide +kernel
theorem dX9_init_108 : decode cX9_init 108 = .ok (.newarray .int, 2) := by decide +kernel
theorem dX9_init_110 : decode cX9_init 110 = .ok (.putfield 51, 3) := by decide +kernel
theorem dX9_init_113 : decode cX9_init 113 = .ok (.aload_n 0, 1) := by decide +kernel
theorem dX9_init_114 : decode cX9_init 114 = .ok (.bipush 60, 2) := by decide +kernel
theorem dX9_init_116 : decode cX9_init 116 = .ok (.newarray .int, 2) := by decide +kernel
theorem dX9_init_118 : decode cX9_init 118 = .ok (.putfield 54, 3) := by decide +kernel
theorem dX9_init_121 : decode cX9_init 121 = .ok (.aload_n 0, 1) := by decide +kernel
theorem dX9_init_122 : decode cX9_init 122 = .ok (.bipush 60, 2) := by decide +kernel
theorem dX9_init_124 : decode cX9_init 124 = .ok (.newarray .int, 2) := by decide +kernel
theorem dX9_init_126 : decode cX9_init 126 = .ok (.putfield 57, 3) := by decide +kernel
theorem dX9_init_129 : decode cX9_init 129 = .ok (.aload_n 0, 1) := by decide +kernel
theorem dX9_init_130 : decode cX9_init 130 = .ok (.bipush 60, 2) := by decide +kernel
theorem dX9_init_132 : decode cX9_init 132 = .ok (.newarray .int, 2) := by decide +kernel
theorem dX9_init_134 : decode cX9_init 134 = .ok (.putfield 60, 3) := by decide +kernel
theorem dX9_init_137 : decode cX9_init 137 = .ok (.aload_n 0, 1) := by decide +kernel
theorem dX9_init_138 : decode cX9_init 138 = .ok (.bipush 60, 2) := by decide +kernel
theorem dX9_init_140 : decode cX9_init 140 = .ok (.newarray .int, 2) := by decide +kernel
theorem dX9_init_142 : decode cX9_init 142 = .ok (.putfield 63, 3) := by decide +kernel
theorem dX9_init_145 : decode cX9_init 145 = .ok (.aload_n 0, 1) := by decide +kernel
theorem dX9_init_146 : decode cX9_init 146 = .ok (.bipush 60, 2) := by decide +kernel
theorem dX9_init_148 : decode cX9_init 148 = .ok (.newarray .int, 2) := by decide +kernel
theorem dX9_init_150 : decode cX9_init 150 = .ok (.putfield 66, 3) := by decide +kernel
theorem dX9_init_153 : decode cX9_init 153 = .ok (.aload_n 0, 1) := by decide +kernel
theorem dX9_init_154 : decode cX9_init 154 = .ok (.bipush 60, 2) := by decide +kernel
theorem dX9_init_156 : decode cX9_init 156 = .ok (.newarray .int, 2) := by decide +kernel
theorem dX9_init_158 : decode cX9_init 158 = .ok (.putfield 69, 3) := by decide +kernel
theorem dX9_init_161 : decode cX9_init 161 = .ok (.aload_n 0, 1) := by decide +kernel
theorem dX9_init_162 : decode cX9_init 162 = .ok (.iconst 0, 1) := by decide +kernel
theorem dX9_init_163 : decode cX9_init 163 = .ok (.iconst 2, 1) := by decide +kernel
theorem dX9_init_164 : decode cX9_init 164 = .ok (.iconst 5, 1) := by decide +kernel
theorem dX9_init_165 : decode cX9_init 165 = .ok (.invokevirtual 72, 3) := by decide +kernel
theorem dX9_init_168 : decode cX9_init 168 = .ok (.return_, 1) := by decide +kernel
abbrev cX9_begins : ByteArray := prog_14_method_14_code
def yX9_begins : MethodName := ⟨RX9, "begins", "(III)V"⟩
theorem dX9_begins_0 : decode cX9_begins 0 = .ok (.aload_n 0, 1) := by decide +kernel
theorem dX9_begins_1 : decode cX9_begins 1 = .ok (.iload_n 1, 1) := by decide +kernel
theorem dX9_begins_2 : decode cX9_begins 2 = .ok (.putfield 106, 3) := by decide +kernel
theorem dX9_begins_5 : decode cX9_begins 5 = .ok (.aload_n 0, 1) := by decide +kernel
theorem dX9_begins_6 : decode cX9_begins 6 = .ok (.iload_n 2, 1) := by decide +kernel
theorem dX9_begins_7 : decode cX9_begins 7 = .ok (.putfield 28, 3) := by decide +kernel
theorem dX9_begins_10 : decode cX9_begins 10 = .ok (.aload_n 0, 1) := by decide +kernel
theorem dX9_begins_11 : decode cX9_begins 11 = .ok (.iload_n 3, 1) := by decide +kernel
theorem dX9_begins_12 : decode cX9_begins 12 = .ok (.putfield 32, 3) := by decide +kernel
theorem dX9_begins_15 : decode cX9_begins 15 = .ok (.iconst 0, 1) := by decide +kernel
theorem dX9_begins_16 : decode cX9_begins 16 = .ok (.istore 4, 2) := by decide +kernel
theorem dX9_begins_18 : decode cX9_begins 18 = .ok (.iload 4, 2) := by decide +kernel
theorem dX9_begins_20 : decode cX9_begins 20 = .ok (.bipush 69, 2) := by decide +kernel
theorem dX9_begins_22 : decode cX9_begins 22 = .ok (.if_icmp .ge 51, 3) := by decide +kernel
theorem dX9_begins_25 : decode cX9_begins 25 = .ok (.aload_n 0, 1) := by decide +kernel
theorem dX9_begins_26 : decode cX9_begins 26 = .ok (.iload 4, 2) := by decide +kernel
theorem dX9_begins_28 : decode cX9_begins 28 = .ok (.iconst 0, 1) := by decide +kernel
theorem dX9_begins_29 : decode cX9_begins 29 = .ok (.sipush 192, 3) := by decide +kernel
theorem dX9_begins_32 : decode cX9_begins 32 = .ok (.invokevirtual 76, 3) := by decide +kernel
theorem dX9_begins_35 : decode cX9_begins 35 = .ok (.aload_n 0, 1) := by decide +kernel
theorem dX9_begins_36 : decode cX9_begins 36 = .ok (.getfield 16, 3) := by decide +kernel
theorem dX9_begins_39 : decode cX9_begins 39 = .ok (.iload 4, 2) := by decide +kernel
theorem dX9_begins_41 : decode cX9_begins 41 = .ok (.iconst 0, 1) := by decide +kernel
theorem dX9_begins_42 : decode cX9_begins 42 = .ok (.iastore, 1) := by decide +kernel
theorem dX9_begins_43 : decode cX9_begins 43 = .ok (.aload_n 0, 1) := by decide +kernel
theorem dX9_begins_44 : decode cX9_begins 44 = .ok (.getfield 19, 3) := by decide +kernel
theorem dX9_begins_47 : decode cX9_begins 47 = .ok (.iload 4, 2) := by decide +kernel
theorem dX9_begins_49 : decode cX9_begins 49 = .ok (.iconst 0, 1) := by decide +kernel
theorem dX9_begins_50 : decode cX9_begins 50 = .ok (.iastore, 1) := by decide +kernel
theorem dX9_begins_51 : decode cX9_begins 51 = .ok (.aload_n 0, 1) := by decide +kernel
theorem dX9_begins_52 : decode cX9_begins 52 = .ok (.getfield 22, 3) := by decide +kernel
theorem dX9_begins_55 : decode cX9_begins 55 = .ok (.iload 4, 2) := by decide +kernel
theorem dX9_begins_57 : decode cX9_begins 57 = .ok (.iconst 0, 1) := by decide +kernel
theorem dX9_begins_58 : decode cX9_begins 58 = .ok (.iastore, 1) := by decide +kernel
theorem dX9_begins_59 : decode cX9_begins 59 = .ok (.aload_n 0, 1) := by decide +kernel
theorem dX9_begins_60 : decode cX9_begins 60 = .ok (.getfield 25, 3) := by decide +kernel
theorem dX9_begins_63 : decode cX9_begins 63 = .ok (.iload 4, 2) := by decide +kernel
theorem dX9_begins_65 : decode cX9_begins 65 = .ok (.iconst 0, 1) := by decide +kernel
theorem dX9_begins_66 : decode cX9_begins 66 = .ok (.iastore, 1) := by decide +kernel
theorem dX9_begins_67 : decode cX9_begins 67 = .ok (.iinc 4 1, 3) := by decide +kernel
theorem dX9_begins_70 : decode cX9_begins 70 = .ok (.goto (-52), 3) := by decide +kernel
theorem dX9_begins_73 : decode cX9_begins 73 = .ok (.aload_n 0, 1) := by decide +kernel
theorem dX9_begins_74 : decode cX9_begins 74 = .ok (.iconst 0, 1) := by decide +kernel
theorem dX9_begins_75 : decode cX9_begins 75 = .ok (.putfield 83, 3) := by decide +kernel
theorem dX9_begins_78 : decode cX9_begins 78 = .ok (.aload_n 0, 1) := by decide +kernel
theorem dX9_begins_79 : decode cX9_begins 79 = .ok (.iconst 0, 1) := by decide +kernel
theorem dX9_begins_80 : decode cX9_begins 80 = .ok (.putfield 103, 3) := by decide +kernel
theorem dX9_begins_83 : decode cX9_begins 83 = .ok (.aload_n 0, 1) := by decide +kernel
theorem dX9_begins_84 : decode cX9_begins 84 = .ok (.iconst 0, 1) := by decide +kernel
theorem dX9_begins_85 : decode cX9_begins 85 = .ok (.putfield 118, 3) := by decide +kernel
theorem dX9_begins_88 : decode cX9_begins 88 = .ok (.aload_n 0, 1) := by decide +kernel
theorem dX9_begins_89 : decode cX9_begins 89 = .ok (.iconst 0, 1) := by decide +kernel
theorem dX9_begins_90 : decode cX9_begins 90 = .ok (.putfield 121, 3) := by decide +kernel
theorem dX9_begins_93 : decode cX9_begins 93 = .ok (.aload_n 0, 1) := by decide +kernel
theorem dX9_begins_94 : decode cX9_begins 94 = .ok (.iconst 0, 1) := by decide +kernel
theorem dX9_begins_95 : decode cX9_begins 95 = .ok (.putfield 124, 3) := by decide +kernel
theorem dX9_begins_98 : decode cX9_begins 98 = .ok (.aload_n 0, 1) := by decide +kernel
theorem dX9_begins_99 : decode cX9_begins 99 = .ok (.iconst 1, 1) := by decide +kernel
theorem dX9_begins_100 : decode cX9_begins 100 = .ok (.putfield 127, 3) := by decide +kernel
theorem dX9_begins_103 : decode cX9_begins 103 = .ok (.aload_n 0, 1) := by decide +kernel
theorem dX9_begins_104 : decode cX9_begins 104 = .ok (.iconst 0, 1) := by decide +kernel
theorem dX9_begins_105 : decode cX9_begins 105 = .ok (.putfield 130, 3) := by decide +kernel
theorem dX9_begins_108 : decode cX9_begins 108 = .ok (.aload_n 0, 1) := by decide +kernel
theorem dX9_begins_109 : decode cX9_begins 109 = .ok (.iconst 0, 1) := by decide +kernel
theorem dX9_begins_110 : decode cX9_begins 110 = .ok (.putfield 133, 3) := by decide +kernel
theorem dX9_begins_113 : decode cX9_begins 113 = .ok (.aload_n 0, 1) := by decide +kernel
theorem dX9_begins_114 : decode cX9_begins 114 = .ok (.iconst 0, 1) := by decide +kernel
theorem dX9_begins_115 : decode cX9_begins 115 = .ok (.putfield 136, 3) := by decide +kernel
theorem dX9_begins_118 : decode cX9_begins 118 = .ok (.aload_n 0, 1) := by decide +kernel
theorem dX9_begins_119 : decode cX9_begins 119 = .ok (.iconst 1, 1) := by decide +kernel
theorem dX9_begins_120 : decode cX9_begins 120 = .ok (.putfield 140, 3) := by decide +kernel
theorem dX9_begins_123 : decode cX9_begins 123 = .ok (.aload_n 0, 1) := by decide +kernel
theorem dX9_begins_124 : decode cX9_begins 124 = .ok (.iconst 0, 1) := by decide +kernel
theorem dX9_begins_125 : decode cX9_begins 125 = .ok (.putfield 143, 3) := by decide +kernel
theorem dX9_begins_128 : decode cX9_begins 128 = .ok (.aload_n 0, 1) := by decide +kernel
theorem dX9_begins_129 : decode cX9_begins 129 = .ok (.iconst 0, 1) := by decide +kernel
theorem dX9_begins_130 : decode cX9_begins 130 = .ok (.putfield 146, 3) := by decide +kernel
theorem dX9_begins_133 : decode cX9_begins 133 = .ok (.aload_n 0, 1) := by decide +kernel
theorem dX9_begins_134 : decode cX9_begins 134 = .ok (.iconst 0, 1) := by decide +kernel
theorem dX9_begins_135 : decode cX9_begins 135 = .ok (.putfield 149, 3) := by decide +kernel
theorem dX9_begins_138 : decode cX9_begins 138 = .ok (.aload_n 0, 1) := by decide +kernel
theorem dX9_begins_139 : decode cX9_begins 139 = .ok (.iconst 1, 1) := by decide +kernel
theorem dX9_begins_140 : decode cX9_begins 140 = .ok (.putfield 152, 3) := by decide +kernel
theorem dX9_begins_143 : decode cX9_begins 143 = .ok (.aload_n 0, 1) := by decide +kernel
theorem dX9_begins_144 : decode cX9_begins 144 = .ok (.iconst 0, 1) := by decide +kernel
theorem dX9_begins_145 : decode cX9_begins 145 = .ok (.putfield 155, 3) := by decide +kernel
theorem dX9_begins_148 : decode cX9_begins 148 = .ok (.aload_n 0, 1) := by decide +kernel
theorem dX9_begins_149 : decode cX9_begins 149 = .ok (.iconst 0, 1) := by decide +kernel
theorem dX9_begins_150 : decode cX9_begins 150 = .ok (.putfield 158, 3) := by decide +kernel
theorem dX9_begins_153 : decode cX9_begins 153 = .ok (.aload_n 0, 1) := by decide +kernel
theorem dX9_begins_154 : decode cX9_begins 154 = .ok (.iconst 0, 1) := by decide +kernel
theorem dX9_begins_155 : decode cX9_begins 155 = .ok (.putfield 161, 3) := by decide +kernel
theorem dX9_begins_158 : decode cX9_begins 158 = .ok (.aload_n 0, 1) := by decide +kernel
theorem dX9_begins_159 : decode cX9_begins 159 = .ok (.iconst 1, 1) := by decide +kernel
theorem dX9_begins_160 : decode cX9_begins 160 = .ok (.putfield 164, 3) := by decide +kernel
theorem dX9_begins_163 : decode cX9_begins 163 = .ok (.aload_n 0, 1) := by decide +kernel
theorem dX9_begins_164 : decode cX9_begins 164 = .ok (.iconst 0, 1) := by decide +kernel
theorem dX9_begins_165 : decode cX9_begins 165 = .ok (.putfield 167, 3) := by decide +kernel
theorem dX9_begins_168 : decode cX9_begins 168 = .ok (.iconst 0, 1) := by decide +kernel
theorem dX9_begins_169 : decode cX9_begins 169 = .ok (.istore 4, 2) := by decide +kernel
theorem dX9_begins_171 : decode cX9_begins 171 = .ok (.iload 4, 2) := by decide +kernel
theorem dX9_begins_173 : decode cX9_begins 173 = .ok (.bipush 10, 2) := by decide +kernel
theorem dX9_begins_175 : decode cX9_begins 175 = .ok (.if_icmp .ge 17, 3) := by decide +kernel
theorem dX9_begins_178 : decode cX9_begins 178 = .ok (.aload_n 0, 1) := by decide +kernel
theorem dX9_begins_179 : decode cX9_begins 179 = .ok (.getfield 38, 3) := by decide +kernel
theorem dX9_begins_182 : decode cX9_begins 182 = .ok (.iload 4, 2) := by decide +kernel
theorem dX9_begins_184 : decode cX9_begins 184 = .ok (.iconst 0, 1) := by decide +kernel
theorem dX9_begins_185 : decode cX9_begins 185 = .ok (.iastore, 1) := by decide +kernel
theorem dX9_begins_186 : decode cX9_begins 186 = .ok (.iinc 4 1, 3) := by decide +kernel
theorem dX9_begins_189 : decode cX9_begins 189 = .ok (.goto (-18), 3) := by decide +kernel
theorem dX9_begins_192 : decode cX9_begins 192 = .ok (.aload_n 0, 1) := by decide +kernel
theorem dX9_begins_193 : decode cX9_begins 193 = .ok (.getfield 41, 3) := by decide +kernel
theorem dX9_begins_196 : decode cX9_begins 196 = .ok (.iconst 0, 1) := by decide +kernel
theorem dX9_begins_197 : decode cX9_begins 197 = .ok (.iconst 0, 1) := by decide +kernel
theorem dX9_begins_198 : decode cX9_begins 198 = .ok (.iastore, 1) := by decide +kernel
theorem dX9_begins_199 : decode cX9_begins 199 = .ok (.aload_n 0, 1) := by decide +kernel
theorem dX9_begins_200 : decode cX9_begins 200 = .ok (.getfield 41, 3) := by decide +kernel
theorem dX9_begins_203 : decode cX9_begins 203 = .ok (.iconst 1, 1) := by decide +kernel
theorem dX9_begins_204 : decode cX9_begins 204 = .ok (.iconst 0, 1) := by decide +kernel
theorem dX9_begins_205 : decode cX9_begins 205 = .ok (.iastore, 1) := by decide +kernel
theorem dX9_begins_206 : decode cX9_begins 206 = .ok (.aload_n 0, 1) := by decide +kernel
theorem dX9_begins_207 : decode cX9_begins 207 = .ok (.iconst 0, 1) := by decide +kernel
theorem dX9_begins_208 : decode cX9_begins 208 = .ok (.putfield 170, 3) := by decide +kernel
theorem dX9_begins_211 : decode cX9_begins 211 = .ok (.aload_n 0, 1) := by decide +kernel
theorem dX9_begins_212 : decode cX9_begins 212 = .ok (.iconst 0, 1) := by decide +kernel
theorem dX9_begins_213 : decode cX9_begins 213 = .ok (.putfield 173, 3) := by decide +kernel
theorem dX9_begins_216 : decode cX9_begins 216 = .ok (.aload_n 0, 1) := by decide +kernel
theorem dX9_begins_217 : decode cX9_begins 217 = .ok (.iconst 1, 1) := by decide +kernel
theorem dX9_begins_218 : decode cX9_begins 218 = .ok (.putfield 176, 3) := by decide +kernel
theorem dX9_begins_221 : decode cX9_begins 221 = .ok (.return_, 1) := by decide +kernel
abbrev cX9_blank : ByteArray := prog_14_method_2_code
def yX9_blank : MethodName := ⟨RX9, "blank", "(III)V"⟩
theorem dX9_blank_0 : decode cX9_blank 0 = .ok (.iload_n 2, 1) := by decide +kernel
theorem dX9_blank_1 : decode cX9_blank 1 = .ok (.istore 4, 2) := by decide +kernel
theorem dX9_blank_3 : decode cX9_blank 3 = .ok (.iload 4, 2) := by decide +kernel
theorem dX9_blank_5 : decode cX9_blank 5 = .ok (.iload_n 3, 1) := by decide +kernel
theorem dX9_blank_6 : decode cX9_blank 6 = .ok (.if_icmp .ge 38, 3) := by decide +kernel
theorem dX9_blank_9 : decode cX9_blank 9 = .ok (.aload_n 0, 1) := by decide +kernel
theorem dX9_blank_10 : decode cX9_blank 10 = .ok (.getfield 7, 3) := by decide +kernel
theorem dX9_blank_13 : decode cX9_blank 13 = .ok (.sipush 192, 3) := by decide +kernel
theorem dX9_blank_16 : decode cX9_blank 16 = .ok (.iload_n 1, 1) := by decide +kernel
theorem dX9_blank_17 : decode cX9_blank 17 = .ok (.imul, 1) := by decide +kernel
theorem dX9_blank_18 : decode cX9_blank 18 = .ok (.iload 4, 2) := by decide +kernel
theorem dX9_blank_20 : decode cX9_blank 20 = .ok (.iadd, 1) := by decide +kernel
theorem dX9_blank_21 : decode cX9_blank 21 = .ok (.bipush 32, 2) := by decide +kernel
theorem dX9_blank_23 : decode cX9_blank 23 = .ok (.iastore, 1) := by decide +kernel
theorem dX9_blank_24 : decode cX9_blank 24 = .ok (.aload_n 0, 1) := by decide +kernel
theorem dX9_blank_25 : decode cX9_blank 25 = .ok (.getfield 13, 3) := by decide +kernel
theorem dX9_blank_28 : decode cX9_blank 28 = .ok (.sipush 192, 3) := by decide +kernel
theorem dX9_blank_31 : decode cX9_blank 31 = .ok (.iload_n 1, 1) := by decide +kernel
theorem dX9_blank_32 : decode cX9_blank 32 = .ok (.imul, 1) := by decide +kernel
theorem dX9_blank_33 : decode cX9_blank 33 = .ok (.iload 4, 2) := by decide +kernel
theorem dX9_blank_35 : decode cX9_blank 35 = .ok (.iadd, 1) := by decide +kernel
theorem dX9_blank_36 : decode cX9_blank 36 = .ok (.iconst 0, 1) := by decide +kernel
theorem dX9_blank_37 : decode cX9_blank 37 = .ok (.iastore, 1) := by decide +kernel
theorem dX9_blank_38 : decode cX9_blank 38 = .ok (.iinc 4 1, 3) := by decide +kernel
theorem dX9_blank_41 : decode cX9_blank 41 = .ok (.goto (-38), 3) := by decide +kernel
theorem dX9_blank_44 : decode cX9_blank 44 = .ok (.return_, 1) := by decide +kernel
abbrev cX9_open : ByteArray := prog_14_method_15_code
def yX9_open : MethodName := ⟨RX9, "open", "(III)Z"⟩
theorem dX9_open_0 : decode cX9_open 0 = .ok (.iload_n 1, 1) := by decide +kernel
theorem dX9_open_1 : decode cX9_open 1 = .ok (.ifCond .lt 30, 3) := by decide +kernel
theorem dX9_open_4 : decode cX9_open 4 = .ok (.iload_n 1, 1) := by decide +kernel
theorem dX9_open_5 : decode cX9_open 5 = .ok (.iconst 3, 1) := by decide +kernel
theorem dX9_open_6 : decode cX9_open 6 = .ok (.if_icmp .gt 25, 3) := by decide +kernel
theorem dX9_open_9 : decode cX9_open 9 = .ok (.iload_n 2, 1) := by decide +kernel
theorem dX9_open_10 : decode cX9_open 10 = .ok (.iconst 1, 1) := by decide +kernel
theorem dX9_open_11 : decode cX9_open 11 = .ok (.if_icmp .lt 20, 3) := by decide +kernel
theorem dX9_open_14 : decode cX9_open 14 = .ok (.iload_n 2, 1) := by decide +kernel
theorem dX9_open_15 : decode cX9_open 15 = .ok (.bipush 20, 2) := by decide +kernel
theorem dX9_open_17 : decode cX9_open 17 = .ok (.if_icmp .gt 14, 3) := by decide +kernel
theorem dX9_open_20 : decode cX9_open 20 = .ok (.iload_n 3, 1) := by decide +kernel
theorem dX9_open_21 : decode cX9_open 21 = .ok (.iload_n 2, 1) := by decide +kernel
theorem dX9_open_22 : decode cX9_open 22 = .ok (.if_icmp .lt 9, 3) := by decide +kernel
theorem dX9_open_25 : decode cX9_open 25 = .ok (.iload_n 3, 1) := by decide +kernel
theorem dX9_open_26 : decode cX9_open 26 = .ok (.bipush 50, 2) := by decide +kernel
theorem dX9_open_28 : decode cX9_open 28 = .ok (.if_icmp .le 5, 3) := by decide +kernel
theorem dX9_open_31 : decode cX9_open 31 = .ok (.iconst 0, 1) := by decide +kernel
theorem dX9_open_32 : decode cX9_open 32 = .ok (.ireturn, 1) := by decide +kernel
theorem dX9_open_33 : decode cX9_open 33 = .ok (.aload_n 0, 1) := by decide +kernel
theorem dX9_open_34 : decode cX9_open 34 = .ok (.iload_n 1, 1) := by decide +kernel
theorem dX9_open_35 : decode cX9_open 35 = .ok (.iload_n 2, 1) := by decide +kernel
theorem dX9_open_36 : decode cX9_open 36 = .ok (.iload_n 3, 1) := by decide +kernel
theorem dX9_open_37 : decode cX9_open 37 = .ok (.invokevirtual 72, 3) := by decide +kernel
theorem dX9_open_40 : decode cX9_open 40 = .ok (.iconst 1, 1) := by decide +kernel
theorem dX9_open_41 : decode cX9_open 41 = .ok (.ireturn, 1) := by decide +kernel
abbrev cX9_program : ByteArray := prog_14_method_16_code
def yX9_program : MethodName := ⟨RX9, "program", "(I)I"⟩
theorem dX9_program_0 : decode cX9_program 0 = .ok (.iload_n 1, 1) := by decide +kernel
theorem dX9_program_1 : decode cX9_program 1 = .ok (.ifCond .lt 8, 3) := by decide +kernel
theorem dX9_program_4 : decode cX9_program 4 = .ok (.iload_n 1, 1) := by decide +kernel
theorem dX9_program_5 : decode cX9_program 5 = .ok (.iconst 3, 1) := by decide +kernel
theorem dX9_program_6 : decode cX9_program 6 = .ok (.if_icmp .le 5, 3) := by decide +kernel
theorem dX9_program_9 : decode cX9_program 9 = .ok (.iconst (-1), 1) := by decide +kernel
theorem dX9_program_10 : decode cX9_program 10 = .ok (.ireturn, 1) := by decide +kernel
theorem dX9_program_11 : decode cX9_program 11 = .ok (.aload_n 0, 1) := by decide +kernel
theorem dX9_program_12 : decode cX9_program 12 = .ok (.getfield 106, 3) := by decide +kernel
theorem dX9_program_15 : decode cX9_program 15 = .ok (.istore_n 2, 1) := by decide +kernel
theorem dX9_program_16 : decode cX9_program 16 = .ok (.aload_n 0, 1) := by decide +kernel
theorem dX9_program_17 : decode cX9_program 17 = .ok (.iload_n 1, 1) := by decide +kernel
theorem dX9_program_18 : decode cX9_program 18 = .ok (.putfield 106, 3) := by decide +kernel
theorem dX9_program_21 : decode cX9_program 21 = .ok (.aload_n 0, 1) := by decide +kernel
theorem dX9_program_22 : decode cX9_program 22 = .ok (.iconst 0, 1) := by decide +kernel
theorem dX9_program_23 : decode cX9_program 23 = .ok (.putfield 103, 3) := by decide +kernel
theorem dX9_program_26 : decode cX9_program 26 = .ok (.iload_n 2, 1) := by decide +kernel
theorem dX9_program_27 : decode cX9_program 27 = .ok (.ireturn, 1) := by decide +kernel
abbrev cX9_write : ByteArray := prog_14_method_17_code
def yX9_write : MethodName := ⟨RX9, "write", "(I)Z"⟩
theorem dX9_write_0 : decode cX9_write 0 = .ok (.iload_n 1, 1) := by decide +kernel
theorem dX9_write_1 : decode cX9_write 1 = .ok (.invokestatic 89, 3) := by decide +kernel
theorem dX9_write_4 : decode cX9_write 4 = .ok (.ifCond .eq 11, 3) := by decide +kernel
theorem dX9_write_7 : decode cX9_write 7 = .ok (.aload_n 0, 1) := by decide +kernel
theorem dX9_write_8 : decode cX9_write 8 = .ok (.iload_n 1, 1) := by decide +kernel
theorem dX9_write_9 : decode cX9_write 9 = .ok (.invokevirtual 93, 3) := by decide +kernel
theorem dX9_write_12 : decode cX9_write 12 = .ok (.goto 26, 3) := by decide +kernel
theorem dX9_write_15 : decode cX9_write 15 = .ok (.iload_n 1, 1) := by decide +kernel
theorem dX9_write_16 : decode cX9_write 16 = .ok (.bipush 13, 2) := by decide +kernel
theorem dX9_write_18 : decode cX9_write 18 = .ok (.if_icmp .ne 10, 3) := by decide +kernel
theorem dX9_write_21 : decode cX9_write 21 = .ok (.aload_n 0, 1) := by decide +kernel
theorem dX9_write_22 : decode cX9_write 22 = .ok (.invokevirtual 86, 3) := by decide +kernel
theorem dX9_write_25 : decode cX9_write 25 = .ok (.goto 13, 3) := by decide +kernel
theorem dX9_write_28 : decode cX9_write 28 = .ok (.iload_n 1, 1) := by decide +kernel
theorem dX9_write_29 : decode cX9_write 29 = .ok (.bipush 8, 2) := by decide +kernel
theorem dX9_write_31 : decode cX9_write 31 = .ok (.if_icmp .ne 7, 3) := by decide +kernel
theorem dX9_write_34 : decode cX9_write 34 = .ok (.aload_n 0, 1) := by decide +kernel
theorem dX9_write_35 : decode cX9_write 35 = .ok (.invokevirtual 97, 3) := by decide +kernel
theorem dX9_write_38 : decode cX9_write 38 = .ok (.iload_n 1, 1) := by decide +kernel
theorem dX9_write_39 : decode cX9_write 39 = .ok (.invokestatic 89, 3) := by decide +kernel
theorem dX9_write_42 : decode cX9_write 42 = .ok (.ifCond .ne 15, 3) := by decide +kernel
theorem dX9_write_45 : decode cX9_write 45 = .ok (.iload_n 1, 1) := by decide +kernel
theorem dX9_write_46 : decode cX9_write 46 = .ok (.bipush 13, 2) := by decide +kernel
theorem dX9_write_48 : decode cX9_write 48 = .ok (.if_icmp .eq 9, 3) := by decide +kernel
theorem dX9_write_51 : decode cX9_write 51 = .ok (.iload_n 1, 1) := by decide +kernel
theorem dX9_write_52 : decode cX9_write 52 = .ok (.bipush 8, 2) := by decide +kernel
theorem dX9_write_54 : decode cX9_write 54 = .ok (.if_icmp .ne 7, 3) := by decide +kernel
theorem dX9_write_57 : decode cX9_write 57 = .ok (.iconst 1, 1) := by decide +kernel
theorem dX9_write_58 : decode cX9_write 58 = .ok (.goto 4, 3) := by decide +kernel
theorem dX9_write_61 : decode cX9_write 61 = .ok (.iconst 0, 1) := by decide +kernel
theorem dX9_write_62 : decode cX9_write 62 = .ok (.ireturn, 1) := by decide +kernel
abbrev cX9_isLetter : ByteArray := prog_14_method_8_code
def yX9_isLetter : MethodName := ⟨RX9, "isLetter", "(I)Z"⟩
theorem dX9_isLetter_0 : decode cX9_isLetter 0 = .ok (.iload_n 0, 1) := by decide +kernel
theorem dX9_isLetter_1 : decode cX9_isLetter 1 = .ok (.bipush 32, 2) := by decide +kernel
theorem dX9_isLetter_3 : decode cX9_isLetter 3 = .ok (.if_icmp .lt 13, 3) := by decide +kernel
theorem dX9_isLetter_6 : decode cX9_isLetter 6 = .ok (.iload_n 0, 1) := by decide +kernel
theorem dX9_isLetter_7 : decode cX9_isLetter 7 = .ok (.bipush 126, 2) := by decide +kernel
theorem dX9_isLetter_9 : decode cX9_isLetter 9 = .ok (.if_icmp .gt 7, 3) := by decide +kernel
theorem dX9_isLetter_12 : decode cX9_isLetter 12 = .ok (.iconst 1, 1) := by decide +kernel
theorem dX9_isLetter_13 : decode cX9_isLetter 13 = .ok (.goto 4, 3) := by decide +kernel
theorem dX9_isLetter_16 : decode cX9_isLetter 16 = .ok (.iconst 0, 1) := by decide +kernel
theorem dX9_isLetter_17 : decode cX9_isLetter 17 = .ok (.ireturn, 1) := by decide +kernel
abbrev cX9_puts : ByteArray := prog_14_method_6_code
def yX9_puts : MethodName := ⟨RX9, "puts", "(I)V"⟩
theorem dX9_puts_0 : decode cX9_puts 0 = .ok (.bipush 24, 2) := by decide +kernel
theorem dX9_puts_2 : decode cX9_puts 2 = .ok (.aload_n 0, 1) := by decide +kernel
theorem dX9_puts_3 : decode cX9_puts 3 = .ok (.getfield 16, 3) := by decide +kernel
theorem dX9_puts_6 : decode cX9_puts 6 = .ok (.iconst 0, 1) := by decide +kernel
theorem dX9_puts_7 : decode cX9_puts 7 = .ok (.iaload, 1) := by decide +kernel
theorem dX9_puts_8 : decode cX9_puts 8 = .ok (.imul, 1) := by decide +kernel
theorem dX9_puts_9 : decode cX9_puts 9 = .ok (.aload_n 0, 1) := by decide +kernel
theorem dX9_puts_10 : decode cX9_puts 10 = .ok (.getfield 19, 3) := by decide +kernel
theorem dX9_puts_13 : decode cX9_puts 13 = .ok (.iconst 0, 1) := by decide +kernel
theorem dX9_puts_14 : decode cX9_puts 14 = .ok (.iaload, 1) := by decide +kernel
theorem dX9_puts_15 : decode cX9_puts 15 = .ok (.iadd, 1) := by decide +kernel
theorem dX9_puts_16 : decode cX9_puts 16 = .ok (.istore_n 2, 1) := by decide +kernel
theorem dX9_puts_17 : decode cX9_puts 17 = .ok (.aload_n 0, 1) := by decide +kernel
theorem dX9_puts_18 : decode cX9_puts 18 = .ok (.getfield 7, 3) := by decide +kernel
theorem dX9_puts_21 : decode cX9_puts 21 = .ok (.iload_n 2, 1) := by decide +kernel
theorem dX9_puts_22 : decode cX9_puts 22 = .ok (.iload_n 1, 1) := by decide +kernel
theorem dX9_puts_23 : decode cX9_puts 23 = .ok (.iastore, 1) := by decide +kernel
theorem dX9_puts_24 : decode cX9_puts 24 = .ok (.aload_n 0, 1) := by decide +kernel
theorem dX9_puts_25 : decode cX9_puts 25 = .ok (.getfield 13, 3) := by decide +kernel
theorem dX9_puts_28 : decode cX9_puts 28 = .ok (.iload_n 2, 1) := by decide +kernel
theorem dX9_puts_29 : decode cX9_puts 29 = .ok (.aload_n 0, 1) := by decide +kernel
theorem dX9_puts_30 : decode cX9_puts 30 = .ok (.getfield 83, 3) := by decide +kernel
theorem dX9_puts_33 : decode cX9_puts 33 = .ok (.iastore, 1) := by decide +kernel
theorem dX9_puts_34 : decode cX9_puts 34 = .ok (.aload_n 0, 1) := by decide +kernel
theorem dX9_puts_35 : decode cX9_puts 35 = .ok (.getfield 19, 3) := by decide +kernel
theorem dX9_puts_38 : decode cX9_puts 38 = .ok (.iconst 0, 1) := by decide +kernel
theorem dX9_puts_39 : decode cX9_puts 39 = .ok (.iaload, 1) := by decide +kernel
theorem dX9_puts_40 : decode cX9_puts 40 = .ok (.bipush 23, 2) := by decide +kernel
theorem dX9_puts_42 : decode cX9_puts 42 = .ok (.if_icmp .ne 10, 3) := by decide +kernel
theorem dX9_puts_45 : decode cX9_puts 45 = .ok (.aload_n 0, 1) := by decide +kernel
theorem dX9_puts_46 : decode cX9_puts 46 = .ok (.invokevirtual 86, 3) := by decide +kernel
theorem dX9_puts_49 : decode cX9_puts 49 = .ok (.goto 13, 3) := by decide +kernel
theorem dX9_puts_52 : decode cX9_puts 52 = .ok (.aload_n 0, 1) := by decide +kernel
theorem dX9_puts_53 : decode cX9_puts 53 = .ok (.getfield 19, 3) := by decide +kernel
theorem dX9_puts_56 : decode cX9_puts 56 = .ok (.iconst 0, 1) := by decide +kernel
theorem dX9_puts_57 : decode cX9_puts 57 = .ok (.dup2, 1) := by decide +kernel
theorem dX9_puts_58 : decode cX9_puts 58 = .ok (.iaload, 1) := by decide +kernel
theorem dX9_puts_59 : decode cX9_puts 59 = .ok (.iconst 1, 1) := by decide +kernel
theorem dX9_puts_60 : decode cX9_puts 60 = .ok (.iadd, 1) := by decide +kernel
theorem dX9_puts_61 : decode cX9_puts 61 = .ok (.iastore, 1) := by decide +kernel
theorem dX9_puts_62 : decode cX9_puts 62 = .ok (.return_, 1) := by decide +kernel
abbrev cX9_newLine : ByteArray := prog_14_method_5_code
def yX9_newLine : MethodName := ⟨RX9, "newLine", "()V"⟩
theorem dX9_newLine_0 : decode cX9_newLine 0 = .ok (.aload_n 0, 1) := by decide +kernel
theorem dX9_newLine_1 : decode cX9_newLine 1 = .ok (.getfield 19, 3) := by decide +kernel
theorem dX9_newLine_4 : decode cX9_newLine 4 = .ok (.iconst 0, 1) := by decide +kernel
theorem dX9_newLine_5 : decode cX9_newLine 5 = .ok (.iconst 0, 1) := by decide +kernel
theorem dX9_newLine_6 : decode cX9_newLine 6 = .ok (.iastore, 1) := by decide +kernel
theorem dX9_newLine_7 : decode cX9_newLine 7 = .ok (.aload_n 0, 1) := by decide +kernel
theorem dX9_newLine_8 : decode cX9_newLine 8 = .ok (.getfield 16, 3) := by decide +kernel
theorem dX9_newLine_11 : decode cX9_newLine 11 = .ok (.iconst 0, 1) := by decide +kernel
theorem dX9_newLine_12 : decode cX9_newLine 12 = .ok (.iaload, 1) := by decide +kernel
theorem dX9_newLine_13 : decode cX9_newLine 13 = .ok (.bipush 7, 2) := by decide +kernel
theorem dX9_newLine_15 : decode cX9_newLine 15 = .ok (.if_icmp .ge 16, 3) := by decide +kernel
theorem dX9_newLine_18 : decode cX9_newLine 18 = .ok (.aload_n 0, 1) := by decide +kernel
theorem dX9_newLine_19 : decode cX9_newLine 19 = .ok (.getfield 16, 3) := by decide +kernel
theorem dX9_newLine_22 : decode cX9_newLine 22 = .ok (.iconst 0, 1) := by decide +kernel
theorem dX9_newLine_23 : decode cX9_newLine 23 = .ok (.dup2, 1) := by decide +kernel
theorem dX9_newLine_24 : decode cX9_newLine 24 = .ok (.iaload, 1) := by decide +kernel
theorem dX9_newLine_25 : decode cX9_newLine 25 = .ok (.iconst 1, 1) := by decide +kernel
theorem dX9_newLine_26 : decode cX9_newLine 26 = .ok (.iadd, 1) := by decide +kernel
theorem dX9_newLine_27 : decode cX9_newLine 27 = .ok (.iastore, 1) := by decide +kernel
theorem dX9_newLine_28 : decode cX9_newLine 28 = .ok (.goto 9, 3) := by decide +kernel
theorem dX9_newLine_31 : decode cX9_newLine 31 = .ok (.aload_n 0, 1) := by decide +kernel
theorem dX9_newLine_32 : decode cX9_newLine 32 = .ok (.iconst 0, 1) := by decide +kernel
theorem dX9_newLine_33 : decode cX9_newLine 33 = .ok (.iconst 1, 1) := by decide +kernel
theorem dX9_newLine_34 : decode cX9_newLine 34 = .ok (.invokevirtual 79, 3) := by decide +kernel
theorem dX9_newLine_37 : decode cX9_newLine 37 = .ok (.return_, 1) := by decide +kernel
abbrev cX9_scrolls : ByteArray := prog_14_method_4_code
def yX9_scrolls : MethodName := ⟨RX9, "scrolls", "(II)V"⟩
theorem dX9_scrolls_0 : decode cX9_scrolls 0 = .ok (.iconst 0, 1) := by decide +kernel
theorem dX9_scrolls_1 : decode cX9_scrolls 1 = .ok (.istore_n 3, 1) := by decide +kernel
theorem dX9_scrolls_2 : decode cX9_scrolls 2 = .ok (.iload_n 3, 1) := by decide +kernel
theorem dX9_scrolls_3 : decode cX9_scrolls 3 = .ok (.bipush 24, 2) := by decide +kernel
theorem dX9_scrolls_5 : decode cX9_scrolls 5 = .ok (.iload_n 2, 1) := by decide +kernel
theorem dX9_scrolls_6 : decode cX9_scrolls 6 = .ok (.imul, 1) := by decide +kernel
theorem dX9_scrolls_7 : decode cX9_scrolls 7 = .ok (.iadd, 1) := by decide +kernel
theorem dX9_scrolls_8 : decode cX9_scrolls 8 = .ok (.sipush 192, 3) := by decide +kernel
theorem dX9_scrolls_11 : decode cX9_scrolls 11 = .ok (.if_icmp .ge 67, 3) := by decide +kernel
theorem dX9_scrolls_14 : decode cX9_scrolls 14 = .ok (.aload_n 0, 1) := by decide +kernel
theorem dX9_scrolls_15 : decode cX9_scrolls 15 = .ok (.getfield 7, 3) := by decide +kernel
theorem dX9_scrolls_18 : decode cX9_scrolls 18 = .ok (.sipush 192, 3) := by decide +kernel
theorem dX9_scrolls_21 : decode cX9_scrolls 21 = .ok (.iload_n 1, 1) := by decide +kernel
theorem dX9_scrolls_22 : decode cX9_scrolls 22 = .ok (.imul, 1) := by decide +kernel
theorem dX9_scrolls_23 : decode cX9_scrolls 23 = .ok (.iload_n 3, 1) := by decide +kernel
theorem dX9_scrolls_24 : decode cX9_scrolls 24 = .ok (.iadd, 1) := by decide +kernel
theorem dX9_scrolls_25 : decode cX9_scrolls 25 = .ok (.aload_n 0, 1) := by decide +kernel
theorem dX9_scrolls_26 : decode cX9_scrolls 26 = .ok (.getfield 7, 3) := by decide +kernel
theorem dX9_scrolls_29 : decode cX9_scrolls 29 = .ok (.sipush 192, 3) := by decide +kernel
theorem dX9_scrolls_32 : decode cX9_scrolls 32 = .ok (.iload_n 1, 1) := by decide +kernel
theorem dX9_scrolls_33 : decode cX9_scrolls 33 = .ok (.imul, 1) := by decide +kernel
theorem dX9_scrolls_34 : decode cX9_scrolls 34 = .ok (.iload_n 3, 1) := by decide +kernel
theorem dX9_scrolls_35 : decode cX9_scrolls 35 = .ok (.iadd, 1) := by decide +kernel
theorem dX9_scrolls_36 : decode cX9_scrolls 36 = .ok (.bipush 24, 2) := by decide +kernel
theorem dX9_scrolls_38 : decode cX9_scrolls 38 = .ok (.iload_n 2, 1) := by decide +kernel
theorem dX9_scrolls_39 : decode cX9_scrolls 39 = .ok (.imul, 1) := by decide +kernel
theorem dX9_scrolls_40 : decode cX9_scrolls 40 = .ok (.iadd, 1) := by decide +kernel
theorem dX9_scrolls_41 : decode cX9_scrolls 41 = .ok (.iaload, 1) := by decide +kernel
theorem dX9_scrolls_42 : decode cX9_scrolls 42 = .ok (.iastore, 1) := by decide +kernel
theorem dX9_scrolls_43 : decode cX9_scrolls 43 = .ok (.aload_n 0, 1) := by decide +kernel
theorem dX9_scrolls_44 : decode cX9_scrolls 44 = .ok (.getfield 13, 3) := by decide +kernel
theorem dX9_scrolls_47 : decode cX9_scrolls 47 = .ok (.sipush 192, 3) := by decide +kernel
theorem dX9_scrolls_50 : decode cX9_scrolls 50 = .ok (.iload_n 1, 1) := by decide +kernel
theorem dX9_scrolls_51 : decode cX9_scrolls 51 = .ok (.imul, 1) := by decide +kernel
theorem dX9_scrolls_52 : decode cX9_scrolls 52 = .ok (.iload_n 3, 1) := by decide +kernel
theorem dX9_scrolls_53 : decode cX9_scrolls 53 = .ok (.iadd, 1) := by decide +kernel
theorem dX9_scrolls_54 : decode cX9_scrolls 54 = .ok (.aload_n 0, 1) := by decide +kernel
theorem dX9_scrolls_55 : decode cX9_scrolls 55 = .ok (.getfield 13, 3) := by decide +kernel
theorem dX9_scrolls_58 : decode cX9_scrolls 58 = .ok (.sipush 192, 3) := by decide +kernel
theorem dX9_scrolls_61 : decode cX9_scrolls 61 = .ok (.iload_n 1, 1) := by decide +kernel
theorem dX9_scrolls_62 : decode cX9_scrolls 62 = .ok (.imul, 1) := by decide +kernel
theorem dX9_scrolls_63 : decode cX9_scrolls 63 = .ok (.iload_n 3, 1) := by decide +kernel
theorem dX9_scrolls_64 : decode cX9_scrolls 64 = .ok (.iadd, 1) := by decide +kernel
theorem dX9_scrolls_65 : decode cX9_scrolls 65 = .ok (.bipush 24, 2) := by decide +kernel
theorem dX9_scrolls_67 : decode cX9_scrolls 67 = .ok (.iload_n 2, 1) := by decide +kernel
theorem dX9_scrolls_68 : decode cX9_scrolls 68 = .ok (.imul, 1) := by decide +kernel
theorem dX9_scrolls_69 : decode cX9_scrolls 69 = .ok (.iadd, 1) := by decide +kernel
theorem dX9_scrolls_70 : decode cX9_scrolls 70 = .ok (.iaload, 1) := by decide +kernel
theorem dX9_scrolls_71 : decode cX9_scrolls 71 = .ok (.iastore, 1) := by decide +kernel
theorem dX9_scrolls_72 : decode cX9_scrolls 72 = .ok (.iinc 3 1, 3) := by decide +kernel
theorem dX9_scrolls_75 : decode cX9_scrolls 75 = .ok (.goto (-73), 3) := by decide +kernel
theorem dX9_scrolls_78 : decode cX9_scrolls 78 = .ok (.aload_n 0, 1) := by decide +kernel
theorem dX9_scrolls_79 : decode cX9_scrolls 79 = .ok (.iload_n 1, 1) := by decide +kernel
theorem dX9_scrolls_80 : decode cX9_scrolls 80 = .ok (.sipush 192, 3) := by decide +kernel
theorem dX9_scrolls_83 : decode cX9_scrolls 83 = .ok (.bipush 24, 2) := by decide +kernel
theorem dX9_scrolls_85 : decode cX9_scrolls 85 = .ok (.iload_n 2, 1) := by decide +kernel
theorem dX9_scrolls_86 : decode cX9_scrolls 86 = .ok (.imul, 1) := by decide +kernel
theorem dX9_scrolls_87 : decode cX9_scrolls 87 = .ok (.isub, 1) := by decide +kernel
theorem dX9_scrolls_88 : decode cX9_scrolls 88 = .ok (.sipush 192, 3) := by decide +kernel
theorem dX9_scrolls_91 : decode cX9_scrolls 91 = .ok (.invokevirtual 76, 3) := by decide +kernel
theorem dX9_scrolls_94 : decode cX9_scrolls 94 = .ok (.return_, 1) := by decide +kernel
abbrev cX9_back : ByteArray := prog_14_method_7_code
def yX9_back : MethodName := ⟨RX9, "back", "()V"⟩
theorem dX9_back_0 : decode cX9_back 0 = .ok (.aload_n 0, 1) := by decide +kernel
theorem dX9_back_1 : decode cX9_back 1 = .ok (.getfield 19, 3) := by decide +kernel
theorem dX9_back_4 : decode cX9_back 4 = .ok (.iconst 0, 1) := by decide +kernel
theorem dX9_back_5 : decode cX9_back 5 = .ok (.iaload, 1) := by decide +kernel
theorem dX9_back_6 : decode cX9_back 6 = .ok (.ifCond .ne 4, 3) := by decide +kernel
theorem dX9_back_9 : decode cX9_back 9 = .ok (.return_, 1) := by decide +kernel
theorem dX9_back_10 : decode cX9_back 10 = .ok (.aload_n 0, 1) := by decide +kernel
theorem dX9_back_11 : decode cX9_back 11 = .ok (.getfield 19, 3) := by decide +kernel
theorem dX9_back_14 : decode cX9_back 14 = .ok (.iconst 0, 1) := by decide +kernel
theorem dX9_back_15 : decode cX9_back 15 = .ok (.dup2, 1) := by decide +kernel
theorem dX9_back_16 : decode cX9_back 16 = .ok (.iaload, 1) := by decide +kernel
theorem dX9_back_17 : decode cX9_back 17 = .ok (.iconst 1, 1) := by decide +kernel
theorem dX9_back_18 : decode cX9_back 18 = .ok (.isub, 1) := by decide +kernel
theorem dX9_back_19 : decode cX9_back 19 = .ok (.iastore, 1) := by decide +kernel
theorem dX9_back_20 : decode cX9_back 20 = .ok (.bipush 24, 2) := by decide +kernel
theorem dX9_back_22 : decode cX9_back 22 = .ok (.aload_n 0, 1) := by decide +kernel
theorem dX9_back_23 : decode cX9_back 23 = .ok (.getfield 16, 3) := by decide +kernel
theorem dX9_back_26 : decode cX9_back 26 = .ok (.iconst 0, 1) := by decide +kernel
theorem dX9_back_27 : decode cX9_back 27 = .ok (.iaload, 1) := by decide +kernel
theorem dX9_back_28 : decode cX9_back 28 = .ok (.imul, 1) := by decide +kernel
theorem dX9_back_29 : decode cX9_back 29 = .ok (.aload_n 0, 1) := by decide +kernel
theorem dX9_back_30 : decode cX9_back 30 = .ok (.getfield 19, 3) := by decide +kernel
theorem dX9_back_33 : decode cX9_back 33 = .ok (.iconst 0, 1) := by decide +kernel
theorem dX9_back_34 : decode cX9_back 34 = .ok (.iaload, 1) := by decide +kernel
theorem dX9_back_35 : decode cX9_back 35 = .ok (.iadd, 1) := by decide +kernel
theorem dX9_back_36 : decode cX9_back 36 = .ok (.istore_n 1, 1) := by decide +kernel
theorem dX9_back_37 : decode cX9_back 37 = .ok (.aload_n 0, 1) := by decide +kernel
theorem dX9_back_38 : decode cX9_back 38 = .ok (.iconst 0, 1) := by decide +kernel
theorem dX9_back_39 : decode cX9_back 39 = .ok (.iload_n 1, 1) := by decide +kernel
theorem dX9_back_40 : decode cX9_back 40 = .ok (.iload_n 1, 1) := by decide +kernel
theorem dX9_back_41 : decode cX9_back 41 = .ok (.iconst 1, 1) := by decide +kernel
theorem dX9_back_42 : decode cX9_back 42 = .ok (.iadd, 1) := by decide +kernel
theorem dX9_back_43 : decode cX9_back 43 = .ok (.invokevirtual 76, 3) := by decide +kernel
theorem dX9_back_46 : decode cX9_back 46 = .ok (.return_, 1) := by decide +kernel
abbrev cX9_move : ByteArray := prog_14_method_19_code
def yX9_move : MethodName := ⟨RX9, "move", "(II)Z"⟩
theorem dX9_move_0 : decode cX9_move 0 = .ok (.iload_n 1, 1) := by decide +kernel
theorem dX9_move_1 : decode cX9_move 1 = .ok (.iload_n 2, 1) := by decide +kernel
theorem dX9_move_2 : decode cX9_move 2 = .ok (.invokestatic 179, 3) := by decide +kernel
theorem dX9_move_5 : decode cX9_move 5 = .ok (.ifCond .ne 5, 3) := by decide +kernel
theorem dX9_move_8 : decode cX9_move 8 = .ok (.iconst 0, 1) := by decide +kernel
theorem dX9_move_9 : decode cX9_move 9 = .ok (.ireturn, 1) := by decide +kernel
theorem dX9_move_10 : decode cX9_move 10 = .ok (.aload_n 0, 1) := by decide +kernel
theorem dX9_move_11 : decode cX9_move 11 = .ok (.getfield 16, 3) := by decide +kernel
theorem dX9_move_14 : decode cX9_move 14 = .ok (.iconst 0, 1) := by decide +kernel
theorem dX9_move_15 : decode cX9_move 15 = .ok (.iload_n 1, 1) := by decide +kernel
theorem dX9_move_16 : decode cX9_move 16 = .ok (.iastore, 1) := by decide +kernel
theorem dX9_move_17 : decode cX9_move 17 = .ok (.aload_n 0, 1) := by decide +kernel
theorem dX9_move_18 : decode cX9_move 18 = .ok (.getfield 19, 3) := by decide +kernel
theorem dX9_move_21 : decode cX9_move 21 = .ok (.iconst 0, 1) := by decide +kernel
theorem dX9_move_22 : decode cX9_move 22 = .ok (.iload_n 2, 1) := by decide +kernel
theorem dX9_move_23 : decode cX9_move 23 = .ok (.iastore, 1) := by decide +kernel
theorem dX9_move_24 : decode cX9_move 24 = .ok (.iconst 1, 1) := by decide +kernel
theorem dX9_move_25 : decode cX9_move 25 = .ok (.ireturn, 1) := by decide +kernel
abbrev cX9_isCell : ByteArray := prog_14_method_18_code
def yX9_isCell : MethodName := ⟨RX9, "isCell", "(II)Z"⟩
theorem dX9_isCell_0 : decode cX9_isCell 0 = .ok (.iload_n 0, 1) := by decide +kernel
theorem dX9_isCell_1 : decode cX9_isCell 1 = .ok (.ifCond .lt 23, 3) := by decide +kernel
theorem dX9_isCell_4 : decode cX9_isCell 4 = .ok (.iload_n 0, 1) := by decide +kernel
theorem dX9_isCell_5 : decode cX9_isCell 5 = .ok (.bipush 8, 2) := by decide +kernel
theorem dX9_isCell_7 : decode cX9_isCell 7 = .ok (.if_icmp .ge 17, 3) := by decide +kernel
theorem dX9_isCell_10 : decode cX9_isCell 10 = .ok (.iload_n 1, 1) := by decide +kernel
theorem dX9_isCell_11 : decode cX9_isCell 11 = .ok (.ifCond .lt 13, 3) := by decide +kernel
theorem dX9_isCell_14 : decode cX9_isCell 14 = .ok (.iload_n 1, 1) := by decide +kernel
theorem dX9_isCell_15 : decode cX9_isCell 15 = .ok (.bipush 24, 2) := by decide +kernel
theorem dX9_isCell_17 : decode cX9_isCell 17 = .ok (.if_icmp .ge 7, 3) := by decide +kernel
theorem dX9_isCell_20 : decode cX9_isCell 20 = .ok (.iconst 1, 1) := by decide +kernel
theorem dX9_isCell_21 : decode cX9_isCell 21 = .ok (.goto 4, 3) := by decide +kernel
theorem dX9_isCell_24 : decode cX9_isCell 24 = .ok (.iconst 0, 1) := by decide +kernel
theorem dX9_isCell_25 : decode cX9_isCell 25 = .ok (.ireturn, 1) := by decide +kernel
abbrev cX9_wipe : ByteArray := prog_14_method_20_code
def yX9_wipe : MethodName := ⟨RX9, "wipe", "(I)Z"⟩
theorem dX9_wipe_0 : decode cX9_wipe 0 = .ok (.iload_n 1, 1) := by decide +kernel
theorem dX9_wipe_1 : decode cX9_wipe 1 = .ok (.iconst 0, 1) := by decide +kernel
theorem dX9_wipe_2 : decode cX9_wipe 2 = .ok (.invokestatic 179, 3) := by decide +kernel
theorem dX9_wipe_5 : decode cX9_wipe 5 = .ok (.ifCond .ne 5, 3) := by decide +kernel
theorem dX9_wipe_8 : decode cX9_wipe 8 = .ok (.iconst 0, 1) := by decide +kernel
theorem dX9_wipe_9 : decode cX9_wipe 9 = .ok (.ireturn, 1) := by decide +kernel
theorem dX9_wipe_10 : decode cX9_wipe 10 = .ok (.aload_n 0, 1) := by decide +kernel
theorem dX9_wipe_11 : decode cX9_wipe 11 = .ok (.iconst 0, 1) := by decide +kernel
theorem dX9_wipe_12 : decode cX9_wipe 12 = .ok (.bipush 24, 2) := by decide +kernel
theorem dX9_wipe_14 : decode cX9_wipe 14 = .ok (.iload_n 1, 1) := by decide +kernel
theorem dX9_wipe_15 : decode cX9_wipe 15 = .ok (.imul, 1) := by decide +kernel
theorem dX9_wipe_16 : decode cX9_wipe 16 = .ok (.bipush 24, 2) := by decide +kernel
theorem dX9_wipe_18 : decode cX9_wipe 18 = .ok (.iload_n 1, 1) := by decide +kernel
theorem dX9_wipe_19 : decode cX9_wipe 19 = .ok (.imul, 1) := by decide +kernel
theorem dX9_wipe_20 : decode cX9_wipe 20 = .ok (.bipush 24, 2) := by decide +kernel
theorem dX9_wipe_22 : decode cX9_wipe 22 = .ok (.iadd, 1) := by decide +kernel
theorem dX9_wipe_23 : decode cX9_wipe 23 = .ok (.invokevirtual 76, 3) := by decide +kernel
theorem dX9_wipe_26 : decode cX9_wipe 26 = .ok (.iconst 1, 1) := by decide +kernel
theorem dX9_wipe_27 : decode cX9_wipe 27 = .ok (.ireturn, 1) := by decide +kernel
abbrev cX9_scroll : ByteArray := prog_14_method_21_code
def yX9_scroll : MethodName := ⟨RX9, "scroll", "(I)Z"⟩
theorem dX9_scroll_0 : decode cX9_scroll 0 = .ok (.iload_n 1, 1) := by decide +kernel
theorem dX9_scroll_1 : decode cX9_scroll 1 = .ok (.iconst 1, 1) := by decide +kernel
theorem dX9_scroll_2 : decode cX9_scroll 2 = .ok (.if_icmp .lt 9, 3) := by decide +kernel
theorem dX9_scroll_5 : decode cX9_scroll 5 = .ok (.iload_n 1, 1) := by decide +kernel
theorem dX9_scroll_6 : decode cX9_scroll 6 = .ok (.bipush 8, 2) := by decide +kernel
theorem dX9_scroll_8 : decode cX9_scroll 8 = .ok (.if_icmp .le 5, 3) := by decide +kernel
theorem dX9_scroll_11 : decode cX9_scroll 11 = .ok (.iconst 0, 1) := by decide +kernel
theorem dX9_scroll_12 : decode cX9_scroll 12 = .ok (.ireturn, 1) := by decide +kernel
theorem dX9_scroll_13 : decode cX9_scroll 13 = .ok (.aload_n 0, 1) := by decide +kernel
theorem dX9_scroll_14 : decode cX9_scroll 14 = .ok (.iconst 0, 1) := by decide +kernel
theorem dX9_scroll_15 : decode cX9_scroll 15 = .ok (.iload_n 1, 1) := by decide +kernel
theorem dX9_scroll_16 : decode cX9_scroll 16 = .ok (.invokevirtual 79, 3) := by decide +kernel
theorem dX9_scroll_19 : decode cX9_scroll 19 = .ok (.iconst 1, 1) := by decide +kernel
theorem dX9_scroll_20 : decode cX9_scroll 20 = .ok (.ireturn, 1) := by decide +kernel
abbrev cX9_pen : ByteArray := prog_14_method_22_code
def yX9_pen : MethodName := ⟨RX9, "pen", "(I)I"⟩
theorem dX9_pen_0 : decode cX9_pen 0 = .ok (.iload_n 1, 1) := by decide +kernel
theorem dX9_pen_1 : decode cX9_pen 1 = .ok (.ifCond .lt 8, 3) := by decide +kernel
theorem dX9_pen_4 : decode cX9_pen 4 = .ok (.iload_n 1, 1) := by decide +kernel
theorem dX9_pen_5 : decode cX9_pen 5 = .ok (.iconst 3, 1) := by decide +kernel
theorem dX9_pen_6 : decode cX9_pen 6 = .ok (.if_icmp .le 5, 3) := by decide +kernel
theorem dX9_pen_9 : decode cX9_pen 9 = .ok (.iconst (-1), 1) := by decide +kernel
theorem dX9_pen_10 : decode cX9_pen 10 = .ok (.ireturn, 1) := by decide +kernel
theorem dX9_pen_11 : decode cX9_pen 11 = .ok (.aload_n 0, 1) := by decide +kernel
theorem dX9_pen_12 : decode cX9_pen 12 = .ok (.getfield 83, 3) := by decide +kernel
theorem dX9_pen_15 : decode cX9_pen 15 = .ok (.istore_n 2, 1) := by decide +kernel
theorem dX9_pen_16 : decode cX9_pen 16 = .ok (.aload_n 0, 1) := by decide +kernel
theorem dX9_pen_17 : decode cX9_pen 17 = .ok (.iload_n 1, 1) := by decide +kernel
theorem dX9_pen_18 : decode cX9_pen 18 = .ok (.putfield 83, 3) := by decide +kernel
theorem dX9_pen_21 : decode cX9_pen 21 = .ok (.iload_n 2, 1) := by decide +kernel
theorem dX9_pen_22 : decode cX9_pen 22 = .ok (.ireturn, 1) := by decide +kernel
abbrev cX9_tick : ByteArray := prog_14_method_39_code
def yX9_tick : MethodName := ⟨RX9, "tick", "()I"⟩
theorem dX9_tick_0 : decode cX9_tick 0 = .ok (.aload_n 0, 1) := by decide +kernel
theorem dX9_tick_1 : decode cX9_tick 1 = .ok (.getfield 38, 3) := by decide +kernel
theorem dX9_tick_4 : decode cX9_tick 4 = .ok (.iconst 0, 1) := by decide +kernel
theorem dX9_tick_5 : decode cX9_tick 5 = .ok (.iaload, 1) := by decide +kernel
theorem dX9_tick_6 : decode cX9_tick 6 = .ok (.istore_n 1, 1) := by decide +kernel
theorem dX9_tick_7 : decode cX9_tick 7 = .ok (.aload_n 0, 1) := by decide +kernel
theorem dX9_tick_8 : decode cX9_tick 8 = .ok (.dup, 1) := by decide +kernel
theorem dX9_tick_9 : decode cX9_tick 9 = .ok (.getfield 118, 3) := by decide +kernel
theorem dX9_tick_12 : decode cX9_tick 12 = .ok (.iconst 1, 1) := by decide +kernel
theorem dX9_tick_13 : decode cX9_tick 13 = .ok (.iadd, 1) := by decide +kernel
theorem dX9_tick_14 : decode cX9_tick 14 = .ok (.putfield 118, 3) := by decide +kernel
theorem dX9_tick_17 : decode cX9_tick 17 = .ok (.aload_n 0, 1) := by decide +kernel
theorem dX9_tick_18 : decode cX9_tick 18 = .ok (.invokevirtual 237, 3) := by decide +kernel
theorem dX9_tick_21 : decode cX9_tick 21 = .ok (.aload_n 0, 1) := by decide +kernel
theorem dX9_tick_22 : decode cX9_tick 22 = .ok (.invokevirtual 240, 3) := by decide +kernel
theorem dX9_tick_25 : decode cX9_tick 25 = .ok (.aload_n 0, 1) := by decide +kernel
theorem dX9_tick_26 : decode cX9_tick 26 = .ok (.getfield 38, 3) := by decide +kernel
theorem dX9_tick_29 : decode cX9_tick 29 = .ok (.iconst 0, 1) := by decide +kernel
theorem dX9_tick_30 : decode cX9_tick 30 = .ok (.iaload, 1) := by decide +kernel
theorem dX9_tick_31 : decode cX9_tick 31 = .ok (.iload_n 1, 1) := by decide +kernel
theorem dX9_tick_32 : decode cX9_tick 32 = .ok (.isub, 1) := by decide +kernel
theorem dX9_tick_33 : decode cX9_tick 33 = .ok (.ireturn, 1) := by decide +kernel
abbrev cX9_farTick : ByteArray := prog_14_method_37_code
def yX9_farTick : MethodName := ⟨RX9, "farTick", "()V"⟩
theorem dX9_farTick_0 : decode cX9_farTick 0 = .ok (.aload_n 0, 1) := by decide +kernel
theorem dX9_farTick_1 : decode cX9_farTick 1 = .ok (.invokevirtual 217, 3) := by decide +kernel
theorem dX9_farTick_4 : decode cX9_farTick 4 = .ok (.istore_n 1, 1) := by decide +kernel
theorem dX9_farTick_5 : decode cX9_farTick 5 = .ok (.aload_n 0, 1) := by decide +kernel
theorem dX9_farTick_6 : decode cX9_farTick 6 = .ok (.getfield 127, 3) := by decide +kernel
theorem dX9_farTick_9 : decode cX9_farTick 9 = .ok (.bipush 32, 2) := by decide +kernel
theorem dX9_farTick_11 : decode cX9_farTick 11 = .ok (.if_icmp .ge 71, 3) := by decide +kernel
theorem dX9_farTick_14 : decode cX9_farTick 14 = .ok (.aload_n 0, 1) := by decide +kernel
theorem dX9_farTick_15 : decode cX9_farTick 15 = .ok (.iconst 0, 1) := by decide +kernel
theorem dX9_farTick_16 : decode cX9_farTick 16 = .ok (.iload_n 1, 1) := by decide +kernel
theorem dX9_farTick_17 : decode cX9_farTick 17 = .ok (.invokevirtual 221, 3) := by decide +kernel
theorem dX9_farTick_20 : decode cX9_farTick 20 = .ok (.ifCond .eq 16, 3) := by decide +kernel
theorem dX9_farTick_23 : decode cX9_farTick 23 = .ok (.aload_n 0, 1) := by decide +kernel
theorem dX9_farTick_24 : decode cX9_farTick 24 = .ok (.getfield 25, 3) := by decide +kernel
theorem dX9_farTick_27 : decode cX9_farTick 27 = .ok (.iload_n 1, 1) := by decide +kernel
theorem dX9_farTick_28 : decode cX9_farTick 28 = .ok (.iaload, 1) := by decide +kernel
theorem dX9_farTick_29 : decode cX9_farTick 29 = .ok (.aload_n 0, 1) := by decide +kernel
theorem dX9_farTick_30 : decode cX9_farTick 30 = .ok (.getfield 121, 3) := by decide +kernel
theorem dX9_farTick_33 : decode cX9_farTick 33 = .ok (.if_icmp .eq 49, 3) := by decide +kernel
theorem dX9_farTick_36 : decode cX9_farTick 36 = .ok (.aload_n 0, 1) := by decide +kernel
theorem dX9_farTick_37 : decode cX9_farTick 37 = .ok (.iconst 0, 1) := by decide +kernel
theorem dX9_farTick_38 : decode cX9_farTick 38 = .ok (.iload_n 1, 1) := by decide +kernel
theorem dX9_farTick_39 : decode cX9_farTick 39 = .ok (.iconst 1, 1) := by decide +kernel
theorem dX9_farTick_40 : decode cX9_farTick 40 = .ok (.iadd, 1) := by decide +kernel
theorem dX9_farTick_41 : decode cX9_farTick 41 = .ok (.invokevirtual 197, 3) := by decide +kernel
theorem dX9_farTick_44 : decode cX9_farTick 44 = .ok (.aload_n 0, 1) := by decide +kernel
theorem dX9_farTick_45 : decode cX9_farTick 45 = .ok (.getfield 22, 3) := by decide +kernel
theorem dX9_farTick_48 : decode cX9_farTick 48 = .ok (.iload_n 1, 1) := by decide +kernel
theorem dX9_farTick_49 : decode cX9_farTick 49 = .ok (.iconst 1, 1) := by decide +kernel
theorem dX9_farTick_50 : decode cX9_farTick 50 = .ok (.iadd, 1) := by decide +kernel
theorem dX9_farTick_51 : decode cX9_farTick 51 = .ok (.aload_n 0, 1) := by decide +kernel
theorem dX9_farTick_52 : decode cX9_farTick 52 = .ok (.getfield 22, 3) := by decide +kernel
theorem dX9_farTick_55 : decode cX9_farTick 55 = .ok (.iload_n 1, 1) := by decide +kernel
theorem dX9_farTick_56 : decode cX9_farTick 56 = .ok (.iaload, 1) := by decide +kernel
theorem dX9_farTick_57 : decode cX9_farTick 57 = .ok (.iconst 1, 1) := by decide +kernel
theorem dX9_farTick_58 : decode cX9_farTick 58 = .ok (.iadd, 1) := by decide +kernel
theorem dX9_farTick_59 : decode cX9_farTick 59 = .ok (.iastore, 1) := by decide +kernel
theorem dX9_farTick_60 : decode cX9_farTick 60 = .ok (.aload_n 0, 1) := by decide +kernel
theorem dX9_farTick_61 : decode cX9_farTick 61 = .ok (.getfield 25, 3) := by decide +kernel
theorem dX9_farTick_64 : decode cX9_farTick 64 = .ok (.iload_n 1, 1) := by decide +kernel
theorem dX9_farTick_65 : decode cX9_farTick 65 = .ok (.iconst 1, 1) := by decide +kernel
theorem dX9_farTick_66 : decode cX9_farTick 66 = .ok (.iadd, 1) := by decide +kernel
theorem dX9_farTick_67 : decode cX9_farTick 67 = .ok (.aload_n 0, 1) := by decide +kernel
theorem dX9_farTick_68 : decode cX9_farTick 68 = .ok (.getfield 121, 3) := by decide +kernel
theorem dX9_farTick_71 : decode cX9_farTick 71 = .ok (.iastore, 1) := by decide +kernel
theorem dX9_farTick_72 : decode cX9_farTick 72 = .ok (.aload_n 0, 1) := by decide +kernel
theorem dX9_farTick_73 : decode cX9_farTick 73 = .ok (.dup, 1) := by decide +kernel
theorem dX9_farTick_74 : decode cX9_farTick 74 = .ok (.getfield 127, 3) := by decide +kernel
theorem dX9_farTick_77 : decode cX9_farTick 77 = .ok (.iconst 1, 1) := by decide +kernel
theorem dX9_farTick_78 : decode cX9_farTick 78 = .ok (.iadd, 1) := by decide +kernel
theorem dX9_farTick_79 : decode cX9_farTick 79 = .ok (.putfield 127, 3) := by decide +kernel
theorem dX9_farTick_82 : decode cX9_farTick 82 = .ok (.aload_n 0, 1) := by decide +kernel
theorem dX9_farTick_83 : decode cX9_farTick 83 = .ok (.invokevirtual 217, 3) := by decide +kernel
theorem dX9_farTick_86 : decode cX9_farTick 86 = .ok (.istore_n 2, 1) := by decide +kernel
theorem dX9_farTick_87 : decode cX9_farTick 87 = .ok (.aload_n 0, 1) := by decide +kernel
theorem dX9_farTick_88 : decode cX9_farTick 88 = .ok (.getfield 118, 3) := by decide +kernel
theorem dX9_farTick_91 : decode cX9_farTick 91 = .ok (.aload_n 0, 1) := by decide +kernel
theorem dX9_farTick_92 : decode cX9_farTick 92 = .ok (.getfield 130, 3) := by decide +kernel
theorem dX9_farTick_95 : decode cX9_farTick 95 = .ok (.isub, 1) := by decide +kernel
theorem dX9_farTick_96 : decode cX9_farTick 96 = .ok (.istore_n 3, 1) := by decide +kernel
theorem dX9_farTick_97 : decode cX9_farTick 97 = .ok (.aload_n 0, 1) := by decide +kernel
theorem dX9_farTick_98 : decode cX9_farTick 98 = .ok (.getfield 22, 3) := by decide +kernel
theorem dX9_farTick_101 : decode cX9_farTick 101 = .ok (.iload_n 2, 1) := by decide +kernel
theorem dX9_farTick_102 : decode cX9_farTick 102 = .ok (.iaload, 1) := by decide +kernel
theorem dX9_farTick_103 : decode cX9_farTick 103 = .ok (.aload_n 0, 1) := by decide +kernel
theorem dX9_farTick_104 : decode cX9_farTick 104 = .ok (.getfield 133, 3) := by decide +kernel
theorem dX9_farTick_107 : decode cX9_farTick 107 = .ok (.if_icmp .eq 11, 3) := by decide +kernel
theorem dX9_farTick_110 : decode cX9_farTick 110 = .ok (.iload_n 3, 1) := by decide +kernel
theorem dX9_farTick_111 : decode cX9_farTick 111 = .ok (.aload_n 0, 1) := by decide +kernel
theorem dX9_farTick_112 : decode cX9_farTick 112 = .ok (.getfield 28, 3) := by decide +kernel
theorem dX9_farTick_115 : decode cX9_farTick 115 = .ok (.if_icmp .ge 40, 3) := by decide +kernel
theorem dX9_farTick_118 : decode cX9_farTick 118 = .ok (.aload_n 0, 1) := by decide +kernel
theorem dX9_farTick_119 : decode cX9_farTick 119 = .ok (.getfield 124, 3) := by decide +kernel
theorem dX9_farTick_122 : decode cX9_farTick 122 = .ok (.aload_n 0, 1) := by decide +kernel
theorem dX9_farTick_123 : decode cX9_farTick 123 = .ok (.getfield 22, 3) := by decide +kernel
theorem dX9_farTick_126 : decode cX9_farTick 126 = .ok (.iload_n 2, 1) := by decide +kernel
theorem dX9_farTick_127 : decode cX9_farTick 127 = .ok (.iaload, 1) := by decide +kernel
theorem dX9_farTick_128 : decode cX9_farTick 128 = .ok (.if_icmp .ge 11, 3) := by decide +kernel
theorem dX9_farTick_131 : decode cX9_farTick 131 = .ok (.iload_n 3, 1) := by decide +kernel
theorem dX9_farTick_132 : decode cX9_farTick 132 = .ok (.aload_n 0, 1) := by decide +kernel
theorem dX9_farTick_133 : decode cX9_farTick 133 = .ok (.getfield 32, 3) := by decide +kernel
theorem dX9_farTick_136 : decode cX9_farTick 136 = .ok (.if_icmp .ge 19, 3) := by decide +kernel
theorem dX9_farTick_139 : decode cX9_farTick 139 = .ok (.aload_n 0, 1) := by decide +kernel
theorem dX9_farTick_140 : decode cX9_farTick 140 = .ok (.getfield 136, 3) := by decide +kernel
theorem dX9_farTick_143 : decode cX9_farTick 143 = .ok (.ifCond .eq 11, 3) := by decide +kernel
theorem dX9_farTick_146 : decode cX9_farTick 146 = .ok (.iload_n 3, 1) := by decide +kernel
theorem dX9_farTick_147 : decode cX9_farTick 147 = .ok (.aload_n 0, 1) := by decide +kernel
theorem dX9_farTick_148 : decode cX9_farTick 148 = .ok (.getfield 28, 3) := by decide +kernel
theorem dX9_farTick_151 : decode cX9_farTick 151 = .ok (.if_icmp .ge 4, 3) := by decide +kernel
theorem dX9_farTick_154 : decode cX9_farTick 154 = .ok (.return_, 1) := by decide +kernel
theorem dX9_farTick_155 : decode cX9_farTick 155 = .ok (.aload_n 0, 1) := by decide +kernel
theorem dX9_farTick_156 : decode cX9_farTick 156 = .ok (.iconst 0, 1) := by decide +kernel
theorem dX9_farTick_157 : decode cX9_farTick 157 = .ok (.putfield 183, 3) := by decide +kernel
theorem dX9_farTick_160 : decode cX9_farTick 160 = .ok (.aload_n 0, 1) := by decide +kernel
theorem dX9_farTick_161 : decode cX9_farTick 161 = .ok (.bipush 83, 2) := by decide +kernel
theorem dX9_farTick_163 : decode cX9_farTick 163 = .ok (.invokevirtual 186, 3) := by decide +kernel
theorem dX9_farTick_166 : decode cX9_farTick 166 = .ok (.aload_n 0, 1) := by decide +kernel
theorem dX9_farTick_167 : decode cX9_farTick 167 = .ok (.aload_n 0, 1) := by decide +kernel
theorem dX9_farTick_168 : decode cX9_farTick 168 = .ok (.getfield 140, 3) := by decide +kernel
theorem dX9_farTick_171 : decode cX9_farTick 171 = .ok (.invokevirtual 186, 3) := by decide +kernel
theorem dX9_farTick_174 : decode cX9_farTick 174 = .ok (.aload_n 0, 1) := by decide +kernel
theorem dX9_farTick_175 : decode cX9_farTick 175 = .ok (.aload_n 0, 1) := by decide +kernel
theorem dX9_farTick_176 : decode cX9_farTick 176 = .ok (.getfield 124, 3) := by decide +kernel
theorem dX9_farTick_179 : decode cX9_farTick 179 = .ok (.invokevirtual 194, 3) := by decide +kernel
theorem dX9_farTick_182 : decode cX9_farTick 182 = .ok (.aload_n 0, 1) := by decide +kernel
theorem dX9_farTick_183 : decode cX9_farTick 183 = .ok (.aload_n 0, 1) := by decide +kernel
theorem dX9_farTick_184 : decode cX9_farTick 184 = .ok (.getfield 22, 3) := by decide +kernel
theorem dX9_farTick_187 : decode cX9_farTick 187 = .ok (.iload_n 2, 1) := by decide +kernel
theorem dX9_farTick_188 : decode cX9_farTick 188 = .ok (.iaload, 1) := by decide +kernel
theorem dX9_farTick_189 : decode cX9_farTick 189 = .ok (.invokevirtual 194, 3) := by decide +kernel
theorem dX9_farTick_192 : decode cX9_farTick 192 = .ok (.aload_n 0, 1) := by decide +kernel
theorem dX9_farTick_193 : decode cX9_farTick 193 = .ok (.aload_n 0, 1) := by decide +kernel
theorem dX9_farTick_194 : decode cX9_farTick 194 = .ok (.getfield 25, 3) := by decide +kernel
theorem dX9_farTick_197 : decode cX9_farTick 197 = .ok (.iload_n 2, 1) := by decide +kernel
theorem dX9_farTick_198 : decode cX9_farTick 198 = .ok (.iaload, 1) := by decide +kernel
theorem dX9_farTick_199 : decode cX9_farTick 199 = .ok (.invokevirtual 194, 3) := by decide +kernel
theorem dX9_farTick_202 : decode cX9_farTick 202 = .ok (.aload_n 0, 1) := by decide +kernel
theorem dX9_farTick_203 : decode cX9_farTick 203 = .ok (.aload_n 0, 1) := by decide +kernel
theorem dX9_farTick_204 : decode cX9_farTick 204 = .ok (.getfield 16, 3) := by decide +kernel
theorem dX9_farTick_207 : decode cX9_farTick 207 = .ok (.iload_n 2, 1) := by decide +kernel
theorem dX9_farTick_208 : decode cX9_farTick 208 = .ok (.iaload, 1) := by decide +kernel
theorem dX9_farTick_209 : decode cX9_farTick 209 = .ok (.invokevirtual 186, 3) := by decide +kernel
theorem dX9_farTick_212 : decode cX9_farTick 212 = .ok (.aload_n 0, 1) := by decide +kernel
theorem dX9_farTick_213 : decode cX9_farTick 213 = .ok (.aload_n 0, 1) := by decide +kernel
theorem dX9_farTick_214 : decode cX9_farTick 214 = .ok (.getfield 19, 3) := by decide +kernel
theorem dX9_farTick_217 : decode cX9_farTick 217 = .ok (.iload_n 2, 1) := by decide +kernel
theorem dX9_farTick_218 : decode cX9_farTick 218 = .ok (.iaload, 1) := by decide +kernel
theorem dX9_farTick_219 : decode cX9_farTick 219 = .ok (.invokevirtual 186, 3) := by decide +kernel
theorem dX9_farTick_222 : decode cX9_farTick 222 = .ok (.aload_n 0, 1) := by decide +kernel
theorem dX9_farTick_223 : decode cX9_farTick 223 = .ok (.aload_n 0, 1) := by decide +kernel
theorem dX9_farTick_224 : decode cX9_farTick 224 = .ok (.iconst 1, 1) := by decide +kernel
theorem dX9_farTick_225 : decode cX9_farTick 225 = .ok (.aload_n 0, 1) := by decide +kernel
theorem dX9_farTick_226 : decode cX9_farTick 226 = .ok (.getfield 127, 3) := by decide +kernel
theorem dX9_farTick_229 : decode cX9_farTick 229 = .ok (.aload_n 0, 1) := by decide +kernel
theorem dX9_farTick_230 : decode cX9_farTick 230 = .ok (.getfield 124, 3) := by decide +kernel
theorem dX9_farTick_233 : decode cX9_farTick 233 = .ok (.invokevirtual 224, 3) := by decide +kernel
theorem dX9_farTick_236 : decode cX9_farTick 236 = .ok (.iload_n 2, 1) := by decide +kernel
theorem dX9_farTick_237 : decode cX9_farTick 237 = .ok (.invokevirtual 228, 3) := by decide +kernel
theorem dX9_farTick_240 : decode cX9_farTick 240 = .ok (.aload_n 0, 1) := by decide +kernel
theorem dX9_farTick_241 : decode cX9_farTick 241 = .ok (.iconst 1, 1) := by decide +kernel
theorem dX9_farTick_242 : decode cX9_farTick 242 = .ok (.invokevirtual 231, 3) := by decide +kernel
theorem dX9_farTick_245 : decode cX9_farTick 245 = .ok (.aload_n 0, 1) := by decide +kernel
theorem dX9_farTick_246 : decode cX9_farTick 246 = .ok (.aload_n 0, 1) := by decide +kernel
theorem dX9_farTick_247 : decode cX9_farTick 247 = .ok (.getfield 118, 3) := by decide +kernel
theorem dX9_farTick_250 : decode cX9_farTick 250 = .ok (.putfield 130, 3) := by decide +kernel
theorem dX9_farTick_253 : decode cX9_farTick 253 = .ok (.aload_n 0, 1) := by decide +kernel
theorem dX9_farTick_254 : decode cX9_farTick 254 = .ok (.aload_n 0, 1) := by decide +kernel
theorem dX9_farTick_255 : decode cX9_farTick 255 = .ok (.getfield 22, 3) := by decide +kernel
theorem dX9_farTick_258 : decode cX9_farTick 258 = .ok (.iload_n 2, 1) := by decide +kernel
theorem dX9_farTick_259 : decode cX9_farTick 259 = .ok (.iaload, 1) := by decide +kernel
theorem dX9_farTick_260 : decode cX9_farTick 260 = .ok (.putfield 133, 3) := by decide +kernel
theorem dX9_farTick_263 : decode cX9_farTick 263 = .ok (.aload_n 0, 1) := by decide +kernel
theorem dX9_farTick_264 : decode cX9_farTick 264 = .ok (.iconst 0, 1) := by decide +kernel
theorem dX9_farTick_265 : decode cX9_farTick 265 = .ok (.putfield 136, 3) := by decide +kernel
theorem dX9_farTick_268 : decode cX9_farTick 268 = .ok (.return_, 1) := by decide +kernel
abbrev cX9_farNewest : ByteArray := prog_14_method_27_code
def yX9_farNewest : MethodName := ⟨RX9, "farNewest", "()I"⟩
theorem dX9_farNewest_0 : decode cX9_farNewest 0 = .ok (.iconst 1, 1) := by decide +kernel
theorem dX9_farNewest_1 : decode cX9_farNewest 1 = .ok (.aload_n 0, 1) := by decide +kernel
theorem dX9_farNewest_2 : decode cX9_farNewest 2 = .ok (.getfield 127, 3) := by decide +kernel
theorem dX9_farNewest_5 : decode cX9_farNewest 5 = .ok (.iadd, 1) := by decide +kernel
theorem dX9_farNewest_6 : decode cX9_farNewest 6 = .ok (.iconst 1, 1) := by decide +kernel
theorem dX9_farNewest_7 : decode cX9_farNewest 7 = .ok (.isub, 1) := by decide +kernel
theorem dX9_farNewest_8 : decode cX9_farNewest 8 = .ok (.ireturn, 1) := by decide +kernel
abbrev cX9_sameCells : ByteArray := prog_14_method_29_code
def yX9_sameCells : MethodName := ⟨RX9, "sameCells", "(II)Z"⟩
theorem dX9_sameCells_0 : decode cX9_sameCells 0 = .ok (.iconst 0, 1) := by decide +kernel
theorem dX9_sameCells_1 : decode cX9_sameCells 1 = .ok (.istore_n 3, 1) := by decide +kernel
theorem dX9_sameCells_2 : decode cX9_sameCells 2 = .ok (.iload_n 3, 1) := by decide +kernel
theorem dX9_sameCells_3 : decode cX9_sameCells 3 = .ok (.sipush 192, 3) := by decide +kernel
theorem dX9_sameCells_6 : decode cX9_sameCells 6 = .ok (.if_icmp .ge 65, 3) := by decide +kernel
theorem dX9_sameCells_9 : decode cX9_sameCells 9 = .ok (.aload_n 0, 1) := by decide +kernel
theorem dX9_sameCells_10 : decode cX9_sameCells 10 = .ok (.getfield 7, 3) := by decide +kernel
theorem dX9_sameCells_13 : decode cX9_sameCells 13 = .ok (.sipush 192, 3) := by decide +kernel
theorem dX9_sameCells_16 : decode cX9_sameCells 16 = .ok (.iload_n 1, 1) := by decide +kernel
theorem dX9_sameCells_17 : decode cX9_sameCells 17 = .ok (.imul, 1) := by decide +kernel
theorem dX9_sameCells_18 : decode cX9_sameCells 18 = .ok (.iload_n 3, 1) := by decide +kernel
theorem dX9_sameCells_19 : decode cX9_sameCells 19 = .ok (.iadd, 1) := by decide +kernel
theorem dX9_sameCells_20 : decode cX9_sameCells 20 = .ok (.iaload, 1) := by decide +kernel
theorem dX9_sameCells_21 : decode cX9_sameCells 21 = .ok (.aload_n 0, 1) := by decide +kernel
theorem dX9_sameCells_22 : decode cX9_sameCells 22 = .ok (.getfield 7, 3) := by decide +kernel
theorem dX9_sameCells_25 : decode cX9_sameCells 25 = .ok (.sipush 192, 3) := by decide +kernel
theorem dX9_sameCells_28 : decode cX9_sameCells 28 = .ok (.iload_n 2, 1) := by decide +kernel
theorem dX9_sameCells_29 : decode cX9_sameCells 29 = .ok (.imul, 1) := by decide +kernel
theorem dX9_sameCells_30 : decode cX9_sameCells 30 = .ok (.iload_n 3, 1) := by decide +kernel
theorem dX9_sameCells_31 : decode cX9_sameCells 31 = .ok (.iadd, 1) := by decide +kernel
theorem dX9_sameCells_32 : decode cX9_sameCells 32 = .ok (.iaload, 1) := by decide +kernel
theorem dX9_sameCells_33 : decode cX9_sameCells 33 = .ok (.if_icmp .ne 30, 3) := by decide +kernel
theorem dX9_sameCells_36 : decode cX9_sameCells 36 = .ok (.aload_n 0, 1) := by decide +kernel
theorem dX9_sameCells_37 : decode cX9_sameCells 37 = .ok (.getfield 13, 3) := by decide +kernel
theorem dX9_sameCells_40 : decode cX9_sameCells 40 = .ok (.sipush 192, 3) := by decide +kernel
theorem dX9_sameCells_43 : decode cX9_sameCells 43 = .ok (.iload_n 1, 1) := by decide +kernel
theorem dX9_sameCells_44 : decode cX9_sameCells 44 = .ok (.imul, 1) := by decide +kernel
theorem dX9_sameCells_45 : decode cX9_sameCells 45 = .ok (.iload_n 3, 1) := by decide +kernel
theorem dX9_sameCells_46 : decode cX9_sameCells 46 = .ok (.iadd, 1) := by decide +kernel
theorem dX9_sameCells_47 : decode cX9_sameCells 47 = .ok (.iaload, 1) := by decide +kernel
theorem dX9_sameCells_48 : decode cX9_sameCells 48 = .ok (.aload_n 0, 1) := by decide +kernel
theorem dX9_sameCells_49 : decode cX9_sameCells 49 = .ok (.getfield 13, 3) := by decide +kernel
theorem dX9_sameCells_52 : decode cX9_sameCells 52 = .ok (.sipush 192, 3) := by decide +kernel
theorem dX9_sameCells_55 : decode cX9_sameCells 55 = .ok (.iload_n 2, 1) := by decide +kernel
theorem dX9_sameCells_56 : decode cX9_sameCells 56 = .ok (.imul, 1) := by decide +kernel
theorem dX9_sameCells_57 : decode cX9_sameCells 57 = .ok (.iload_n 3, 1) := by decide +kernel
theorem dX9_sameCells_58 : decode cX9_sameCells 58 = .ok (.iadd, 1) := by decide +kernel
theorem dX9_sameCells_59 : decode cX9_sameCells 59 = .ok (.iaload, 1) := by decide +kernel
theorem dX9_sameCells_60 : decode cX9_sameCells 60 = .ok (.if_icmp .eq 5, 3) := by decide +kernel
theorem dX9_sameCells_63 : decode cX9_sameCells 63 = .ok (.iconst 0, 1) := by decide +kernel
theorem dX9_sameCells_64 : decode cX9_sameCells 64 = .ok (.ireturn, 1) := by decide +kernel
theorem dX9_sameCells_65 : decode cX9_sameCells 65 = .ok (.iinc 3 1, 3) := by decide +kernel
theorem dX9_sameCells_68 : decode cX9_sameCells 68 = .ok (.goto (-66), 3) := by decide +kernel
theorem dX9_sameCells_71 : decode cX9_sameCells 71 = .ok (.aload_n 0, 1) := by decide +kernel
theorem dX9_sameCells_72 : decode cX9_sameCells 72 = .ok (.getfield 16, 3) := by decide +kernel
theorem dX9_sameCells_75 : decode cX9_sameCells 75 = .ok (.iload_n 1, 1) := by decide +kernel
theorem dX9_sameCells_76 : decode cX9_sameCells 76 = .ok (.iaload, 1) := by decide +kernel
theorem dX9_sameCells_77 : decode cX9_sameCells 77 = .ok (.aload_n 0, 1) := by decide +kernel
theorem dX9_sameCells_78 : decode cX9_sameCells 78 = .ok (.getfield 16, 3) := by decide +kernel
theorem dX9_sameCells_81 : decode cX9_sameCells 81 = .ok (.iload_n 2, 1) := by decide +kernel
theorem dX9_sameCells_82 : decode cX9_sameCells 82 = .ok (.iaload, 1) := by decide +kernel
theorem dX9_sameCells_83 : decode cX9_sameCells 83 = .ok (.if_icmp .ne 22, 3) := by decide +kernel
theorem dX9_sameCells_86 : decode cX9_sameCells 86 = .ok (.aload_n 0, 1) := by decide +kernel
theorem dX9_sameCells_87 : decode cX9_sameCells 87 = .ok (.getfield 19, 3) := by decide +kernel
theorem dX9_sameCells_90 : decode cX9_sameCells 90 = .ok (.iload_n 1, 1) := by decide +kernel
theorem dX9_sameCells_91 : decode cX9_sameCells 91 = .ok (.iaload, 1) := by decide +kernel
theorem dX9_sameCells_92 : decode cX9_sameCells 92 = .ok (.aload_n 0, 1) := by decide +kernel
theorem dX9_sameCells_93 : decode cX9_sameCells 93 = .ok (.getfield 19, 3) := by decide +kernel
theorem dX9_sameCells_96 : decode cX9_sameCells 96 = .ok (.iload_n 2, 1) := by decide +kernel
theorem dX9_sameCells_97 : decode cX9_sameCells 97 = .ok (.iaload, 1) := by decide +kernel
theorem dX9_sameCells_98 : decode cX9_sameCells 98 = .ok (.if_icmp .ne 7, 3) := by decide +kernel
theorem dX9_sameCells_101 : decode cX9_sameCells 101 = .ok (.iconst 1, 1) := by decide +kernel
theorem dX9_sameCells_102 : decode cX9_sameCells 102 = .ok (.goto 4, 3) := by decide +kernel
theorem dX9_sameCells_105 : decode cX9_sameCells 105 = .ok (.iconst 0, 1) := by decide +kernel
theorem dX9_sameCells_106 : decode cX9_sameCells 106 = .ok (.ireturn, 1) := by decide +kernel
abbrev cX9_copies : ByteArray := prog_14_method_3_code
def yX9_copies : MethodName := ⟨RX9, "copies", "(II)V"⟩
theorem dX9_copies_0 : decode cX9_copies 0 = .ok (.iconst 0, 1) := by decide +kernel
theorem dX9_copies_1 : decode cX9_copies 1 = .ok (.istore_n 3, 1) := by decide +kernel
theorem dX9_copies_2 : decode cX9_copies 2 = .ok (.iload_n 3, 1) := by decide +kernel
theorem dX9_copies_3 : decode cX9_copies 3 = .ok (.sipush 192, 3) := by decide +kernel
theorem dX9_copies_6 : decode cX9_copies 6 = .ok (.if_icmp .ge 57, 3) := by decide +kernel
theorem dX9_copies_9 : decode cX9_copies 9 = .ok (.aload_n 0, 1) := by decide +kernel
theorem dX9_copies_10 : decode cX9_copies 10 = .ok (.getfield 7, 3) := by decide +kernel
theorem dX9_copies_13 : decode cX9_copies 13 = .ok (.sipush 192, 3) := by decide +kernel
theorem dX9_copies_16 : decode cX9_copies 16 = .ok (.iload_n 2, 1) := by decide +kernel
theorem dX9_copies_17 : decode cX9_copies 17 = .ok (.imul, 1) := by decide +kernel
theorem dX9_copies_18 : decode cX9_copies 18 = .ok (.iload_n 3, 1) := by decide +kernel
theorem dX9_copies_19 : decode cX9_copies 19 = .ok (.iadd, 1) := by decide +kernel
theorem dX9_copies_20 : decode cX9_copies 20 = .ok (.aload_n 0, 1) := by decide +kernel
theorem dX9_copies_21 : decode cX9_copies 21 = .ok (.getfield 7, 3) := by decide +kernel
theorem dX9_copies_24 : decode cX9_copies 24 = .ok (.sipush 192, 3) := by decide +kernel
theorem dX9_copies_27 : decode cX9_copies 27 = .ok (.iload_n 1, 1) := by decide +kernel
theorem dX9_copies_28 : decode cX9_copies 28 = .ok (.imul, 1) := by decide +kernel
theorem dX9_copies_29 : decode cX9_copies 29 = .ok (.iload_n 3, 1) := by decide +kernel
theorem dX9_copies_30 : decode cX9_copies 30 = .ok (.iadd, 1) := by decide +kernel
theorem dX9_copies_31 : decode cX9_copies 31 = .ok (.iaload, 1) := by decide +kernel
theorem dX9_copies_32 : decode cX9_copies 32 = .ok (.iastore, 1) := by decide +kernel
theorem dX9_copies_33 : decode cX9_copies 33 = .ok (.aload_n 0, 1) := by decide +kernel
theorem dX9_copies_34 : decode cX9_copies 34 = .ok (.getfield 13, 3) := by decide +kernel
theorem dX9_copies_37 : decode cX9_copies 37 = .ok (.sipush 192, 3) := by decide +kernel
theorem dX9_copies_40 : decode cX9_copies 40 = .ok (.iload_n 2, 1) := by decide +kernel
theorem dX9_copies_41 : decode cX9_copies 41 = .ok (.imul, 1) := by decide +kernel
theorem dX9_copies_42 : decode cX9_copies 42 = .ok (.iload_n 3, 1) := by decide +kernel
theorem dX9_copies_43 : decode cX9_copies 43 = .ok (.iadd, 1) := by decide +kernel
theorem dX9_copies_44 : decode cX9_copies 44 = .ok (.aload_n 0, 1) := by decide +kernel
theorem dX9_copies_45 : decode cX9_copies 45 = .ok (.getfield 13, 3) := by decide +kernel
theorem dX9_copies_48 : decode cX9_copies 48 = .ok (.sipush 192, 3) := by decide +kernel
theorem dX9_copies_51 : decode cX9_copies 51 = .ok (.iload_n 1, 1) := by decide +kernel
theorem dX9_copies_52 : decode cX9_copies 52 = .ok (.imul, 1) := by decide +kernel
theorem dX9_copies_53 : decode cX9_copies 53 = .ok (.iload_n 3, 1) := by decide +kernel
theorem dX9_copies_54 : decode cX9_copies 54 = .ok (.iadd, 1) := by decide +kernel
theorem dX9_copies_55 : decode cX9_copies 55 = .ok (.iaload, 1) := by decide +kernel
theorem dX9_copies_56 : decode cX9_copies 56 = .ok (.iastore, 1) := by decide +kernel
theorem dX9_copies_57 : decode cX9_copies 57 = .ok (.iinc 3 1, 3) := by decide +kernel
theorem dX9_copies_60 : decode cX9_copies 60 = .ok (.goto (-58), 3) := by decide +kernel
theorem dX9_copies_63 : decode cX9_copies 63 = .ok (.aload_n 0, 1) := by decide +kernel
theorem dX9_copies_64 : decode cX9_copies 64 = .ok (.getfield 16, 3) := by decide +kernel
theorem dX9_copies_67 : decode cX9_copies 67 = .ok (.iload_n 2, 1) := by decide +kernel
theorem dX9_copies_68 : decode cX9_copies 68 = .ok (.aload_n 0, 1) := by decide +kernel
theorem dX9_copies_69 : decode cX9_copies 69 = .ok (.getfield 16, 3) := by decide +kernel
theorem dX9_copies_72 : decode cX9_copies 72 = .ok (.iload_n 1, 1) := by decide +kernel
theorem dX9_copies_73 : decode cX9_copies 73 = .ok (.iaload, 1) := by decide +kernel
theorem dX9_copies_74 : decode cX9_copies 74 = .ok (.iastore, 1) := by decide +kernel
theorem dX9_copies_75 : decode cX9_copies 75 = .ok (.aload_n 0, 1) := by decide +kernel
theorem dX9_copies_76 : decode cX9_copies 76 = .ok (.getfield 19, 3) := by decide +kernel
theorem dX9_copies_79 : decode cX9_copies 79 = .ok (.iload_n 2, 1) := by decide +kernel
theorem dX9_copies_80 : decode cX9_copies 80 = .ok (.aload_n 0, 1) := by decide +kernel
theorem dX9_copies_81 : decode cX9_copies 81 = .ok (.getfield 19, 3) := by decide +kernel
theorem dX9_copies_84 : decode cX9_copies 84 = .ok (.iload_n 1, 1) := by decide +kernel
theorem dX9_copies_85 : decode cX9_copies 85 = .ok (.iaload, 1) := by decide +kernel
theorem dX9_copies_86 : decode cX9_copies 86 = .ok (.iastore, 1) := by decide +kernel
theorem dX9_copies_87 : decode cX9_copies 87 = .ok (.aload_n 0, 1) := by decide +kernel
theorem dX9_copies_88 : decode cX9_copies 88 = .ok (.getfield 22, 3) := by decide +kernel
theorem dX9_copies_91 : decode cX9_copies 91 = .ok (.iload_n 2, 1) := by decide +kernel
theorem dX9_copies_92 : decode cX9_copies 92 = .ok (.aload_n 0, 1) := by decide +kernel
theorem dX9_copies_93 : decode cX9_copies 93 = .ok (.getfield 22, 3) := by decide +kernel
theorem dX9_copies_96 : decode cX9_copies 96 = .ok (.iload_n 1, 1) := by decide +kernel
theorem dX9_copies_97 : decode cX9_copies 97 = .ok (.iaload, 1) := by decide +kernel
theorem dX9_copies_98 : decode cX9_copies 98 = .ok (.iastore, 1) := by decide +kernel
theorem dX9_copies_99 : decode cX9_copies 99 = .ok (.aload_n 0, 1) := by decide +kernel
theorem dX9_copies_100 : decode cX9_copies 100 = .ok (.getfield 25, 3) := by decide +kernel
theorem dX9_copies_103 : decode cX9_copies 103 = .ok (.iload_n 2, 1) := by decide +kernel
theorem dX9_copies_104 : decode cX9_copies 104 = .ok (.aload_n 0, 1) := by decide +kernel
theorem dX9_copies_105 : decode cX9_copies 105 = .ok (.getfield 25, 3) := by decide +kernel
theorem dX9_copies_108 : decode cX9_copies 108 = .ok (.iload_n 1, 1) := by decide +kernel
theorem dX9_copies_109 : decode cX9_copies 109 = .ok (.iaload, 1) := by decide +kernel
theorem dX9_copies_110 : decode cX9_copies 110 = .ok (.iastore, 1) := by decide +kernel
theorem dX9_copies_111 : decode cX9_copies 111 = .ok (.return_, 1) := by decide +kernel
abbrev cX9_adds : ByteArray := prog_14_method_23_code
def yX9_adds : MethodName := ⟨RX9, "adds", "(I)V"⟩
theorem dX9_adds_0 : decode cX9_adds 0 = .ok (.aload_n 0, 1) := by decide +kernel
theorem dX9_adds_1 : decode cX9_adds 1 = .ok (.getfield 51, 3) := by decide +kernel
theorem dX9_adds_4 : decode cX9_adds 4 = .ok (.aload_n 0, 1) := by decide +kernel
theorem dX9_adds_5 : decode cX9_adds 5 = .ok (.getfield 183, 3) := by decide +kernel
theorem dX9_adds_8 : decode cX9_adds 8 = .ok (.iload_n 1, 1) := by decide +kernel
theorem dX9_adds_9 : decode cX9_adds 9 = .ok (.iastore, 1) := by decide +kernel
theorem dX9_adds_10 : decode cX9_adds 10 = .ok (.aload_n 0, 1) := by decide +kernel
theorem dX9_adds_11 : decode cX9_adds 11 = .ok (.dup, 1) := by decide +kernel
theorem dX9_adds_12 : decode cX9_adds 12 = .ok (.getfield 183, 3) := by decide +kernel
theorem dX9_adds_15 : decode cX9_adds 15 = .ok (.iconst 1, 1) := by decide +kernel
theorem dX9_adds_16 : decode cX9_adds 16 = .ok (.iadd, 1) := by decide +kernel
theorem dX9_adds_17 : decode cX9_adds 17 = .ok (.putfield 183, 3) := by decide +kernel
theorem dX9_adds_20 : decode cX9_adds 20 = .ok (.return_, 1) := by decide +kernel
abbrev cX9_addsTwo : ByteArray := prog_14_method_24_code
def yX9_addsTwo : MethodName := ⟨RX9, "addsTwo", "(I)V"⟩
theorem dX9_addsTwo_0 : decode cX9_addsTwo 0 = .ok (.aload_n 0, 1) := by decide +kernel
theorem dX9_addsTwo_1 : decode cX9_addsTwo 1 = .ok (.iload_n 1, 1) := by decide +kernel
theorem dX9_addsTwo_2 : decode cX9_addsTwo 2 = .ok (.sipush 256, 3) := by decide +kernel
theorem dX9_addsTwo_5 : decode cX9_addsTwo 5 = .ok (.idiv, 1) := by decide +kernel
theorem dX9_addsTwo_6 : decode cX9_addsTwo 6 = .ok (.invokevirtual 186, 3) := by decide +kernel
theorem dX9_addsTwo_9 : decode cX9_addsTwo 9 = .ok (.aload_n 0, 1) := by decide +kernel
theorem dX9_addsTwo_10 : decode cX9_addsTwo 10 = .ok (.iload_n 1, 1) := by decide +kernel
theorem dX9_addsTwo_11 : decode cX9_addsTwo 11 = .ok (.sipush 256, 3) := by decide +kernel
theorem dX9_addsTwo_14 : decode cX9_addsTwo 14 = .ok (.irem, 1) := by decide +kernel
theorem dX9_addsTwo_15 : decode cX9_addsTwo 15 = .ok (.invokevirtual 186, 3) := by decide +kernel
theorem dX9_addsTwo_18 : decode cX9_addsTwo 18 = .ok (.return_, 1) := by decide +kernel
abbrev cX9_stateOf : ByteArray := prog_14_method_31_code
def yX9_stateOf : MethodName := ⟨RX9, "stateOf", "(III)I"⟩
theorem dX9_stateOf_0 : decode cX9_stateOf 0 = .ok (.iconst 0, 1) := by decide +kernel
theorem dX9_stateOf_1 : decode cX9_stateOf 1 = .ok (.istore 4, 2) := by decide +kernel
theorem dX9_stateOf_3 : decode cX9_stateOf 3 = .ok (.iload 4, 2) := by decide +kernel
theorem dX9_stateOf_5 : decode cX9_stateOf 5 = .ok (.iload_n 2, 1) := by decide +kernel
theorem dX9_stateOf_6 : decode cX9_stateOf 6 = .ok (.if_icmp .ge 27, 3) := by decide +kernel
theorem dX9_stateOf_9 : decode cX9_stateOf 9 = .ok (.aload_n 0, 1) := by decide +kernel
theorem dX9_stateOf_10 : decode cX9_stateOf 10 = .ok (.getfield 22, 3) := by decide +kernel
theorem dX9_stateOf_13 : decode cX9_stateOf 13 = .ok (.iload_n 1, 1) := by decide +kernel
theorem dX9_stateOf_14 : decode cX9_stateOf 14 = .ok (.iload 4, 2) := by decide +kernel
theorem dX9_stateOf_16 : decode cX9_stateOf 16 = .ok (.iadd, 1) := by decide +kernel
theorem dX9_stateOf_17 : decode cX9_stateOf 17 = .ok (.iaload, 1) := by decide +kernel
theorem dX9_stateOf_18 : decode cX9_stateOf 18 = .ok (.iload_n 3, 1) := by decide +kernel
theorem dX9_stateOf_19 : decode cX9_stateOf 19 = .ok (.if_icmp .ne 8, 3) := by decide +kernel
theorem dX9_stateOf_22 : decode cX9_stateOf 22 = .ok (.iload_n 1, 1) := by decide +kernel
theorem dX9_stateOf_23 : decode cX9_stateOf 23 = .ok (.iload 4, 2) := by decide +kernel
theorem dX9_stateOf_25 : decode cX9_stateOf 25 = .ok (.iadd, 1) := by decide +kernel
theorem dX9_stateOf_26 : decode cX9_stateOf 26 = .ok (.ireturn, 1) := by decide +kernel
theorem dX9_stateOf_27 : decode cX9_stateOf 27 = .ok (.iinc 4 1, 3) := by decide +kernel
theorem dX9_stateOf_30 : decode cX9_stateOf 30 = .ok (.goto (-27), 3) := by decide +kernel
theorem dX9_stateOf_33 : decode cX9_stateOf 33 = .ok (.iconst (-1), 1) := by decide +kernel
theorem dX9_stateOf_34 : decode cX9_stateOf 34 = .ok (.ireturn, 1) := by decide +kernel
abbrev cX9_difference : ByteArray := prog_14_method_35_code
def yX9_difference : MethodName := ⟨RX9, "difference", "(II)V"⟩
theorem dX9_difference_0 : decode cX9_difference 0 = .ok (.iconst 0, 1) := by decide +kernel
theorem dX9_difference_1 : decode cX9_difference 1 = .ok (.istore_n 3, 1) := by decide +kernel
theorem dX9_difference_2 : decode cX9_difference 2 = .ok (.iconst (-1), 1) := by decide +kernel
theorem dX9_difference_3 : decode cX9_difference 3 = .ok (.istore 4, 2) := by decide +kernel
theorem dX9_difference_5 : decode cX9_difference 5 = .ok (.iconst 0, 1) := by decide +kernel
theorem dX9_difference_6 : decode cX9_difference 6 = .ok (.istore 5, 2) := by decide +kernel
theorem dX9_difference_8 : decode cX9_difference 8 = .ok (.iload 5, 2) := by decide +kernel
theorem dX9_difference_10 : decode cX9_difference 10 = .ok (.bipush 9, 2) := by decide +kernel
theorem dX9_difference_12 : decode cX9_difference 12 = .ok (.if_icmp .ge 57, 3) := by decide +kernel
theorem dX9_difference_15 : decode cX9_difference 15 = .ok (.aload_n 0, 1) := by decide +kernel
theorem dX9_difference_16 : decode cX9_difference 16 = .ok (.iload_n 1, 1) := by decide +kernel
theorem dX9_difference_17 : decode cX9_difference 17 = .ok (.bipush 67, 2) := by decide +kernel
theorem dX9_difference_19 : decode cX9_difference 19 = .ok (.invokevirtual 197, 3) := by decide +kernel
theorem dX9_difference_22 : decode cX9_difference 22 = .ok (.aload_n 0, 1) := by decide +kernel
theorem dX9_difference_23 : decode cX9_difference 23 = .ok (.bipush 67, 2) := by decide +kernel
theorem dX9_difference_25 : decode cX9_difference 25 = .ok (.iload 5, 2) := by decide +kernel
theorem dX9_difference_27 : decode cX9_difference 27 = .ok (.invokevirtual 79, 3) := by decide +kernel
theorem dX9_difference_30 : decode cX9_difference 30 = .ok (.aload_n 0, 1) := by decide +kernel
theorem dX9_difference_31 : decode cX9_difference 31 = .ok (.bipush 67, 2) := by decide +kernel
theorem dX9_difference_33 : decode cX9_difference 33 = .ok (.iload_n 2, 1) := by decide +kernel
theorem dX9_difference_34 : decode cX9_difference 34 = .ok (.iconst 0, 1) := by decide +kernel
theorem dX9_difference_35 : decode cX9_difference 35 = .ok (.invokevirtual 213, 3) := by decide +kernel
theorem dX9_difference_38 : decode cX9_difference 38 = .ok (.istore 6, 2) := by decide +kernel
theorem dX9_difference_40 : decode cX9_difference 40 = .ok (.iload 4, 2) := by decide +kernel
theorem dX9_difference_42 : decode cX9_difference 42 = .ok (.iconst (-1), 1) := by decide +kernel
theorem dX9_difference_43 : decode cX9_difference 43 = .ok (.if_icmp .eq 13, 3) := by decide +kernel
theorem dX9_difference_46 : decode cX9_difference 46 = .ok (.iload 6, 2) := by decide +kernel
theorem dX9_difference_48 : decode cX9_difference 48 = .ok (.iload 4, 2) := by decide +kernel
theorem dX9_difference_50 : decode cX9_difference 50 = .ok (.if_icmp .lt 6, 3) := by decide +kernel
theorem dX9_difference_53 : decode cX9_difference 53 = .ok (.goto 10, 3) := by decide +kernel
theorem dX9_difference_56 : decode cX9_difference 56 = .ok (.iload 5, 2) := by decide +kernel
theorem dX9_difference_58 : decode cX9_difference 58 = .ok (.istore_n 3, 1) := by decide +kernel
theorem dX9_difference_59 : decode cX9_difference 59 = .ok (.iload 6, 2) := by decide +kernel
theorem dX9_difference_61 : decode cX9_difference 61 = .ok (.istore 4, 2) := by decide +kernel
theorem dX9_difference_63 : decode cX9_difference 63 = .ok (.iinc 5 1, 3) := by decide +kernel
theorem dX9_difference_66 : decode cX9_difference 66 = .ok (.goto (-58), 3) := by decide +kernel
theorem dX9_difference_69 : decode cX9_difference 69 = .ok (.aload_n 0, 1) := by decide +kernel
theorem dX9_difference_70 : decode cX9_difference 70 = .ok (.iload_n 1, 1) := by decide +kernel
theorem dX9_difference_71 : decode cX9_difference 71 = .ok (.bipush 67, 2) := by decide +kernel
theorem dX9_difference_73 : decode cX9_difference 73 = .ok (.invokevirtual 197, 3) := by decide +kernel
theorem dX9_difference_76 : decode cX9_difference 76 = .ok (.aload_n 0, 1) := by decide +kernel
theorem dX9_difference_77 : decode cX9_difference 77 = .ok (.bipush 67, 2) := by decide +kernel
theorem dX9_difference_79 : decode cX9_difference 79 = .ok (.iload_n 3, 1) := by decide +kernel
theorem dX9_difference_80 : decode cX9_difference 80 = .ok (.invokevirtual 79, 3) := by decide +kernel
theorem dX9_difference_83 : decode cX9_difference 83 = .ok (.aload_n 0, 1) := by decide +kernel
theorem dX9_difference_84 : decode cX9_difference 84 = .ok (.iload_n 3, 1) := by decide +kernel
theorem dX9_difference_85 : decode cX9_difference 85 = .ok (.invokevirtual 186, 3) := by decide +kernel
theorem dX9_difference_88 : decode cX9_difference 88 = .ok (.aload_n 0, 1) := by decide +kernel
theorem dX9_difference_89 : decode cX9_difference 89 = .ok (.bipush 67, 2) := by decide +kernel
theorem dX9_difference_91 : decode cX9_difference 91 = .ok (.iload_n 2, 1) := by decide +kernel
theorem dX9_difference_92 : decode cX9_difference 92 = .ok (.iconst 1, 1) := by decide +kernel
theorem dX9_difference_93 : decode cX9_difference 93 = .ok (.invokevirtual 213, 3) := by decide +kernel
theorem dX9_difference_96 : decode cX9_difference 96 = .ok (.pop, 1) := by decide +kernel
theorem dX9_difference_97 : decode cX9_difference 97 = .ok (.return_, 1) := by decide +kernel
abbrev cX9_rowsOf : ByteArray := prog_14_method_34_code
def yX9_rowsOf : MethodName := ⟨RX9, "rowsOf", "(IIZ)I"⟩
theorem dX9_rowsOf_0 : decode cX9_rowsOf 0 = .ok (.iconst 0, 1) := by decide +kernel
theorem dX9_rowsOf_1 : decode cX9_rowsOf 1 = .ok (.istore 4, 2) := by decide +kernel
theorem dX9_rowsOf_3 : decode cX9_rowsOf 3 = .ok (.iconst 0, 1) := by decide +kernel
theorem dX9_rowsOf_4 : decode cX9_rowsOf 4 = .ok (.istore 5, 2) := by decide +kernel
theorem dX9_rowsOf_6 : decode cX9_rowsOf 6 = .ok (.iload 5, 2) := by decide +kernel
theorem dX9_rowsOf_8 : decode cX9_rowsOf 8 = .ok (.bipush 8, 2) := by decide +kernel
theorem dX9_rowsOf_10 : decode cX9_rowsOf 10 = .ok (.if_icmp .ge 176, 3) := by decide +kernel
theorem dX9_rowsOf_13 : decode cX9_rowsOf 13 = .ok (.aload_n 0, 1) := by decide +kernel
theorem dX9_rowsOf_14 : decode cX9_rowsOf 14 = .ok (.iload_n 1, 1) := by decide +kernel
theorem dX9_rowsOf_15 : decode cX9_rowsOf 15 = .ok (.iload_n 2, 1) := by decide +kernel
theorem dX9_rowsOf_16 : decode cX9_rowsOf 16 = .ok (.iload 5, 2) := by decide +kernel
theorem dX9_rowsOf_18 : decode cX9_rowsOf 18 = .ok (.invokevirtual 206, 3) := by decide +kernel
theorem dX9_rowsOf_21 : decode cX9_rowsOf 21 = .ok (.ifCond .ne 6, 3) := by decide +kernel
theorem dX9_rowsOf_24 : decode cX9_rowsOf 24 = .ok (.goto 156, 3) := by decide +kernel
theorem dX9_rowsOf_27 : decode cX9_rowsOf 27 = .ok (.aload_n 0, 1) := by decide +kernel
theorem dX9_rowsOf_28 : decode cX9_rowsOf 28 = .ok (.iload_n 2, 1) := by decide +kernel
theorem dX9_rowsOf_29 : decode cX9_rowsOf 29 = .ok (.iload 5, 2) := by decide +kernel
theorem dX9_rowsOf_31 : decode cX9_rowsOf 31 = .ok (.invokevirtual 210, 3) := by decide +kernel
theorem dX9_rowsOf_34 : decode cX9_rowsOf 34 = .ok (.istore 6, 2) := by decide +kernel
theorem dX9_rowsOf_36 : decode cX9_rowsOf 36 = .ok (.iload 6, 2) := by decide +kernel
theorem dX9_rowsOf_38 : decode cX9_rowsOf 38 = .ok (.ifCond .eq 10, 3) := by decide +kernel
theorem dX9_rowsOf_41 : decode cX9_rowsOf 41 = .ok (.aload_n 0, 1) := by decide +kernel
theorem dX9_rowsOf_42 : decode cX9_rowsOf 42 = .ok (.getfield 200, 3) := by decide +kernel
theorem dX9_rowsOf_45 : decode cX9_rowsOf 45 = .ok (.goto 7, 3) := by decide +kernel
theorem dX9_rowsOf_48 : decode cX9_rowsOf 48 = .ok (.aload_n 0, 1) := by decide +kernel
theorem dX9_rowsOf_49 : decode cX9_rowsOf 49 = .ok (.getfield 203, 3) := by decide +kernel
theorem dX9_rowsOf_52 : decode cX9_rowsOf 52 = .ok (.istore 7, 2) := by decide +kernel
theorem dX9_rowsOf_54 : decode cX9_rowsOf 54 = .ok (.iload 4, 2) := by decide +kernel
theorem dX9_rowsOf_56 : decode cX9_rowsOf 56 = .ok (.iconst 4, 1) := by decide +kernel
theorem dX9_rowsOf_57 : decode cX9_rowsOf 57 = .ok (.iconst 2, 1) := by decide +kernel
theorem dX9_rowsOf_58 : decode cX9_rowsOf 58 = .ok (.iload 7, 2) := by decide +kernel
theorem dX9_rowsOf_60 : decode cX9_rowsOf 60 = .ok (.aload_n 0, 1) := by decide +kernel
theorem dX9_rowsOf_61 : decode cX9_rowsOf 61 = .ok (.getfield 200, 3) := by decide +kernel
theorem dX9_rowsOf_64 : decode cX9_rowsOf 64 = .ok (.isub, 1) := by decide +kernel
theorem dX9_rowsOf_65 : decode cX9_rowsOf 65 = .ok (.iconst 1, 1) := by decide +kernel
theorem dX9_rowsOf_66 : decode cX9_rowsOf 66 = .ok (.iadd, 1) := by decide +kernel
theorem dX9_rowsOf_67 : decode cX9_rowsOf 67 = .ok (.imul, 1) := by decide +kernel
theorem dX9_rowsOf_68 : decode cX9_rowsOf 68 = .ok (.iadd, 1) := by decide +kernel
theorem dX9_rowsOf_69 : decode cX9_rowsOf 69 = .ok (.iadd, 1) := by decide +kernel
theorem dX9_rowsOf_70 : decode cX9_rowsOf 70 = .ok (.istore 4, 2) := by decide +kernel
theorem dX9_rowsOf_72 : decode cX9_rowsOf 72 = .ok (.iload_n 3, 1) := by decide +kernel
theorem dX9_rowsOf_73 : decode cX9_rowsOf 73 = .ok (.ifCond .ne 6, 3) := by decide +kernel
theorem dX9_rowsOf_76 : decode cX9_rowsOf 76 = .ok (.goto 104, 3) := by decide +kernel
theorem dX9_rowsOf_79 : decode cX9_rowsOf 79 = .ok (.aload_n 0, 1) := by decide +kernel
theorem dX9_rowsOf_80 : decode cX9_rowsOf 80 = .ok (.iload 5, 2) := by decide +kernel
theorem dX9_rowsOf_82 : decode cX9_rowsOf 82 = .ok (.invokevirtual 186, 3) := by decide +kernel
theorem dX9_rowsOf_85 : decode cX9_rowsOf 85 = .ok (.aload_n 0, 1) := by decide +kernel
theorem dX9_rowsOf_86 : decode cX9_rowsOf 86 = .ok (.iload 6, 2) := by decide +kernel
theorem dX9_rowsOf_88 : decode cX9_rowsOf 88 = .ok (.ifCond .eq 7, 3) := by decide +kernel
theorem dX9_rowsOf_91 : decode cX9_rowsOf 91 = .ok (.iconst 1, 1) := by decide +kernel
theorem dX9_rowsOf_92 : decode cX9_rowsOf 92 = .ok (.goto 4, 3) := by decide +kernel
theorem dX9_rowsOf_95 : decode cX9_rowsOf 95 = .ok (.iconst 0, 1) := by decide +kernel
theorem dX9_rowsOf_96 : decode cX9_rowsOf 96 = .ok (.invokevirtual 186, 3) := by decide +kernel
theorem dX9_rowsOf_99 : decode cX9_rowsOf 99 = .ok (.aload_n 0, 1) := by decide +kernel
theorem dX9_rowsOf_100 : decode cX9_rowsOf 100 = .ok (.aload_n 0, 1) := by decide +kernel
theorem dX9_rowsOf_101 : decode cX9_rowsOf 101 = .ok (.getfield 200, 3) := by decide +kernel
theorem dX9_rowsOf_104 : decode cX9_rowsOf 104 = .ok (.invokevirtual 186, 3) := by decide +kernel
theorem dX9_rowsOf_107 : decode cX9_rowsOf 107 = .ok (.aload_n 0, 1) := by decide +kernel
theorem dX9_rowsOf_108 : decode cX9_rowsOf 108 = .ok (.aload_n 0, 1) := by decide +kernel
theorem dX9_rowsOf_109 : decode cX9_rowsOf 109 = .ok (.getfield 203, 3) := by decide +kernel
theorem dX9_rowsOf_112 : decode cX9_rowsOf 112 = .ok (.invokevirtual 186, 3) := by decide +kernel
theorem dX9_rowsOf_115 : decode cX9_rowsOf 115 = .ok (.aload_n 0, 1) := by decide +kernel
theorem dX9_rowsOf_116 : decode cX9_rowsOf 116 = .ok (.getfield 200, 3) := by decide +kernel
theorem dX9_rowsOf_119 : decode cX9_rowsOf 119 = .ok (.istore 8, 2) := by decide +kernel
theorem dX9_rowsOf_121 : decode cX9_rowsOf 121 = .ok (.iload 8, 2) := by decide +kernel
theorem dX9_rowsOf_123 : decode cX9_rowsOf 123 = .ok (.iload 7, 2) := by decide +kernel
theorem dX9_rowsOf_125 : decode cX9_rowsOf 125 = .ok (.if_icmp .gt 55, 3) := by decide +kernel
theorem dX9_rowsOf_128 : decode cX9_rowsOf 128 = .ok (.aload_n 0, 1) := by decide +kernel
theorem dX9_rowsOf_129 : decode cX9_rowsOf 129 = .ok (.aload_n 0, 1) := by decide +kernel
theorem dX9_rowsOf_130 : decode cX9_rowsOf 130 = .ok (.getfield 7, 3) := by decide +kernel
theorem dX9_rowsOf_133 : decode cX9_rowsOf 133 = .ok (.sipush 192, 3) := by decide +kernel
theorem dX9_rowsOf_136 : decode cX9_rowsOf 136 = .ok (.iload_n 2, 1) := by decide +kernel
theorem dX9_rowsOf_137 : decode cX9_rowsOf 137 = .ok (.imul, 1) := by decide +kernel
theorem dX9_rowsOf_138 : decode cX9_rowsOf 138 = .ok (.bipush 24, 2) := by decide +kernel
theorem dX9_rowsOf_140 : decode cX9_rowsOf 140 = .ok (.iload 5, 2) := by decide +kernel
theorem dX9_rowsOf_142 : decode cX9_rowsOf 142 = .ok (.imul, 1) := by decide +kernel
theorem dX9_rowsOf_143 : decode cX9_rowsOf 143 = .ok (.iadd, 1) := by decide +kernel
theorem dX9_rowsOf_144 : decode cX9_rowsOf 144 = .ok (.iload 8, 2) := by decide +kernel
theorem dX9_rowsOf_146 : decode cX9_rowsOf 146 = .ok (.iadd, 1) := by decide +kernel
theorem dX9_rowsOf_147 : decode cX9_rowsOf 147 = .ok (.iaload, 1) := by decide +kernel
theorem dX9_rowsOf_148 : decode cX9_rowsOf 148 = .ok (.invokevirtual 186, 3) := by decide +kernel
theorem dX9_rowsOf_151 : decode cX9_rowsOf 151 = .ok (.aload_n 0, 1) := by decide +kernel
theorem dX9_rowsOf_152 : decode cX9_rowsOf 152 = .ok (.aload_n 0, 1) := by decide +kernel
theorem dX9_rowsOf_153 : decode cX9_rowsOf 153 = .ok (.getfield 13, 3) := by decide +kernel
theorem dX9_rowsOf_156 : decode cX9_rowsOf 156 = .ok (.sipush 192, 3) := by decide +kernel
theorem dX9_rowsOf_159 : decode cX9_rowsOf 159 = .ok (.iload_n 2, 1) := by decide +kernel
theorem dX9_rowsOf_160 : decode cX9_rowsOf 160 = .ok (.imul, 1) := by decide +kernel
theorem dX9_rowsOf_161 : decode cX9_rowsOf 161 = .ok (.bipush 24, 2) := by decide +kernel
theorem dX9_rowsOf_163 : decode cX9_rowsOf 163 = .ok (.iload 5, 2) := by decide +kernel
theorem dX9_rowsOf_165 : decode cX9_rowsOf 165 = .ok (.imul, 1) := by decide +kernel
theorem dX9_rowsOf_166 : decode cX9_rowsOf 166 = .ok (.iadd, 1) := by decide +kernel
theorem dX9_rowsOf_167 : decode cX9_rowsOf 167 = .ok (.iload 8, 2) := by decide +kernel
theorem dX9_rowsOf_169 : decode cX9_rowsOf 169 = .ok (.iadd, 1) := by decide +kernel
theorem dX9_rowsOf_170 : decode cX9_rowsOf 170 = .ok (.iaload, 1) := by decide +kernel
theorem dX9_rowsOf_171 : decode cX9_rowsOf 171 = .ok (.invokevirtual 186, 3) := by decide +kernel
theorem dX9_rowsOf_174 : decode cX9_rowsOf 174 = .ok (.iinc 8 1, 3) := by decide +kernel
theorem dX9_rowsOf_177 : decode cX9_rowsOf 177 = .ok (.goto (-56), 3) := by decide +kernel
theorem dX9_rowsOf_180 : decode cX9_rowsOf 180 = .ok (.iinc 5 1, 3) := by decide +kernel
theorem dX9_rowsOf_183 : decode cX9_rowsOf 183 = .ok (.goto (-177), 3) := by decide +kernel
theorem dX9_rowsOf_186 : decode cX9_rowsOf 186 = .ok (.iload 4, 2) := by decide +kernel
theorem dX9_rowsOf_188 : decode cX9_rowsOf 188 = .ok (.ireturn, 1) := by decide +kernel
abbrev cX9_differs : ByteArray := prog_14_method_32_code
def yX9_differs : MethodName := ⟨RX9, "differs", "(III)Z"⟩
theorem dX9_differs_0 : decode cX9_differs 0 = .ok (.aload_n 0, 1) := by decide +kernel
theorem dX9_differs_1 : decode cX9_differs 1 = .ok (.iconst (-1), 1) := by decide +kernel
theorem dX9_differs_2 : decode cX9_differs 2 = .ok (.putfield 200, 3) := by decide +kernel
theorem dX9_differs_5 : decode cX9_differs 5 = .ok (.iconst 0, 1) := by decide +kernel
theorem dX9_differs_6 : decode cX9_differs 6 = .ok (.istore 4, 2) := by decide +kernel
theorem dX9_differs_8 : decode cX9_differs 8 = .ok (.iload 4, 2) := by decide +kernel
theorem dX9_differs_10 : decode cX9_differs 10 = .ok (.bipush 24, 2) := by decide +kernel
theorem dX9_differs_12 : decode cX9_differs 12 = .ok (.if_icmp .ge 96, 3) := by decide +kernel
theorem dX9_differs_15 : decode cX9_differs 15 = .ok (.sipush 192, 3) := by decide +kernel
theorem dX9_differs_18 : decode cX9_differs 18 = .ok (.iload_n 1, 1) := by decide +kernel
theorem dX9_differs_19 : decode cX9_differs 19 = .ok (.imul, 1) := by decide +kernel
theorem dX9_differs_20 : decode cX9_differs 20 = .ok (.bipush 24, 2) := by decide +kernel
theorem dX9_differs_22 : decode cX9_differs 22 = .ok (.iload_n 3, 1) := by decide +kernel
theorem dX9_differs_23 : decode cX9_differs 23 = .ok (.imul, 1) := by decide +kernel
theorem dX9_differs_24 : decode cX9_differs 24 = .ok (.iadd, 1) := by decide +kernel
theorem dX9_differs_25 : decode cX9_differs 25 = .ok (.iload 4, 2) := by decide +kernel
theorem dX9_differs_27 : decode cX9_differs 27 = .ok (.iadd, 1) := by decide +kernel
theorem dX9_differs_28 : decode cX9_differs 28 = .ok (.istore 5, 2) := by decide +kernel
theorem dX9_differs_30 : decode cX9_differs 30 = .ok (.sipush 192, 3) := by decide +kernel
theorem dX9_differs_33 : decode cX9_differs 33 = .ok (.iload_n 2, 1) := by decide +kernel
theorem dX9_differs_34 : decode cX9_differs 34 = .ok (.imul, 1) := by decide +kernel
theorem dX9_differs_35 : decode cX9_differs 35 = .ok (.bipush 24, 2) := by decide +kernel
theorem dX9_differs_37 : decode cX9_differs 37 = .ok (.iload_n 3, 1) := by decide +kernel
theorem dX9_differs_38 : decode cX9_differs 38 = .ok (.imul, 1) := by decide +kernel
theorem dX9_differs_39 : decode cX9_differs 39 = .ok (.iadd, 1) := by decide +kernel
theorem dX9_differs_40 : decode cX9_differs 40 = .ok (.iload 4, 2) := by decide +kernel
theorem dX9_differs_42 : decode cX9_differs 42 = .ok (.iadd, 1) := by decide +kernel
theorem dX9_differs_43 : decode cX9_differs 43 = .ok (.istore 6, 2) := by decide +kernel
theorem dX9_differs_45 : decode cX9_differs 45 = .ok (.aload_n 0, 1) := by decide +kernel
theorem dX9_differs_46 : decode cX9_differs 46 = .ok (.getfield 7, 3) := by decide +kernel
theorem dX9_differs_49 : decode cX9_differs 49 = .ok (.iload 5, 2) := by decide +kernel
theorem dX9_differs_51 : decode cX9_differs 51 = .ok (.iaload, 1) := by decide +kernel
theorem dX9_differs_52 : decode cX9_differs 52 = .ok (.aload_n 0, 1) := by decide +kernel
theorem dX9_differs_53 : decode cX9_differs 53 = .ok (.getfield 7, 3) := by decide +kernel
theorem dX9_differs_56 : decode cX9_differs 56 = .ok (.iload 6, 2) := by decide +kernel
theorem dX9_differs_58 : decode cX9_differs 58 = .ok (.iaload, 1) := by decide +kernel
theorem dX9_differs_59 : decode cX9_differs 59 = .ok (.if_icmp .ne 23, 3) := by decide +kernel
theorem dX9_differs_62 : decode cX9_differs 62 = .ok (.aload_n 0, 1) := by decide +kernel
theorem dX9_differs_63 : decode cX9_differs 63 = .ok (.getfield 13, 3) := by decide +kernel
theorem dX9_differs_66 : decode cX9_differs 66 = .ok (.iload 5, 2) := by decide +kernel
theorem dX9_differs_68 : decode cX9_differs 68 = .ok (.iaload, 1) := by decide +kernel
theorem dX9_differs_69 : decode cX9_differs 69 = .ok (.aload_n 0, 1) := by decide +kernel
theorem dX9_differs_70 : decode cX9_differs 70 = .ok (.getfield 13, 3) := by decide +kernel
theorem dX9_differs_73 : decode cX9_differs 73 = .ok (.iload 6, 2) := by decide +kernel
theorem dX9_differs_75 : decode cX9_differs 75 = .ok (.iaload, 1) := by decide +kernel
theorem dX9_differs_76 : decode cX9_differs 76 = .ok (.if_icmp .ne 6, 3) := by decide +kernel
theorem dX9_differs_79 : decode cX9_differs 79 = .ok (.goto 23, 3) := by decide +kernel
theorem dX9_differs_82 : decode cX9_differs 82 = .ok (.aload_n 0, 1) := by decide +kernel
theorem dX9_differs_83 : decode cX9_differs 83 = .ok (.getfield 200, 3) := by decide +kernel
theorem dX9_differs_86 : decode cX9_differs 86 = .ok (.iconst (-1), 1) := by decide +kernel
theorem dX9_differs_87 : decode cX9_differs 87 = .ok (.if_icmp .ne 9, 3) := by decide +kernel
theorem dX9_differs_90 : decode cX9_differs 90 = .ok (.aload_n 0, 1) := by decide +kernel
theorem dX9_differs_91 : decode cX9_differs 91 = .ok (.iload 4, 2) := by decide +kernel
theorem dX9_differs_93 : decode cX9_differs 93 = .ok (.putfield 200, 3) := by decide +kernel
theorem dX9_differs_96 : decode cX9_differs 96 = .ok (.aload_n 0, 1) := by decide +kernel
theorem dX9_differs_97 : decode cX9_differs 97 = .ok (.iload 4, 2) := by decide +kernel
theorem dX9_differs_99 : decode cX9_differs 99 = .ok (.putfield 203, 3) := by decide +kernel
theorem dX9_differs_102 : decode cX9_differs 102 = .ok (.iinc 4 1, 3) := by decide +kernel
theorem dX9_differs_105 : decode cX9_differs 105 = .ok (.goto (-97), 3) := by decide +kernel
theorem dX9_differs_108 : decode cX9_differs 108 = .ok (.aload_n 0, 1) := by decide +kernel
theorem dX9_differs_109 : decode cX9_differs 109 = .ok (.getfield 200, 3) := by decide +kernel
theorem dX9_differs_112 : decode cX9_differs 112 = .ok (.iconst (-1), 1) := by decide +kernel
theorem dX9_differs_113 : decode cX9_differs 113 = .ok (.if_icmp .eq 7, 3) := by decide +kernel
theorem dX9_differs_116 : decode cX9_differs 116 = .ok (.iconst 1, 1) := by decide +kernel
theorem dX9_differs_117 : decode cX9_differs 117 = .ok (.goto 4, 3) := by decide +kernel
theorem dX9_differs_120 : decode cX9_differs 120 = .ok (.iconst 0, 1) := by decide +kernel
theorem dX9_differs_121 : decode cX9_differs 121 = .ok (.ireturn, 1) := by decide +kernel
abbrev cX9_areLike : ByteArray := prog_14_method_33_code
def yX9_areLike : MethodName := ⟨RX9, "areLike", "(II)Z"⟩
theorem dX9_areLike_0 : decode cX9_areLike 0 = .ok (.sipush 192, 3) := by decide +kernel
theorem dX9_areLike_3 : decode cX9_areLike 3 = .ok (.iload_n 1, 1) := by decide +kernel
theorem dX9_areLike_4 : decode cX9_areLike 4 = .ok (.imul, 1) := by decide +kernel
theorem dX9_areLike_5 : decode cX9_areLike 5 = .ok (.bipush 24, 2) := by decide +kernel
theorem dX9_areLike_7 : decode cX9_areLike 7 = .ok (.iload_n 2, 1) := by decide +kernel
theorem dX9_areLike_8 : decode cX9_areLike 8 = .ok (.imul, 1) := by decide +kernel
theorem dX9_areLike_9 : decode cX9_areLike 9 = .ok (.iadd, 1) := by decide +kernel
theorem dX9_areLike_10 : decode cX9_areLike 10 = .ok (.istore_n 3, 1) := by decide +kernel
theorem dX9_areLike_11 : decode cX9_areLike 11 = .ok (.iconst 1, 1) := by decide +kernel
theorem dX9_areLike_12 : decode cX9_areLike 12 = .ok (.istore 4, 2) := by decide +kernel
theorem dX9_areLike_14 : decode cX9_areLike 14 = .ok (.aload_n 0, 1) := by decide +kernel
theorem dX9_areLike_15 : decode cX9_areLike 15 = .ok (.getfield 200, 3) := by decide +kernel
theorem dX9_areLike_18 : decode cX9_areLike 18 = .ok (.istore 5, 2) := by decide +kernel
theorem dX9_areLike_20 : decode cX9_areLike 20 = .ok (.iload 5, 2) := by decide +kernel
theorem dX9_areLike_22 : decode cX9_areLike 22 = .ok (.aload_n 0, 1) := by decide +kernel
theorem dX9_areLike_23 : decode cX9_areLike 23 = .ok (.getfield 203, 3) := by decide +kernel
theorem dX9_areLike_26 : decode cX9_areLike 26 = .ok (.if_icmp .gt 67, 3) := by decide +kernel
theorem dX9_areLike_29 : decode cX9_areLike 29 = .ok (.iload 4, 2) := by decide +kernel
theorem dX9_areLike_31 : decode cX9_areLike 31 = .ok (.ifCond .eq 53, 3) := by decide +kernel
theorem dX9_areLike_34 : decode cX9_areLike 34 = .ok (.aload_n 0, 1) := by decide +kernel
theorem dX9_areLike_35 : decode cX9_areLike 35 = .ok (.getfield 7, 3) := by decide +kernel
theorem dX9_areLike_38 : decode cX9_areLike 38 = .ok (.iload_n 3, 1) := by decide +kernel
theorem dX9_areLike_39 : decode cX9_areLike 39 = .ok (.iload 5, 2) := by decide +kernel
theorem dX9_areLike_41 : decode cX9_areLike 41 = .ok (.iadd, 1) := by decide +kernel
theorem dX9_areLike_42 : decode cX9_areLike 42 = .ok (.iaload, 1) := by decide +kernel
theorem dX9_areLike_43 : decode cX9_areLike 43 = .ok (.aload_n 0, 1) := by decide +kernel
theorem dX9_areLike_44 : decode cX9_areLike 44 = .ok (.getfield 7, 3) := by decide +kernel
theorem dX9_areLike_47 : decode cX9_areLike 47 = .ok (.iload_n 3, 1) := by decide +kernel
theorem dX9_areLike_48 : decode cX9_areLike 48 = .ok (.aload_n 0, 1) := by decide +kernel
theorem dX9_areLike_49 : decode cX9_areLike 49 = .ok (.getfield 200, 3) := by decide +kernel
theorem dX9_areLike_52 : decode cX9_areLike 52 = .ok (.iadd, 1) := by decide +kernel
theorem dX9_areLike_53 : decode cX9_areLike 53 = .ok (.iaload, 1) := by decide +kernel
theorem dX9_areLike_54 : decode cX9_areLike 54 = .ok (.if_icmp .ne 30, 3) := by decide +kernel
theorem dX9_areLike_57 : decode cX9_areLike 57 = .ok (.aload_n 0, 1) := by decide +kernel
theorem dX9_areLike_58 : decode cX9_areLike 58 = .ok (.getfield 13, 3) := by decide +kernel
theorem dX9_areLike_61 : decode cX9_areLike 61 = .ok (.iload_n 3, 1) := by decide +kernel
theorem dX9_areLike_62 : decode cX9_areLike 62 = .ok (.iload 5, 2) := by decide +kernel
theorem dX9_areLike_64 : decode cX9_areLike 64 = .ok (.iadd, 1) := by decide +kernel
theorem dX9_areLike_65 : decode cX9_areLike 65 = .ok (.iaload, 1) := by decide +kernel
theorem dX9_areLike_66 : decode cX9_areLike 66 = .ok (.aload_n 0, 1) := by decide +kernel
theorem dX9_areLike_67 : decode cX9_areLike 67 = .ok (.getfield 13, 3) := by decide +kernel
theorem dX9_areLike_70 : decode cX9_areLike 70 = .ok (.iload_n 3, 1) := by decide +kernel
theorem dX9_areLike_71 : decode cX9_areLike 71 = .ok (.aload_n 0, 1) := by decide +kernel
theorem dX9_areLike_72 : decode cX9_areLike 72 = .ok (.getfield 200, 3) := by decide +kernel
theorem dX9_areLike_75 : decode cX9_areLike 75 = .ok (.iadd, 1) := by decide +kernel
theorem dX9_areLike_76 : decode cX9_areLike 76 = .ok (.iaload, 1) := by decide +kernel
theorem dX9_areLike_77 : decode cX9_areLike 77 = .ok (.if_icmp .ne 7, 3) := by decide +kernel
theorem dX9_areLike_80 : decode cX9_areLike 80 = .ok (.iconst 1, 1) := by decide +kernel
theorem dX9_areLike_81 : decode cX9_areLike 81 = .ok (.goto 4, 3) := by decide +kernel
theorem dX9_areLike_84 : decode cX9_areLike 84 = .ok (.iconst 0, 1) := by decide +kernel
theorem dX9_areLike_85 : decode cX9_areLike 85 = .ok (.istore 4, 2) := by decide +kernel
theorem dX9_areLike_87 : decode cX9_areLike 87 = .ok (.iinc 5 1, 3) := by decide +kernel
theorem dX9_areLike_90 : decode cX9_areLike 90 = .ok (.goto (-70), 3) := by decide +kernel
theorem dX9_areLike_93 : decode cX9_areLike 93 = .ok (.iload 4, 2) := by decide +kernel
theorem dX9_areLike_95 : decode cX9_areLike 95 = .ok (.ireturn, 1) := by decide +kernel
abbrev cX9_sends : ByteArray := prog_14_method_26_code
def yX9_sends : MethodName := ⟨RX9, "sends", "(I)V"⟩
theorem dX9_sends_0 : decode cX9_sends 0 = .ok (.aload_n 0, 1) := by decide +kernel
theorem dX9_sends_1 : decode cX9_sends 1 = .ok (.aload_n 0, 1) := by decide +kernel
theorem dX9_sends_2 : decode cX9_sends 2 = .ok (.aload_n 0, 1) := by decide +kernel
theorem dX9_sends_3 : decode cX9_sends 3 = .ok (.getfield 183, 3) := by decide +kernel
theorem dX9_sends_6 : decode cX9_sends 6 = .ok (.invokevirtual 190, 3) := by decide +kernel
theorem dX9_sends_9 : decode cX9_sends 9 = .ok (.invokevirtual 194, 3) := by decide +kernel
theorem dX9_sends_12 : decode cX9_sends 12 = .ok (.aload_n 0, 1) := by decide +kernel
theorem dX9_sends_13 : decode cX9_sends 13 = .ok (.getfield 38, 3) := by decide +kernel
theorem dX9_sends_16 : decode cX9_sends 16 = .ok (.iconst 0, 1) := by decide +kernel
theorem dX9_sends_17 : decode cX9_sends 17 = .ok (.dup2, 1) := by decide +kernel
theorem dX9_sends_18 : decode cX9_sends 18 = .ok (.iaload, 1) := by decide +kernel
theorem dX9_sends_19 : decode cX9_sends 19 = .ok (.iconst 1, 1) := by decide +kernel
theorem dX9_sends_20 : decode cX9_sends 20 = .ok (.iadd, 1) := by decide +kernel
theorem dX9_sends_21 : decode cX9_sends 21 = .ok (.iastore, 1) := by decide +kernel
theorem dX9_sends_22 : decode cX9_sends 22 = .ok (.aload_n 0, 1) := by decide +kernel
theorem dX9_sends_23 : decode cX9_sends 23 = .ok (.getfield 38, 3) := by decide +kernel
theorem dX9_sends_26 : decode cX9_sends 26 = .ok (.iconst 1, 1) := by decide +kernel
theorem dX9_sends_27 : decode cX9_sends 27 = .ok (.dup2, 1) := by decide +kernel
theorem dX9_sends_28 : decode cX9_sends 28 = .ok (.iaload, 1) := by decide +kernel
theorem dX9_sends_29 : decode cX9_sends 29 = .ok (.aload_n 0, 1) := by decide +kernel
theorem dX9_sends_30 : decode cX9_sends 30 = .ok (.getfield 183, 3) := by decide +kernel
theorem dX9_sends_33 : decode cX9_sends 33 = .ok (.iadd, 1) := by decide +kernel
theorem dX9_sends_34 : decode cX9_sends 34 = .ok (.iastore, 1) := by decide +kernel
theorem dX9_sends_35 : decode cX9_sends 35 = .ok (.aload_n 0, 1) := by decide +kernel
theorem dX9_sends_36 : decode cX9_sends 36 = .ok (.getfield 41, 3) := by decide +kernel
theorem dX9_sends_39 : decode cX9_sends 39 = .ok (.iload_n 1, 1) := by decide +kernel
theorem dX9_sends_40 : decode cX9_sends 40 = .ok (.iaload, 1) := by decide +kernel
theorem dX9_sends_41 : decode cX9_sends 41 = .ok (.bipush 40, 2) := by decide +kernel
theorem dX9_sends_43 : decode cX9_sends 43 = .ok (.if_icmp .ne 14, 3) := by decide +kernel
theorem dX9_sends_46 : decode cX9_sends 46 = .ok (.aload_n 0, 1) := by decide +kernel
theorem dX9_sends_47 : decode cX9_sends 47 = .ok (.getfield 38, 3) := by decide +kernel
theorem dX9_sends_50 : decode cX9_sends 50 = .ok (.iconst 2, 1) := by decide +kernel
theorem dX9_sends_51 : decode cX9_sends 51 = .ok (.dup2, 1) := by decide +kernel
theorem dX9_sends_52 : decode cX9_sends 52 = .ok (.iaload, 1) := by decide +kernel
theorem dX9_sends_53 : decode cX9_sends 53 = .ok (.iconst 1, 1) := by decide +kernel
theorem dX9_sends_54 : decode cX9_sends 54 = .ok (.iadd, 1) := by decide +kernel
theorem dX9_sends_55 : decode cX9_sends 55 = .ok (.iastore, 1) := by decide +kernel
theorem dX9_sends_56 : decode cX9_sends 56 = .ok (.return_, 1) := by decide +kernel
theorem dX9_sends_57 : decode cX9_sends 57 = .ok (.bipush 40, 2) := by decide +kernel
theorem dX9_sends_59 : decode cX9_sends 59 = .ok (.iload_n 1, 1) := by decide +kernel
theorem dX9_sends_60 : decode cX9_sends 60 = .ok (.imul, 1) := by decide +kernel
theorem dX9_sends_61 : decode cX9_sends 61 = .ok (.aload_n 0, 1) := by decide +kernel
theorem dX9_sends_62 : decode cX9_sends 62 = .ok (.getfield 41, 3) := by decide +kernel
theorem dX9_sends_65 : decode cX9_sends 65 = .ok (.iload_n 1, 1) := by decide +kernel
theorem dX9_sends_66 : decode cX9_sends 66 = .ok (.iaload, 1) := by decide +kernel
theorem dX9_sends_67 : decode cX9_sends 67 = .ok (.iadd, 1) := by decide +kernel
theorem dX9_sends_68 : decode cX9_sends 68 = .ok (.istore_n 2, 1) := by decide +kernel
theorem dX9_sends_69 : decode cX9_sends 69 = .ok (.iconst 0, 1) := by decide +kernel
theorem dX9_sends_70 : decode cX9_sends 70 = .ok (.istore_n 3, 1) := by decide +kernel
theorem dX9_sends_71 : decode cX9_sends 71 = .ok (.iload_n 3, 1) := by decide +kernel
theorem dX9_sends_72 : decode cX9_sends 72 = .ok (.aload_n 0, 1) := by decide +kernel
theorem dX9_sends_73 : decode cX9_sends 73 = .ok (.getfield 183, 3) := by decide +kernel
theorem dX9_sends_76 : decode cX9_sends 76 = .ok (.if_icmp .ge 27, 3) := by decide +kernel
theorem dX9_sends_79 : decode cX9_sends 79 = .ok (.aload_n 0, 1) := by decide +kernel
theorem dX9_sends_80 : decode cX9_sends 80 = .ok (.getfield 45, 3) := by decide +kernel
theorem dX9_sends_83 : decode cX9_sends 83 = .ok (.sipush 1100, 3) := by decide +kernel
theorem dX9_sends_86 : decode cX9_sends 86 = .ok (.iload_n 2, 1) := by decide +kernel
theorem dX9_sends_87 : decode cX9_sends 87 = .ok (.imul, 1) := by decide +kernel
theorem dX9_sends_88 : decode cX9_sends 88 = .ok (.iload_n 3, 1) := by decide +kernel
theorem dX9_sends_89 : decode cX9_sends 89 = .ok (.iadd, 1) := by decide +kernel
theorem dX9_sends_90 : decode cX9_sends 90 = .ok (.aload_n 0, 1) := by decide +kernel
theorem dX9_sends_91 : decode cX9_sends 91 = .ok (.getfield 51, 3) := by decide +kernel
theorem dX9_sends_94 : decode cX9_sends 94 = .ok (.iload_n 3, 1) := by decide +kernel
theorem dX9_sends_95 : decode cX9_sends 95 = .ok (.iaload, 1) := by decide +kernel
theorem dX9_sends_96 : decode cX9_sends 96 = .ok (.iastore, 1) := by decide +kernel
theorem dX9_sends_97 : decode cX9_sends 97 = .ok (.iinc 3 1, 3) := by decide +kernel
theorem dX9_sends_100 : decode cX9_sends 100 = .ok (.goto (-29), 3) := by decide +kernel
theorem dX9_sends_103 : decode cX9_sends 103 = .ok (.aload_n 0, 1) := by decide +kernel
theorem dX9_sends_104 : decode cX9_sends 104 = .ok (.getfield 48, 3) := by decide +kernel
theorem dX9_sends_107 : decode cX9_sends 107 = .ok (.iload_n 2, 1) := by decide +kernel
theorem dX9_sends_108 : decode cX9_sends 108 = .ok (.aload_n 0, 1) := by decide +kernel
theorem dX9_sends_109 : decode cX9_sends 109 = .ok (.getfield 183, 3) := by decide +kernel
theorem dX9_sends_112 : decode cX9_sends 112 = .ok (.iastore, 1) := by decide +kernel
theorem dX9_sends_113 : decode cX9_sends 113 = .ok (.aload_n 0, 1) := by decide +kernel
theorem dX9_sends_114 : decode cX9_sends 114 = .ok (.getfield 41, 3) := by decide +kernel
theorem dX9_sends_117 : decode cX9_sends 117 = .ok (.iload_n 1, 1) := by decide +kernel
theorem dX9_sends_118 : decode cX9_sends 118 = .ok (.dup2, 1) := by decide +kernel
theorem dX9_sends_119 : decode cX9_sends 119 = .ok (.iaload, 1) := by decide +kernel
theorem dX9_sends_120 : decode cX9_sends 120 = .ok (.iconst 1, 1) := by decide +kernel
theorem dX9_sends_121 : decode cX9_sends 121 = .ok (.iadd, 1) := by decide +kernel
theorem dX9_sends_122 : decode cX9_sends 122 = .ok (.iastore, 1) := by decide +kernel
theorem dX9_sends_123 : decode cX9_sends 123 = .ok (.return_, 1) := by decide +kernel
abbrev cX9_sumOf : ByteArray := prog_14_method_25_code
def yX9_sumOf : MethodName := ⟨RX9, "sumOf", "(I)I"⟩
theorem dX9_sumOf_0 : decode cX9_sumOf 0 = .ok (.iconst 1, 1) := by decide +kernel
theorem dX9_sumOf_1 : decode cX9_sumOf 1 = .ok (.istore_n 2, 1) := by decide +kernel
theorem dX9_sumOf_2 : decode cX9_sumOf 2 = .ok (.iconst 0, 1) := by decide +kernel
theorem dX9_sumOf_3 : decode cX9_sumOf 3 = .ok (.istore_n 3, 1) := by decide +kernel
theorem dX9_sumOf_4 : decode cX9_sumOf 4 = .ok (.iload_n 3, 1) := by decide +kernel
theorem dX9_sumOf_5 : decode cX9_sumOf 5 = .ok (.iload_n 1, 1) := by decide +kernel
theorem dX9_sumOf_6 : decode cX9_sumOf 6 = .ok (.if_icmp .ge 24, 3) := by decide +kernel
theorem dX9_sumOf_9 : decode cX9_sumOf 9 = .ok (.bipush 31, 2) := by decide +kernel
theorem dX9_sumOf_11 : decode cX9_sumOf 11 = .ok (.iload_n 2, 1) := by decide +kernel
theorem dX9_sumOf_12 : decode cX9_sumOf 12 = .ok (.imul, 1) := by decide +kernel
theorem dX9_sumOf_13 : decode cX9_sumOf 13 = .ok (.aload_n 0, 1) := by decide +kernel
theorem dX9_sumOf_14 : decode cX9_sumOf 14 = .ok (.getfield 51, 3) := by decide +kernel
theorem dX9_sumOf_17 : decode cX9_sumOf 17 = .ok (.iload_n 3, 1) := by decide +kernel
theorem dX9_sumOf_18 : decode cX9_sumOf 18 = .ok (.iaload, 1) := by decide +kernel
theorem dX9_sumOf_19 : decode cX9_sumOf 19 = .ok (.iadd, 1) := by decide +kernel
theorem dX9_sumOf_20 : decode cX9_sumOf 20 = .ok (.ldc 189, 2) := by decide +kernel
theorem dX9_sumOf_22 : decode cX9_sumOf 22 = .ok (.irem, 1) := by decide +kernel
theorem dX9_sumOf_23 : decode cX9_sumOf 23 = .ok (.istore_n 2, 1) := by decide +kernel
theorem dX9_sumOf_24 : decode cX9_sumOf 24 = .ok (.iinc 3 1, 3) := by decide +kernel
theorem dX9_sumOf_27 : decode cX9_sumOf 27 = .ok (.goto (-23), 3) := by decide +kernel
theorem dX9_sumOf_30 : decode cX9_sumOf 30 = .ok (.iload_n 2, 1) := by decide +kernel
theorem dX9_sumOf_31 : decode cX9_sumOf 31 = .ok (.ireturn, 1) := by decide +kernel
abbrev cX9_nearTick : ByteArray := prog_14_method_38_code
def yX9_nearTick : MethodName := ⟨RX9, "nearTick", "()V"⟩
theorem dX9_nearTick_0 : decode cX9_nearTick 0 = .ok (.aload_n 0, 1) := by decide +kernel
theorem dX9_nearTick_1 : decode cX9_nearTick 1 = .ok (.getfield 118, 3) := by decide +kernel
theorem dX9_nearTick_4 : decode cX9_nearTick 4 = .ok (.aload_n 0, 1) := by decide +kernel
theorem dX9_nearTick_5 : decode cX9_nearTick 5 = .ok (.getfield 155, 3) := by decide +kernel
theorem dX9_nearTick_8 : decode cX9_nearTick 8 = .ok (.isub, 1) := by decide +kernel
theorem dX9_nearTick_9 : decode cX9_nearTick 9 = .ok (.istore_n 1, 1) := by decide +kernel
theorem dX9_nearTick_10 : decode cX9_nearTick 10 = .ok (.aload_n 0, 1) := by decide +kernel
theorem dX9_nearTick_11 : decode cX9_nearTick 11 = .ok (.getfield 146, 3) := by decide +kernel
theorem dX9_nearTick_14 : decode cX9_nearTick 14 = .ok (.aload_n 0, 1) := by decide +kernel
theorem dX9_nearTick_15 : decode cX9_nearTick 15 = .ok (.getfield 158, 3) := by decide +kernel
theorem dX9_nearTick_18 : decode cX9_nearTick 18 = .ok (.if_icmp .eq 11, 3) := by decide +kernel
theorem dX9_nearTick_21 : decode cX9_nearTick 21 = .ok (.iload_n 1, 1) := by decide +kernel
theorem dX9_nearTick_22 : decode cX9_nearTick 22 = .ok (.aload_n 0, 1) := by decide +kernel
theorem dX9_nearTick_23 : decode cX9_nearTick 23 = .ok (.getfield 28, 3) := by decide +kernel
theorem dX9_nearTick_26 : decode cX9_nearTick 26 = .ok (.if_icmp .ge 48, 3) := by decide +kernel
theorem dX9_nearTick_29 : decode cX9_nearTick 29 = .ok (.aload_n 0, 1) := by decide +kernel
theorem dX9_nearTick_30 : decode cX9_nearTick 30 = .ok (.getfield 149, 3) := by decide +kernel
theorem dX9_nearTick_33 : decode cX9_nearTick 33 = .ok (.aload_n 0, 1) := by decide +kernel
theorem dX9_nearTick_34 : decode cX9_nearTick 34 = .ok (.getfield 146, 3) := by decide +kernel
theorem dX9_nearTick_37 : decode cX9_nearTick 37 = .ok (.if_icmp .ge 11, 3) := by decide +kernel
theorem dX9_nearTick_40 : decode cX9_nearTick 40 = .ok (.iload_n 1, 1) := by decide +kernel
theorem dX9_nearTick_41 : decode cX9_nearTick 41 = .ok (.aload_n 0, 1) := by decide +kernel
theorem dX9_nearTick_42 : decode cX9_nearTick 42 = .ok (.getfield 32, 3) := by decide +kernel
theorem dX9_nearTick_45 : decode cX9_nearTick 45 = .ok (.if_icmp .ge 29, 3) := by decide +kernel
theorem dX9_nearTick_48 : decode cX9_nearTick 48 = .ok (.aload_n 0, 1) := by decide +kernel
theorem dX9_nearTick_49 : decode cX9_nearTick 49 = .ok (.getfield 161, 3) := by decide +kernel
theorem dX9_nearTick_52 : decode cX9_nearTick 52 = .ok (.ifCond .eq 11, 3) := by decide +kernel
theorem dX9_nearTick_55 : decode cX9_nearTick 55 = .ok (.iload_n 1, 1) := by decide +kernel
theorem dX9_nearTick_56 : decode cX9_nearTick 56 = .ok (.aload_n 0, 1) := by decide +kernel
theorem dX9_nearTick_57 : decode cX9_nearTick 57 = .ok (.getfield 28, 3) := by decide +kernel
theorem dX9_nearTick_60 : decode cX9_nearTick 60 = .ok (.if_icmp .ge 14, 3) := by decide +kernel
theorem dX9_nearTick_63 : decode cX9_nearTick 63 = .ok (.iload_n 1, 1) := by decide +kernel
theorem dX9_nearTick_64 : decode cX9_nearTick 64 = .ok (.iconst 4, 1) := by decide +kernel
theorem dX9_nearTick_65 : decode cX9_nearTick 65 = .ok (.aload_n 0, 1) := by decide +kernel
theorem dX9_nearTick_66 : decode cX9_nearTick 66 = .ok (.getfield 32, 3) := by decide +kernel
theorem dX9_nearTick_69 : decode cX9_nearTick 69 = .ok (.imul, 1) := by decide +kernel
theorem dX9_nearTick_70 : decode cX9_nearTick 70 = .ok (.if_icmp .ge 4, 3) := by decide +kernel
theorem dX9_nearTick_73 : decode cX9_nearTick 73 = .ok (.return_, 1) := by decide +kernel
theorem dX9_nearTick_74 : decode cX9_nearTick 74 = .ok (.aload_n 0, 1) := by decide +kernel
theorem dX9_nearTick_75 : decode cX9_nearTick 75 = .ok (.iconst 0, 1) := by decide +kernel
theorem dX9_nearTick_76 : decode cX9_nearTick 76 = .ok (.putfield 183, 3) := by decide +kernel
theorem dX9_nearTick_79 : decode cX9_nearTick 79 = .ok (.aload_n 0, 1) := by decide +kernel
theorem dX9_nearTick_80 : decode cX9_nearTick 80 = .ok (.bipush 75, 2) := by decide +kernel
theorem dX9_nearTick_82 : decode cX9_nearTick 82 = .ok (.invokevirtual 186, 3) := by decide +kernel
theorem dX9_nearTick_85 : decode cX9_nearTick 85 = .ok (.aload_n 0, 1) := by decide +kernel
theorem dX9_nearTick_86 : decode cX9_nearTick 86 = .ok (.aload_n 0, 1) := by decide +kernel
theorem dX9_nearTick_87 : decode cX9_nearTick 87 = .ok (.getfield 164, 3) := by decide +kernel
theorem dX9_nearTick_90 : decode cX9_nearTick 90 = .ok (.invokevirtual 186, 3) := by decide +kernel
theorem dX9_nearTick_93 : decode cX9_nearTick 93 = .ok (.aload_n 0, 1) := by decide +kernel
theorem dX9_nearTick_94 : decode cX9_nearTick 94 = .ok (.aload_n 0, 1) := by decide +kernel
theorem dX9_nearTick_95 : decode cX9_nearTick 95 = .ok (.getfield 149, 3) := by decide +kernel
theorem dX9_nearTick_98 : decode cX9_nearTick 98 = .ok (.invokevirtual 194, 3) := by decide +kernel
theorem dX9_nearTick_101 : decode cX9_nearTick 101 = .ok (.aload_n 0, 1) := by decide +kernel
theorem dX9_nearTick_102 : decode cX9_nearTick 102 = .ok (.aload_n 0, 1) := by decide +kernel
theorem dX9_nearTick_103 : decode cX9_nearTick 103 = .ok (.getfield 146, 3) := by decide +kernel
theorem dX9_nearTick_106 : decode cX9_nearTick 106 = .ok (.invokevirtual 194, 3) := by decide +kernel
theorem dX9_nearTick_109 : decode cX9_nearTick 109 = .ok (.aload_n 0, 1) := by decide +kernel
theorem dX9_nearTick_110 : decode cX9_nearTick 110 = .ok (.aload_n 0, 1) := by decide +kernel
theorem dX9_nearTick_111 : decode cX9_nearTick 111 = .ok (.getfield 22, 3) := by decide +kernel
theorem dX9_nearTick_114 : decode cX9_nearTick 114 = .ok (.aload_n 0, 1) := by decide +kernel
theorem dX9_nearTick_115 : decode cX9_nearTick 115 = .ok (.invokevirtual 234, 3) := by decide +kernel
theorem dX9_nearTick_118 : decode cX9_nearTick 118 = .ok (.iaload, 1) := by decide +kernel
theorem dX9_nearTick_119 : decode cX9_nearTick 119 = .ok (.invokevirtual 194, 3) := by decide +kernel
theorem dX9_nearTick_122 : decode cX9_nearTick 122 = .ok (.aload_n 0, 1) := by decide +kernel
theorem dX9_nearTick_123 : decode cX9_nearTick 123 = .ok (.getfield 149, 3) := by decide +kernel
theorem dX9_nearTick_126 : decode cX9_nearTick 126 = .ok (.istore_n 2, 1) := by decide +kernel
theorem dX9_nearTick_127 : decode cX9_nearTick 127 = .ok (.iload_n 2, 1) := by decide +kernel
theorem dX9_nearTick_128 : decode cX9_nearTick 128 = .ok (.aload_n 0, 1) := by decide +kernel
theorem dX9_nearTick_129 : decode cX9_nearTick 129 = .ok (.getfield 146, 3) := by decide +kernel
theorem dX9_nearTick_132 : decode cX9_nearTick 132 = .ok (.if_icmp .ge 19, 3) := by decide +kernel
theorem dX9_nearTick_135 : decode cX9_nearTick 135 = .ok (.aload_n 0, 1) := by decide +kernel
theorem dX9_nearTick_136 : decode cX9_nearTick 136 = .ok (.aload_n 0, 1) := by decide +kernel
theorem dX9_nearTick_137 : decode cX9_nearTick 137 = .ok (.getfield 35, 3) := by decide +kernel
theorem dX9_nearTick_140 : decode cX9_nearTick 140 = .ok (.iload_n 2, 1) := by decide +kernel
theorem dX9_nearTick_141 : decode cX9_nearTick 141 = .ok (.iaload, 1) := by decide +kernel
theorem dX9_nearTick_142 : decode cX9_nearTick 142 = .ok (.invokevirtual 186, 3) := by decide +kernel
theorem dX9_nearTick_145 : decode cX9_nearTick 145 = .ok (.iinc 2 1, 3) := by decide +kernel
theorem dX9_nearTick_148 : decode cX9_nearTick 148 = .ok (.goto (-21), 3) := by decide +kernel
theorem dX9_nearTick_151 : decode cX9_nearTick 151 = .ok (.aload_n 0, 1) := by decide +kernel
theorem dX9_nearTick_152 : decode cX9_nearTick 152 = .ok (.iconst 0, 1) := by decide +kernel
theorem dX9_nearTick_153 : decode cX9_nearTick 153 = .ok (.invokevirtual 231, 3) := by decide +kernel
theorem dX9_nearTick_156 : decode cX9_nearTick 156 = .ok (.aload_n 0, 1) := by decide +kernel
theorem dX9_nearTick_157 : decode cX9_nearTick 157 = .ok (.aload_n 0, 1) := by decide +kernel
theorem dX9_nearTick_158 : decode cX9_nearTick 158 = .ok (.getfield 118, 3) := by decide +kernel
theorem dX9_nearTick_161 : decode cX9_nearTick 161 = .ok (.putfield 155, 3) := by decide +kernel
theorem dX9_nearTick_164 : decode cX9_nearTick 164 = .ok (.aload_n 0, 1) := by decide +kernel
theorem dX9_nearTick_165 : decode cX9_nearTick 165 = .ok (.aload_n 0, 1) := by decide +kernel
theorem dX9_nearTick_166 : decode cX9_nearTick 166 = .ok (.getfield 146, 3) := by decide +kernel
theorem dX9_nearTick_169 : decode cX9_nearTick 169 = .ok (.putfield 158, 3) := by decide +kernel
theorem dX9_nearTick_172 : decode cX9_nearTick 172 = .ok (.aload_n 0, 1) := by decide +kernel
theorem dX9_nearTick_173 : decode cX9_nearTick 173 = .ok (.iconst 0, 1) := by decide +kernel
theorem dX9_nearTick_174 : decode cX9_nearTick 174 = .ok (.putfield 161, 3) := by decide +kernel
theorem dX9_nearTick_177 : decode cX9_nearTick 177 = .ok (.return_, 1) := by decide +kernel
abbrev cX9_nearNewest : ByteArray := prog_14_method_28_code
def yX9_nearNewest : MethodName := ⟨RX9, "nearNewest", "()I"⟩
theorem dX9_nearNewest_0 : decode cX9_nearNewest 0 = .ok (.bipush 34, 2) := by decide +kernel
theorem dX9_nearNewest_2 : decode cX9_nearNewest 2 = .ok (.aload_n 0, 1) := by decide +kernel
theorem dX9_nearNewest_3 : decode cX9_nearNewest 3 = .ok (.getfield 152, 3) := by decide +kernel
theorem dX9_nearNewest_6 : decode cX9_nearNewest 6 = .ok (.iadd, 1) := by decide +kernel
theorem dX9_nearNewest_7 : decode cX9_nearNewest 7 = .ok (.iconst 1, 1) := by decide +kernel
theorem dX9_nearNewest_8 : decode cX9_nearNewest 8 = .ok (.isub, 1) := by decide +kernel
theorem dX9_nearNewest_9 : decode cX9_nearNewest 9 = .ok (.ireturn, 1) := by decide +kernel
abbrev cX9_carry : ByteArray := prog_14_method_47_code
def yX9_carry : MethodName := ⟨RX9, "carry", "(IIII)I"⟩
theorem dX9_carry_0 : decode cX9_carry 0 = .ok (.aload_n 0, 1) := by decide +kernel
theorem dX9_carry_1 : decode cX9_carry 1 = .ok (.iload_n 1, 1) := by decide +kernel
theorem dX9_carry_2 : decode cX9_carry 2 = .ok (.iload_n 2, 1) := by decide +kernel
theorem dX9_carry_3 : decode cX9_carry 3 = .ok (.invokevirtual 264, 3) := by decide +kernel
theorem dX9_carry_6 : decode cX9_carry 6 = .ok (.ifCond .eq 42, 3) := by decide +kernel
theorem dX9_carry_9 : decode cX9_carry 9 = .ok (.iload_n 3, 1) := by decide +kernel
theorem dX9_carry_10 : decode cX9_carry 10 = .ok (.ifCond .lt 38, 3) := by decide +kernel
theorem dX9_carry_13 : decode cX9_carry 13 = .ok (.iload_n 3, 1) := by decide +kernel
theorem dX9_carry_14 : decode cX9_carry 14 = .ok (.iconst 3, 1) := by decide +kernel
theorem dX9_carry_15 : decode cX9_carry 15 = .ok (.if_icmp .gt 33, 3) := by decide +kernel
theorem dX9_carry_18 : decode cX9_carry 18 = .ok (.iload_n 3, 1) := by decide +kernel
theorem dX9_carry_19 : decode cX9_carry 19 = .ok (.iconst 3, 1) := by decide +kernel
theorem dX9_carry_20 : decode cX9_carry 20 = .ok (.if_icmp .ne 30, 3) := by decide +kernel
theorem dX9_carry_23 : decode cX9_carry 23 = .ok (.iload 4, 2) := by decide +kernel
theorem dX9_carry_25 : decode cX9_carry 25 = .ok (.ifCond .lt 23, 3) := by decide +kernel
theorem dX9_carry_28 : decode cX9_carry 28 = .ok (.iload 4, 2) := by decide +kernel
theorem dX9_carry_30 : decode cX9_carry 30 = .ok (.sipush 256, 3) := by decide +kernel
theorem dX9_carry_33 : decode cX9_carry 33 = .ok (.idiv, 1) := by decide +kernel
theorem dX9_carry_34 : decode cX9_carry 34 = .ok (.aload_n 0, 1) := by decide +kernel
theorem dX9_carry_35 : decode cX9_carry 35 = .ok (.getfield 48, 3) := by decide +kernel
theorem dX9_carry_38 : decode cX9_carry 38 = .ok (.bipush 40, 2) := by decide +kernel
theorem dX9_carry_40 : decode cX9_carry 40 = .ok (.iload_n 1, 1) := by decide +kernel
theorem dX9_carry_41 : decode cX9_carry 41 = .ok (.imul, 1) := by decide +kernel
theorem dX9_carry_42 : decode cX9_carry 42 = .ok (.iload_n 2, 1) := by decide +kernel
theorem dX9_carry_43 : decode cX9_carry 43 = .ok (.iadd, 1) := by decide +kernel
theorem dX9_carry_44 : decode cX9_carry 44 = .ok (.iaload, 1) := by decide +kernel
theorem dX9_carry_45 : decode cX9_carry 45 = .ok (.if_icmp .lt 5, 3) := by decide +kernel
theorem dX9_carry_48 : decode cX9_carry 48 = .ok (.iconst (-1), 1) := by decide +kernel
theorem dX9_carry_49 : decode cX9_carry 49 = .ok (.ireturn, 1) := by decide +kernel
theorem dX9_carry_50 : decode cX9_carry 50 = .ok (.aload_n 0, 1) := by decide +kernel
theorem dX9_carry_51 : decode cX9_carry 51 = .ok (.iload_n 1, 1) := by decide +kernel
theorem dX9_carry_52 : decode cX9_carry 52 = .ok (.iload_n 2, 1) := by decide +kernel
theorem dX9_carry_53 : decode cX9_carry 53 = .ok (.invokevirtual 267, 3) := by decide +kernel
theorem dX9_carry_56 : decode cX9_carry 56 = .ok (.iload_n 3, 1) := by decide +kernel
theorem dX9_carry_57 : decode cX9_carry 57 = .ok (.iconst 2, 1) := by decide +kernel
theorem dX9_carry_58 : decode cX9_carry 58 = .ok (.if_icmp .eq 9, 3) := by decide +kernel
theorem dX9_carry_61 : decode cX9_carry 61 = .ok (.aload_n 0, 1) := by decide +kernel
theorem dX9_carry_62 : decode cX9_carry 62 = .ok (.iload_n 1, 1) := by decide +kernel
theorem dX9_carry_63 : decode cX9_carry 63 = .ok (.iload_n 2, 1) := by decide +kernel
theorem dX9_carry_64 : decode cX9_carry 64 = .ok (.invokevirtual 270, 3) := by decide +kernel
theorem dX9_carry_67 : decode cX9_carry 67 = .ok (.iload_n 3, 1) := by decide +kernel
theorem dX9_carry_68 : decode cX9_carry 68 = .ok (.iconst 1, 1) := by decide +kernel
theorem dX9_carry_69 : decode cX9_carry 69 = .ok (.if_icmp .ne 20, 3) := by decide +kernel
theorem dX9_carry_72 : decode cX9_carry 72 = .ok (.aload_n 0, 1) := by decide +kernel
theorem dX9_carry_73 : decode cX9_carry 73 = .ok (.getfield 38, 3) := by decide +kernel
theorem dX9_carry_76 : decode cX9_carry 76 = .ok (.iconst 2, 1) := by decide +kernel
theorem dX9_carry_77 : decode cX9_carry 77 = .ok (.dup2, 1) := by decide +kernel
theorem dX9_carry_78 : decode cX9_carry 78 = .ok (.iaload, 1) := by decide +kernel
theorem dX9_carry_79 : decode cX9_carry 79 = .ok (.iconst 1, 1) := by decide +kernel
theorem dX9_carry_80 : decode cX9_carry 80 = .ok (.iadd, 1) := by decide +kernel
theorem dX9_carry_81 : decode cX9_carry 81 = .ok (.iastore, 1) := by decide +kernel
theorem dX9_carry_82 : decode cX9_carry 82 = .ok (.aload_n 0, 1) := by decide +kernel
theorem dX9_carry_83 : decode cX9_carry 83 = .ok (.getfield 41, 3) := by decide +kernel
theorem dX9_carry_86 : decode cX9_carry 86 = .ok (.iload_n 1, 1) := by decide +kernel
theorem dX9_carry_87 : decode cX9_carry 87 = .ok (.iaload, 1) := by decide +kernel
theorem dX9_carry_88 : decode cX9_carry 88 = .ok (.ireturn, 1) := by decide +kernel
theorem dX9_carry_89 : decode cX9_carry 89 = .ok (.iload_n 3, 1) := by decide +kernel
theorem dX9_carry_90 : decode cX9_carry 90 = .ok (.iconst 3, 1) := by decide +kernel
theorem dX9_carry_91 : decode cX9_carry 91 = .ok (.if_icmp .ne 16, 3) := by decide +kernel
theorem dX9_carry_94 : decode cX9_carry 94 = .ok (.iload 4, 2) := by decide +kernel
theorem dX9_carry_96 : decode cX9_carry 96 = .ok (.sipush 256, 3) := by decide +kernel
theorem dX9_carry_99 : decode cX9_carry 99 = .ok (.irem, 1) := by decide +kernel
theorem dX9_carry_100 : decode cX9_carry 100 = .ok (.ifCond .eq 7, 3) := by decide +kernel
theorem dX9_carry_103 : decode cX9_carry 103 = .ok (.iconst 1, 1) := by decide +kernel
theorem dX9_carry_104 : decode cX9_carry 104 = .ok (.goto 4, 3) := by decide +kernel
theorem dX9_carry_107 : decode cX9_carry 107 = .ok (.iconst 0, 1) := by decide +kernel
theorem dX9_carry_108 : decode cX9_carry 108 = .ok (.istore 5, 2) := by decide +kernel
theorem dX9_carry_110 : decode cX9_carry 110 = .ok (.iload_n 3, 1) := by decide +kernel
theorem dX9_carry_111 : decode cX9_carry 111 = .ok (.iconst 3, 1) := by decide +kernel
theorem dX9_carry_112 : decode cX9_carry 112 = .ok (.if_icmp .ne 23, 3) := by decide +kernel
theorem dX9_carry_115 : decode cX9_carry 115 = .ok (.aload_n 0, 1) := by decide +kernel
theorem dX9_carry_116 : decode cX9_carry 116 = .ok (.getfield 51, 3) := by decide +kernel
theorem dX9_carry_119 : decode cX9_carry 119 = .ok (.iload 4, 2) := by decide +kernel
theorem dX9_carry_121 : decode cX9_carry 121 = .ok (.sipush 256, 3) := by decide +kernel
theorem dX9_carry_124 : decode cX9_carry 124 = .ok (.idiv, 1) := by decide +kernel
theorem dX9_carry_125 : decode cX9_carry 125 = .ok (.dup2, 1) := by decide +kernel
theorem dX9_carry_126 : decode cX9_carry 126 = .ok (.iaload, 1) := by decide +kernel
theorem dX9_carry_127 : decode cX9_carry 127 = .ok (.iload 4, 2) := by decide +kernel
theorem dX9_carry_129 : decode cX9_carry 129 = .ok (.sipush 256, 3) := by decide +kernel
theorem dX9_carry_132 : decode cX9_carry 132 = .ok (.irem, 1) := by decide +kernel
theorem dX9_carry_133 : decode cX9_carry 133 = .ok (.ixor, 1) := by decide +kernel
theorem dX9_carry_134 : decode cX9_carry 134 = .ok (.iastore, 1) := by decide +kernel
theorem dX9_carry_135 : decode cX9_carry 135 = .ok (.aload_n 0, 1) := by decide +kernel
theorem dX9_carry_136 : decode cX9_carry 136 = .ok (.iload_n 1, 1) := by decide +kernel
theorem dX9_carry_137 : decode cX9_carry 137 = .ok (.iload 5, 2) := by decide +kernel
theorem dX9_carry_139 : decode cX9_carry 139 = .ok (.invokevirtual 273, 3) := by decide +kernel
theorem dX9_carry_142 : decode cX9_carry 142 = .ok (.aload_n 0, 1) := by decide +kernel
theorem dX9_carry_143 : decode cX9_carry 143 = .ok (.getfield 41, 3) := by decide +kernel
theorem dX9_carry_146 : decode cX9_carry 146 = .ok (.iload_n 1, 1) := by decide +kernel
theorem dX9_carry_147 : decode cX9_carry 147 = .ok (.iaload, 1) := by decide +kernel
theorem dX9_carry_148 : decode cX9_carry 148 = .ok (.ireturn, 1) := by decide +kernel
abbrev cX9_isLetterOf : ByteArray := prog_14_method_46_code
def yX9_isLetterOf : MethodName := ⟨RX9, "isLetterOf", "(II)Z"⟩
theorem dX9_isLetterOf_0 : decode cX9_isLetterOf 0 = .ok (.iload_n 1, 1) := by decide +kernel
theorem dX9_isLetterOf_1 : decode cX9_isLetterOf 1 = .ok (.ifCond .eq 8, 3) := by decide +kernel
theorem dX9_isLetterOf_4 : decode cX9_isLetterOf 4 = .ok (.iload_n 1, 1) := by decide +kernel
theorem dX9_isLetterOf_5 : decode cX9_isLetterOf 5 = .ok (.iconst 1, 1) := by decide +kernel
theorem dX9_isLetterOf_6 : decode cX9_isLetterOf 6 = .ok (.if_icmp .ne 21, 3) := by decide +kernel
theorem dX9_isLetterOf_9 : decode cX9_isLetterOf 9 = .ok (.iload_n 2, 1) := by decide +kernel
theorem dX9_isLetterOf_10 : decode cX9_isLetterOf 10 = .ok (.ifCond .lt 17, 3) := by decide +kernel
theorem dX9_isLetterOf_13 : decode cX9_isLetterOf 13 = .ok (.iload_n 2, 1) := by decide +kernel
theorem dX9_isLetterOf_14 : decode cX9_isLetterOf 14 = .ok (.aload_n 0, 1) := by decide +kernel
theorem dX9_isLetterOf_15 : decode cX9_isLetterOf 15 = .ok (.getfield 41, 3) := by decide +kernel
theorem dX9_isLetterOf_18 : decode cX9_isLetterOf 18 = .ok (.iload_n 1, 1) := by decide +kernel
theorem dX9_isLetterOf_19 : decode cX9_isLetterOf 19 = .ok (.iaload, 1) := by decide +kernel
theorem dX9_isLetterOf_20 : decode cX9_isLetterOf 20 = .ok (.if_icmp .ge 7, 3) := by decide +kernel
theorem dX9_isLetterOf_23 : decode cX9_isLetterOf 23 = .ok (.iconst 1, 1) := by decide +kernel
theorem dX9_isLetterOf_24 : decode cX9_isLetterOf 24 = .ok (.goto 4, 3) := by decide +kernel
theorem dX9_isLetterOf_27 : decode cX9_isLetterOf 27 = .ok (.iconst 0, 1) := by decide +kernel
theorem dX9_isLetterOf_28 : decode cX9_isLetterOf 28 = .ok (.ireturn, 1) := by decide +kernel
abbrev cX9_takesHand : ByteArray := prog_14_method_44_code
def yX9_takesHand : MethodName := ⟨RX9, "takesHand", "(II)V"⟩
theorem dX9_takesHand_0 : decode cX9_takesHand 0 = .ok (.aload_n 0, 1) := by decide +kernel
theorem dX9_takesHand_1 : decode cX9_takesHand 1 = .ok (.aload_n 0, 1) := by decide +kernel
theorem dX9_takesHand_2 : decode cX9_takesHand 2 = .ok (.getfield 48, 3) := by decide +kernel
theorem dX9_takesHand_5 : decode cX9_takesHand 5 = .ok (.bipush 40, 2) := by decide +kernel
theorem dX9_takesHand_7 : decode cX9_takesHand 7 = .ok (.iload_n 1, 1) := by decide +kernel
theorem dX9_takesHand_8 : decode cX9_takesHand 8 = .ok (.imul, 1) := by decide +kernel
theorem dX9_takesHand_9 : decode cX9_takesHand 9 = .ok (.iload_n 2, 1) := by decide +kernel
theorem dX9_takesHand_10 : decode cX9_takesHand 10 = .ok (.iadd, 1) := by decide +kernel
theorem dX9_takesHand_11 : decode cX9_takesHand 11 = .ok (.iaload, 1) := by decide +kernel
theorem dX9_takesHand_12 : decode cX9_takesHand 12 = .ok (.putfield 183, 3) := by decide +kernel
theorem dX9_takesHand_15 : decode cX9_takesHand 15 = .ok (.iconst 0, 1) := by decide +kernel
theorem dX9_takesHand_16 : decode cX9_takesHand 16 = .ok (.istore_n 3, 1) := by decide +kernel
theorem dX9_takesHand_17 : decode cX9_takesHand 17 = .ok (.iload_n 3, 1) := by decide +kernel
theorem dX9_takesHand_18 : decode cX9_takesHand 18 = .ok (.aload_n 0, 1) := by decide +kernel
theorem dX9_takesHand_19 : decode cX9_takesHand 19 = .ok (.getfield 183, 3) := by decide +kernel
theorem dX9_takesHand_22 : decode cX9_takesHand 22 = .ok (.if_icmp .ge 32, 3) := by decide +kernel
theorem dX9_takesHand_25 : decode cX9_takesHand 25 = .ok (.aload_n 0, 1) := by decide +kernel
theorem dX9_takesHand_26 : decode cX9_takesHand 26 = .ok (.getfield 51, 3) := by decide +kernel
theorem dX9_takesHand_29 : decode cX9_takesHand 29 = .ok (.iload_n 3, 1) := by decide +kernel
theorem dX9_takesHand_30 : decode cX9_takesHand 30 = .ok (.aload_n 0, 1) := by decide +kernel
theorem dX9_takesHand_31 : decode cX9_takesHand 31 = .ok (.getfield 45, 3) := by decide +kernel
theorem dX9_takesHand_34 : decode cX9_takesHand 34 = .ok (.sipush 1100, 3) := by decide +kernel
theorem dX9_takesHand_37 : decode cX9_takesHand 37 = .ok (.bipush 40, 2) := by decide +kernel
theorem dX9_takesHand_39 : decode cX9_takesHand 39 = .ok (.iload_n 1, 1) := by decide +kernel
theorem dX9_takesHand_40 : decode cX9_takesHand 40 = .ok (.imul, 1) := by decide +kernel
theorem dX9_takesHand_41 : decode cX9_takesHand 41 = .ok (.iload_n 2, 1) := by decide +kernel
theorem dX9_takesHand_42 : decode cX9_takesHand 42 = .ok (.iadd, 1) := by decide +kernel
theorem dX9_takesHand_43 : decode cX9_takesHand 43 = .ok (.imul, 1) := by decide +kernel
theorem dX9_takesHand_44 : decode cX9_takesHand 44 = .ok (.iload_n 3, 1) := by decide +kernel
theorem dX9_takesHand_45 : decode cX9_takesHand 45 = .ok (.iadd, 1) := by decide +kernel
theorem dX9_takesHand_46 : decode cX9_takesHand 46 = .ok (.iaload, 1) := by decide +kernel
theorem dX9_takesHand_47 : decode cX9_takesHand 47 = .ok (.iastore, 1) := by decide +kernel
theorem dX9_takesHand_48 : decode cX9_takesHand 48 = .ok (.iinc 3 1, 3) := by decide +kernel
theorem dX9_takesHand_51 : decode cX9_takesHand 51 = .ok (.goto (-34), 3) := by decide +kernel
theorem dX9_takesHand_54 : decode cX9_takesHand 54 = .ok (.return_, 1) := by decide +kernel
abbrev cX9_drops : ByteArray := prog_14_method_45_code
def yX9_drops : MethodName := ⟨RX9, "drops", "(II)V"⟩
theorem dX9_drops_0 : decode cX9_drops 0 = .ok (.iload_n 2, 1) := by decide +kernel
theorem dX9_drops_1 : decode cX9_drops 1 = .ok (.istore_n 3, 1) := by decide +kernel
theorem dX9_drops_2 : decode cX9_drops 2 = .ok (.iload_n 3, 1) := by decide +kernel
theorem dX9_drops_3 : decode cX9_drops 3 = .ok (.iconst 1, 1) := by decide +kernel
theorem dX9_drops_4 : decode cX9_drops 4 = .ok (.iadd, 1) := by decide +kernel
theorem dX9_drops_5 : decode cX9_drops 5 = .ok (.aload_n 0, 1) := by decide +kernel
theorem dX9_drops_6 : decode cX9_drops 6 = .ok (.getfield 41, 3) := by decide +kernel
theorem dX9_drops_9 : decode cX9_drops 9 = .ok (.iload_n 1, 1) := by decide +kernel
theorem dX9_drops_10 : decode cX9_drops 10 = .ok (.iaload, 1) := by decide +kernel
theorem dX9_drops_11 : decode cX9_drops 11 = .ok (.if_icmp .ge 86, 3) := by decide +kernel
theorem dX9_drops_14 : decode cX9_drops 14 = .ok (.bipush 40, 2) := by decide +kernel
theorem dX9_drops_16 : decode cX9_drops 16 = .ok (.iload_n 1, 1) := by decide +kernel
theorem dX9_drops_17 : decode cX9_drops 17 = .ok (.imul, 1) := by decide +kernel
theorem dX9_drops_18 : decode cX9_drops 18 = .ok (.iload_n 3, 1) := by decide +kernel
theorem dX9_drops_19 : decode cX9_drops 19 = .ok (.iadd, 1) := by decide +kernel
theorem dX9_drops_20 : decode cX9_drops 20 = .ok (.istore 4, 2) := by decide +kernel
theorem dX9_drops_22 : decode cX9_drops 22 = .ok (.aload_n 0, 1) := by decide +kernel
theorem dX9_drops_23 : decode cX9_drops 23 = .ok (.getfield 48, 3) := by decide +kernel
theorem dX9_drops_26 : decode cX9_drops 26 = .ok (.iload 4, 2) := by decide +kernel
theorem dX9_drops_28 : decode cX9_drops 28 = .ok (.aload_n 0, 1) := by decide +kernel
theorem dX9_drops_29 : decode cX9_drops 29 = .ok (.getfield 48, 3) := by decide +kernel
theorem dX9_drops_32 : decode cX9_drops 32 = .ok (.iload 4, 2) := by decide +kernel
theorem dX9_drops_34 : decode cX9_drops 34 = .ok (.iconst 1, 1) := by decide +kernel
theorem dX9_drops_35 : decode cX9_drops 35 = .ok (.iadd, 1) := by decide +kernel
theorem dX9_drops_36 : decode cX9_drops 36 = .ok (.iaload, 1) := by decide +kernel
theorem dX9_drops_37 : decode cX9_drops 37 = .ok (.iastore, 1) := by decide +kernel
theorem dX9_drops_38 : decode cX9_drops 38 = .ok (.iconst 0, 1) := by decide +kernel
theorem dX9_drops_39 : decode cX9_drops 39 = .ok (.istore 5, 2) := by decide +kernel
theorem dX9_drops_41 : decode cX9_drops 41 = .ok (.iload 5, 2) := by decide +kernel
theorem dX9_drops_43 : decode cX9_drops 43 = .ok (.aload_n 0, 1) := by decide +kernel
theorem dX9_drops_44 : decode cX9_drops 44 = .ok (.getfield 48, 3) := by decide +kernel
theorem dX9_drops_47 : decode cX9_drops 47 = .ok (.iload 4, 2) := by decide +kernel
theorem dX9_drops_49 : decode cX9_drops 49 = .ok (.iaload, 1) := by decide +kernel
theorem dX9_drops_50 : decode cX9_drops 50 = .ok (.if_icmp .ge 41, 3) := by decide +kernel
theorem dX9_drops_53 : decode cX9_drops 53 = .ok (.aload_n 0, 1) := by decide +kernel
theorem dX9_drops_54 : decode cX9_drops 54 = .ok (.getfield 45, 3) := by decide +kernel
theorem dX9_drops_57 : decode cX9_drops 57 = .ok (.sipush 1100, 3) := by decide +kernel
theorem dX9_drops_60 : decode cX9_drops 60 = .ok (.iload 4, 2) := by decide +kernel
theorem dX9_drops_62 : decode cX9_drops 62 = .ok (.imul, 1) := by decide +kernel
theorem dX9_drops_63 : decode cX9_drops 63 = .ok (.iload 5, 2) := by decide +kernel
theorem dX9_drops_65 : decode cX9_drops 65 = .ok (.iadd, 1) := by decide +kernel
theorem dX9_drops_66 : decode cX9_drops 66 = .ok (.aload_n 0, 1) := by decide +kernel
theorem dX9_drops_67 : decode cX9_drops 67 = .ok (.getfield 45, 3) := by decide +kernel
theorem dX9_drops_70 : decode cX9_drops 70 = .ok (.sipush 1100, 3) := by decide +kernel
theorem dX9_drops_73 : decode cX9_drops 73 = .ok (.iload 4, 2) := by decide +kernel
theorem dX9_drops_75 : decode cX9_drops 75 = .ok (.imul, 1) := by decide +kernel
theorem dX9_drops_76 : decode cX9_drops 76 = .ok (.sipush 1100, 3) := by decide +kernel
theorem dX9_drops_79 : decode cX9_drops 79 = .ok (.iadd, 1) := by decide +kernel
theorem dX9_drops_80 : decode cX9_drops 80 = .ok (.iload 5, 2) := by decide +kernel
theorem dX9_drops_82 : decode cX9_drops 82 = .ok (.iadd, 1) := by decide +kernel
theorem dX9_drops_83 : decode cX9_drops 83 = .ok (.iaload, 1) := by decide +kernel
theorem dX9_drops_84 : decode cX9_drops 84 = .ok (.iastore, 1) := by decide +kernel
theorem dX9_drops_85 : decode cX9_drops 85 = .ok (.iinc 5 1, 3) := by decide +kernel
theorem dX9_drops_88 : decode cX9_drops 88 = .ok (.goto (-47), 3) := by decide +kernel
theorem dX9_drops_91 : decode cX9_drops 91 = .ok (.iinc 3 1, 3) := by decide +kernel
theorem dX9_drops_94 : decode cX9_drops 94 = .ok (.goto (-92), 3) := by decide +kernel
theorem dX9_drops_97 : decode cX9_drops 97 = .ok (.aload_n 0, 1) := by decide +kernel
theorem dX9_drops_98 : decode cX9_drops 98 = .ok (.getfield 41, 3) := by decide +kernel
theorem dX9_drops_101 : decode cX9_drops 101 = .ok (.iload_n 1, 1) := by decide +kernel
theorem dX9_drops_102 : decode cX9_drops 102 = .ok (.dup2, 1) := by decide +kernel
theorem dX9_drops_103 : decode cX9_drops 103 = .ok (.iaload, 1) := by decide +kernel
theorem dX9_drops_104 : decode cX9_drops 104 = .ok (.iconst 1, 1) := by decide +kernel
theorem dX9_drops_105 : decode cX9_drops 105 = .ok (.isub, 1) := by decide +kernel
theorem dX9_drops_106 : decode cX9_drops 106 = .ok (.iastore, 1) := by decide +kernel
theorem dX9_drops_107 : decode cX9_drops 107 = .ok (.return_, 1) := by decide +kernel
abbrev cX9_taken : ByteArray := prog_14_method_43_code
def yX9_taken : MethodName := ⟨RX9, "taken", "(IZ)V"⟩
theorem dX9_taken_0 : decode cX9_taken 0 = .ok (.aload_n 0, 1) := by decide +kernel
theorem dX9_taken_1 : decode cX9_taken 1 = .ok (.getfield 183, 3) := by decide +kernel
theorem dX9_taken_4 : decode cX9_taken 4 = .ok (.iconst 3, 1) := by decide +kernel
theorem dX9_taken_5 : decode cX9_taken 5 = .ok (.if_icmp .le 50, 3) := by decide +kernel
theorem dX9_taken_8 : decode cX9_taken 8 = .ok (.aload_n 0, 1) := by decide +kernel
theorem dX9_taken_9 : decode cX9_taken 9 = .ok (.getfield 51, 3) := by decide +kernel
theorem dX9_taken_12 : decode cX9_taken 12 = .ok (.iconst 0, 1) := by decide +kernel
theorem dX9_taken_13 : decode cX9_taken 13 = .ok (.iaload, 1) := by decide +kernel
theorem dX9_taken_14 : decode cX9_taken 14 = .ok (.iload_n 1, 1) := by decide +kernel
theorem dX9_taken_15 : decode cX9_taken 15 = .ok (.ifCond .ne 8, 3) := by decide +kernel
theorem dX9_taken_18 : decode cX9_taken 18 = .ok (.bipush 75, 2) := by decide +kernel
theorem dX9_taken_20 : decode cX9_taken 20 = .ok (.goto 5, 3) := by decide +kernel
theorem dX9_taken_23 : decode cX9_taken 23 = .ok (.bipush 83, 2) := by decide +kernel
theorem dX9_taken_25 : decode cX9_taken 25 = .ok (.if_icmp .ne 30, 3) := by decide +kernel
theorem dX9_taken_28 : decode cX9_taken 28 = .ok (.aload_n 0, 1) := by decide +kernel
theorem dX9_taken_29 : decode cX9_taken 29 = .ok (.aload_n 0, 1) := by decide +kernel
theorem dX9_taken_30 : decode cX9_taken 30 = .ok (.getfield 183, 3) := by decide +kernel
theorem dX9_taken_33 : decode cX9_taken 33 = .ok (.iconst 2, 1) := by decide +kernel
theorem dX9_taken_34 : decode cX9_taken 34 = .ok (.isub, 1) := by decide +kernel
theorem dX9_taken_35 : decode cX9_taken 35 = .ok (.invokevirtual 243, 3) := by decide +kernel
theorem dX9_taken_38 : decode cX9_taken 38 = .ok (.aload_n 0, 1) := by decide +kernel
theorem dX9_taken_39 : decode cX9_taken 39 = .ok (.aload_n 0, 1) := by decide +kernel
theorem dX9_taken_40 : decode cX9_taken 40 = .ok (.getfield 183, 3) := by decide +kernel
theorem dX9_taken_43 : decode cX9_taken 43 = .ok (.iconst 2, 1) := by decide +kernel
theorem dX9_taken_44 : decode cX9_taken 44 = .ok (.isub, 1) := by decide +kernel
theorem dX9_taken_45 : decode cX9_taken 45 = .ok (.invokevirtual 190, 3) := by decide +kernel
theorem dX9_taken_48 : decode cX9_taken 48 = .ok (.if_icmp .ne 7, 3) := by decide +kernel
theorem dX9_taken_51 : decode cX9_taken 51 = .ok (.iconst 1, 1) := by decide +kernel
theorem dX9_taken_52 : decode cX9_taken 52 = .ok (.goto 4, 3) := by decide +kernel
theorem dX9_taken_55 : decode cX9_taken 55 = .ok (.iconst 0, 1) := by decide +kernel
theorem dX9_taken_56 : decode cX9_taken 56 = .ok (.istore_n 3, 1) := by decide +kernel
theorem dX9_taken_57 : decode cX9_taken 57 = .ok (.iload_n 3, 1) := by decide +kernel
theorem dX9_taken_58 : decode cX9_taken 58 = .ok (.ifCond .ne 14, 3) := by decide +kernel
theorem dX9_taken_61 : decode cX9_taken 61 = .ok (.aload_n 0, 1) := by decide +kernel
theorem dX9_taken_62 : decode cX9_taken 62 = .ok (.getfield 38, 3) := by decide +kernel
theorem dX9_taken_65 : decode cX9_taken 65 = .ok (.iconst 3, 1) := by decide +kernel
theorem dX9_taken_66 : decode cX9_taken 66 = .ok (.dup2, 1) := by decide +kernel
theorem dX9_taken_67 : decode cX9_taken 67 = .ok (.iaload, 1) := by decide +kernel
theorem dX9_taken_68 : decode cX9_taken 68 = .ok (.iconst 1, 1) := by decide +kernel
theorem dX9_taken_69 : decode cX9_taken 69 = .ok (.iadd, 1) := by decide +kernel
theorem dX9_taken_70 : decode cX9_taken 70 = .ok (.iastore, 1) := by decide +kernel
theorem dX9_taken_71 : decode cX9_taken 71 = .ok (.return_, 1) := by decide +kernel
theorem dX9_taken_72 : decode cX9_taken 72 = .ok (.aload_n 0, 1) := by decide +kernel
theorem dX9_taken_73 : decode cX9_taken 73 = .ok (.getfield 38, 3) := by decide +kernel
theorem dX9_taken_76 : decode cX9_taken 76 = .ok (.iconst 5, 1) := by decide +kernel
theorem dX9_taken_77 : decode cX9_taken 77 = .ok (.iaload, 1) := by decide +kernel
theorem dX9_taken_78 : decode cX9_taken 78 = .ok (.istore 4, 2) := by decide +kernel
theorem dX9_taken_80 : decode cX9_taken 80 = .ok (.iload_n 1, 1) := by decide +kernel
theorem dX9_taken_81 : decode cX9_taken 81 = .ok (.ifCond .ne 10, 3) := by decide +kernel
theorem dX9_taken_84 : decode cX9_taken 84 = .ok (.aload_n 0, 1) := by decide +kernel
theorem dX9_taken_85 : decode cX9_taken 85 = .ok (.invokevirtual 258, 3) := by decide +kernel
theorem dX9_taken_88 : decode cX9_taken 88 = .ok (.goto 7, 3) := by decide +kernel
theorem dX9_taken_91 : decode cX9_taken 91 = .ok (.aload_n 0, 1) := by decide +kernel
theorem dX9_taken_92 : decode cX9_taken 92 = .ok (.invokevirtual 261, 3) := by decide +kernel
theorem dX9_taken_95 : decode cX9_taken 95 = .ok (.iload_n 2, 1) := by decide +kernel
theorem dX9_taken_96 : decode cX9_taken 96 = .ok (.ifCond .eq 25, 3) := by decide +kernel
theorem dX9_taken_99 : decode cX9_taken 99 = .ok (.aload_n 0, 1) := by decide +kernel
theorem dX9_taken_100 : decode cX9_taken 100 = .ok (.getfield 38, 3) := by decide +kernel
theorem dX9_taken_103 : decode cX9_taken 103 = .ok (.iconst 5, 1) := by decide +kernel
theorem dX9_taken_104 : decode cX9_taken 104 = .ok (.iaload, 1) := by decide +kernel
theorem dX9_taken_105 : decode cX9_taken 105 = .ok (.iload 4, 2) := by decide +kernel
theorem dX9_taken_107 : decode cX9_taken 107 = .ok (.if_icmp .le 14, 3) := by decide +kernel
theorem dX9_taken_110 : decode cX9_taken 110 = .ok (.aload_n 0, 1) := by decide +kernel
theorem dX9_taken_111 : decode cX9_taken 111 = .ok (.getfield 38, 3) := by decide +kernel
theorem dX9_taken_114 : decode cX9_taken 114 = .ok (.bipush 6, 2) := by decide +kernel
theorem dX9_taken_116 : decode cX9_taken 116 = .ok (.dup2, 1) := by decide +kernel
theorem dX9_taken_117 : decode cX9_taken 117 = .ok (.iaload, 1) := by decide +kernel
theorem dX9_taken_118 : decode cX9_taken 118 = .ok (.iconst 1, 1) := by decide +kernel
theorem dX9_taken_119 : decode cX9_taken 119 = .ok (.iadd, 1) := by decide +kernel
theorem dX9_taken_120 : decode cX9_taken 120 = .ok (.iastore, 1) := by decide +kernel
theorem dX9_taken_121 : decode cX9_taken 121 = .ok (.return_, 1) := by decide +kernel
abbrev cX9_twoAt : ByteArray := prog_14_method_40_code
def yX9_twoAt : MethodName := ⟨RX9, "twoAt", "(I)I"⟩
theorem dX9_twoAt_0 : decode cX9_twoAt 0 = .ok (.sipush 256, 3) := by decide +kernel
theorem dX9_twoAt_3 : decode cX9_twoAt 3 = .ok (.aload_n 0, 1) := by decide +kernel
theorem dX9_twoAt_4 : decode cX9_twoAt 4 = .ok (.getfield 51, 3) := by decide +kernel
theorem dX9_twoAt_7 : decode cX9_twoAt 7 = .ok (.iload_n 1, 1) := by decide +kernel
theorem dX9_twoAt_8 : decode cX9_twoAt 8 = .ok (.iaload, 1) := by decide +kernel
theorem dX9_twoAt_9 : decode cX9_twoAt 9 = .ok (.imul, 1) := by decide +kernel
theorem dX9_twoAt_10 : decode cX9_twoAt 10 = .ok (.aload_n 0, 1) := by decide +kernel
theorem dX9_twoAt_11 : decode cX9_twoAt 11 = .ok (.getfield 51, 3) := by decide +kernel
theorem dX9_twoAt_14 : decode cX9_twoAt 14 = .ok (.iload_n 1, 1) := by decide +kernel
theorem dX9_twoAt_15 : decode cX9_twoAt 15 = .ok (.iconst 1, 1) := by decide +kernel
theorem dX9_twoAt_16 : decode cX9_twoAt 16 = .ok (.iadd, 1) := by decide +kernel
theorem dX9_twoAt_17 : decode cX9_twoAt 17 = .ok (.iaload, 1) := by decide +kernel
theorem dX9_twoAt_18 : decode cX9_twoAt 18 = .ok (.iadd, 1) := by decide +kernel
theorem dX9_twoAt_19 : decode cX9_twoAt 19 = .ok (.ireturn, 1) := by decide +kernel
abbrev cX9_byFar : ByteArray := prog_14_method_41_code
def yX9_byFar : MethodName := ⟨RX9, "byFar", "()V"⟩
theorem dX9_byFar_0 : decode cX9_byFar 0 = .ok (.aload_n 0, 1) := by decide +kernel
theorem dX9_byFar_1 : decode cX9_byFar 1 = .ok (.iconst 2, 1) := by decide +kernel
theorem dX9_byFar_2 : decode cX9_byFar 2 = .ok (.invokevirtual 243, 3) := by decide +kernel
theorem dX9_byFar_5 : decode cX9_byFar 5 = .ok (.istore_n 1, 1) := by decide +kernel
theorem dX9_byFar_6 : decode cX9_byFar 6 = .ok (.aload_n 0, 1) := by decide +kernel
theorem dX9_byFar_7 : decode cX9_byFar 7 = .ok (.iconst 4, 1) := by decide +kernel
theorem dX9_byFar_8 : decode cX9_byFar 8 = .ok (.invokevirtual 243, 3) := by decide +kernel
theorem dX9_byFar_11 : decode cX9_byFar 11 = .ok (.istore_n 2, 1) := by decide +kernel
theorem dX9_byFar_12 : decode cX9_byFar 12 = .ok (.iload_n 1, 1) := by decide +kernel
theorem dX9_byFar_13 : decode cX9_byFar 13 = .ok (.aload_n 0, 1) := by decide +kernel
theorem dX9_byFar_14 : decode cX9_byFar 14 = .ok (.getfield 121, 3) := by decide +kernel
theorem dX9_byFar_17 : decode cX9_byFar 17 = .ok (.if_icmp .le 14, 3) := by decide +kernel
theorem dX9_byFar_20 : decode cX9_byFar 20 = .ok (.aload_n 0, 1) := by decide +kernel
theorem dX9_byFar_21 : decode cX9_byFar 21 = .ok (.getfield 38, 3) := by decide +kernel
theorem dX9_byFar_24 : decode cX9_byFar 24 = .ok (.iconst 4, 1) := by decide +kernel
theorem dX9_byFar_25 : decode cX9_byFar 25 = .ok (.dup2, 1) := by decide +kernel
theorem dX9_byFar_26 : decode cX9_byFar 26 = .ok (.iaload, 1) := by decide +kernel
theorem dX9_byFar_27 : decode cX9_byFar 27 = .ok (.iconst 1, 1) := by decide +kernel
theorem dX9_byFar_28 : decode cX9_byFar 28 = .ok (.iadd, 1) := by decide +kernel
theorem dX9_byFar_29 : decode cX9_byFar 29 = .ok (.iastore, 1) := by decide +kernel
theorem dX9_byFar_30 : decode cX9_byFar 30 = .ok (.return_, 1) := by decide +kernel
theorem dX9_byFar_31 : decode cX9_byFar 31 = .ok (.aload_n 0, 1) := by decide +kernel
theorem dX9_byFar_32 : decode cX9_byFar 32 = .ok (.getfield 38, 3) := by decide +kernel
theorem dX9_byFar_35 : decode cX9_byFar 35 = .ok (.iconst 5, 1) := by decide +kernel
theorem dX9_byFar_36 : decode cX9_byFar 36 = .ok (.dup2, 1) := by decide +kernel
theorem dX9_byFar_37 : decode cX9_byFar 37 = .ok (.iaload, 1) := by decide +kernel
theorem dX9_byFar_38 : decode cX9_byFar 38 = .ok (.iconst 1, 1) := by decide +kernel
theorem dX9_byFar_39 : decode cX9_byFar 39 = .ok (.iadd, 1) := by decide +kernel
theorem dX9_byFar_40 : decode cX9_byFar 40 = .ok (.iastore, 1) := by decide +kernel
theorem dX9_byFar_41 : decode cX9_byFar 41 = .ok (.aload_n 0, 1) := by decide +kernel
theorem dX9_byFar_42 : decode cX9_byFar 42 = .ok (.getfield 121, 3) := by decide +kernel
theorem dX9_byFar_45 : decode cX9_byFar 45 = .ok (.istore_n 3, 1) := by decide +kernel
theorem dX9_byFar_46 : decode cX9_byFar 46 = .ok (.iload_n 3, 1) := by decide +kernel
theorem dX9_byFar_47 : decode cX9_byFar 47 = .ok (.iload_n 2, 1) := by decide +kernel
theorem dX9_byFar_48 : decode cX9_byFar 48 = .ok (.if_icmp .ge 24, 3) := by decide +kernel
theorem dX9_byFar_51 : decode cX9_byFar 51 = .ok (.aload_n 0, 1) := by decide +kernel
theorem dX9_byFar_52 : decode cX9_byFar 52 = .ok (.aload_n 0, 1) := by decide +kernel
theorem dX9_byFar_53 : decode cX9_byFar 53 = .ok (.getfield 51, 3) := by decide +kernel
theorem dX9_byFar_56 : decode cX9_byFar 56 = .ok (.bipush 8, 2) := by decide +kernel
theorem dX9_byFar_58 : decode cX9_byFar 58 = .ok (.iload_n 3, 1) := by decide +kernel
theorem dX9_byFar_59 : decode cX9_byFar 59 = .ok (.iadd, 1) := by decide +kernel
theorem dX9_byFar_60 : decode cX9_byFar 60 = .ok (.iload_n 1, 1) := by decide +kernel
theorem dX9_byFar_61 : decode cX9_byFar 61 = .ok (.isub, 1) := by decide +kernel
theorem dX9_byFar_62 : decode cX9_byFar 62 = .ok (.iaload, 1) := by decide +kernel
theorem dX9_byFar_63 : decode cX9_byFar 63 = .ok (.invokevirtual 246, 3) := by decide +kernel
theorem dX9_byFar_66 : decode cX9_byFar 66 = .ok (.iinc 3 1, 3) := by decide +kernel
theorem dX9_byFar_69 : decode cX9_byFar 69 = .ok (.goto (-23), 3) := by decide +kernel
theorem dX9_byFar_72 : decode cX9_byFar 72 = .ok (.iload_n 2, 1) := by decide +kernel
theorem dX9_byFar_73 : decode cX9_byFar 73 = .ok (.aload_n 0, 1) := by decide +kernel
theorem dX9_byFar_74 : decode cX9_byFar 74 = .ok (.getfield 121, 3) := by decide +kernel
theorem dX9_byFar_77 : decode cX9_byFar 77 = .ok (.if_icmp .le 8, 3) := by decide +kernel
theorem dX9_byFar_80 : decode cX9_byFar 80 = .ok (.aload_n 0, 1) := by decide +kernel
theorem dX9_byFar_81 : decode cX9_byFar 81 = .ok (.iload_n 2, 1) := by decide +kernel
theorem dX9_byFar_82 : decode cX9_byFar 82 = .ok (.putfield 121, 3) := by decide +kernel
theorem dX9_byFar_85 : decode cX9_byFar 85 = .ok (.aload_n 0, 1) := by decide +kernel
theorem dX9_byFar_86 : decode cX9_byFar 86 = .ok (.bipush 6, 2) := by decide +kernel
theorem dX9_byFar_88 : decode cX9_byFar 88 = .ok (.invokevirtual 243, 3) := by decide +kernel
theorem dX9_byFar_91 : decode cX9_byFar 91 = .ok (.istore_n 3, 1) := by decide +kernel
theorem dX9_byFar_92 : decode cX9_byFar 92 = .ok (.iload_n 3, 1) := by decide +kernel
theorem dX9_byFar_93 : decode cX9_byFar 93 = .ok (.aload_n 0, 1) := by decide +kernel
theorem dX9_byFar_94 : decode cX9_byFar 94 = .ok (.getfield 124, 3) := by decide +kernel
theorem dX9_byFar_97 : decode cX9_byFar 97 = .ok (.if_icmp .le 39, 3) := by decide +kernel
theorem dX9_byFar_100 : decode cX9_byFar 100 = .ok (.aload_n 0, 1) := by decide +kernel
theorem dX9_byFar_101 : decode cX9_byFar 101 = .ok (.iconst 1, 1) := by decide +kernel
theorem dX9_byFar_102 : decode cX9_byFar 102 = .ok (.aload_n 0, 1) := by decide +kernel
theorem dX9_byFar_103 : decode cX9_byFar 103 = .ok (.getfield 127, 3) := by decide +kernel
theorem dX9_byFar_106 : decode cX9_byFar 106 = .ok (.iload_n 3, 1) := by decide +kernel
theorem dX9_byFar_107 : decode cX9_byFar 107 = .ok (.invokevirtual 224, 3) := by decide +kernel
theorem dX9_byFar_110 : decode cX9_byFar 110 = .ok (.iconst (-1), 1) := by decide +kernel
theorem dX9_byFar_111 : decode cX9_byFar 111 = .ok (.if_icmp .eq 25, 3) := by decide +kernel
theorem dX9_byFar_114 : decode cX9_byFar 114 = .ok (.aload_n 0, 1) := by decide +kernel
theorem dX9_byFar_115 : decode cX9_byFar 115 = .ok (.iload_n 3, 1) := by decide +kernel
theorem dX9_byFar_116 : decode cX9_byFar 116 = .ok (.putfield 124, 3) := by decide +kernel
theorem dX9_byFar_119 : decode cX9_byFar 119 = .ok (.aload_n 0, 1) := by decide +kernel
theorem dX9_byFar_120 : decode cX9_byFar 120 = .ok (.aload_n 0, 1) := by decide +kernel
theorem dX9_byFar_121 : decode cX9_byFar 121 = .ok (.iconst 1, 1) := by decide +kernel
theorem dX9_byFar_122 : decode cX9_byFar 122 = .ok (.aload_n 0, 1) := by decide +kernel
theorem dX9_byFar_123 : decode cX9_byFar 123 = .ok (.getfield 127, 3) := by decide +kernel
theorem dX9_byFar_126 : decode cX9_byFar 126 = .ok (.aload_n 0, 1) := by decide +kernel
theorem dX9_byFar_127 : decode cX9_byFar 127 = .ok (.getfield 124, 3) := by decide +kernel
theorem dX9_byFar_130 : decode cX9_byFar 130 = .ok (.invokevirtual 249, 3) := by decide +kernel
theorem dX9_byFar_133 : decode cX9_byFar 133 = .ok (.putfield 127, 3) := by decide +kernel
theorem dX9_byFar_136 : decode cX9_byFar 136 = .ok (.iload_n 2, 1) := by decide +kernel
theorem dX9_byFar_137 : decode cX9_byFar 137 = .ok (.aload_n 0, 1) := by decide +kernel
theorem dX9_byFar_138 : decode cX9_byFar 138 = .ok (.getfield 143, 3) := by decide +kernel
theorem dX9_byFar_141 : decode cX9_byFar 141 = .ok (.if_icmp .lt 18, 3) := by decide +kernel
theorem dX9_byFar_144 : decode cX9_byFar 144 = .ok (.aload_n 0, 1) := by decide +kernel
theorem dX9_byFar_145 : decode cX9_byFar 145 = .ok (.iload_n 2, 1) := by decide +kernel
theorem dX9_byFar_146 : decode cX9_byFar 146 = .ok (.putfield 143, 3) := by decide +kernel
theorem dX9_byFar_149 : decode cX9_byFar 149 = .ok (.aload_n 0, 1) := by decide +kernel
theorem dX9_byFar_150 : decode cX9_byFar 150 = .ok (.aload_n 0, 1) := by decide +kernel
theorem dX9_byFar_151 : decode cX9_byFar 151 = .ok (.getfield 51, 3) := by decide +kernel
theorem dX9_byFar_154 : decode cX9_byFar 154 = .ok (.iconst 1, 1) := by decide +kernel
theorem dX9_byFar_155 : decode cX9_byFar 155 = .ok (.iaload, 1) := by decide +kernel
theorem dX9_byFar_156 : decode cX9_byFar 156 = .ok (.putfield 140, 3) := by decide +kernel
theorem dX9_byFar_159 : decode cX9_byFar 159 = .ok (.iload_n 1, 1) := by decide +kernel
theorem dX9_byFar_160 : decode cX9_byFar 160 = .ok (.aload_n 0, 1) := by decide +kernel
theorem dX9_byFar_161 : decode cX9_byFar 161 = .ok (.getfield 121, 3) := by decide +kernel
theorem dX9_byFar_164 : decode cX9_byFar 164 = .ok (.if_icmp .ge 8, 3) := by decide +kernel
theorem dX9_byFar_167 : decode cX9_byFar 167 = .ok (.aload_n 0, 1) := by decide +kernel
theorem dX9_byFar_168 : decode cX9_byFar 168 = .ok (.iconst 1, 1) := by decide +kernel
theorem dX9_byFar_169 : decode cX9_byFar 169 = .ok (.putfield 136, 3) := by decide +kernel
theorem dX9_byFar_172 : decode cX9_byFar 172 = .ok (.return_, 1) := by decide +kernel
abbrev cX9_takesKey : ByteArray := prog_14_method_13_code
def yX9_takesKey : MethodName := ⟨RX9, "takesKey", "(I)V"⟩
theorem dX9_takesKey_0 : decode cX9_takesKey 0 = .ok (.aload_n 0, 1) := by decide +kernel
theorem dX9_takesKey_1 : decode cX9_takesKey 1 = .ok (.getfield 106, 3) := by decide +kernel
theorem dX9_takesKey_4 : decode cX9_takesKey 4 = .ok (.ifCond .ne 11, 3) := by decide +kernel
theorem dX9_takesKey_7 : decode cX9_takesKey 7 = .ok (.aload_n 0, 1) := by decide +kernel
theorem dX9_takesKey_8 : decode cX9_takesKey 8 = .ok (.iload_n 1, 1) := by decide +kernel
theorem dX9_takesKey_9 : decode cX9_takesKey 9 = .ok (.invokevirtual 100, 3) := by decide +kernel
theorem dX9_takesKey_12 : decode cX9_takesKey 12 = .ok (.goto 40, 3) := by decide +kernel
theorem dX9_takesKey_15 : decode cX9_takesKey 15 = .ok (.aload_n 0, 1) := by decide +kernel
theorem dX9_takesKey_16 : decode cX9_takesKey 16 = .ok (.getfield 106, 3) := by decide +kernel
theorem dX9_takesKey_19 : decode cX9_takesKey 19 = .ok (.iconst 1, 1) := by decide +kernel
theorem dX9_takesKey_20 : decode cX9_takesKey 20 = .ok (.if_icmp .ne 11, 3) := by decide +kernel
theorem dX9_takesKey_23 : decode cX9_takesKey 23 = .ok (.aload_n 0, 1) := by decide +kernel
theorem dX9_takesKey_24 : decode cX9_takesKey 24 = .ok (.iload_n 1, 1) := by decide +kernel
theorem dX9_takesKey_25 : decode cX9_takesKey 25 = .ok (.invokevirtual 109, 3) := by decide +kernel
theorem dX9_takesKey_28 : decode cX9_takesKey 28 = .ok (.goto 24, 3) := by decide +kernel
theorem dX9_takesKey_31 : decode cX9_takesKey 31 = .ok (.aload_n 0, 1) := by decide +kernel
theorem dX9_takesKey_32 : decode cX9_takesKey 32 = .ok (.getfield 106, 3) := by decide +kernel
theorem dX9_takesKey_35 : decode cX9_takesKey 35 = .ok (.iconst 2, 1) := by decide +kernel
theorem dX9_takesKey_36 : decode cX9_takesKey 36 = .ok (.if_icmp .ne 11, 3) := by decide +kernel
theorem dX9_takesKey_39 : decode cX9_takesKey 39 = .ok (.aload_n 0, 1) := by decide +kernel
theorem dX9_takesKey_40 : decode cX9_takesKey 40 = .ok (.iload_n 1, 1) := by decide +kernel
theorem dX9_takesKey_41 : decode cX9_takesKey 41 = .ok (.invokevirtual 112, 3) := by decide +kernel
theorem dX9_takesKey_44 : decode cX9_takesKey 44 = .ok (.goto 8, 3) := by decide +kernel
theorem dX9_takesKey_47 : decode cX9_takesKey 47 = .ok (.aload_n 0, 1) := by decide +kernel
theorem dX9_takesKey_48 : decode cX9_takesKey 48 = .ok (.iload_n 1, 1) := by decide +kernel
theorem dX9_takesKey_49 : decode cX9_takesKey 49 = .ok (.invokevirtual 115, 3) := by decide +kernel
theorem dX9_takesKey_52 : decode cX9_takesKey 52 = .ok (.return_, 1) := by decide +kernel
abbrev cX9_echo : ByteArray := prog_14_method_9_code
def yX9_echo : MethodName := ⟨RX9, "echo", "(I)V"⟩
theorem dX9_echo_0 : decode cX9_echo 0 = .ok (.iload_n 1, 1) := by decide +kernel
theorem dX9_echo_1 : decode cX9_echo 1 = .ok (.invokestatic 89, 3) := by decide +kernel
theorem dX9_echo_4 : decode cX9_echo 4 = .ok (.ifCond .eq 8, 3) := by decide +kernel
theorem dX9_echo_7 : decode cX9_echo 7 = .ok (.aload_n 0, 1) := by decide +kernel
theorem dX9_echo_8 : decode cX9_echo 8 = .ok (.iload_n 1, 1) := by decide +kernel
theorem dX9_echo_9 : decode cX9_echo 9 = .ok (.invokevirtual 93, 3) := by decide +kernel
theorem dX9_echo_12 : decode cX9_echo 12 = .ok (.iload_n 1, 1) := by decide +kernel
theorem dX9_echo_13 : decode cX9_echo 13 = .ok (.bipush 13, 2) := by decide +kernel
theorem dX9_echo_15 : decode cX9_echo 15 = .ok (.if_icmp .ne 7, 3) := by decide +kernel
theorem dX9_echo_18 : decode cX9_echo 18 = .ok (.aload_n 0, 1) := by decide +kernel
theorem dX9_echo_19 : decode cX9_echo 19 = .ok (.invokevirtual 86, 3) := by decide +kernel
theorem dX9_echo_22 : decode cX9_echo 22 = .ok (.iload_n 1, 1) := by decide +kernel
theorem dX9_echo_23 : decode cX9_echo 23 = .ok (.bipush 8, 2) := by decide +kernel
theorem dX9_echo_25 : decode cX9_echo 25 = .ok (.if_icmp .ne 7, 3) := by decide +kernel
theorem dX9_echo_28 : decode cX9_echo 28 = .ok (.aload_n 0, 1) := by decide +kernel
theorem dX9_echo_29 : decode cX9_echo 29 = .ok (.invokevirtual 97, 3) := by decide +kernel
theorem dX9_echo_32 : decode cX9_echo 32 = .ok (.iload_n 1, 1) := by decide +kernel
theorem dX9_echo_33 : decode cX9_echo 33 = .ok (.iconst 1, 1) := by decide +kernel
theorem dX9_echo_34 : decode cX9_echo 34 = .ok (.if_icmp .ne 22, 3) := by decide +kernel
theorem dX9_echo_37 : decode cX9_echo 37 = .ok (.aload_n 0, 1) := by decide +kernel
theorem dX9_echo_38 : decode cX9_echo 38 = .ok (.getfield 16, 3) := by decide +kernel
theorem dX9_echo_41 : decode cX9_echo 41 = .ok (.iconst 0, 1) := by decide +kernel
theorem dX9_echo_42 : decode cX9_echo 42 = .ok (.iaload, 1) := by decide +kernel
theorem dX9_echo_43 : decode cX9_echo 43 = .ok (.ifCond .le 13, 3) := by decide +kernel
theorem dX9_echo_46 : decode cX9_echo 46 = .ok (.aload_n 0, 1) := by decide +kernel
theorem dX9_echo_47 : decode cX9_echo 47 = .ok (.getfield 16, 3) := by decide +kernel
theorem dX9_echo_50 : decode cX9_echo 50 = .ok (.iconst 0, 1) := by decide +kernel
theorem dX9_echo_51 : decode cX9_echo 51 = .ok (.dup2, 1) := by decide +kernel
theorem dX9_echo_52 : decode cX9_echo 52 = .ok (.iaload, 1) := by decide +kernel
theorem dX9_echo_53 : decode cX9_echo 53 = .ok (.iconst 1, 1) := by decide +kernel
theorem dX9_echo_54 : decode cX9_echo 54 = .ok (.isub, 1) := by decide +kernel
theorem dX9_echo_55 : decode cX9_echo 55 = .ok (.iastore, 1) := by decide +kernel
theorem dX9_echo_56 : decode cX9_echo 56 = .ok (.iload_n 1, 1) := by decide +kernel
theorem dX9_echo_57 : decode cX9_echo 57 = .ok (.iconst 2, 1) := by decide +kernel
theorem dX9_echo_58 : decode cX9_echo 58 = .ok (.if_icmp .ne 24, 3) := by decide +kernel
theorem dX9_echo_61 : decode cX9_echo 61 = .ok (.aload_n 0, 1) := by decide +kernel
theorem dX9_echo_62 : decode cX9_echo 62 = .ok (.getfield 16, 3) := by decide +kernel
theorem dX9_echo_65 : decode cX9_echo 65 = .ok (.iconst 0, 1) := by decide +kernel
theorem dX9_echo_66 : decode cX9_echo 66 = .ok (.iaload, 1) := by decide +kernel
theorem dX9_echo_67 : decode cX9_echo 67 = .ok (.bipush 7, 2) := by decide +kernel
theorem dX9_echo_69 : decode cX9_echo 69 = .ok (.if_icmp .ge 13, 3) := by decide +kernel
theorem dX9_echo_72 : decode cX9_echo 72 = .ok (.aload_n 0, 1) := by decide +kernel
theorem dX9_echo_73 : decode cX9_echo 73 = .ok (.getfield 16, 3) := by decide +kernel
theorem dX9_echo_76 : decode cX9_echo 76 = .ok (.iconst 0, 1) := by decide +kernel
theorem dX9_echo_77 : decode cX9_echo 77 = .ok (.dup2, 1) := by decide +kernel
theorem dX9_echo_78 : decode cX9_echo 78 = .ok (.iaload, 1) := by decide +kernel
theorem dX9_echo_79 : decode cX9_echo 79 = .ok (.iconst 1, 1) := by decide +kernel
theorem dX9_echo_80 : decode cX9_echo 80 = .ok (.iadd, 1) := by decide +kernel
theorem dX9_echo_81 : decode cX9_echo 81 = .ok (.iastore, 1) := by decide +kernel
theorem dX9_echo_82 : decode cX9_echo 82 = .ok (.iload_n 1, 1) := by decide +kernel
theorem dX9_echo_83 : decode cX9_echo 83 = .ok (.iconst 3, 1) := by decide +kernel
theorem dX9_echo_84 : decode cX9_echo 84 = .ok (.if_icmp .ne 24, 3) := by decide +kernel
theorem dX9_echo_87 : decode cX9_echo 87 = .ok (.aload_n 0, 1) := by decide +kernel
theorem dX9_echo_88 : decode cX9_echo 88 = .ok (.getfield 19, 3) := by decide +kernel
theorem dX9_echo_91 : decode cX9_echo 91 = .ok (.iconst 0, 1) := by decide +kernel
theorem dX9_echo_92 : decode cX9_echo 92 = .ok (.iaload, 1) := by decide +kernel
theorem dX9_echo_93 : decode cX9_echo 93 = .ok (.bipush 23, 2) := by decide +kernel
theorem dX9_echo_95 : decode cX9_echo 95 = .ok (.if_icmp .ge 13, 3) := by decide +kernel
theorem dX9_echo_98 : decode cX9_echo 98 = .ok (.aload_n 0, 1) := by decide +kernel
theorem dX9_echo_99 : decode cX9_echo 99 = .ok (.getfield 19, 3) := by decide +kernel
theorem dX9_echo_102 : decode cX9_echo 102 = .ok (.iconst 0, 1) := by decide +kernel
theorem dX9_echo_103 : decode cX9_echo 103 = .ok (.dup2, 1) := by decide +kernel
theorem dX9_echo_104 : decode cX9_echo 104 = .ok (.iaload, 1) := by decide +kernel
theorem dX9_echo_105 : decode cX9_echo 105 = .ok (.iconst 1, 1) := by decide +kernel
theorem dX9_echo_106 : decode cX9_echo 106 = .ok (.iadd, 1) := by decide +kernel
theorem dX9_echo_107 : decode cX9_echo 107 = .ok (.iastore, 1) := by decide +kernel
theorem dX9_echo_108 : decode cX9_echo 108 = .ok (.iload_n 1, 1) := by decide +kernel
theorem dX9_echo_109 : decode cX9_echo 109 = .ok (.iconst 4, 1) := by decide +kernel
theorem dX9_echo_110 : decode cX9_echo 110 = .ok (.if_icmp .ne 22, 3) := by decide +kernel
theorem dX9_echo_113 : decode cX9_echo 113 = .ok (.aload_n 0, 1) := by decide +kernel
theorem dX9_echo_114 : decode cX9_echo 114 = .ok (.getfield 19, 3) := by decide +kernel
theorem dX9_echo_117 : decode cX9_echo 117 = .ok (.iconst 0, 1) := by decide +kernel
theorem dX9_echo_118 : decode cX9_echo 118 = .ok (.iaload, 1) := by decide +kernel
theorem dX9_echo_119 : decode cX9_echo 119 = .ok (.ifCond .le 13, 3) := by decide +kernel
theorem dX9_echo_122 : decode cX9_echo 122 = .ok (.aload_n 0, 1) := by decide +kernel
theorem dX9_echo_123 : decode cX9_echo 123 = .ok (.getfield 19, 3) := by decide +kernel
theorem dX9_echo_126 : decode cX9_echo 126 = .ok (.iconst 0, 1) := by decide +kernel
theorem dX9_echo_127 : decode cX9_echo 127 = .ok (.dup2, 1) := by decide +kernel
theorem dX9_echo_128 : decode cX9_echo 128 = .ok (.iaload, 1) := by decide +kernel
theorem dX9_echo_129 : decode cX9_echo 129 = .ok (.iconst 1, 1) := by decide +kernel
theorem dX9_echo_130 : decode cX9_echo 130 = .ok (.isub, 1) := by decide +kernel
theorem dX9_echo_131 : decode cX9_echo 131 = .ok (.iastore, 1) := by decide +kernel
theorem dX9_echo_132 : decode cX9_echo 132 = .ok (.return_, 1) := by decide +kernel
abbrev cX9_lines : ByteArray := prog_14_method_10_code
def yX9_lines : MethodName := ⟨RX9, "lines", "(I)V"⟩
theorem dX9_lines_0 : decode cX9_lines 0 = .ok (.iload_n 1, 1) := by decide +kernel
theorem dX9_lines_1 : decode cX9_lines 1 = .ok (.invokestatic 89, 3) := by decide +kernel
theorem dX9_lines_4 : decode cX9_lines 4 = .ok (.ifCond .eq 14, 3) := by decide +kernel
theorem dX9_lines_7 : decode cX9_lines 7 = .ok (.aload_n 0, 1) := by decide +kernel
theorem dX9_lines_8 : decode cX9_lines 8 = .ok (.getfield 19, 3) := by decide +kernel
theorem dX9_lines_11 : decode cX9_lines 11 = .ok (.iconst 0, 1) := by decide +kernel
theorem dX9_lines_12 : decode cX9_lines 12 = .ok (.iaload, 1) := by decide +kernel
theorem dX9_lines_13 : decode cX9_lines 13 = .ok (.bipush 23, 2) := by decide +kernel
theorem dX9_lines_15 : decode cX9_lines 15 = .ok (.if_icmp .eq 34, 3) := by decide +kernel
theorem dX9_lines_18 : decode cX9_lines 18 = .ok (.iload_n 1, 1) := by decide +kernel
theorem dX9_lines_19 : decode cX9_lines 19 = .ok (.iconst 1, 1) := by decide +kernel
theorem dX9_lines_20 : decode cX9_lines 20 = .ok (.if_icmp .eq 29, 3) := by decide +kernel
theorem dX9_lines_23 : decode cX9_lines 23 = .ok (.iload_n 1, 1) := by decide +kernel
theorem dX9_lines_24 : decode cX9_lines 24 = .ok (.iconst 2, 1) := by decide +kernel
theorem dX9_lines_25 : decode cX9_lines 25 = .ok (.if_icmp .eq 24, 3) := by decide +kernel
theorem dX9_lines_28 : decode cX9_lines 28 = .ok (.iload_n 1, 1) := by decide +kernel
theorem dX9_lines_29 : decode cX9_lines 29 = .ok (.bipush 8, 2) := by decide +kernel
theorem dX9_lines_31 : decode cX9_lines 31 = .ok (.if_icmp .eq 8, 3) := by decide +kernel
theorem dX9_lines_34 : decode cX9_lines 34 = .ok (.iload_n 1, 1) := by decide +kernel
theorem dX9_lines_35 : decode cX9_lines 35 = .ok (.iconst 4, 1) := by decide +kernel
theorem dX9_lines_36 : decode cX9_lines 36 = .ok (.if_icmp .ne 14, 3) := by decide +kernel
theorem dX9_lines_39 : decode cX9_lines 39 = .ok (.aload_n 0, 1) := by decide +kernel
theorem dX9_lines_40 : decode cX9_lines 40 = .ok (.getfield 19, 3) := by decide +kernel
theorem dX9_lines_43 : decode cX9_lines 43 = .ok (.iconst 0, 1) := by decide +kernel
theorem dX9_lines_44 : decode cX9_lines 44 = .ok (.iaload, 1) := by decide +kernel
theorem dX9_lines_45 : decode cX9_lines 45 = .ok (.iconst 2, 1) := by decide +kernel
theorem dX9_lines_46 : decode cX9_lines 46 = .ok (.if_icmp .ge 4, 3) := by decide +kernel
theorem dX9_lines_49 : decode cX9_lines 49 = .ok (.return_, 1) := by decide +kernel
theorem dX9_lines_50 : decode cX9_lines 50 = .ok (.aload_n 0, 1) := by decide +kernel
theorem dX9_lines_51 : decode cX9_lines 51 = .ok (.iload_n 1, 1) := by decide +kernel
theorem dX9_lines_52 : decode cX9_lines 52 = .ok (.invokevirtual 100, 3) := by decide +kernel
theorem dX9_lines_55 : decode cX9_lines 55 = .ok (.iload_n 1, 1) := by decide +kernel
theorem dX9_lines_56 : decode cX9_lines 56 = .ok (.bipush 13, 2) := by decide +kernel
theorem dX9_lines_58 : decode cX9_lines 58 = .ok (.if_icmp .ne 9, 3) := by decide +kernel
theorem dX9_lines_61 : decode cX9_lines 61 = .ok (.aload_n 0, 1) := by decide +kernel
theorem dX9_lines_62 : decode cX9_lines 62 = .ok (.bipush 62, 2) := by decide +kernel
theorem dX9_lines_64 : decode cX9_lines 64 = .ok (.invokevirtual 93, 3) := by decide +kernel
theorem dX9_lines_67 : decode cX9_lines 67 = .ok (.return_, 1) := by decide +kernel
abbrev cX9_pass : ByteArray := prog_14_method_11_code
def yX9_pass : MethodName := ⟨RX9, "pass", "(I)V"⟩
theorem dX9_pass_0 : decode cX9_pass 0 = .ok (.iload_n 1, 1) := by decide +kernel
theorem dX9_pass_1 : decode cX9_pass 1 = .ok (.invokestatic 89, 3) := by decide +kernel
theorem dX9_pass_4 : decode cX9_pass 4 = .ok (.ifCond .eq 22, 3) := by decide +kernel
theorem dX9_pass_7 : decode cX9_pass 7 = .ok (.aload_n 0, 1) := by decide +kernel
theorem dX9_pass_8 : decode cX9_pass 8 = .ok (.getfield 103, 3) := by decide +kernel
theorem dX9_pass_11 : decode cX9_pass 11 = .ok (.bipush 20, 2) := by decide +kernel
theorem dX9_pass_13 : decode cX9_pass 13 = .ok (.if_icmp .ge 13, 3) := by decide +kernel
theorem dX9_pass_16 : decode cX9_pass 16 = .ok (.aload_n 0, 1) := by decide +kernel
theorem dX9_pass_17 : decode cX9_pass 17 = .ok (.dup, 1) := by decide +kernel
theorem dX9_pass_18 : decode cX9_pass 18 = .ok (.getfield 103, 3) := by decide +kernel
theorem dX9_pass_21 : decode cX9_pass 21 = .ok (.iconst 1, 1) := by decide +kernel
theorem dX9_pass_22 : decode cX9_pass 22 = .ok (.iadd, 1) := by decide +kernel
theorem dX9_pass_23 : decode cX9_pass 23 = .ok (.putfield 103, 3) := by decide +kernel
theorem dX9_pass_26 : decode cX9_pass 26 = .ok (.iload_n 1, 1) := by decide +kernel
theorem dX9_pass_27 : decode cX9_pass 27 = .ok (.bipush 8, 2) := by decide +kernel
theorem dX9_pass_29 : decode cX9_pass 29 = .ok (.if_icmp .ne 20, 3) := by decide +kernel
theorem dX9_pass_32 : decode cX9_pass 32 = .ok (.aload_n 0, 1) := by decide +kernel
theorem dX9_pass_33 : decode cX9_pass 33 = .ok (.getfield 103, 3) := by decide +kernel
theorem dX9_pass_36 : decode cX9_pass 36 = .ok (.ifCond .le 13, 3) := by decide +kernel
theorem dX9_pass_39 : decode cX9_pass 39 = .ok (.aload_n 0, 1) := by decide +kernel
theorem dX9_pass_40 : decode cX9_pass 40 = .ok (.dup, 1) := by decide +kernel
theorem dX9_pass_41 : decode cX9_pass 41 = .ok (.getfield 103, 3) := by decide +kernel
theorem dX9_pass_44 : decode cX9_pass 44 = .ok (.iconst 1, 1) := by decide +kernel
theorem dX9_pass_45 : decode cX9_pass 45 = .ok (.isub, 1) := by decide +kernel
theorem dX9_pass_46 : decode cX9_pass 46 = .ok (.putfield 103, 3) := by decide +kernel
theorem dX9_pass_49 : decode cX9_pass 49 = .ok (.iload_n 1, 1) := by decide +kernel
theorem dX9_pass_50 : decode cX9_pass 50 = .ok (.bipush 13, 2) := by decide +kernel
theorem dX9_pass_52 : decode cX9_pass 52 = .ok (.if_icmp .eq 4, 3) := by decide +kernel
theorem dX9_pass_55 : decode cX9_pass 55 = .ok (.return_, 1) := by decide +kernel
theorem dX9_pass_56 : decode cX9_pass 56 = .ok (.iconst 0, 1) := by decide +kernel
theorem dX9_pass_57 : decode cX9_pass 57 = .ok (.istore_n 2, 1) := by decide +kernel
theorem dX9_pass_58 : decode cX9_pass 58 = .ok (.iload_n 2, 1) := by decide +kernel
theorem dX9_pass_59 : decode cX9_pass 59 = .ok (.aload_n 0, 1) := by decide +kernel
theorem dX9_pass_60 : decode cX9_pass 60 = .ok (.getfield 103, 3) := by decide +kernel
theorem dX9_pass_63 : decode cX9_pass 63 = .ok (.if_icmp .ge 15, 3) := by decide +kernel
theorem dX9_pass_66 : decode cX9_pass 66 = .ok (.aload_n 0, 1) := by decide +kernel
theorem dX9_pass_67 : decode cX9_pass 67 = .ok (.bipush 42, 2) := by decide +kernel
theorem dX9_pass_69 : decode cX9_pass 69 = .ok (.invokevirtual 93, 3) := by decide +kernel
theorem dX9_pass_72 : decode cX9_pass 72 = .ok (.iinc 2 1, 3) := by decide +kernel
theorem dX9_pass_75 : decode cX9_pass 75 = .ok (.goto (-17), 3) := by decide +kernel
theorem dX9_pass_78 : decode cX9_pass 78 = .ok (.aload_n 0, 1) := by decide +kernel
theorem dX9_pass_79 : decode cX9_pass 79 = .ok (.invokevirtual 86, 3) := by decide +kernel
theorem dX9_pass_82 : decode cX9_pass 82 = .ok (.aload_n 0, 1) := by decide +kernel
theorem dX9_pass_83 : decode cX9_pass 83 = .ok (.iconst 0, 1) := by decide +kernel
theorem dX9_pass_84 : decode cX9_pass 84 = .ok (.putfield 103, 3) := by decide +kernel
theorem dX9_pass_87 : decode cX9_pass 87 = .ok (.return_, 1) := by decide +kernel
abbrev cX9_pages : ByteArray := prog_14_method_12_code
def yX9_pages : MethodName := ⟨RX9, "pages", "(I)V"⟩
theorem dX9_pages_0 : decode cX9_pages 0 = .ok (.iload_n 1, 1) := by decide +kernel
theorem dX9_pages_1 : decode cX9_pages 1 = .ok (.invokestatic 89, 3) := by decide +kernel
theorem dX9_pages_4 : decode cX9_pages 4 = .ok (.ifCond .ne 4, 3) := by decide +kernel
theorem dX9_pages_7 : decode cX9_pages 7 = .ok (.return_, 1) := by decide +kernel
theorem dX9_pages_8 : decode cX9_pages 8 = .ok (.aload_n 0, 1) := by decide +kernel
theorem dX9_pages_9 : decode cX9_pages 9 = .ok (.iconst 0, 1) := by decide +kernel
theorem dX9_pages_10 : decode cX9_pages 10 = .ok (.iconst 1, 1) := by decide +kernel
theorem dX9_pages_11 : decode cX9_pages 11 = .ok (.invokevirtual 79, 3) := by decide +kernel
theorem dX9_pages_14 : decode cX9_pages 14 = .ok (.sipush 168, 3) := by decide +kernel
theorem dX9_pages_17 : decode cX9_pages 17 = .ok (.istore_n 2, 1) := by decide +kernel
theorem dX9_pages_18 : decode cX9_pages 18 = .ok (.iload_n 2, 1) := by decide +kernel
theorem dX9_pages_19 : decode cX9_pages 19 = .ok (.sipush 192, 3) := by decide +kernel
theorem dX9_pages_22 : decode cX9_pages 22 = .ok (.if_icmp .ge 26, 3) := by decide +kernel
theorem dX9_pages_25 : decode cX9_pages 25 = .ok (.aload_n 0, 1) := by decide +kernel
theorem dX9_pages_26 : decode cX9_pages 26 = .ok (.getfield 7, 3) := by decide +kernel
theorem dX9_pages_29 : decode cX9_pages 29 = .ok (.iload_n 2, 1) := by decide +kernel
theorem dX9_pages_30 : decode cX9_pages 30 = .ok (.iload_n 1, 1) := by decide +kernel
theorem dX9_pages_31 : decode cX9_pages 31 = .ok (.iastore, 1) := by decide +kernel
theorem dX9_pages_32 : decode cX9_pages 32 = .ok (.aload_n 0, 1) := by decide +kernel
theorem dX9_pages_33 : decode cX9_pages 33 = .ok (.getfield 13, 3) := by decide +kernel
theorem dX9_pages_36 : decode cX9_pages 36 = .ok (.iload_n 2, 1) := by decide +kernel
theorem dX9_pages_37 : decode cX9_pages 37 = .ok (.aload_n 0, 1) := by decide +kernel
theorem dX9_pages_38 : decode cX9_pages 38 = .ok (.getfield 83, 3) := by decide +kernel
theorem dX9_pages_41 : decode cX9_pages 41 = .ok (.iastore, 1) := by decide +kernel
theorem dX9_pages_42 : decode cX9_pages 42 = .ok (.iinc 2 1, 3) := by decide +kernel
theorem dX9_pages_45 : decode cX9_pages 45 = .ok (.goto (-27), 3) := by decide +kernel
theorem dX9_pages_48 : decode cX9_pages 48 = .ok (.aload_n 0, 1) := by decide +kernel
theorem dX9_pages_49 : decode cX9_pages 49 = .ok (.getfield 16, 3) := by decide +kernel
theorem dX9_pages_52 : decode cX9_pages 52 = .ok (.iconst 0, 1) := by decide +kernel
theorem dX9_pages_53 : decode cX9_pages 53 = .ok (.bipush 7, 2) := by decide +kernel
theorem dX9_pages_55 : decode cX9_pages 55 = .ok (.iastore, 1) := by decide +kernel
theorem dX9_pages_56 : decode cX9_pages 56 = .ok (.aload_n 0, 1) := by decide +kernel
theorem dX9_pages_57 : decode cX9_pages 57 = .ok (.getfield 19, 3) := by decide +kernel
theorem dX9_pages_60 : decode cX9_pages 60 = .ok (.iconst 0, 1) := by decide +kernel
theorem dX9_pages_61 : decode cX9_pages 61 = .ok (.iconst 0, 1) := by decide +kernel
theorem dX9_pages_62 : decode cX9_pages 62 = .ok (.iastore, 1) := by decide +kernel
theorem dX9_pages_63 : decode cX9_pages 63 = .ok (.return_, 1) := by decide +kernel
abbrev cX9_goBelow : ByteArray := prog_14_method_30_code
def yX9_goBelow : MethodName := ⟨RX9, "goBelow", "(III)I"⟩
theorem dX9_goBelow_0 : decode cX9_goBelow 0 = .ok (.iconst 0, 1) := by decide +kernel
theorem dX9_goBelow_1 : decode cX9_goBelow 1 = .ok (.istore 4, 2) := by decide +kernel
theorem dX9_goBelow_3 : decode cX9_goBelow 3 = .ok (.iload 4, 2) := by decide +kernel
theorem dX9_goBelow_5 : decode cX9_goBelow 5 = .ok (.iload_n 2, 1) := by decide +kernel
theorem dX9_goBelow_6 : decode cX9_goBelow 6 = .ok (.if_icmp .ge 22, 3) := by decide +kernel
theorem dX9_goBelow_9 : decode cX9_goBelow 9 = .ok (.aload_n 0, 1) := by decide +kernel
theorem dX9_goBelow_10 : decode cX9_goBelow 10 = .ok (.getfield 22, 3) := by decide +kernel
theorem dX9_goBelow_13 : decode cX9_goBelow 13 = .ok (.iload_n 1, 1) := by decide +kernel
theorem dX9_goBelow_14 : decode cX9_goBelow 14 = .ok (.iload 4, 2) := by decide +kernel
theorem dX9_goBelow_16 : decode cX9_goBelow 16 = .ok (.iadd, 1) := by decide +kernel
theorem dX9_goBelow_17 : decode cX9_goBelow 17 = .ok (.iaload, 1) := by decide +kernel
theorem dX9_goBelow_18 : decode cX9_goBelow 18 = .ok (.iload_n 3, 1) := by decide +kernel
theorem dX9_goBelow_19 : decode cX9_goBelow 19 = .ok (.if_icmp .ge 9, 3) := by decide +kernel
theorem dX9_goBelow_22 : decode cX9_goBelow 22 = .ok (.iinc 4 1, 3) := by decide +kernel
theorem dX9_goBelow_25 : decode cX9_goBelow 25 = .ok (.goto (-22), 3) := by decide +kernel
theorem dX9_goBelow_28 : decode cX9_goBelow 28 = .ok (.iconst 0, 1) := by decide +kernel
theorem dX9_goBelow_29 : decode cX9_goBelow 29 = .ok (.istore 5, 2) := by decide +kernel
theorem dX9_goBelow_31 : decode cX9_goBelow 31 = .ok (.iload 4, 2) := by decide +kernel
theorem dX9_goBelow_33 : decode cX9_goBelow 33 = .ok (.ifCond .le 33, 3) := by decide +kernel
theorem dX9_goBelow_36 : decode cX9_goBelow 36 = .ok (.iload 5, 2) := by decide +kernel
theorem dX9_goBelow_38 : decode cX9_goBelow 38 = .ok (.iload 4, 2) := by decide +kernel
theorem dX9_goBelow_40 : decode cX9_goBelow 40 = .ok (.iadd, 1) := by decide +kernel
theorem dX9_goBelow_41 : decode cX9_goBelow 41 = .ok (.iload_n 2, 1) := by decide +kernel
theorem dX9_goBelow_42 : decode cX9_goBelow 42 = .ok (.if_icmp .ge 24, 3) := by decide +kernel
theorem dX9_goBelow_45 : decode cX9_goBelow 45 = .ok (.aload_n 0, 1) := by decide +kernel
theorem dX9_goBelow_46 : decode cX9_goBelow 46 = .ok (.iload_n 1, 1) := by decide +kernel
theorem dX9_goBelow_47 : decode cX9_goBelow 47 = .ok (.iload 5, 2) := by decide +kernel
theorem dX9_goBelow_49 : decode cX9_goBelow 49 = .ok (.iadd, 1) := by decide +kernel
theorem dX9_goBelow_50 : decode cX9_goBelow 50 = .ok (.iload 4, 2) := by decide +kernel
theorem dX9_goBelow_52 : decode cX9_goBelow 52 = .ok (.iadd, 1) := by decide +kernel
theorem dX9_goBelow_53 : decode cX9_goBelow 53 = .ok (.iload_n 1, 1) := by decide +kernel
theorem dX9_goBelow_54 : decode cX9_goBelow 54 = .ok (.iload 5, 2) := by decide +kernel
theorem dX9_goBelow_56 : decode cX9_goBelow 56 = .ok (.iadd, 1) := by decide +kernel
theorem dX9_goBelow_57 : decode cX9_goBelow 57 = .ok (.invokevirtual 197, 3) := by decide +kernel
theorem dX9_goBelow_60 : decode cX9_goBelow 60 = .ok (.iinc 5 1, 3) := by decide +kernel
theorem dX9_goBelow_63 : decode cX9_goBelow 63 = .ok (.goto (-32), 3) := by decide +kernel
theorem dX9_goBelow_66 : decode cX9_goBelow 66 = .ok (.iload_n 2, 1) := by decide +kernel
theorem dX9_goBelow_67 : decode cX9_goBelow 67 = .ok (.iload 4, 2) := by decide +kernel
theorem dX9_goBelow_69 : decode cX9_goBelow 69 = .ok (.isub, 1) := by decide +kernel
theorem dX9_goBelow_70 : decode cX9_goBelow 70 = .ok (.ireturn, 1) := by decide +kernel
abbrev cX9_byNear : ByteArray := prog_14_method_42_code
def yX9_byNear : MethodName := ⟨RX9, "byNear", "()V"⟩
theorem dX9_byNear_0 : decode cX9_byNear 0 = .ok (.aload_n 0, 1) := by decide +kernel
theorem dX9_byNear_1 : decode cX9_byNear 1 = .ok (.getfield 51, 3) := by decide +kernel
theorem dX9_byNear_4 : decode cX9_byNear 4 = .ok (.iconst 1, 1) := by decide +kernel
theorem dX9_byNear_5 : decode cX9_byNear 5 = .ok (.iaload, 1) := by decide +kernel
theorem dX9_byNear_6 : decode cX9_byNear 6 = .ok (.aload_n 0, 1) := by decide +kernel
theorem dX9_byNear_7 : decode cX9_byNear 7 = .ok (.getfield 164, 3) := by decide +kernel
theorem dX9_byNear_10 : decode cX9_byNear 10 = .ok (.if_icmp .eq 14, 3) := by decide +kernel
theorem dX9_byNear_13 : decode cX9_byNear 13 = .ok (.aload_n 0, 1) := by decide +kernel
theorem dX9_byNear_14 : decode cX9_byNear 14 = .ok (.getfield 38, 3) := by decide +kernel
theorem dX9_byNear_17 : decode cX9_byNear 17 = .ok (.iconst 2, 1) := by decide +kernel
theorem dX9_byNear_18 : decode cX9_byNear 18 = .ok (.dup2, 1) := by decide +kernel
theorem dX9_byNear_19 : decode cX9_byNear 19 = .ok (.iaload, 1) := by decide +kernel
theorem dX9_byNear_20 : decode cX9_byNear 20 = .ok (.iconst 1, 1) := by decide +kernel
theorem dX9_byNear_21 : decode cX9_byNear 21 = .ok (.iadd, 1) := by decide +kernel
theorem dX9_byNear_22 : decode cX9_byNear 22 = .ok (.iastore, 1) := by decide +kernel
theorem dX9_byNear_23 : decode cX9_byNear 23 = .ok (.return_, 1) := by decide +kernel
theorem dX9_byNear_24 : decode cX9_byNear 24 = .ok (.aload_n 0, 1) := by decide +kernel
theorem dX9_byNear_25 : decode cX9_byNear 25 = .ok (.iconst 2, 1) := by decide +kernel
theorem dX9_byNear_26 : decode cX9_byNear 26 = .ok (.invokevirtual 243, 3) := by decide +kernel
theorem dX9_byNear_29 : decode cX9_byNear 29 = .ok (.istore_n 1, 1) := by decide +kernel
theorem dX9_byNear_30 : decode cX9_byNear 30 = .ok (.aload_n 0, 1) := by decide +kernel
theorem dX9_byNear_31 : decode cX9_byNear 31 = .ok (.bipush 34, 2) := by decide +kernel
theorem dX9_byNear_33 : decode cX9_byNear 33 = .ok (.aload_n 0, 1) := by decide +kernel
theorem dX9_byNear_34 : decode cX9_byNear 34 = .ok (.getfield 152, 3) := by decide +kernel
theorem dX9_byNear_37 : decode cX9_byNear 37 = .ok (.iload_n 1, 1) := by decide +kernel
theorem dX9_byNear_38 : decode cX9_byNear 38 = .ok (.invokevirtual 224, 3) := by decide +kernel
theorem dX9_byNear_41 : decode cX9_byNear 41 = .ok (.istore_n 2, 1) := by decide +kernel
theorem dX9_byNear_42 : decode cX9_byNear 42 = .ok (.iload_n 2, 1) := by decide +kernel
theorem dX9_byNear_43 : decode cX9_byNear 43 = .ok (.iconst (-1), 1) := by decide +kernel
theorem dX9_byNear_44 : decode cX9_byNear 44 = .ok (.if_icmp .ne 32, 3) := by decide +kernel
theorem dX9_byNear_47 : decode cX9_byNear 47 = .ok (.aload_n 0, 1) := by decide +kernel
theorem dX9_byNear_48 : decode cX9_byNear 48 = .ok (.getfield 38, 3) := by decide +kernel
theorem dX9_byNear_51 : decode cX9_byNear 51 = .ok (.iconst 4, 1) := by decide +kernel
theorem dX9_byNear_52 : decode cX9_byNear 52 = .ok (.dup2, 1) := by decide +kernel
theorem dX9_byNear_53 : decode cX9_byNear 53 = .ok (.iaload, 1) := by decide +kernel
theorem dX9_byNear_54 : decode cX9_byNear 54 = .ok (.iconst 1, 1) := by decide +kernel
theorem dX9_byNear_55 : decode cX9_byNear 55 = .ok (.iadd, 1) := by decide +kernel
theorem dX9_byNear_56 : decode cX9_byNear 56 = .ok (.iastore, 1) := by decide +kernel
theorem dX9_byNear_57 : decode cX9_byNear 57 = .ok (.iload_n 1, 1) := by decide +kernel
theorem dX9_byNear_58 : decode cX9_byNear 58 = .ok (.aload_n 0, 1) := by decide +kernel
theorem dX9_byNear_59 : decode cX9_byNear 59 = .ok (.getfield 22, 3) := by decide +kernel
theorem dX9_byNear_62 : decode cX9_byNear 62 = .ok (.aload_n 0, 1) := by decide +kernel
theorem dX9_byNear_63 : decode cX9_byNear 63 = .ok (.invokevirtual 234, 3) := by decide +kernel
theorem dX9_byNear_66 : decode cX9_byNear 66 = .ok (.iaload, 1) := by decide +kernel
theorem dX9_byNear_67 : decode cX9_byNear 67 = .ok (.if_icmp .ge 8, 3) := by decide +kernel
theorem dX9_byNear_70 : decode cX9_byNear 70 = .ok (.aload_n 0, 1) := by decide +kernel
theorem dX9_byNear_71 : decode cX9_byNear 71 = .ok (.iconst 1, 1) := by decide +kernel
theorem dX9_byNear_72 : decode cX9_byNear 72 = .ok (.putfield 161, 3) := by decide +kernel
theorem dX9_byNear_75 : decode cX9_byNear 75 = .ok (.return_, 1) := by decide +kernel
theorem dX9_byNear_76 : decode cX9_byNear 76 = .ok (.aload_n 0, 1) := by decide +kernel
theorem dX9_byNear_77 : decode cX9_byNear 77 = .ok (.getfield 38, 3) := by decide +kernel
theorem dX9_byNear_80 : decode cX9_byNear 80 = .ok (.iconst 5, 1) := by decide +kernel
theorem dX9_byNear_81 : decode cX9_byNear 81 = .ok (.dup2, 1) := by decide +kernel
theorem dX9_byNear_82 : decode cX9_byNear 82 = .ok (.iaload, 1) := by decide +kernel
theorem dX9_byNear_83 : decode cX9_byNear 83 = .ok (.iconst 1, 1) := by decide +kernel
theorem dX9_byNear_84 : decode cX9_byNear 84 = .ok (.iadd, 1) := by decide +kernel
theorem dX9_byNear_85 : decode cX9_byNear 85 = .ok (.iastore, 1) := by decide +kernel
theorem dX9_byNear_86 : decode cX9_byNear 86 = .ok (.aload_n 0, 1) := by decide +kernel
theorem dX9_byNear_87 : decode cX9_byNear 87 = .ok (.aload_n 0, 1) := by decide +kernel
theorem dX9_byNear_88 : decode cX9_byNear 88 = .ok (.bipush 34, 2) := by decide +kernel
theorem dX9_byNear_90 : decode cX9_byNear 90 = .ok (.aload_n 0, 1) := by decide +kernel
theorem dX9_byNear_91 : decode cX9_byNear 91 = .ok (.getfield 152, 3) := by decide +kernel
theorem dX9_byNear_94 : decode cX9_byNear 94 = .ok (.iload_n 1, 1) := by decide +kernel
theorem dX9_byNear_95 : decode cX9_byNear 95 = .ok (.invokevirtual 249, 3) := by decide +kernel
theorem dX9_byNear_98 : decode cX9_byNear 98 = .ok (.putfield 152, 3) := by decide +kernel
theorem dX9_byNear_101 : decode cX9_byNear 101 = .ok (.aload_n 0, 1) := by decide +kernel
theorem dX9_byNear_102 : decode cX9_byNear 102 = .ok (.bipush 34, 2) := by decide +kernel
theorem dX9_byNear_104 : decode cX9_byNear 104 = .ok (.aload_n 0, 1) := by decide +kernel
theorem dX9_byNear_105 : decode cX9_byNear 105 = .ok (.getfield 152, 3) := by decide +kernel
theorem dX9_byNear_108 : decode cX9_byNear 108 = .ok (.iload_n 1, 1) := by decide +kernel
theorem dX9_byNear_109 : decode cX9_byNear 109 = .ok (.invokevirtual 224, 3) := by decide +kernel
theorem dX9_byNear_112 : decode cX9_byNear 112 = .ok (.istore_n 2, 1) := by decide +kernel
theorem dX9_byNear_113 : decode cX9_byNear 113 = .ok (.aload_n 0, 1) := by decide +kernel
theorem dX9_byNear_114 : decode cX9_byNear 114 = .ok (.iconst 4, 1) := by decide +kernel
theorem dX9_byNear_115 : decode cX9_byNear 115 = .ok (.invokevirtual 243, 3) := by decide +kernel
theorem dX9_byNear_118 : decode cX9_byNear 118 = .ok (.istore_n 3, 1) := by decide +kernel
theorem dX9_byNear_119 : decode cX9_byNear 119 = .ok (.aload_n 0, 1) := by decide +kernel
theorem dX9_byNear_120 : decode cX9_byNear 120 = .ok (.bipush 6, 2) := by decide +kernel
theorem dX9_byNear_122 : decode cX9_byNear 122 = .ok (.invokevirtual 243, 3) := by decide +kernel
theorem dX9_byNear_125 : decode cX9_byNear 125 = .ok (.aload_n 0, 1) := by decide +kernel
theorem dX9_byNear_126 : decode cX9_byNear 126 = .ok (.getfield 149, 3) := by decide +kernel
theorem dX9_byNear_129 : decode cX9_byNear 129 = .ok (.if_icmp .le 13, 3) := by decide +kernel
theorem dX9_byNear_132 : decode cX9_byNear 132 = .ok (.aload_n 0, 1) := by decide +kernel
theorem dX9_byNear_133 : decode cX9_byNear 133 = .ok (.aload_n 0, 1) := by decide +kernel
theorem dX9_byNear_134 : decode cX9_byNear 134 = .ok (.bipush 6, 2) := by decide +kernel
theorem dX9_byNear_136 : decode cX9_byNear 136 = .ok (.invokevirtual 243, 3) := by decide +kernel
theorem dX9_byNear_139 : decode cX9_byNear 139 = .ok (.putfield 149, 3) := by decide +kernel
theorem dX9_byNear_142 : decode cX9_byNear 142 = .ok (.iload_n 3, 1) := by decide +kernel
theorem dX9_byNear_143 : decode cX9_byNear 143 = .ok (.aload_n 0, 1) := by decide +kernel
theorem dX9_byNear_144 : decode cX9_byNear 144 = .ok (.getfield 22, 3) := by decide +kernel
theorem dX9_byNear_147 : decode cX9_byNear 147 = .ok (.aload_n 0, 1) := by decide +kernel
theorem dX9_byNear_148 : decode cX9_byNear 148 = .ok (.invokevirtual 234, 3) := by decide +kernel
theorem dX9_byNear_151 : decode cX9_byNear 151 = .ok (.iaload, 1) := by decide +kernel
theorem dX9_byNear_152 : decode cX9_byNear 152 = .ok (.if_icmp .le 95, 3) := by decide +kernel
theorem dX9_byNear_155 : decode cX9_byNear 155 = .ok (.aload_n 0, 1) := by decide +kernel
theorem dX9_byNear_156 : decode cX9_byNear 156 = .ok (.invokevirtual 234, 3) := by decide +kernel
theorem dX9_byNear_159 : decode cX9_byNear 159 = .ok (.iconst 1, 1) := by decide +kernel
theorem dX9_byNear_160 : decode cX9_byNear 160 = .ok (.iadd, 1) := by decide +kernel
theorem dX9_byNear_161 : decode cX9_byNear 161 = .ok (.istore 4, 2) := by decide +kernel
theorem dX9_byNear_163 : decode cX9_byNear 163 = .ok (.aload_n 0, 1) := by decide +kernel
theorem dX9_byNear_164 : decode cX9_byNear 164 = .ok (.iload_n 2, 1) := by decide +kernel
theorem dX9_byNear_165 : decode cX9_byNear 165 = .ok (.iload 4, 2) := by decide +kernel
theorem dX9_byNear_167 : decode cX9_byNear 167 = .ok (.invokevirtual 197, 3) := by decide +kernel
theorem dX9_byNear_170 : decode cX9_byNear 170 = .ok (.aload_n 0, 1) := by decide +kernel
theorem dX9_byNear_171 : decode cX9_byNear 171 = .ok (.iload 4, 2) := by decide +kernel
theorem dX9_byNear_173 : decode cX9_byNear 173 = .ok (.bipush 10, 2) := by decide +kernel
theorem dX9_byNear_175 : decode cX9_byNear 175 = .ok (.aload_n 0, 1) := by decide +kernel
theorem dX9_byNear_176 : decode cX9_byNear 176 = .ok (.getfield 183, 3) := by decide +kernel
theorem dX9_byNear_179 : decode cX9_byNear 179 = .ok (.iconst 2, 1) := by decide +kernel
theorem dX9_byNear_180 : decode cX9_byNear 180 = .ok (.isub, 1) := by decide +kernel
theorem dX9_byNear_181 : decode cX9_byNear 181 = .ok (.invokevirtual 252, 3) := by decide +kernel
theorem dX9_byNear_184 : decode cX9_byNear 184 = .ok (.aload_n 0, 1) := by decide +kernel
theorem dX9_byNear_185 : decode cX9_byNear 185 = .ok (.getfield 22, 3) := by decide +kernel
theorem dX9_byNear_188 : decode cX9_byNear 188 = .ok (.iload 4, 2) := by decide +kernel
theorem dX9_byNear_190 : decode cX9_byNear 190 = .ok (.iload_n 3, 1) := by decide +kernel
theorem dX9_byNear_191 : decode cX9_byNear 191 = .ok (.iastore, 1) := by decide +kernel
theorem dX9_byNear_192 : decode cX9_byNear 192 = .ok (.aload_n 0, 1) := by decide +kernel
theorem dX9_byNear_193 : decode cX9_byNear 193 = .ok (.getfield 25, 3) := by decide +kernel
theorem dX9_byNear_196 : decode cX9_byNear 196 = .ok (.iload 4, 2) := by decide +kernel
theorem dX9_byNear_198 : decode cX9_byNear 198 = .ok (.aload_n 0, 1) := by decide +kernel
theorem dX9_byNear_199 : decode cX9_byNear 199 = .ok (.bipush 6, 2) := by decide +kernel
theorem dX9_byNear_201 : decode cX9_byNear 201 = .ok (.invokevirtual 243, 3) := by decide +kernel
theorem dX9_byNear_204 : decode cX9_byNear 204 = .ok (.iastore, 1) := by decide +kernel
theorem dX9_byNear_205 : decode cX9_byNear 205 = .ok (.aload_n 0, 1) := by decide +kernel
theorem dX9_byNear_206 : decode cX9_byNear 206 = .ok (.getfield 16, 3) := by decide +kernel
theorem dX9_byNear_209 : decode cX9_byNear 209 = .ok (.iload 4, 2) := by decide +kernel
theorem dX9_byNear_211 : decode cX9_byNear 211 = .ok (.aload_n 0, 1) := by decide +kernel
theorem dX9_byNear_212 : decode cX9_byNear 212 = .ok (.getfield 51, 3) := by decide +kernel
theorem dX9_byNear_215 : decode cX9_byNear 215 = .ok (.bipush 8, 2) := by decide +kernel
theorem dX9_byNear_217 : decode cX9_byNear 217 = .ok (.iaload, 1) := by decide +kernel
theorem dX9_byNear_218 : decode cX9_byNear 218 = .ok (.iastore, 1) := by decide +kernel
theorem dX9_byNear_219 : decode cX9_byNear 219 = .ok (.aload_n 0, 1) := by decide +kernel
theorem dX9_byNear_220 : decode cX9_byNear 220 = .ok (.getfield 19, 3) := by decide +kernel
theorem dX9_byNear_223 : decode cX9_byNear 223 = .ok (.iload 4, 2) := by decide +kernel
theorem dX9_byNear_225 : decode cX9_byNear 225 = .ok (.aload_n 0, 1) := by decide +kernel
theorem dX9_byNear_226 : decode cX9_byNear 226 = .ok (.getfield 51, 3) := by decide +kernel
theorem dX9_byNear_229 : decode cX9_byNear 229 = .ok (.bipush 9, 2) := by decide +kernel
theorem dX9_byNear_231 : decode cX9_byNear 231 = .ok (.iaload, 1) := by decide +kernel
theorem dX9_byNear_232 : decode cX9_byNear 232 = .ok (.iastore, 1) := by decide +kernel
theorem dX9_byNear_233 : decode cX9_byNear 233 = .ok (.aload_n 0, 1) := by decide +kernel
theorem dX9_byNear_234 : decode cX9_byNear 234 = .ok (.dup, 1) := by decide +kernel
theorem dX9_byNear_235 : decode cX9_byNear 235 = .ok (.getfield 152, 3) := by decide +kernel
theorem dX9_byNear_238 : decode cX9_byNear 238 = .ok (.iconst 1, 1) := by decide +kernel
theorem dX9_byNear_239 : decode cX9_byNear 239 = .ok (.iadd, 1) := by decide +kernel
theorem dX9_byNear_240 : decode cX9_byNear 240 = .ok (.putfield 152, 3) := by decide +kernel
theorem dX9_byNear_243 : decode cX9_byNear 243 = .ok (.aload_n 0, 1) := by decide +kernel
theorem dX9_byNear_244 : decode cX9_byNear 244 = .ok (.invokevirtual 255, 3) := by decide +kernel
theorem dX9_byNear_247 : decode cX9_byNear 247 = .ok (.aload_n 0, 1) := by decide +kernel
theorem dX9_byNear_248 : decode cX9_byNear 248 = .ok (.iload_n 1, 1) := by decide +kernel
theorem dX9_byNear_249 : decode cX9_byNear 249 = .ok (.putfield 167, 3) := by decide +kernel
theorem dX9_byNear_252 : decode cX9_byNear 252 = .ok (.iload_n 1, 1) := by decide +kernel
theorem dX9_byNear_253 : decode cX9_byNear 253 = .ok (.aload_n 0, 1) := by decide +kernel
theorem dX9_byNear_254 : decode cX9_byNear 254 = .ok (.getfield 22, 3) := by decide +kernel
theorem dX9_byNear_257 : decode cX9_byNear 257 = .ok (.aload_n 0, 1) := by decide +kernel
theorem dX9_byNear_258 : decode cX9_byNear 258 = .ok (.invokevirtual 234, 3) := by decide +kernel
theorem dX9_byNear_261 : decode cX9_byNear 261 = .ok (.iaload, 1) := by decide +kernel
theorem dX9_byNear_262 : decode cX9_byNear 262 = .ok (.if_icmp .ge 8, 3) := by decide +kernel
theorem dX9_byNear_265 : decode cX9_byNear 265 = .ok (.aload_n 0, 1) := by decide +kernel
theorem dX9_byNear_266 : decode cX9_byNear 266 = .ok (.iconst 1, 1) := by decide +kernel
theorem dX9_byNear_267 : decode cX9_byNear 267 = .ok (.putfield 161, 3) := by decide +kernel
theorem dX9_byNear_270 : decode cX9_byNear 270 = .ok (.return_, 1) := by decide +kernel
abbrev cX9_laid : ByteArray := prog_14_method_36_code
def yX9_laid : MethodName := ⟨RX9, "laid", "(III)V"⟩
theorem dX9_laid_0 : decode cX9_laid 0 = .ok (.aload_n 0, 1) := by decide +kernel
theorem dX9_laid_1 : decode cX9_laid 1 = .ok (.iload_n 1, 1) := by decide +kernel
theorem dX9_laid_2 : decode cX9_laid 2 = .ok (.aload_n 0, 1) := by decide +kernel
theorem dX9_laid_3 : decode cX9_laid 3 = .ok (.getfield 51, 3) := by decide +kernel
theorem dX9_laid_6 : decode cX9_laid 6 = .ok (.iload_n 2, 1) := by decide +kernel
theorem dX9_laid_7 : decode cX9_laid 7 = .ok (.iaload, 1) := by decide +kernel
theorem dX9_laid_8 : decode cX9_laid 8 = .ok (.invokevirtual 79, 3) := by decide +kernel
theorem dX9_laid_11 : decode cX9_laid 11 = .ok (.iload_n 2, 1) := by decide +kernel
theorem dX9_laid_12 : decode cX9_laid 12 = .ok (.iconst 1, 1) := by decide +kernel
theorem dX9_laid_13 : decode cX9_laid 13 = .ok (.iadd, 1) := by decide +kernel
theorem dX9_laid_14 : decode cX9_laid 14 = .ok (.istore 4, 2) := by decide +kernel
theorem dX9_laid_16 : decode cX9_laid 16 = .ok (.iload 4, 2) := by decide +kernel
theorem dX9_laid_18 : decode cX9_laid 18 = .ok (.iload_n 3, 1) := by decide +kernel
theorem dX9_laid_19 : decode cX9_laid 19 = .ok (.if_icmp .ge 138, 3) := by decide +kernel
theorem dX9_laid_22 : decode cX9_laid 22 = .ok (.sipush 192, 3) := by decide +kernel
theorem dX9_laid_25 : decode cX9_laid 25 = .ok (.iload_n 1, 1) := by decide +kernel
theorem dX9_laid_26 : decode cX9_laid 26 = .ok (.imul, 1) := by decide +kernel
theorem dX9_laid_27 : decode cX9_laid 27 = .ok (.bipush 24, 2) := by decide +kernel
theorem dX9_laid_29 : decode cX9_laid 29 = .ok (.aload_n 0, 1) := by decide +kernel
theorem dX9_laid_30 : decode cX9_laid 30 = .ok (.getfield 51, 3) := by decide +kernel
theorem dX9_laid_33 : decode cX9_laid 33 = .ok (.iload 4, 2) := by decide +kernel
theorem dX9_laid_35 : decode cX9_laid 35 = .ok (.iaload, 1) := by decide +kernel
theorem dX9_laid_36 : decode cX9_laid 36 = .ok (.imul, 1) := by decide +kernel
theorem dX9_laid_37 : decode cX9_laid 37 = .ok (.iadd, 1) := by decide +kernel
theorem dX9_laid_38 : decode cX9_laid 38 = .ok (.istore 5, 2) := by decide +kernel
theorem dX9_laid_40 : decode cX9_laid 40 = .ok (.aload_n 0, 1) := by decide +kernel
theorem dX9_laid_41 : decode cX9_laid 41 = .ok (.getfield 51, 3) := by decide +kernel
theorem dX9_laid_44 : decode cX9_laid 44 = .ok (.iload 4, 2) := by decide +kernel
theorem dX9_laid_46 : decode cX9_laid 46 = .ok (.iconst 1, 1) := by decide +kernel
theorem dX9_laid_47 : decode cX9_laid 47 = .ok (.iadd, 1) := by decide +kernel
theorem dX9_laid_48 : decode cX9_laid 48 = .ok (.iaload, 1) := by decide +kernel
theorem dX9_laid_49 : decode cX9_laid 49 = .ok (.iconst 1, 1) := by decide +kernel
theorem dX9_laid_50 : decode cX9_laid 50 = .ok (.if_icmp .ne 7, 3) := by decide +kernel
theorem dX9_laid_53 : decode cX9_laid 53 = .ok (.iconst 1, 1) := by decide +kernel
theorem dX9_laid_54 : decode cX9_laid 54 = .ok (.goto 4, 3) := by decide +kernel
theorem dX9_laid_57 : decode cX9_laid 57 = .ok (.iconst 0, 1) := by decide +kernel
theorem dX9_laid_58 : decode cX9_laid 58 = .ok (.istore 6, 2) := by decide +kernel
theorem dX9_laid_60 : decode cX9_laid 60 = .ok (.aload_n 0, 1) := by decide +kernel
theorem dX9_laid_61 : decode cX9_laid 61 = .ok (.getfield 51, 3) := by decide +kernel
theorem dX9_laid_64 : decode cX9_laid 64 = .ok (.iload 4, 2) := by decide +kernel
theorem dX9_laid_66 : decode cX9_laid 66 = .ok (.iconst 2, 1) := by decide +kernel
theorem dX9_laid_67 : decode cX9_laid 67 = .ok (.iadd, 1) := by decide +kernel
theorem dX9_laid_68 : decode cX9_laid 68 = .ok (.iaload, 1) := by decide +kernel
theorem dX9_laid_69 : decode cX9_laid 69 = .ok (.istore 7, 2) := by decide +kernel
theorem dX9_laid_71 : decode cX9_laid 71 = .ok (.aload_n 0, 1) := by decide +kernel
theorem dX9_laid_72 : decode cX9_laid 72 = .ok (.getfield 51, 3) := by decide +kernel
theorem dX9_laid_75 : decode cX9_laid 75 = .ok (.iload 4, 2) := by decide +kernel
theorem dX9_laid_77 : decode cX9_laid 77 = .ok (.iconst 3, 1) := by decide +kernel
theorem dX9_laid_78 : decode cX9_laid 78 = .ok (.iadd, 1) := by decide +kernel
theorem dX9_laid_79 : decode cX9_laid 79 = .ok (.iaload, 1) := by decide +kernel
theorem dX9_laid_80 : decode cX9_laid 80 = .ok (.istore 8, 2) := by decide +kernel
theorem dX9_laid_82 : decode cX9_laid 82 = .ok (.iinc 4 4, 3) := by decide +kernel
theorem dX9_laid_85 : decode cX9_laid 85 = .ok (.iload 7, 2) := by decide +kernel
theorem dX9_laid_87 : decode cX9_laid 87 = .ok (.istore 9, 2) := by decide +kernel
theorem dX9_laid_89 : decode cX9_laid 89 = .ok (.iload 9, 2) := by decide +kernel
theorem dX9_laid_91 : decode cX9_laid 91 = .ok (.iload 8, 2) := by decide +kernel
theorem dX9_laid_93 : decode cX9_laid 93 = .ok (.if_icmp .gt 53, 3) := by decide +kernel
theorem dX9_laid_96 : decode cX9_laid 96 = .ok (.aload_n 0, 1) := by decide +kernel
theorem dX9_laid_97 : decode cX9_laid 97 = .ok (.getfield 7, 3) := by decide +kernel
theorem dX9_laid_100 : decode cX9_laid 100 = .ok (.iload 5, 2) := by decide +kernel
theorem dX9_laid_102 : decode cX9_laid 102 = .ok (.iload 9, 2) := by decide +kernel
theorem dX9_laid_104 : decode cX9_laid 104 = .ok (.iadd, 1) := by decide +kernel
theorem dX9_laid_105 : decode cX9_laid 105 = .ok (.aload_n 0, 1) := by decide +kernel
theorem dX9_laid_106 : decode cX9_laid 106 = .ok (.getfield 51, 3) := by decide +kernel
theorem dX9_laid_109 : decode cX9_laid 109 = .ok (.iload 4, 2) := by decide +kernel
theorem dX9_laid_111 : decode cX9_laid 111 = .ok (.iaload, 1) := by decide +kernel
theorem dX9_laid_112 : decode cX9_laid 112 = .ok (.iastore, 1) := by decide +kernel
theorem dX9_laid_113 : decode cX9_laid 113 = .ok (.aload_n 0, 1) := by decide +kernel
theorem dX9_laid_114 : decode cX9_laid 114 = .ok (.getfield 13, 3) := by decide +kernel
theorem dX9_laid_117 : decode cX9_laid 117 = .ok (.iload 5, 2) := by decide +kernel
theorem dX9_laid_119 : decode cX9_laid 119 = .ok (.iload 9, 2) := by decide +kernel
theorem dX9_laid_121 : decode cX9_laid 121 = .ok (.iadd, 1) := by decide +kernel
theorem dX9_laid_122 : decode cX9_laid 122 = .ok (.aload_n 0, 1) := by decide +kernel
theorem dX9_laid_123 : decode cX9_laid 123 = .ok (.getfield 51, 3) := by decide +kernel
theorem dX9_laid_126 : decode cX9_laid 126 = .ok (.iload 4, 2) := by decide +kernel
theorem dX9_laid_128 : decode cX9_laid 128 = .ok (.iconst 1, 1) := by decide +kernel
theorem dX9_laid_129 : decode cX9_laid 129 = .ok (.iadd, 1) := by decide +kernel
theorem dX9_laid_130 : decode cX9_laid 130 = .ok (.iaload, 1) := by decide +kernel
theorem dX9_laid_131 : decode cX9_laid 131 = .ok (.iastore, 1) := by decide +kernel
theorem dX9_laid_132 : decode cX9_laid 132 = .ok (.iload 6, 2) := by decide +kernel
theorem dX9_laid_134 : decode cX9_laid 134 = .ok (.ifCond .ne 6, 3) := by decide +kernel
theorem dX9_laid_137 : decode cX9_laid 137 = .ok (.iinc 4 2, 3) := by decide +kernel
theorem dX9_laid_140 : decode cX9_laid 140 = .ok (.iinc 9 1, 3) := by decide +kernel
theorem dX9_laid_143 : decode cX9_laid 143 = .ok (.goto (-54), 3) := by decide +kernel
theorem dX9_laid_146 : decode cX9_laid 146 = .ok (.iload 6, 2) := by decide +kernel
theorem dX9_laid_148 : decode cX9_laid 148 = .ok (.ifCond .eq 6, 3) := by decide +kernel
theorem dX9_laid_151 : decode cX9_laid 151 = .ok (.iinc 4 2, 3) := by decide +kernel
theorem dX9_laid_154 : decode cX9_laid 154 = .ok (.goto (-138), 3) := by decide +kernel
theorem dX9_laid_157 : decode cX9_laid 157 = .ok (.return_, 1) := by decide +kernel
abbrev cX9_settles : ByteArray := prog_14_method_52_code
def yX9_settles : MethodName := ⟨RX9, "settles", "()V"⟩
theorem dX9_settles_0 : decode cX9_settles 0 = .ok (.aload_n 0, 1) := by decide +kernel
theorem dX9_settles_1 : decode cX9_settles 1 = .ok (.invokevirtual 234, 3) := by decide +kernel
theorem dX9_settles_4 : decode cX9_settles 4 = .ok (.istore_n 1, 1) := by decide +kernel
theorem dX9_settles_5 : decode cX9_settles 5 = .ok (.iconst 0, 1) := by decide +kernel
theorem dX9_settles_6 : decode cX9_settles 6 = .ok (.istore_n 2, 1) := by decide +kernel
theorem dX9_settles_7 : decode cX9_settles 7 = .ok (.iconst 0, 1) := by decide +kernel
theorem dX9_settles_8 : decode cX9_settles 8 = .ok (.istore_n 3, 1) := by decide +kernel
theorem dX9_settles_9 : decode cX9_settles 9 = .ok (.iload_n 2, 1) := by decide +kernel
theorem dX9_settles_10 : decode cX9_settles 10 = .ok (.aload_n 0, 1) := by decide +kernel
theorem dX9_settles_11 : decode cX9_settles 11 = .ok (.getfield 170, 3) := by decide +kernel
theorem dX9_settles_14 : decode cX9_settles 14 = .ok (.if_icmp .ge 168, 3) := by decide +kernel
theorem dX9_settles_17 : decode cX9_settles 17 = .ok (.iload_n 3, 1) := by decide +kernel
theorem dX9_settles_18 : decode cX9_settles 18 = .ok (.ifCond .ne 164, 3) := by decide +kernel
theorem dX9_settles_21 : decode cX9_settles 21 = .ok (.aload_n 0, 1) := by decide +kernel
theorem dX9_settles_22 : decode cX9_settles 22 = .ok (.getfield 54, 3) := by decide +kernel
theorem dX9_settles_25 : decode cX9_settles 25 = .ok (.iload_n 2, 1) := by decide +kernel
theorem dX9_settles_26 : decode cX9_settles 26 = .ok (.iaload, 1) := by decide +kernel
theorem dX9_settles_27 : decode cX9_settles 27 = .ok (.aload_n 0, 1) := by decide +kernel
theorem dX9_settles_28 : decode cX9_settles 28 = .ok (.getfield 25, 3) := by decide +kernel
theorem dX9_settles_31 : decode cX9_settles 31 = .ok (.iload_n 1, 1) := by decide +kernel
theorem dX9_settles_32 : decode cX9_settles 32 = .ok (.iaload, 1) := by decide +kernel
theorem dX9_settles_33 : decode cX9_settles 33 = .ok (.if_icmp .gt 149, 3) := by decide +kernel
theorem dX9_settles_36 : decode cX9_settles 36 = .ok (.aload_n 0, 1) := by decide +kernel
theorem dX9_settles_37 : decode cX9_settles 37 = .ok (.getfield 60, 3) := by decide +kernel
theorem dX9_settles_40 : decode cX9_settles 40 = .ok (.iload_n 2, 1) := by decide +kernel
theorem dX9_settles_41 : decode cX9_settles 41 = .ok (.iaload, 1) := by decide +kernel
theorem dX9_settles_42 : decode cX9_settles 42 = .ok (.iconst (-1), 1) := by decide +kernel
theorem dX9_settles_43 : decode cX9_settles 43 = .ok (.if_icmp .ne 56, 3) := by decide +kernel
theorem dX9_settles_46 : decode cX9_settles 46 = .ok (.aload_n 0, 1) := by decide +kernel
theorem dX9_settles_47 : decode cX9_settles 47 = .ok (.getfield 66, 3) := by decide +kernel
theorem dX9_settles_50 : decode cX9_settles 50 = .ok (.iload_n 2, 1) := by decide +kernel
theorem dX9_settles_51 : decode cX9_settles 51 = .ok (.iaload, 1) := by decide +kernel
theorem dX9_settles_52 : decode cX9_settles 52 = .ok (.aload_n 0, 1) := by decide +kernel
theorem dX9_settles_53 : decode cX9_settles 53 = .ok (.getfield 16, 3) := by decide +kernel
theorem dX9_settles_56 : decode cX9_settles 56 = .ok (.iload_n 1, 1) := by decide +kernel
theorem dX9_settles_57 : decode cX9_settles 57 = .ok (.iaload, 1) := by decide +kernel
theorem dX9_settles_58 : decode cX9_settles 58 = .ok (.if_icmp .ne 18, 3) := by decide +kernel
theorem dX9_settles_61 : decode cX9_settles 61 = .ok (.aload_n 0, 1) := by decide +kernel
theorem dX9_settles_62 : decode cX9_settles 62 = .ok (.getfield 69, 3) := by decide +kernel
theorem dX9_settles_65 : decode cX9_settles 65 = .ok (.iload_n 2, 1) := by decide +kernel
theorem dX9_settles_66 : decode cX9_settles 66 = .ok (.iaload, 1) := by decide +kernel
theorem dX9_settles_67 : decode cX9_settles 67 = .ok (.aload_n 0, 1) := by decide +kernel
theorem dX9_settles_68 : decode cX9_settles 68 = .ok (.getfield 19, 3) := by decide +kernel
theorem dX9_settles_71 : decode cX9_settles 71 = .ok (.iload_n 1, 1) := by decide +kernel
theorem dX9_settles_72 : decode cX9_settles 72 = .ok (.iaload, 1) := by decide +kernel
theorem dX9_settles_73 : decode cX9_settles 73 = .ok (.if_icmp .eq 18, 3) := by decide +kernel
theorem dX9_settles_76 : decode cX9_settles 76 = .ok (.aload_n 0, 1) := by decide +kernel
theorem dX9_settles_77 : decode cX9_settles 77 = .ok (.getfield 54, 3) := by decide +kernel
theorem dX9_settles_80 : decode cX9_settles 80 = .ok (.iload_n 2, 1) := by decide +kernel
theorem dX9_settles_81 : decode cX9_settles 81 = .ok (.iaload, 1) := by decide +kernel
theorem dX9_settles_82 : decode cX9_settles 82 = .ok (.aload_n 0, 1) := by decide +kernel
theorem dX9_settles_83 : decode cX9_settles 83 = .ok (.getfield 25, 3) := by decide +kernel
theorem dX9_settles_86 : decode cX9_settles 86 = .ok (.iload_n 1, 1) := by decide +kernel
theorem dX9_settles_87 : decode cX9_settles 87 = .ok (.iaload, 1) := by decide +kernel
theorem dX9_settles_88 : decode cX9_settles 88 = .ok (.if_icmp .ge 7, 3) := by decide +kernel
theorem dX9_settles_91 : decode cX9_settles 91 = .ok (.iconst 1, 1) := by decide +kernel
theorem dX9_settles_92 : decode cX9_settles 92 = .ok (.goto 38, 3) := by decide +kernel
theorem dX9_settles_95 : decode cX9_settles 95 = .ok (.iconst 0, 1) := by decide +kernel
theorem dX9_settles_96 : decode cX9_settles 96 = .ok (.goto 34, 3) := by decide +kernel
theorem dX9_settles_99 : decode cX9_settles 99 = .ok (.aload_n 0, 1) := by decide +kernel
theorem dX9_settles_100 : decode cX9_settles 100 = .ok (.getfield 7, 3) := by decide +kernel
theorem dX9_settles_103 : decode cX9_settles 103 = .ok (.sipush 192, 3) := by decide +kernel
theorem dX9_settles_106 : decode cX9_settles 106 = .ok (.iload_n 1, 1) := by decide +kernel
theorem dX9_settles_107 : decode cX9_settles 107 = .ok (.imul, 1) := by decide +kernel
theorem dX9_settles_108 : decode cX9_settles 108 = .ok (.aload_n 0, 1) := by decide +kernel
theorem dX9_settles_109 : decode cX9_settles 109 = .ok (.getfield 60, 3) := by decide +kernel
theorem dX9_settles_112 : decode cX9_settles 112 = .ok (.iload_n 2, 1) := by decide +kernel
theorem dX9_settles_113 : decode cX9_settles 113 = .ok (.iaload, 1) := by decide +kernel
theorem dX9_settles_114 : decode cX9_settles 114 = .ok (.iadd, 1) := by decide +kernel
theorem dX9_settles_115 : decode cX9_settles 115 = .ok (.iaload, 1) := by decide +kernel
theorem dX9_settles_116 : decode cX9_settles 116 = .ok (.aload_n 0, 1) := by decide +kernel
theorem dX9_settles_117 : decode cX9_settles 117 = .ok (.getfield 63, 3) := by decide +kernel
theorem dX9_settles_120 : decode cX9_settles 120 = .ok (.iload_n 2, 1) := by decide +kernel
theorem dX9_settles_121 : decode cX9_settles 121 = .ok (.iaload, 1) := by decide +kernel
theorem dX9_settles_122 : decode cX9_settles 122 = .ok (.if_icmp .ne 7, 3) := by decide +kernel
theorem dX9_settles_125 : decode cX9_settles 125 = .ok (.iconst 1, 1) := by decide +kernel
theorem dX9_settles_126 : decode cX9_settles 126 = .ok (.goto 4, 3) := by decide +kernel
theorem dX9_settles_129 : decode cX9_settles 129 = .ok (.iconst 0, 1) := by decide +kernel
theorem dX9_settles_130 : decode cX9_settles 130 = .ok (.istore 4, 2) := by decide +kernel
theorem dX9_settles_132 : decode cX9_settles 132 = .ok (.iload 4, 2) := by decide +kernel
theorem dX9_settles_134 : decode cX9_settles 134 = .ok (.ifCond .eq 43, 3) := by decide +kernel
theorem dX9_settles_137 : decode cX9_settles 137 = .ok (.aload_n 0, 1) := by decide +kernel
theorem dX9_settles_138 : decode cX9_settles 138 = .ok (.getfield 57, 3) := by decide +kernel
theorem dX9_settles_141 : decode cX9_settles 141 = .ok (.iload_n 2, 1) := by decide +kernel
theorem dX9_settles_142 : decode cX9_settles 142 = .ok (.iaload, 1) := by decide +kernel
theorem dX9_settles_143 : decode cX9_settles 143 = .ok (.aload_n 0, 1) := by decide +kernel
theorem dX9_settles_144 : decode cX9_settles 144 = .ok (.getfield 173, 3) := by decide +kernel
theorem dX9_settles_147 : decode cX9_settles 147 = .ok (.if_icmp .le 13, 3) := by decide +kernel
theorem dX9_settles_150 : decode cX9_settles 150 = .ok (.aload_n 0, 1) := by decide +kernel
theorem dX9_settles_151 : decode cX9_settles 151 = .ok (.aload_n 0, 1) := by decide +kernel
theorem dX9_settles_152 : decode cX9_settles 152 = .ok (.getfield 57, 3) := by decide +kernel
theorem dX9_settles_155 : decode cX9_settles 155 = .ok (.iload_n 2, 1) := by decide +kernel
theorem dX9_settles_156 : decode cX9_settles 156 = .ok (.iaload, 1) := by decide +kernel
theorem dX9_settles_157 : decode cX9_settles 157 = .ok (.putfield 173, 3) := by decide +kernel
theorem dX9_settles_160 : decode cX9_settles 160 = .ok (.aload_n 0, 1) := by decide +kernel
theorem dX9_settles_161 : decode cX9_settles 161 = .ok (.getfield 38, 3) := by decide +kernel
theorem dX9_settles_164 : decode cX9_settles 164 = .ok (.bipush 7, 2) := by decide +kernel
theorem dX9_settles_166 : decode cX9_settles 166 = .ok (.dup2, 1) := by decide +kernel
theorem dX9_settles_167 : decode cX9_settles 167 = .ok (.iaload, 1) := by decide +kernel
theorem dX9_settles_168 : decode cX9_settles 168 = .ok (.iconst 1, 1) := by decide +kernel
theorem dX9_settles_169 : decode cX9_settles 169 = .ok (.iadd, 1) := by decide +kernel
theorem dX9_settles_170 : decode cX9_settles 170 = .ok (.iastore, 1) := by decide +kernel
theorem dX9_settles_171 : decode cX9_settles 171 = .ok (.iinc 2 1, 3) := by decide +kernel
theorem dX9_settles_174 : decode cX9_settles 174 = .ok (.goto 5, 3) := by decide +kernel
theorem dX9_settles_177 : decode cX9_settles 177 = .ok (.iconst 1, 1) := by decide +kernel
theorem dX9_settles_178 : decode cX9_settles 178 = .ok (.istore_n 3, 1) := by decide +kernel
theorem dX9_settles_179 : decode cX9_settles 179 = .ok (.goto (-170), 3) := by decide +kernel
theorem dX9_settles_182 : decode cX9_settles 182 = .ok (.iload_n 3, 1) := by decide +kernel
theorem dX9_settles_183 : decode cX9_settles 183 = .ok (.ifCond .eq 46, 3) := by decide +kernel
theorem dX9_settles_186 : decode cX9_settles 186 = .ok (.aload_n 0, 1) := by decide +kernel
theorem dX9_settles_187 : decode cX9_settles 187 = .ok (.getfield 38, 3) := by decide +kernel
theorem dX9_settles_190 : decode cX9_settles 190 = .ok (.bipush 8, 2) := by decide +kernel
theorem dX9_settles_192 : decode cX9_settles 192 = .ok (.dup2, 1) := by decide +kernel
theorem dX9_settles_193 : decode cX9_settles 193 = .ok (.iaload, 1) := by decide +kernel
theorem dX9_settles_194 : decode cX9_settles 194 = .ok (.iconst 1, 1) := by decide +kernel
theorem dX9_settles_195 : decode cX9_settles 195 = .ok (.iadd, 1) := by decide +kernel
theorem dX9_settles_196 : decode cX9_settles 196 = .ok (.iastore, 1) := by decide +kernel
theorem dX9_settles_197 : decode cX9_settles 197 = .ok (.aload_n 0, 1) := by decide +kernel
theorem dX9_settles_198 : decode cX9_settles 198 = .ok (.getfield 38, 3) := by decide +kernel
theorem dX9_settles_201 : decode cX9_settles 201 = .ok (.bipush 9, 2) := by decide +kernel
theorem dX9_settles_203 : decode cX9_settles 203 = .ok (.dup2, 1) := by decide +kernel
theorem dX9_settles_204 : decode cX9_settles 204 = .ok (.iaload, 1) := by decide +kernel
theorem dX9_settles_205 : decode cX9_settles 205 = .ok (.aload_n 0, 1) := by decide +kernel
theorem dX9_settles_206 : decode cX9_settles 206 = .ok (.getfield 170, 3) := by decide +kernel
theorem dX9_settles_209 : decode cX9_settles 209 = .ok (.iload_n 2, 1) := by decide +kernel
theorem dX9_settles_210 : decode cX9_settles 210 = .ok (.isub, 1) := by decide +kernel
theorem dX9_settles_211 : decode cX9_settles 211 = .ok (.iadd, 1) := by decide +kernel
theorem dX9_settles_212 : decode cX9_settles 212 = .ok (.iastore, 1) := by decide +kernel
theorem dX9_settles_213 : decode cX9_settles 213 = .ok (.aload_n 0, 1) := by decide +kernel
theorem dX9_settles_214 : decode cX9_settles 214 = .ok (.iconst 0, 1) := by decide +kernel
theorem dX9_settles_215 : decode cX9_settles 215 = .ok (.putfield 170, 3) := by decide +kernel
theorem dX9_settles_218 : decode cX9_settles 218 = .ok (.aload_n 0, 1) := by decide +kernel
theorem dX9_settles_219 : decode cX9_settles 219 = .ok (.dup, 1) := by decide +kernel
theorem dX9_settles_220 : decode cX9_settles 220 = .ok (.getfield 176, 3) := by decide +kernel
theorem dX9_settles_223 : decode cX9_settles 223 = .ok (.iconst 1, 1) := by decide +kernel
theorem dX9_settles_224 : decode cX9_settles 224 = .ok (.iadd, 1) := by decide +kernel
theorem dX9_settles_225 : decode cX9_settles 225 = .ok (.putfield 176, 3) := by decide +kernel
theorem dX9_settles_228 : decode cX9_settles 228 = .ok (.return_, 1) := by decide +kernel
theorem dX9_settles_229 : decode cX9_settles 229 = .ok (.iconst 0, 1) := by decide +kernel
theorem dX9_settles_230 : decode cX9_settles 230 = .ok (.istore 4, 2) := by decide +kernel
theorem dX9_settles_232 : decode cX9_settles 232 = .ok (.iload 4, 2) := by decide +kernel
theorem dX9_settles_234 : decode cX9_settles 234 = .ok (.iload_n 2, 1) := by decide +kernel
theorem dX9_settles_235 : decode cX9_settles 235 = .ok (.iadd, 1) := by decide +kernel
theorem dX9_settles_236 : decode cX9_settles 236 = .ok (.aload_n 0, 1) := by decide +kernel
theorem dX9_settles_237 : decode cX9_settles 237 = .ok (.getfield 170, 3) := by decide +kernel
theorem dX9_settles_240 : decode cX9_settles 240 = .ok (.if_icmp .ge 109, 3) := by decide +kernel
theorem dX9_settles_243 : decode cX9_settles 243 = .ok (.iload_n 2, 1) := by decide +kernel
theorem dX9_settles_244 : decode cX9_settles 244 = .ok (.ifCond .le 105, 3) := by decide +kernel
theorem dX9_settles_247 : decode cX9_settles 247 = .ok (.aload_n 0, 1) := by decide +kernel
theorem dX9_settles_248 : decode cX9_settles 248 = .ok (.getfield 54, 3) := by decide +kernel
theorem dX9_settles_251 : decode cX9_settles 251 = .ok (.iload 4, 2) := by decide +kernel
theorem dX9_settles_253 : decode cX9_settles 253 = .ok (.aload_n 0, 1) := by decide +kernel
theorem dX9_settles_254 : decode cX9_settles 254 = .ok (.getfield 54, 3) := by decide +kernel
theorem dX9_settles_257 : decode cX9_settles 257 = .ok (.iload 4, 2) := by decide +kernel
theorem dX9_settles_259 : decode cX9_settles 259 = .ok (.iload_n 2, 1) := by decide +kernel
theorem dX9_settles_260 : decode cX9_settles 260 = .ok (.iadd, 1) := by decide +kernel
theorem dX9_settles_261 : decode cX9_settles 261 = .ok (.iaload, 1) := by decide +kernel
theorem dX9_settles_262 : decode cX9_settles 262 = .ok (.iastore, 1) := by decide +kernel
theorem dX9_settles_263 : decode cX9_settles 263 = .ok (.aload_n 0, 1) := by decide +kernel
theorem dX9_settles_264 : decode cX9_settles 264 = .ok (.getfield 57, 3) := by decide +kernel
theorem dX9_settles_267 : decode cX9_settles 267 = .ok (.iload 4, 2) := by decide +kernel
theorem dX9_settles_269 : decode cX9_settles 269 = .ok (.aload_n 0, 1) := by decide +kernel
theorem dX9_settles_270 : decode cX9_settles 270 = .ok (.getfield 57, 3) := by decide +kernel
theorem dX9_settles_273 : decode cX9_settles 273 = .ok (.iload 4, 2) := by decide +kernel
theorem dX9_settles_275 : decode cX9_settles 275 = .ok (.iload_n 2, 1) := by decide +kernel
theorem dX9_settles_276 : decode cX9_settles 276 = .ok (.iadd, 1) := by decide +kernel
theorem dX9_settles_277 : decode cX9_settles 277 = .ok (.iaload, 1) := by decide +kernel
theorem dX9_settles_278 : decode cX9_settles 278 = .ok (.iastore, 1) := by decide +kernel
theorem dX9_settles_279 : decode cX9_settles 279 = .ok (.aload_n 0, 1) := by decide +kernel
theorem dX9_settles_280 : decode cX9_settles 280 = .ok (.getfield 60, 3) := by decide +kernel
theorem dX9_settles_283 : decode cX9_settles 283 = .ok (.iload 4, 2) := by decide +kernel
theorem dX9_settles_285 : decode cX9_settles 285 = .ok (.aload_n 0, 1) := by decide +kernel
theorem dX9_settles_286 : decode cX9_settles 286 = .ok (.getfield 60, 3) := by decide +kernel
theorem dX9_settles_289 : decode cX9_settles 289 = .ok (.iload 4, 2) := by decide +kernel
theorem dX9_settles_291 : decode cX9_settles 291 = .ok (.iload_n 2, 1) := by decide +kernel
theorem dX9_settles_292 : decode cX9_settles 292 = .ok (.iadd, 1) := by decide +kernel
theorem dX9_settles_293 : decode cX9_settles 293 = .ok (.iaload, 1) := by decide +kernel
theorem dX9_settles_294 : decode cX9_settles 294 = .ok (.iastore, 1) := by decide +kernel
theorem dX9_settles_295 : decode cX9_settles 295 = .ok (.aload_n 0, 1) := by decide +kernel
theorem dX9_settles_296 : decode cX9_settles 296 = .ok (.getfield 63, 3) := by decide +kernel
theorem dX9_settles_299 : decode cX9_settles 299 = .ok (.iload 4, 2) := by decide +kernel
theorem dX9_settles_301 : decode cX9_settles 301 = .ok (.aload_n 0, 1) := by decide +kernel
theorem dX9_settles_302 : decode cX9_settles 302 = .ok (.getfield 63, 3) := by decide +kernel
theorem dX9_settles_305 : decode cX9_settles 305 = .ok (.iload 4, 2) := by decide +kernel
theorem dX9_settles_307 : decode cX9_settles 307 = .ok (.iload_n 2, 1) := by decide +kernel
theorem dX9_settles_308 : decode cX9_settles 308 = .ok (.iadd, 1) := by decide +kernel
theorem dX9_settles_309 : decode cX9_settles 309 = .ok (.iaload, 1) := by decide +kernel
theorem dX9_settles_310 : decode cX9_settles 310 = .ok (.iastore, 1) := by decide +kernel
theorem dX9_settles_311 : decode cX9_settles 311 = .ok (.aload_n 0, 1) := by decide +kernel
theorem dX9_settles_312 : decode cX9_settles 312 = .ok (.getfield 66, 3) := by decide +kernel
theorem dX9_settles_315 : decode cX9_settles 315 = .ok (.iload 4, 2) := by decide +kernel
theorem dX9_settles_317 : decode cX9_settles 317 = .ok (.aload_n 0, 1) := by decide +kernel
theorem dX9_settles_318 : decode cX9_settles 318 = .ok (.getfield 66, 3) := by decide +kernel
theorem dX9_settles_321 : decode cX9_settles 321 = .ok (.iload 4, 2) := by decide +kernel
theorem dX9_settles_323 : decode cX9_settles 323 = .ok (.iload_n 2, 1) := by decide +kernel
theorem dX9_settles_324 : decode cX9_settles 324 = .ok (.iadd, 1) := by decide +kernel
theorem dX9_settles_325 : decode cX9_settles 325 = .ok (.iaload, 1) := by decide +kernel
theorem dX9_settles_326 : decode cX9_settles 326 = .ok (.iastore, 1) := by decide +kernel
theorem dX9_settles_327 : decode cX9_settles 327 = .ok (.aload_n 0, 1) := by decide +kernel
theorem dX9_settles_328 : decode cX9_settles 328 = .ok (.getfield 69, 3) := by decide +kernel
theorem dX9_settles_331 : decode cX9_settles 331 = .ok (.iload 4, 2) := by decide +kernel
theorem dX9_settles_333 : decode cX9_settles 333 = .ok (.aload_n 0, 1) := by decide +kernel
theorem dX9_settles_334 : decode cX9_settles 334 = .ok (.getfield 69, 3) := by decide +kernel
theorem dX9_settles_337 : decode cX9_settles 337 = .ok (.iload 4, 2) := by decide +kernel
theorem dX9_settles_339 : decode cX9_settles 339 = .ok (.iload_n 2, 1) := by decide +kernel
theorem dX9_settles_340 : decode cX9_settles 340 = .ok (.iadd, 1) := by decide +kernel
theorem dX9_settles_341 : decode cX9_settles 341 = .ok (.iaload, 1) := by decide +kernel
theorem dX9_settles_342 : decode cX9_settles 342 = .ok (.iastore, 1) := by decide +kernel
theorem dX9_settles_343 : decode cX9_settles 343 = .ok (.iinc 4 1, 3) := by decide +kernel
theorem dX9_settles_346 : decode cX9_settles 346 = .ok (.goto (-114), 3) := by decide +kernel
theorem dX9_settles_349 : decode cX9_settles 349 = .ok (.aload_n 0, 1) := by decide +kernel
theorem dX9_settles_350 : decode cX9_settles 350 = .ok (.dup, 1) := by decide +kernel
theorem dX9_settles_351 : decode cX9_settles 351 = .ok (.getfield 170, 3) := by decide +kernel
theorem dX9_settles_354 : decode cX9_settles 354 = .ok (.iload_n 2, 1) := by decide +kernel
theorem dX9_settles_355 : decode cX9_settles 355 = .ok (.isub, 1) := by decide +kernel
theorem dX9_settles_356 : decode cX9_settles 356 = .ok (.putfield 170, 3) := by decide +kernel
theorem dX9_settles_359 : decode cX9_settles 359 = .ok (.return_, 1) := by decide +kernel
abbrev cX9_round : ByteArray := prog_14_method_48_code
def yX9_round : MethodName := ⟨RX9, "round", "()I"⟩
theorem dX9_round_0 : decode cX9_round 0 = .ok (.aload_n 0, 1) := by decide +kernel
theorem dX9_round_1 : decode cX9_round 1 = .ok (.invokevirtual 277, 3) := by decide +kernel
theorem dX9_round_4 : decode cX9_round 4 = .ok (.pop, 1) := by decide +kernel
theorem dX9_round_5 : decode cX9_round 5 = .ok (.iconst 0, 1) := by decide +kernel
theorem dX9_round_6 : decode cX9_round 6 = .ok (.istore_n 1, 1) := by decide +kernel
theorem dX9_round_7 : decode cX9_round 7 = .ok (.iconst 0, 1) := by decide +kernel
theorem dX9_round_8 : decode cX9_round 8 = .ok (.istore_n 2, 1) := by decide +kernel
theorem dX9_round_9 : decode cX9_round 9 = .ok (.iload_n 2, 1) := by decide +kernel
theorem dX9_round_10 : decode cX9_round 10 = .ok (.iconst 2, 1) := by decide +kernel
theorem dX9_round_11 : decode cX9_round 11 = .ok (.if_icmp .ge 42, 3) := by decide +kernel
theorem dX9_round_14 : decode cX9_round 14 = .ok (.aload_n 0, 1) := by decide +kernel
theorem dX9_round_15 : decode cX9_round 15 = .ok (.getfield 41, 3) := by decide +kernel
theorem dX9_round_18 : decode cX9_round 18 = .ok (.iload_n 2, 1) := by decide +kernel
theorem dX9_round_19 : decode cX9_round 19 = .ok (.iaload, 1) := by decide +kernel
theorem dX9_round_20 : decode cX9_round 20 = .ok (.ifCond .le 27, 3) := by decide +kernel
theorem dX9_round_23 : decode cX9_round 23 = .ok (.aload_n 0, 1) := by decide +kernel
theorem dX9_round_24 : decode cX9_round 24 = .ok (.iload_n 2, 1) := by decide +kernel
theorem dX9_round_25 : decode cX9_round 25 = .ok (.iconst 0, 1) := by decide +kernel
theorem dX9_round_26 : decode cX9_round 26 = .ok (.invokevirtual 267, 3) := by decide +kernel
theorem dX9_round_29 : decode cX9_round 29 = .ok (.aload_n 0, 1) := by decide +kernel
theorem dX9_round_30 : decode cX9_round 30 = .ok (.iload_n 2, 1) := by decide +kernel
theorem dX9_round_31 : decode cX9_round 31 = .ok (.iconst 0, 1) := by decide +kernel
theorem dX9_round_32 : decode cX9_round 32 = .ok (.invokevirtual 270, 3) := by decide +kernel
theorem dX9_round_35 : decode cX9_round 35 = .ok (.aload_n 0, 1) := by decide +kernel
theorem dX9_round_36 : decode cX9_round 36 = .ok (.iload_n 2, 1) := by decide +kernel
theorem dX9_round_37 : decode cX9_round 37 = .ok (.iconst 0, 1) := by decide +kernel
theorem dX9_round_38 : decode cX9_round 38 = .ok (.invokevirtual 273, 3) := by decide +kernel
theorem dX9_round_41 : decode cX9_round 41 = .ok (.iinc 1 1, 3) := by decide +kernel
theorem dX9_round_44 : decode cX9_round 44 = .ok (.goto (-30), 3) := by decide +kernel
theorem dX9_round_47 : decode cX9_round 47 = .ok (.iinc 2 1, 3) := by decide +kernel
theorem dX9_round_50 : decode cX9_round 50 = .ok (.goto (-41), 3) := by decide +kernel
theorem dX9_round_53 : decode cX9_round 53 = .ok (.iload_n 1, 1) := by decide +kernel
theorem dX9_round_54 : decode cX9_round 54 = .ok (.ireturn, 1) := by decide +kernel
abbrev cX9_roam : ByteArray := prog_14_method_49_code
def yX9_roam : MethodName := ⟨RX9, "roam", "()I"⟩
theorem dX9_roam_0 : decode cX9_roam 0 = .ok (.aload_n 0, 1) := by decide +kernel
theorem dX9_roam_1 : decode cX9_roam 1 = .ok (.aload_n 0, 1) := by decide +kernel
theorem dX9_roam_2 : decode cX9_roam 2 = .ok (.getfield 164, 3) := by decide +kernel
theorem dX9_roam_5 : decode cX9_roam 5 = .ok (.sipush 255, 3) := by decide +kernel
theorem dX9_roam_8 : decode cX9_roam 8 = .ok (.if_icmp .ne 7, 3) := by decide +kernel
theorem dX9_roam_11 : decode cX9_roam 11 = .ok (.iconst 1, 1) := by decide +kernel
theorem dX9_roam_12 : decode cX9_roam 12 = .ok (.goto 9, 3) := by decide +kernel
theorem dX9_roam_15 : decode cX9_roam 15 = .ok (.aload_n 0, 1) := by decide +kernel
theorem dX9_roam_16 : decode cX9_roam 16 = .ok (.getfield 164, 3) := by decide +kernel
theorem dX9_roam_19 : decode cX9_roam 19 = .ok (.iconst 1, 1) := by decide +kernel
theorem dX9_roam_20 : decode cX9_roam 20 = .ok (.iadd, 1) := by decide +kernel
theorem dX9_roam_21 : decode cX9_roam 21 = .ok (.putfield 164, 3) := by decide +kernel
theorem dX9_roam_24 : decode cX9_roam 24 = .ok (.aload_n 0, 1) := by decide +kernel
theorem dX9_roam_25 : decode cX9_roam 25 = .ok (.iconst 1, 1) := by decide +kernel
theorem dX9_roam_26 : decode cX9_roam 26 = .ok (.putfield 161, 3) := by decide +kernel
theorem dX9_roam_29 : decode cX9_roam 29 = .ok (.aload_n 0, 1) := by decide +kernel
theorem dX9_roam_30 : decode cX9_roam 30 = .ok (.getfield 164, 3) := by decide +kernel
theorem dX9_roam_33 : decode cX9_roam 33 = .ok (.ireturn, 1) := by decide +kernel
abbrev cX9_key : ByteArray := prog_14_method_51_code
def yX9_key : MethodName := ⟨RX9, "key", "(I)I"⟩
theorem dX9_key_0 : decode cX9_key 0 = .ok (.iload_n 1, 1) := by decide +kernel
theorem dX9_key_1 : decode cX9_key 1 = .ok (.bipush 13, 2) := by decide +kernel
theorem dX9_key_3 : decode cX9_key 3 = .ok (.if_icmp .eq 26, 3) := by decide +kernel
theorem dX9_key_6 : decode cX9_key 6 = .ok (.iload_n 1, 1) := by decide +kernel
theorem dX9_key_7 : decode cX9_key 7 = .ok (.bipush 8, 2) := by decide +kernel
theorem dX9_key_9 : decode cX9_key 9 = .ok (.if_icmp .eq 20, 3) := by decide +kernel
theorem dX9_key_12 : decode cX9_key 12 = .ok (.iload_n 1, 1) := by decide +kernel
theorem dX9_key_13 : decode cX9_key 13 = .ok (.iconst 1, 1) := by decide +kernel
theorem dX9_key_14 : decode cX9_key 14 = .ok (.if_icmp .lt 8, 3) := by decide +kernel
theorem dX9_key_17 : decode cX9_key 17 = .ok (.iload_n 1, 1) := by decide +kernel
theorem dX9_key_18 : decode cX9_key 18 = .ok (.iconst 4, 1) := by decide +kernel
theorem dX9_key_19 : decode cX9_key 19 = .ok (.if_icmp .le 10, 3) := by decide +kernel
theorem dX9_key_22 : decode cX9_key 22 = .ok (.iload_n 1, 1) := by decide +kernel
theorem dX9_key_23 : decode cX9_key 23 = .ok (.invokestatic 89, 3) := by decide +kernel
theorem dX9_key_26 : decode cX9_key 26 = .ok (.ifCond .eq 7, 3) := by decide +kernel
theorem dX9_key_29 : decode cX9_key 29 = .ok (.iconst 1, 1) := by decide +kernel
theorem dX9_key_30 : decode cX9_key 30 = .ok (.goto 4, 3) := by decide +kernel
theorem dX9_key_33 : decode cX9_key 33 = .ok (.iconst 0, 1) := by decide +kernel
theorem dX9_key_34 : decode cX9_key 34 = .ok (.istore_n 2, 1) := by decide +kernel
theorem dX9_key_35 : decode cX9_key 35 = .ok (.iload_n 2, 1) := by decide +kernel
theorem dX9_key_36 : decode cX9_key 36 = .ok (.ifCond .eq 13, 3) := by decide +kernel
theorem dX9_key_39 : decode cX9_key 39 = .ok (.aload_n 0, 1) := by decide +kernel
theorem dX9_key_40 : decode cX9_key 40 = .ok (.getfield 146, 3) := by decide +kernel
theorem dX9_key_43 : decode cX9_key 43 = .ok (.sipush 1000, 3) := by decide +kernel
theorem dX9_key_46 : decode cX9_key 46 = .ok (.if_icmp .ne 5, 3) := by decide +kernel
theorem dX9_key_49 : decode cX9_key 49 = .ok (.iconst (-1), 1) := by decide +kernel
theorem dX9_key_50 : decode cX9_key 50 = .ok (.ireturn, 1) := by decide +kernel
theorem dX9_key_51 : decode cX9_key 51 = .ok (.aload_n 0, 1) := by decide +kernel
theorem dX9_key_52 : decode cX9_key 52 = .ok (.getfield 35, 3) := by decide +kernel
theorem dX9_key_55 : decode cX9_key 55 = .ok (.aload_n 0, 1) := by decide +kernel
theorem dX9_key_56 : decode cX9_key 56 = .ok (.getfield 146, 3) := by decide +kernel
theorem dX9_key_59 : decode cX9_key 59 = .ok (.iload_n 1, 1) := by decide +kernel
theorem dX9_key_60 : decode cX9_key 60 = .ok (.iastore, 1) := by decide +kernel
theorem dX9_key_61 : decode cX9_key 61 = .ok (.aload_n 0, 1) := by decide +kernel
theorem dX9_key_62 : decode cX9_key 62 = .ok (.dup, 1) := by decide +kernel
theorem dX9_key_63 : decode cX9_key 63 = .ok (.getfield 146, 3) := by decide +kernel
theorem dX9_key_66 : decode cX9_key 66 = .ok (.iconst 1, 1) := by decide +kernel
theorem dX9_key_67 : decode cX9_key 67 = .ok (.iadd, 1) := by decide +kernel
theorem dX9_key_68 : decode cX9_key 68 = .ok (.putfield 146, 3) := by decide +kernel
theorem dX9_key_71 : decode cX9_key 71 = .ok (.aload_n 0, 1) := by decide +kernel
theorem dX9_key_72 : decode cX9_key 72 = .ok (.getfield 106, 3) := by decide +kernel
theorem dX9_key_75 : decode cX9_key 75 = .ok (.iconst 2, 1) := by decide +kernel
theorem dX9_key_76 : decode cX9_key 76 = .ok (.if_icmp .ne 18, 3) := by decide +kernel
theorem dX9_key_79 : decode cX9_key 79 = .ok (.aload_n 0, 1) := by decide +kernel
theorem dX9_key_80 : decode cX9_key 80 = .ok (.dup, 1) := by decide +kernel
theorem dX9_key_81 : decode cX9_key 81 = .ok (.getfield 176, 3) := by decide +kernel
theorem dX9_key_84 : decode cX9_key 84 = .ok (.iconst 1, 1) := by decide +kernel
theorem dX9_key_85 : decode cX9_key 85 = .ok (.iadd, 1) := by decide +kernel
theorem dX9_key_86 : decode cX9_key 86 = .ok (.putfield 176, 3) := by decide +kernel
theorem dX9_key_89 : decode cX9_key 89 = .ok (.aload_n 0, 1) := by decide +kernel
theorem dX9_key_90 : decode cX9_key 90 = .ok (.getfield 146, 3) := by decide +kernel
theorem dX9_key_93 : decode cX9_key 93 = .ok (.ireturn, 1) := by decide +kernel
theorem dX9_key_94 : decode cX9_key 94 = .ok (.aload_n 0, 1) := by decide +kernel
theorem dX9_key_95 : decode cX9_key 95 = .ok (.invokevirtual 234, 3) := by decide +kernel
theorem dX9_key_98 : decode cX9_key 98 = .ok (.istore_n 3, 1) := by decide +kernel
theorem dX9_key_99 : decode cX9_key 99 = .ok (.aload_n 0, 1) := by decide +kernel
theorem dX9_key_100 : decode cX9_key 100 = .ok (.getfield 170, 3) := by decide +kernel
theorem dX9_key_103 : decode cX9_key 103 = .ok (.ifCond .le 17, 3) := by decide +kernel
theorem dX9_key_106 : decode cX9_key 106 = .ok (.aload_n 0, 1) := by decide +kernel
theorem dX9_key_107 : decode cX9_key 107 = .ok (.getfield 66, 3) := by decide +kernel
theorem dX9_key_110 : decode cX9_key 110 = .ok (.aload_n 0, 1) := by decide +kernel
theorem dX9_key_111 : decode cX9_key 111 = .ok (.getfield 170, 3) := by decide +kernel
theorem dX9_key_114 : decode cX9_key 114 = .ok (.iconst 1, 1) := by decide +kernel
theorem dX9_key_115 : decode cX9_key 115 = .ok (.isub, 1) := by decide +kernel
theorem dX9_key_116 : decode cX9_key 116 = .ok (.iaload, 1) := by decide +kernel
theorem dX9_key_117 : decode cX9_key 117 = .ok (.goto 9, 3) := by decide +kernel
theorem dX9_key_120 : decode cX9_key 120 = .ok (.aload_n 0, 1) := by decide +kernel
theorem dX9_key_121 : decode cX9_key 121 = .ok (.getfield 16, 3) := by decide +kernel
theorem dX9_key_124 : decode cX9_key 124 = .ok (.iload_n 3, 1) := by decide +kernel
theorem dX9_key_125 : decode cX9_key 125 = .ok (.iaload, 1) := by decide +kernel
theorem dX9_key_126 : decode cX9_key 126 = .ok (.istore 4, 2) := by decide +kernel
theorem dX9_key_128 : decode cX9_key 128 = .ok (.aload_n 0, 1) := by decide +kernel
theorem dX9_key_129 : decode cX9_key 129 = .ok (.getfield 170, 3) := by decide +kernel
theorem dX9_key_132 : decode cX9_key 132 = .ok (.ifCond .le 17, 3) := by decide +kernel
theorem dX9_key_135 : decode cX9_key 135 = .ok (.aload_n 0, 1) := by decide +kernel
theorem dX9_key_136 : decode cX9_key 136 = .ok (.getfield 69, 3) := by decide +kernel
theorem dX9_key_139 : decode cX9_key 139 = .ok (.aload_n 0, 1) := by decide +kernel
theorem dX9_key_140 : decode cX9_key 140 = .ok (.getfield 170, 3) := by decide +kernel
theorem dX9_key_143 : decode cX9_key 143 = .ok (.iconst 1, 1) := by decide +kernel
theorem dX9_key_144 : decode cX9_key 144 = .ok (.isub, 1) := by decide +kernel
theorem dX9_key_145 : decode cX9_key 145 = .ok (.iaload, 1) := by decide +kernel
theorem dX9_key_146 : decode cX9_key 146 = .ok (.goto 9, 3) := by decide +kernel
theorem dX9_key_149 : decode cX9_key 149 = .ok (.aload_n 0, 1) := by decide +kernel
theorem dX9_key_150 : decode cX9_key 150 = .ok (.getfield 19, 3) := by decide +kernel
theorem dX9_key_153 : decode cX9_key 153 = .ok (.iload_n 3, 1) := by decide +kernel
theorem dX9_key_154 : decode cX9_key 154 = .ok (.iaload, 1) := by decide +kernel
theorem dX9_key_155 : decode cX9_key 155 = .ok (.istore 5, 2) := by decide +kernel
theorem dX9_key_157 : decode cX9_key 157 = .ok (.iload_n 1, 1) := by decide +kernel
theorem dX9_key_158 : decode cX9_key 158 = .ok (.invokestatic 89, 3) := by decide +kernel
theorem dX9_key_161 : decode cX9_key 161 = .ok (.ifCond .eq 63, 3) := by decide +kernel
theorem dX9_key_164 : decode cX9_key 164 = .ok (.aload_n 0, 1) := by decide +kernel
theorem dX9_key_165 : decode cX9_key 165 = .ok (.getfield 170, 3) := by decide +kernel
theorem dX9_key_168 : decode cX9_key 168 = .ok (.bipush 60, 2) := by decide +kernel
theorem dX9_key_170 : decode cX9_key 170 = .ok (.if_icmp .ge 115, 3) := by decide +kernel
theorem dX9_key_173 : decode cX9_key 173 = .ok (.aload_n 0, 1) := by decide +kernel
theorem dX9_key_174 : decode cX9_key 174 = .ok (.bipush 24, 2) := by decide +kernel
theorem dX9_key_176 : decode cX9_key 176 = .ok (.iload 4, 2) := by decide +kernel
theorem dX9_key_178 : decode cX9_key 178 = .ok (.imul, 1) := by decide +kernel
theorem dX9_key_179 : decode cX9_key 179 = .ok (.iload 5, 2) := by decide +kernel
theorem dX9_key_181 : decode cX9_key 181 = .ok (.iadd, 1) := by decide +kernel
theorem dX9_key_182 : decode cX9_key 182 = .ok (.iload_n 1, 1) := by decide +kernel
theorem dX9_key_183 : decode cX9_key 183 = .ok (.iload 4, 2) := by decide +kernel
theorem dX9_key_185 : decode cX9_key 185 = .ok (.iload 5, 2) := by decide +kernel
theorem dX9_key_187 : decode cX9_key 187 = .ok (.bipush 23, 2) := by decide +kernel
theorem dX9_key_189 : decode cX9_key 189 = .ok (.if_icmp .ge 10, 3) := by decide +kernel
theorem dX9_key_192 : decode cX9_key 192 = .ok (.iload 5, 2) := by decide +kernel
theorem dX9_key_194 : decode cX9_key 194 = .ok (.iconst 1, 1) := by decide +kernel
theorem dX9_key_195 : decode cX9_key 195 = .ok (.iadd, 1) := by decide +kernel
theorem dX9_key_196 : decode cX9_key 196 = .ok (.goto 5, 3) := by decide +kernel
theorem dX9_key_199 : decode cX9_key 199 = .ok (.bipush 23, 2) := by decide +kernel
theorem dX9_key_201 : decode cX9_key 201 = .ok (.invokevirtual 280, 3) := by decide +kernel
theorem dX9_key_204 : decode cX9_key 204 = .ok (.iload 5, 2) := by decide +kernel
theorem dX9_key_206 : decode cX9_key 206 = .ok (.bipush 23, 2) := by decide +kernel
theorem dX9_key_208 : decode cX9_key 208 = .ok (.if_icmp .ne 77, 3) := by decide +kernel
theorem dX9_key_211 : decode cX9_key 211 = .ok (.aload_n 0, 1) := by decide +kernel
theorem dX9_key_212 : decode cX9_key 212 = .ok (.dup, 1) := by decide +kernel
theorem dX9_key_213 : decode cX9_key 213 = .ok (.getfield 176, 3) := by decide +kernel
theorem dX9_key_216 : decode cX9_key 216 = .ok (.iconst 1, 1) := by decide +kernel
theorem dX9_key_217 : decode cX9_key 217 = .ok (.iadd, 1) := by decide +kernel
theorem dX9_key_218 : decode cX9_key 218 = .ok (.putfield 176, 3) := by decide +kernel
theorem dX9_key_221 : decode cX9_key 221 = .ok (.goto 64, 3) := by decide +kernel
theorem dX9_key_224 : decode cX9_key 224 = .ok (.iload_n 1, 1) := by decide +kernel
theorem dX9_key_225 : decode cX9_key 225 = .ok (.iconst 3, 1) := by decide +kernel
theorem dX9_key_226 : decode cX9_key 226 = .ok (.if_icmp .eq 8, 3) := by decide +kernel
theorem dX9_key_229 : decode cX9_key 229 = .ok (.iload_n 1, 1) := by decide +kernel
theorem dX9_key_230 : decode cX9_key 230 = .ok (.iconst 4, 1) := by decide +kernel
theorem dX9_key_231 : decode cX9_key 231 = .ok (.if_icmp .ne 44, 3) := by decide +kernel
theorem dX9_key_234 : decode cX9_key 234 = .ok (.iload_n 1, 1) := by decide +kernel
theorem dX9_key_235 : decode cX9_key 235 = .ok (.iconst 3, 1) := by decide +kernel
theorem dX9_key_236 : decode cX9_key 236 = .ok (.if_icmp .ne 10, 3) := by decide +kernel
theorem dX9_key_239 : decode cX9_key 239 = .ok (.iload 5, 2) := by decide +kernel
theorem dX9_key_241 : decode cX9_key 241 = .ok (.iconst 1, 1) := by decide +kernel
theorem dX9_key_242 : decode cX9_key 242 = .ok (.iadd, 1) := by decide +kernel
theorem dX9_key_243 : decode cX9_key 243 = .ok (.goto 7, 3) := by decide +kernel
theorem dX9_key_246 : decode cX9_key 246 = .ok (.iload 5, 2) := by decide +kernel
theorem dX9_key_248 : decode cX9_key 248 = .ok (.iconst 1, 1) := by decide +kernel
theorem dX9_key_249 : decode cX9_key 249 = .ok (.isub, 1) := by decide +kernel
theorem dX9_key_250 : decode cX9_key 250 = .ok (.istore 6, 2) := by decide +kernel
theorem dX9_key_252 : decode cX9_key 252 = .ok (.iload 4, 2) := by decide +kernel
theorem dX9_key_254 : decode cX9_key 254 = .ok (.iload 6, 2) := by decide +kernel
theorem dX9_key_256 : decode cX9_key 256 = .ok (.invokestatic 179, 3) := by decide +kernel
theorem dX9_key_259 : decode cX9_key 259 = .ok (.ifCond .eq 13, 3) := by decide +kernel
theorem dX9_key_262 : decode cX9_key 262 = .ok (.aload_n 0, 1) := by decide +kernel
theorem dX9_key_263 : decode cX9_key 263 = .ok (.iconst (-1), 1) := by decide +kernel
theorem dX9_key_264 : decode cX9_key 264 = .ok (.iconst (-1), 1) := by decide +kernel
theorem dX9_key_265 : decode cX9_key 265 = .ok (.iload 4, 2) := by decide +kernel
theorem dX9_key_267 : decode cX9_key 267 = .ok (.iload 6, 2) := by decide +kernel
theorem dX9_key_269 : decode cX9_key 269 = .ok (.invokevirtual 280, 3) := by decide +kernel
theorem dX9_key_272 : decode cX9_key 272 = .ok (.goto 13, 3) := by decide +kernel
theorem dX9_key_275 : decode cX9_key 275 = .ok (.aload_n 0, 1) := by decide +kernel
theorem dX9_key_276 : decode cX9_key 276 = .ok (.dup, 1) := by decide +kernel
theorem dX9_key_277 : decode cX9_key 277 = .ok (.getfield 176, 3) := by decide +kernel
theorem dX9_key_280 : decode cX9_key 280 = .ok (.iconst 1, 1) := by decide +kernel
theorem dX9_key_281 : decode cX9_key 281 = .ok (.iadd, 1) := by decide +kernel
theorem dX9_key_282 : decode cX9_key 282 = .ok (.putfield 176, 3) := by decide +kernel
theorem dX9_key_285 : decode cX9_key 285 = .ok (.aload_n 0, 1) := by decide +kernel
theorem dX9_key_286 : decode cX9_key 286 = .ok (.getfield 146, 3) := by decide +kernel
theorem dX9_key_289 : decode cX9_key 289 = .ok (.ireturn, 1) := by decide +kernel
abbrev cX9_guess : ByteArray := prog_14_method_50_code
def yX9_guess : MethodName := ⟨RX9, "guess", "(IIII)V"⟩
theorem dX9_guess_0 : decode cX9_guess 0 = .ok (.aload_n 0, 1) := by decide +kernel
theorem dX9_guess_1 : decode cX9_guess 1 = .ok (.getfield 170, 3) := by decide +kernel
theorem dX9_guess_4 : decode cX9_guess 4 = .ok (.bipush 60, 2) := by decide +kernel
theorem dX9_guess_6 : decode cX9_guess 6 = .ok (.if_icmp .ne 4, 3) := by decide +kernel
theorem dX9_guess_9 : decode cX9_guess 9 = .ok (.return_, 1) := by decide +kernel
theorem dX9_guess_10 : decode cX9_guess 10 = .ok (.aload_n 0, 1) := by decide +kernel
theorem dX9_guess_11 : decode cX9_guess 11 = .ok (.getfield 54, 3) := by decide +kernel
theorem dX9_guess_14 : decode cX9_guess 14 = .ok (.aload_n 0, 1) := by decide +kernel
theorem dX9_guess_15 : decode cX9_guess 15 = .ok (.getfield 170, 3) := by decide +kernel
theorem dX9_guess_18 : decode cX9_guess 18 = .ok (.aload_n 0, 1) := by decide +kernel
theorem dX9_guess_19 : decode cX9_guess 19 = .ok (.getfield 146, 3) := by decide +kernel
theorem dX9_guess_22 : decode cX9_guess 22 = .ok (.iastore, 1) := by decide +kernel
theorem dX9_guess_23 : decode cX9_guess 23 = .ok (.aload_n 0, 1) := by decide +kernel
theorem dX9_guess_24 : decode cX9_guess 24 = .ok (.getfield 57, 3) := by decide +kernel
theorem dX9_guess_27 : decode cX9_guess 27 = .ok (.aload_n 0, 1) := by decide +kernel
theorem dX9_guess_28 : decode cX9_guess 28 = .ok (.getfield 170, 3) := by decide +kernel
theorem dX9_guess_31 : decode cX9_guess 31 = .ok (.aload_n 0, 1) := by decide +kernel
theorem dX9_guess_32 : decode cX9_guess 32 = .ok (.getfield 176, 3) := by decide +kernel
theorem dX9_guess_35 : decode cX9_guess 35 = .ok (.iastore, 1) := by decide +kernel
theorem dX9_guess_36 : decode cX9_guess 36 = .ok (.aload_n 0, 1) := by decide +kernel
theorem dX9_guess_37 : decode cX9_guess 37 = .ok (.getfield 60, 3) := by decide +kernel
theorem dX9_guess_40 : decode cX9_guess 40 = .ok (.aload_n 0, 1) := by decide +kernel
theorem dX9_guess_41 : decode cX9_guess 41 = .ok (.getfield 170, 3) := by decide +kernel
theorem dX9_guess_44 : decode cX9_guess 44 = .ok (.iload_n 1, 1) := by decide +kernel
theorem dX9_guess_45 : decode cX9_guess 45 = .ok (.iastore, 1) := by decide +kernel
theorem dX9_guess_46 : decode cX9_guess 46 = .ok (.aload_n 0, 1) := by decide +kernel
theorem dX9_guess_47 : decode cX9_guess 47 = .ok (.getfield 63, 3) := by decide +kernel
theorem dX9_guess_50 : decode cX9_guess 50 = .ok (.aload_n 0, 1) := by decide +kernel
theorem dX9_guess_51 : decode cX9_guess 51 = .ok (.getfield 170, 3) := by decide +kernel
theorem dX9_guess_54 : decode cX9_guess 54 = .ok (.iload_n 2, 1) := by decide +kernel
theorem dX9_guess_55 : decode cX9_guess 55 = .ok (.iastore, 1) := by decide +kernel
theorem dX9_guess_56 : decode cX9_guess 56 = .ok (.aload_n 0, 1) := by decide +kernel
theorem dX9_guess_57 : decode cX9_guess 57 = .ok (.getfield 66, 3) := by decide +kernel
theorem dX9_guess_60 : decode cX9_guess 60 = .ok (.aload_n 0, 1) := by decide +kernel
theorem dX9_guess_61 : decode cX9_guess 61 = .ok (.getfield 170, 3) := by decide +kernel
theorem dX9_guess_64 : decode cX9_guess 64 = .ok (.iload_n 3, 1) := by decide +kernel
theorem dX9_guess_65 : decode cX9_guess 65 = .ok (.iastore, 1) := by decide +kernel
theorem dX9_guess_66 : decode cX9_guess 66 = .ok (.aload_n 0, 1) := by decide +kernel
theorem dX9_guess_67 : decode cX9_guess 67 = .ok (.getfield 69, 3) := by decide +kernel
theorem dX9_guess_70 : decode cX9_guess 70 = .ok (.aload_n 0, 1) := by decide +kernel
theorem dX9_guess_71 : decode cX9_guess 71 = .ok (.getfield 170, 3) := by decide +kernel
theorem dX9_guess_74 : decode cX9_guess 74 = .ok (.iload 4, 2) := by decide +kernel
theorem dX9_guess_76 : decode cX9_guess 76 = .ok (.iastore, 1) := by decide +kernel
theorem dX9_guess_77 : decode cX9_guess 77 = .ok (.aload_n 0, 1) := by decide +kernel
theorem dX9_guess_78 : decode cX9_guess 78 = .ok (.dup, 1) := by decide +kernel
theorem dX9_guess_79 : decode cX9_guess 79 = .ok (.getfield 170, 3) := by decide +kernel
theorem dX9_guess_82 : decode cX9_guess 82 = .ok (.iconst 1, 1) := by decide +kernel
theorem dX9_guess_83 : decode cX9_guess 83 = .ok (.iadd, 1) := by decide +kernel
theorem dX9_guess_84 : decode cX9_guess 84 = .ok (.putfield 170, 3) := by decide +kernel
theorem dX9_guess_87 : decode cX9_guess 87 = .ok (.return_, 1) := by decide +kernel
abbrev cX9_cell : ByteArray := prog_14_method_54_code
def yX9_cell : MethodName := ⟨RX9, "cell", "(IIII)I"⟩
theorem dX9_cell_0 : decode cX9_cell 0 = .ok (.aload_n 0, 1) := by decide +kernel
theorem dX9_cell_1 : decode cX9_cell 1 = .ok (.iload_n 1, 1) := by decide +kernel
theorem dX9_cell_2 : decode cX9_cell 2 = .ok (.invokevirtual 284, 3) := by decide +kernel
theorem dX9_cell_5 : decode cX9_cell 5 = .ok (.istore 5, 2) := by decide +kernel
theorem dX9_cell_7 : decode cX9_cell 7 = .ok (.iload 5, 2) := by decide +kernel
theorem dX9_cell_9 : decode cX9_cell 9 = .ok (.iconst (-1), 1) := by decide +kernel
theorem dX9_cell_10 : decode cX9_cell 10 = .ok (.if_icmp .eq 11, 3) := by decide +kernel
theorem dX9_cell_13 : decode cX9_cell 13 = .ok (.iload_n 2, 1) := by decide +kernel
theorem dX9_cell_14 : decode cX9_cell 14 = .ok (.iload_n 3, 1) := by decide +kernel
theorem dX9_cell_15 : decode cX9_cell 15 = .ok (.invokestatic 179, 3) := by decide +kernel
theorem dX9_cell_18 : decode cX9_cell 18 = .ok (.ifCond .ne 5, 3) := by decide +kernel
theorem dX9_cell_21 : decode cX9_cell 21 = .ok (.iconst (-1), 1) := by decide +kernel
theorem dX9_cell_22 : decode cX9_cell 22 = .ok (.ireturn, 1) := by decide +kernel
theorem dX9_cell_23 : decode cX9_cell 23 = .ok (.sipush 192, 3) := by decide +kernel
theorem dX9_cell_26 : decode cX9_cell 26 = .ok (.iload 5, 2) := by decide +kernel
theorem dX9_cell_28 : decode cX9_cell 28 = .ok (.imul, 1) := by decide +kernel
theorem dX9_cell_29 : decode cX9_cell 29 = .ok (.bipush 24, 2) := by decide +kernel
theorem dX9_cell_31 : decode cX9_cell 31 = .ok (.iload_n 2, 1) := by decide +kernel
theorem dX9_cell_32 : decode cX9_cell 32 = .ok (.imul, 1) := by decide +kernel
theorem dX9_cell_33 : decode cX9_cell 33 = .ok (.iadd, 1) := by decide +kernel
theorem dX9_cell_34 : decode cX9_cell 34 = .ok (.iload_n 3, 1) := by decide +kernel
theorem dX9_cell_35 : decode cX9_cell 35 = .ok (.iadd, 1) := by decide +kernel
theorem dX9_cell_36 : decode cX9_cell 36 = .ok (.istore 6, 2) := by decide +kernel
theorem dX9_cell_38 : decode cX9_cell 38 = .ok (.iload 4, 2) := by decide +kernel
theorem dX9_cell_40 : decode cX9_cell 40 = .ok (.ifCond .ne 13, 3) := by decide +kernel
theorem dX9_cell_43 : decode cX9_cell 43 = .ok (.aload_n 0, 1) := by decide +kernel
theorem dX9_cell_44 : decode cX9_cell 44 = .ok (.getfield 7, 3) := by decide +kernel
theorem dX9_cell_47 : decode cX9_cell 47 = .ok (.iload 6, 2) := by decide +kernel
theorem dX9_cell_49 : decode cX9_cell 49 = .ok (.iaload, 1) := by decide +kernel
theorem dX9_cell_50 : decode cX9_cell 50 = .ok (.goto 20, 3) := by decide +kernel
theorem dX9_cell_53 : decode cX9_cell 53 = .ok (.iload 4, 2) := by decide +kernel
theorem dX9_cell_55 : decode cX9_cell 55 = .ok (.iconst 1, 1) := by decide +kernel
theorem dX9_cell_56 : decode cX9_cell 56 = .ok (.if_icmp .ne 13, 3) := by decide +kernel
theorem dX9_cell_59 : decode cX9_cell 59 = .ok (.aload_n 0, 1) := by decide +kernel
theorem dX9_cell_60 : decode cX9_cell 60 = .ok (.getfield 13, 3) := by decide +kernel
theorem dX9_cell_63 : decode cX9_cell 63 = .ok (.iload 6, 2) := by decide +kernel
theorem dX9_cell_65 : decode cX9_cell 65 = .ok (.iaload, 1) := by decide +kernel
theorem dX9_cell_66 : decode cX9_cell 66 = .ok (.goto 4, 3) := by decide +kernel
theorem dX9_cell_69 : decode cX9_cell 69 = .ok (.iconst (-1), 1) := by decide +kernel
theorem dX9_cell_70 : decode cX9_cell 70 = .ok (.ireturn, 1) := by decide +kernel
abbrev cX9_screenOf : ByteArray := prog_14_method_53_code
def yX9_screenOf : MethodName := ⟨RX9, "screenOf", "(I)I"⟩
theorem dX9_screenOf_0 : decode cX9_screenOf 0 = .ok (.iload_n 1, 1) := by decide +kernel
theorem dX9_screenOf_1 : decode cX9_screenOf 1 = .ok (.ifCond .ne 8, 3) := by decide +kernel
theorem dX9_screenOf_4 : decode cX9_screenOf 4 = .ok (.aload_n 0, 1) := by decide +kernel
theorem dX9_screenOf_5 : decode cX9_screenOf 5 = .ok (.invokevirtual 234, 3) := by decide +kernel
theorem dX9_screenOf_8 : decode cX9_screenOf 8 = .ok (.ireturn, 1) := by decide +kernel
theorem dX9_screenOf_9 : decode cX9_screenOf 9 = .ok (.iload_n 1, 1) := by decide +kernel
theorem dX9_screenOf_10 : decode cX9_screenOf 10 = .ok (.iconst 1, 1) := by decide +kernel
theorem dX9_screenOf_11 : decode cX9_screenOf 11 = .ok (.if_icmp .ne 5, 3) := by decide +kernel
theorem dX9_screenOf_14 : decode cX9_screenOf 14 = .ok (.iconst 0, 1) := by decide +kernel
theorem dX9_screenOf_15 : decode cX9_screenOf 15 = .ok (.ireturn, 1) := by decide +kernel
theorem dX9_screenOf_16 : decode cX9_screenOf 16 = .ok (.iload_n 1, 1) := by decide +kernel
theorem dX9_screenOf_17 : decode cX9_screenOf 17 = .ok (.iconst 2, 1) := by decide +kernel
theorem dX9_screenOf_18 : decode cX9_screenOf 18 = .ok (.if_icmp .eq 10, 3) := by decide +kernel
theorem dX9_screenOf_21 : decode cX9_screenOf 21 = .ok (.iload_n 1, 1) := by decide +kernel
theorem dX9_screenOf_22 : decode cX9_screenOf 22 = .ok (.iconst 3, 1) := by decide +kernel
theorem dX9_screenOf_23 : decode cX9_screenOf 23 = .ok (.if_icmp .eq 5, 3) := by decide +kernel
theorem dX9_screenOf_26 : decode cX9_screenOf 26 = .ok (.iconst (-1), 1) := by decide +kernel
theorem dX9_screenOf_27 : decode cX9_screenOf 27 = .ok (.ireturn, 1) := by decide +kernel
theorem dX9_screenOf_28 : decode cX9_screenOf 28 = .ok (.aload_n 0, 1) := by decide +kernel
theorem dX9_screenOf_29 : decode cX9_screenOf 29 = .ok (.aload_n 0, 1) := by decide +kernel
theorem dX9_screenOf_30 : decode cX9_screenOf 30 = .ok (.invokevirtual 234, 3) := by decide +kernel
theorem dX9_screenOf_33 : decode cX9_screenOf 33 = .ok (.bipush 68, 2) := by decide +kernel
theorem dX9_screenOf_35 : decode cX9_screenOf 35 = .ok (.invokevirtual 197, 3) := by decide +kernel
theorem dX9_screenOf_38 : decode cX9_screenOf 38 = .ok (.iconst 0, 1) := by decide +kernel
theorem dX9_screenOf_39 : decode cX9_screenOf 39 = .ok (.istore_n 2, 1) := by decide +kernel
theorem dX9_screenOf_40 : decode cX9_screenOf 40 = .ok (.iload_n 2, 1) := by decide +kernel
theorem dX9_screenOf_41 : decode cX9_screenOf 41 = .ok (.aload_n 0, 1) := by decide +kernel
theorem dX9_screenOf_42 : decode cX9_screenOf 42 = .ok (.getfield 170, 3) := by decide +kernel
theorem dX9_screenOf_45 : decode cX9_screenOf 45 = .ok (.if_icmp .ge 106, 3) := by decide +kernel
theorem dX9_screenOf_48 : decode cX9_screenOf 48 = .ok (.iload_n 1, 1) := by decide +kernel
theorem dX9_screenOf_49 : decode cX9_screenOf 49 = .ok (.iconst 2, 1) := by decide +kernel
theorem dX9_screenOf_50 : decode cX9_screenOf 50 = .ok (.if_icmp .ne 19, 3) := by decide +kernel
theorem dX9_screenOf_53 : decode cX9_screenOf 53 = .ok (.aload_n 0, 1) := by decide +kernel
theorem dX9_screenOf_54 : decode cX9_screenOf 54 = .ok (.getfield 57, 3) := by decide +kernel
theorem dX9_screenOf_57 : decode cX9_screenOf 57 = .ok (.iload_n 2, 1) := by decide +kernel
theorem dX9_screenOf_58 : decode cX9_screenOf 58 = .ok (.iaload, 1) := by decide +kernel
theorem dX9_screenOf_59 : decode cX9_screenOf 59 = .ok (.aload_n 0, 1) := by decide +kernel
theorem dX9_screenOf_60 : decode cX9_screenOf 60 = .ok (.getfield 173, 3) := by decide +kernel
theorem dX9_screenOf_63 : decode cX9_screenOf 63 = .ok (.if_icmp .le 6, 3) := by decide +kernel
theorem dX9_screenOf_66 : decode cX9_screenOf 66 = .ok (.goto 79, 3) := by decide +kernel
theorem dX9_screenOf_69 : decode cX9_screenOf 69 = .ok (.aload_n 0, 1) := by decide +kernel
theorem dX9_screenOf_70 : decode cX9_screenOf 70 = .ok (.getfield 16, 3) := by decide +kernel
theorem dX9_screenOf_73 : decode cX9_screenOf 73 = .ok (.bipush 68, 2) := by decide +kernel
theorem dX9_screenOf_75 : decode cX9_screenOf 75 = .ok (.aload_n 0, 1) := by decide +kernel
theorem dX9_screenOf_76 : decode cX9_screenOf 76 = .ok (.getfield 66, 3) := by decide +kernel
theorem dX9_screenOf_79 : decode cX9_screenOf 79 = .ok (.iload_n 2, 1) := by decide +kernel
theorem dX9_screenOf_80 : decode cX9_screenOf 80 = .ok (.iaload, 1) := by decide +kernel
theorem dX9_screenOf_81 : decode cX9_screenOf 81 = .ok (.iastore, 1) := by decide +kernel
theorem dX9_screenOf_82 : decode cX9_screenOf 82 = .ok (.aload_n 0, 1) := by decide +kernel
theorem dX9_screenOf_83 : decode cX9_screenOf 83 = .ok (.getfield 19, 3) := by decide +kernel
theorem dX9_screenOf_86 : decode cX9_screenOf 86 = .ok (.bipush 68, 2) := by decide +kernel
theorem dX9_screenOf_88 : decode cX9_screenOf 88 = .ok (.aload_n 0, 1) := by decide +kernel
theorem dX9_screenOf_89 : decode cX9_screenOf 89 = .ok (.getfield 69, 3) := by decide +kernel
theorem dX9_screenOf_92 : decode cX9_screenOf 92 = .ok (.iload_n 2, 1) := by decide +kernel
theorem dX9_screenOf_93 : decode cX9_screenOf 93 = .ok (.iaload, 1) := by decide +kernel
theorem dX9_screenOf_94 : decode cX9_screenOf 94 = .ok (.iastore, 1) := by decide +kernel
theorem dX9_screenOf_95 : decode cX9_screenOf 95 = .ok (.aload_n 0, 1) := by decide +kernel
theorem dX9_screenOf_96 : decode cX9_screenOf 96 = .ok (.getfield 60, 3) := by decide +kernel
theorem dX9_screenOf_99 : decode cX9_screenOf 99 = .ok (.iload_n 2, 1) := by decide +kernel
theorem dX9_screenOf_100 : decode cX9_screenOf 100 = .ok (.iaload, 1) := by decide +kernel
theorem dX9_screenOf_101 : decode cX9_screenOf 101 = .ok (.iconst (-1), 1) := by decide +kernel
theorem dX9_screenOf_102 : decode cX9_screenOf 102 = .ok (.if_icmp .ne 6, 3) := by decide +kernel
theorem dX9_screenOf_105 : decode cX9_screenOf 105 = .ok (.goto 40, 3) := by decide +kernel
theorem dX9_screenOf_108 : decode cX9_screenOf 108 = .ok (.aload_n 0, 1) := by decide +kernel
theorem dX9_screenOf_109 : decode cX9_screenOf 109 = .ok (.getfield 7, 3) := by decide +kernel
theorem dX9_screenOf_112 : decode cX9_screenOf 112 = .ok (.sipush 13056, 3) := by decide +kernel
theorem dX9_screenOf_115 : decode cX9_screenOf 115 = .ok (.aload_n 0, 1) := by decide +kernel
theorem dX9_screenOf_116 : decode cX9_screenOf 116 = .ok (.getfield 60, 3) := by decide +kernel
theorem dX9_screenOf_119 : decode cX9_screenOf 119 = .ok (.iload_n 2, 1) := by decide +kernel
theorem dX9_screenOf_120 : decode cX9_screenOf 120 = .ok (.iaload, 1) := by decide +kernel
theorem dX9_screenOf_121 : decode cX9_screenOf 121 = .ok (.iadd, 1) := by decide +kernel
theorem dX9_screenOf_122 : decode cX9_screenOf 122 = .ok (.aload_n 0, 1) := by decide +kernel
theorem dX9_screenOf_123 : decode cX9_screenOf 123 = .ok (.getfield 63, 3) := by decide +kernel
theorem dX9_screenOf_126 : decode cX9_screenOf 126 = .ok (.iload_n 2, 1) := by decide +kernel
theorem dX9_screenOf_127 : decode cX9_screenOf 127 = .ok (.iaload, 1) := by decide +kernel
theorem dX9_screenOf_128 : decode cX9_screenOf 128 = .ok (.iastore, 1) := by decide +kernel
theorem dX9_screenOf_129 : decode cX9_screenOf 129 = .ok (.aload_n 0, 1) := by decide +kernel
theorem dX9_screenOf_130 : decode cX9_screenOf 130 = .ok (.getfield 13, 3) := by decide +kernel
theorem dX9_screenOf_133 : decode cX9_screenOf 133 = .ok (.sipush 13056, 3) := by decide +kernel
theorem dX9_screenOf_136 : decode cX9_screenOf 136 = .ok (.aload_n 0, 1) := by decide +kernel
theorem dX9_screenOf_137 : decode cX9_screenOf 137 = .ok (.getfield 60, 3) := by decide +kernel
theorem dX9_screenOf_140 : decode cX9_screenOf 140 = .ok (.iload_n 2, 1) := by decide +kernel
theorem dX9_screenOf_141 : decode cX9_screenOf 141 = .ok (.iaload, 1) := by decide +kernel
theorem dX9_screenOf_142 : decode cX9_screenOf 142 = .ok (.iadd, 1) := by decide +kernel
theorem dX9_screenOf_143 : decode cX9_screenOf 143 = .ok (.iconst 3, 1) := by decide +kernel
theorem dX9_screenOf_144 : decode cX9_screenOf 144 = .ok (.iastore, 1) := by decide +kernel
theorem dX9_screenOf_145 : decode cX9_screenOf 145 = .ok (.iinc 2 1, 3) := by decide +kernel
theorem dX9_screenOf_148 : decode cX9_screenOf 148 = .ok (.goto (-108), 3) := by decide +kernel
theorem dX9_screenOf_151 : decode cX9_screenOf 151 = .ok (.bipush 68, 2) := by decide +kernel
theorem dX9_screenOf_153 : decode cX9_screenOf 153 = .ok (.ireturn, 1) := by decide +kernel
abbrev cX9_cursor : ByteArray := prog_14_method_55_code
def yX9_cursor : MethodName := ⟨RX9, "cursor", "(II)I"⟩
theorem dX9_cursor_0 : decode cX9_cursor 0 = .ok (.aload_n 0, 1) := by decide +kernel
theorem dX9_cursor_1 : decode cX9_cursor 1 = .ok (.iload_n 1, 1) := by decide +kernel
theorem dX9_cursor_2 : decode cX9_cursor 2 = .ok (.invokevirtual 284, 3) := by decide +kernel
theorem dX9_cursor_5 : decode cX9_cursor 5 = .ok (.istore_n 3, 1) := by decide +kernel
theorem dX9_cursor_6 : decode cX9_cursor 6 = .ok (.iload_n 3, 1) := by decide +kernel
theorem dX9_cursor_7 : decode cX9_cursor 7 = .ok (.iconst (-1), 1) := by decide +kernel
theorem dX9_cursor_8 : decode cX9_cursor 8 = .ok (.if_icmp .ne 5, 3) := by decide +kernel
theorem dX9_cursor_11 : decode cX9_cursor 11 = .ok (.iconst (-1), 1) := by decide +kernel
theorem dX9_cursor_12 : decode cX9_cursor 12 = .ok (.ireturn, 1) := by decide +kernel
theorem dX9_cursor_13 : decode cX9_cursor 13 = .ok (.iload_n 2, 1) := by decide +kernel
theorem dX9_cursor_14 : decode cX9_cursor 14 = .ok (.ifCond .ne 12, 3) := by decide +kernel
theorem dX9_cursor_17 : decode cX9_cursor 17 = .ok (.aload_n 0, 1) := by decide +kernel
theorem dX9_cursor_18 : decode cX9_cursor 18 = .ok (.getfield 16, 3) := by decide +kernel
theorem dX9_cursor_21 : decode cX9_cursor 21 = .ok (.iload_n 3, 1) := by decide +kernel
theorem dX9_cursor_22 : decode cX9_cursor 22 = .ok (.iaload, 1) := by decide +kernel
theorem dX9_cursor_23 : decode cX9_cursor 23 = .ok (.goto 18, 3) := by decide +kernel
theorem dX9_cursor_26 : decode cX9_cursor 26 = .ok (.iload_n 2, 1) := by decide +kernel
theorem dX9_cursor_27 : decode cX9_cursor 27 = .ok (.iconst 1, 1) := by decide +kernel
theorem dX9_cursor_28 : decode cX9_cursor 28 = .ok (.if_icmp .ne 12, 3) := by decide +kernel
theorem dX9_cursor_31 : decode cX9_cursor 31 = .ok (.aload_n 0, 1) := by decide +kernel
theorem dX9_cursor_32 : decode cX9_cursor 32 = .ok (.getfield 19, 3) := by decide +kernel
theorem dX9_cursor_35 : decode cX9_cursor 35 = .ok (.iload_n 3, 1) := by decide +kernel
theorem dX9_cursor_36 : decode cX9_cursor 36 = .ok (.iaload, 1) := by decide +kernel
theorem dX9_cursor_37 : decode cX9_cursor 37 = .ok (.goto 4, 3) := by decide +kernel
theorem dX9_cursor_40 : decode cX9_cursor 40 = .ok (.iconst (-1), 1) := by decide +kernel
theorem dX9_cursor_41 : decode cX9_cursor 41 = .ok (.ireturn, 1) := by decide +kernel
abbrev cX9_alike : ByteArray := prog_14_method_56_code
def yX9_alike : MethodName := ⟨RX9, "alike", "()Z"⟩
theorem dX9_alike_0 : decode cX9_alike 0 = .ok (.aload_n 0, 1) := by decide +kernel
theorem dX9_alike_1 : decode cX9_alike 1 = .ok (.iconst 0, 1) := by decide +kernel
theorem dX9_alike_2 : decode cX9_alike 2 = .ok (.aload_n 0, 1) := by decide +kernel
theorem dX9_alike_3 : decode cX9_alike 3 = .ok (.invokevirtual 234, 3) := by decide +kernel
theorem dX9_alike_6 : decode cX9_alike 6 = .ok (.invokevirtual 221, 3) := by decide +kernel
theorem dX9_alike_9 : decode cX9_alike 9 = .ok (.ireturn, 1) := by decide +kernel
abbrev cX9_state : ByteArray := prog_14_method_57_code
def yX9_state : MethodName := ⟨RX9, "state", "(II)I"⟩
theorem dX9_state_0 : decode cX9_state 0 = .ok (.iload_n 1, 1) := by decide +kernel
theorem dX9_state_1 : decode cX9_state 1 = .ok (.ifCond .eq 10, 3) := by decide +kernel
theorem dX9_state_4 : decode cX9_state 4 = .ok (.iload_n 1, 1) := by decide +kernel
theorem dX9_state_5 : decode cX9_state 5 = .ok (.iconst 1, 1) := by decide +kernel
theorem dX9_state_6 : decode cX9_state 6 = .ok (.if_icmp .eq 5, 3) := by decide +kernel
theorem dX9_state_9 : decode cX9_state 9 = .ok (.iconst (-1), 1) := by decide +kernel
theorem dX9_state_10 : decode cX9_state 10 = .ok (.ireturn, 1) := by decide +kernel
theorem dX9_state_11 : decode cX9_state 11 = .ok (.iload_n 1, 1) := by decide +kernel
theorem dX9_state_12 : decode cX9_state 12 = .ok (.ifCond .ne 7, 3) := by decide +kernel
theorem dX9_state_15 : decode cX9_state 15 = .ok (.iconst 1, 1) := by decide +kernel
theorem dX9_state_16 : decode cX9_state 16 = .ok (.goto 4, 3) := by decide +kernel
theorem dX9_state_19 : decode cX9_state 19 = .ok (.iconst 0, 1) := by decide +kernel
theorem dX9_state_20 : decode cX9_state 20 = .ok (.istore_n 3, 1) := by decide +kernel
theorem dX9_state_21 : decode cX9_state 21 = .ok (.iload_n 2, 1) := by decide +kernel
theorem dX9_state_22 : decode cX9_state 22 = .ok (.tableswitch 195 0 7 #[46, 62, 78, 99, 115, 131, 163, 179], 46) := by decide +kernel
theorem dX9_state_68 : decode cX9_state 68 = .ok (.iload_n 3, 1) := by decide +kernel
theorem dX9_state_69 : decode cX9_state 69 = .ok (.ifCond .eq 10, 3) := by decide +kernel
theorem dX9_state_72 : decode cX9_state 72 = .ok (.aload_n 0, 1) := by decide +kernel
theorem dX9_state_73 : decode cX9_state 73 = .ok (.getfield 146, 3) := by decide +kernel
theorem dX9_state_76 : decode cX9_state 76 = .ok (.goto 7, 3) := by decide +kernel
theorem dX9_state_79 : decode cX9_state 79 = .ok (.aload_n 0, 1) := by decide +kernel
theorem dX9_state_80 : decode cX9_state 80 = .ok (.getfield 121, 3) := by decide +kernel
theorem dX9_state_83 : decode cX9_state 83 = .ok (.ireturn, 1) := by decide +kernel
theorem dX9_state_84 : decode cX9_state 84 = .ok (.iload_n 3, 1) := by decide +kernel
theorem dX9_state_85 : decode cX9_state 85 = .ok (.ifCond .eq 10, 3) := by decide +kernel
theorem dX9_state_88 : decode cX9_state 88 = .ok (.aload_n 0, 1) := by decide +kernel
theorem dX9_state_89 : decode cX9_state 89 = .ok (.getfield 149, 3) := by decide +kernel
theorem dX9_state_92 : decode cX9_state 92 = .ok (.goto 7, 3) := by decide +kernel
theorem dX9_state_95 : decode cX9_state 95 = .ok (.aload_n 0, 1) := by decide +kernel
theorem dX9_state_96 : decode cX9_state 96 = .ok (.getfield 124, 3) := by decide +kernel
theorem dX9_state_99 : decode cX9_state 99 = .ok (.ireturn, 1) := by decide +kernel
theorem dX9_state_100 : decode cX9_state 100 = .ok (.aload_n 0, 1) := by decide +kernel
theorem dX9_state_101 : decode cX9_state 101 = .ok (.getfield 22, 3) := by decide +kernel
theorem dX9_state_104 : decode cX9_state 104 = .ok (.iload_n 3, 1) := by decide +kernel
theorem dX9_state_105 : decode cX9_state 105 = .ok (.ifCond .eq 10, 3) := by decide +kernel
theorem dX9_state_108 : decode cX9_state 108 = .ok (.aload_n 0, 1) := by decide +kernel
theorem dX9_state_109 : decode cX9_state 109 = .ok (.invokevirtual 234, 3) := by decide +kernel
theorem dX9_state_112 : decode cX9_state 112 = .ok (.goto 7, 3) := by decide +kernel
theorem dX9_state_115 : decode cX9_state 115 = .ok (.aload_n 0, 1) := by decide +kernel
theorem dX9_state_116 : decode cX9_state 116 = .ok (.invokevirtual 217, 3) := by decide +kernel
theorem dX9_state_119 : decode cX9_state 119 = .ok (.iaload, 1) := by decide +kernel
theorem dX9_state_120 : decode cX9_state 120 = .ok (.ireturn, 1) := by decide +kernel
theorem dX9_state_121 : decode cX9_state 121 = .ok (.iload_n 3, 1) := by decide +kernel
theorem dX9_state_122 : decode cX9_state 122 = .ok (.ifCond .eq 10, 3) := by decide +kernel
theorem dX9_state_125 : decode cX9_state 125 = .ok (.aload_n 0, 1) := by decide +kernel
theorem dX9_state_126 : decode cX9_state 126 = .ok (.getfield 152, 3) := by decide +kernel
theorem dX9_state_129 : decode cX9_state 129 = .ok (.goto 7, 3) := by decide +kernel
theorem dX9_state_132 : decode cX9_state 132 = .ok (.aload_n 0, 1) := by decide +kernel
theorem dX9_state_133 : decode cX9_state 133 = .ok (.getfield 127, 3) := by decide +kernel
theorem dX9_state_136 : decode cX9_state 136 = .ok (.ireturn, 1) := by decide +kernel
theorem dX9_state_137 : decode cX9_state 137 = .ok (.iload_n 3, 1) := by decide +kernel
theorem dX9_state_138 : decode cX9_state 138 = .ok (.ifCond .eq 10, 3) := by decide +kernel
theorem dX9_state_141 : decode cX9_state 141 = .ok (.aload_n 0, 1) := by decide +kernel
theorem dX9_state_142 : decode cX9_state 142 = .ok (.getfield 155, 3) := by decide +kernel
theorem dX9_state_145 : decode cX9_state 145 = .ok (.goto 7, 3) := by decide +kernel
theorem dX9_state_148 : decode cX9_state 148 = .ok (.aload_n 0, 1) := by decide +kernel
theorem dX9_state_149 : decode cX9_state 149 = .ok (.getfield 130, 3) := by decide +kernel
theorem dX9_state_152 : decode cX9_state 152 = .ok (.ireturn, 1) := by decide +kernel
theorem dX9_state_153 : decode cX9_state 153 = .ok (.iload_n 3, 1) := by decide +kernel
theorem dX9_state_154 : decode cX9_state 154 = .ok (.ifCond .eq 18, 3) := by decide +kernel
theorem dX9_state_157 : decode cX9_state 157 = .ok (.aload_n 0, 1) := by decide +kernel
theorem dX9_state_158 : decode cX9_state 158 = .ok (.getfield 161, 3) := by decide +kernel
theorem dX9_state_161 : decode cX9_state 161 = .ok (.ifCond .eq 7, 3) := by decide +kernel
theorem dX9_state_164 : decode cX9_state 164 = .ok (.iconst 1, 1) := by decide +kernel
theorem dX9_state_165 : decode cX9_state 165 = .ok (.goto 19, 3) := by decide +kernel
theorem dX9_state_168 : decode cX9_state 168 = .ok (.iconst 0, 1) := by decide +kernel
theorem dX9_state_169 : decode cX9_state 169 = .ok (.goto 15, 3) := by decide +kernel
theorem dX9_state_172 : decode cX9_state 172 = .ok (.aload_n 0, 1) := by decide +kernel
theorem dX9_state_173 : decode cX9_state 173 = .ok (.getfield 136, 3) := by decide +kernel
theorem dX9_state_176 : decode cX9_state 176 = .ok (.ifCond .eq 7, 3) := by decide +kernel
theorem dX9_state_179 : decode cX9_state 179 = .ok (.iconst 1, 1) := by decide +kernel
theorem dX9_state_180 : decode cX9_state 180 = .ok (.goto 4, 3) := by decide +kernel
theorem dX9_state_183 : decode cX9_state 183 = .ok (.iconst 0, 1) := by decide +kernel
theorem dX9_state_184 : decode cX9_state 184 = .ok (.ireturn, 1) := by decide +kernel
theorem dX9_state_185 : decode cX9_state 185 = .ok (.iload_n 3, 1) := by decide +kernel
theorem dX9_state_186 : decode cX9_state 186 = .ok (.ifCond .eq 10, 3) := by decide +kernel
theorem dX9_state_189 : decode cX9_state 189 = .ok (.aload_n 0, 1) := by decide +kernel
theorem dX9_state_190 : decode cX9_state 190 = .ok (.getfield 164, 3) := by decide +kernel
theorem dX9_state_193 : decode cX9_state 193 = .ok (.goto 7, 3) := by decide +kernel
theorem dX9_state_196 : decode cX9_state 196 = .ok (.aload_n 0, 1) := by decide +kernel
theorem dX9_state_197 : decode cX9_state 197 = .ok (.getfield 140, 3) := by decide +kernel
theorem dX9_state_200 : decode cX9_state 200 = .ok (.ireturn, 1) := by decide +kernel
theorem dX9_state_201 : decode cX9_state 201 = .ok (.iload_n 3, 1) := by decide +kernel
theorem dX9_state_202 : decode cX9_state 202 = .ok (.ifCond .eq 10, 3) := by decide +kernel
theorem dX9_state_205 : decode cX9_state 205 = .ok (.aload_n 0, 1) := by decide +kernel
theorem dX9_state_206 : decode cX9_state 206 = .ok (.getfield 167, 3) := by decide +kernel
theorem dX9_state_209 : decode cX9_state 209 = .ok (.goto 7, 3) := by decide +kernel
theorem dX9_state_212 : decode cX9_state 212 = .ok (.aload_n 0, 1) := by decide +kernel
theorem dX9_state_213 : decode cX9_state 213 = .ok (.getfield 103, 3) := by decide +kernel
theorem dX9_state_216 : decode cX9_state 216 = .ok (.ireturn, 1) := by decide +kernel
theorem dX9_state_217 : decode cX9_state 217 = .ok (.iconst (-1), 1) := by decide +kernel
theorem dX9_state_218 : decode cX9_state 218 = .ok (.ireturn, 1) := by decide +kernel
abbrev cX9_kept : ByteArray := prog_14_method_58_code
def yX9_kept : MethodName := ⟨RX9, "kept", "(II)I"⟩
theorem dX9_kept_0 : decode cX9_kept 0 = .ok (.iload_n 1, 1) := by decide +kernel
theorem dX9_kept_1 : decode cX9_kept 1 = .ok (.ifCond .eq 8, 3) := by decide +kernel
theorem dX9_kept_4 : decode cX9_kept 4 = .ok (.iload_n 1, 1) := by decide +kernel
theorem dX9_kept_5 : decode cX9_kept 5 = .ok (.iconst 1, 1) := by decide +kernel
theorem dX9_kept_6 : decode cX9_kept 6 = .ok (.if_icmp .ne 26, 3) := by decide +kernel
theorem dX9_kept_9 : decode cX9_kept 9 = .ok (.iload_n 2, 1) := by decide +kernel
theorem dX9_kept_10 : decode cX9_kept 10 = .ok (.ifCond .lt 22, 3) := by decide +kernel
theorem dX9_kept_13 : decode cX9_kept 13 = .ok (.iload_n 2, 1) := by decide +kernel
theorem dX9_kept_14 : decode cX9_kept 14 = .ok (.iload_n 1, 1) := by decide +kernel
theorem dX9_kept_15 : decode cX9_kept 15 = .ok (.ifCond .ne 10, 3) := by decide +kernel
theorem dX9_kept_18 : decode cX9_kept 18 = .ok (.aload_n 0, 1) := by decide +kernel
theorem dX9_kept_19 : decode cX9_kept 19 = .ok (.getfield 152, 3) := by decide +kernel
theorem dX9_kept_22 : decode cX9_kept 22 = .ok (.goto 7, 3) := by decide +kernel
theorem dX9_kept_25 : decode cX9_kept 25 = .ok (.aload_n 0, 1) := by decide +kernel
theorem dX9_kept_26 : decode cX9_kept 26 = .ok (.getfield 127, 3) := by decide +kernel
theorem dX9_kept_29 : decode cX9_kept 29 = .ok (.if_icmp .lt 5, 3) := by decide +kernel
theorem dX9_kept_32 : decode cX9_kept 32 = .ok (.iconst (-1), 1) := by decide +kernel
theorem dX9_kept_33 : decode cX9_kept 33 = .ok (.ireturn, 1) := by decide +kernel
theorem dX9_kept_34 : decode cX9_kept 34 = .ok (.aload_n 0, 1) := by decide +kernel
theorem dX9_kept_35 : decode cX9_kept 35 = .ok (.getfield 22, 3) := by decide +kernel
theorem dX9_kept_38 : decode cX9_kept 38 = .ok (.iload_n 1, 1) := by decide +kernel
theorem dX9_kept_39 : decode cX9_kept 39 = .ok (.ifCond .ne 8, 3) := by decide +kernel
theorem dX9_kept_42 : decode cX9_kept 42 = .ok (.bipush 34, 2) := by decide +kernel
theorem dX9_kept_44 : decode cX9_kept 44 = .ok (.goto 4, 3) := by decide +kernel
theorem dX9_kept_47 : decode cX9_kept 47 = .ok (.iconst 1, 1) := by decide +kernel
theorem dX9_kept_48 : decode cX9_kept 48 = .ok (.iload_n 2, 1) := by decide +kernel
theorem dX9_kept_49 : decode cX9_kept 49 = .ok (.iadd, 1) := by decide +kernel
theorem dX9_kept_50 : decode cX9_kept 50 = .ok (.iaload, 1) := by decide +kernel
theorem dX9_kept_51 : decode cX9_kept 51 = .ok (.ireturn, 1) := by decide +kernel
abbrev cX9_guess_2 : ByteArray := prog_14_method_59_code
def yX9_guess_2 : MethodName := ⟨RX9, "guess", "(II)I"⟩
theorem dX9_guess_2_0 : decode cX9_guess_2 0 = .ok (.iload_n 1, 1) := by decide +kernel
theorem dX9_guess_2_1 : decode cX9_guess_2 1 = .ok (.ifCond .lt 11, 3) := by decide +kernel
theorem dX9_guess_2_4 : decode cX9_guess_2 4 = .ok (.iload_n 1, 1) := by decide +kernel
theorem dX9_guess_2_5 : decode cX9_guess_2 5 = .ok (.aload_n 0, 1) := by decide +kernel
theorem dX9_guess_2_6 : decode cX9_guess_2 6 = .ok (.getfield 170, 3) := by decide +kernel
theorem dX9_guess_2_9 : decode cX9_guess_2 9 = .ok (.if_icmp .lt 6, 3) := by decide +kernel
theorem dX9_guess_2_12 : decode cX9_guess_2 12 = .ok (.bipush (-2), 2) := by decide +kernel
theorem dX9_guess_2_14 : decode cX9_guess_2 14 = .ok (.ireturn, 1) := by decide +kernel
theorem dX9_guess_2_15 : decode cX9_guess_2 15 = .ok (.iload_n 2, 1) := by decide +kernel
theorem dX9_guess_2_16 : decode cX9_guess_2 16 = .ok (.tableswitch 150 0 7 #[48, 55, 62, 86, 110, 117, 136, 143], 48) := by decide +kernel
theorem dX9_guess_2_64 : decode cX9_guess_2 64 = .ok (.aload_n 0, 1) := by decide +kernel
theorem dX9_guess_2_65 : decode cX9_guess_2 65 = .ok (.getfield 54, 3) := by decide +kernel
theorem dX9_guess_2_68 : decode cX9_guess_2 68 = .ok (.iload_n 1, 1) := by decide +kernel
theorem dX9_guess_2_69 : decode cX9_guess_2 69 = .ok (.iaload, 1) := by decide +kernel
theorem dX9_guess_2_70 : decode cX9_guess_2 70 = .ok (.ireturn, 1) := by decide +kernel
theorem dX9_guess_2_71 : decode cX9_guess_2 71 = .ok (.aload_n 0, 1) := by decide +kernel
theorem dX9_guess_2_72 : decode cX9_guess_2 72 = .ok (.getfield 57, 3) := by decide +kernel
theorem dX9_guess_2_75 : decode cX9_guess_2 75 = .ok (.iload_n 1, 1) := by decide +kernel
theorem dX9_guess_2_76 : decode cX9_guess_2 76 = .ok (.iaload, 1) := by decide +kernel
theorem dX9_guess_2_77 : decode cX9_guess_2 77 = .ok (.ireturn, 1) := by decide +kernel
theorem dX9_guess_2_78 : decode cX9_guess_2 78 = .ok (.aload_n 0, 1) := by decide +kernel
theorem dX9_guess_2_79 : decode cX9_guess_2 79 = .ok (.getfield 60, 3) := by decide +kernel
theorem dX9_guess_2_82 : decode cX9_guess_2 82 = .ok (.iload_n 1, 1) := by decide +kernel
theorem dX9_guess_2_83 : decode cX9_guess_2 83 = .ok (.iaload, 1) := by decide +kernel
theorem dX9_guess_2_84 : decode cX9_guess_2 84 = .ok (.iconst (-1), 1) := by decide +kernel
theorem dX9_guess_2_85 : decode cX9_guess_2 85 = .ok (.if_icmp .ne 7, 3) := by decide +kernel
theorem dX9_guess_2_88 : decode cX9_guess_2 88 = .ok (.iconst (-1), 1) := by decide +kernel
theorem dX9_guess_2_89 : decode cX9_guess_2 89 = .ok (.goto 12, 3) := by decide +kernel
theorem dX9_guess_2_92 : decode cX9_guess_2 92 = .ok (.aload_n 0, 1) := by decide +kernel
theorem dX9_guess_2_93 : decode cX9_guess_2 93 = .ok (.getfield 60, 3) := by decide +kernel
theorem dX9_guess_2_96 : decode cX9_guess_2 96 = .ok (.iload_n 1, 1) := by decide +kernel
theorem dX9_guess_2_97 : decode cX9_guess_2 97 = .ok (.iaload, 1) := by decide +kernel
theorem dX9_guess_2_98 : decode cX9_guess_2 98 = .ok (.bipush 24, 2) := by decide +kernel
theorem dX9_guess_2_100 : decode cX9_guess_2 100 = .ok (.idiv, 1) := by decide +kernel
theorem dX9_guess_2_101 : decode cX9_guess_2 101 = .ok (.ireturn, 1) := by decide +kernel
theorem dX9_guess_2_102 : decode cX9_guess_2 102 = .ok (.aload_n 0, 1) := by decide +kernel
theorem dX9_guess_2_103 : decode cX9_guess_2 103 = .ok (.getfield 60, 3) := by decide +kernel
theorem dX9_guess_2_106 : decode cX9_guess_2 106 = .ok (.iload_n 1, 1) := by decide +kernel
theorem dX9_guess_2_107 : decode cX9_guess_2 107 = .ok (.iaload, 1) := by decide +kernel
theorem dX9_guess_2_108 : decode cX9_guess_2 108 = .ok (.iconst (-1), 1) := by decide +kernel
theorem dX9_guess_2_109 : decode cX9_guess_2 109 = .ok (.if_icmp .ne 7, 3) := by decide +kernel
theorem dX9_guess_2_112 : decode cX9_guess_2 112 = .ok (.iconst (-1), 1) := by decide +kernel
theorem dX9_guess_2_113 : decode cX9_guess_2 113 = .ok (.goto 12, 3) := by decide +kernel
theorem dX9_guess_2_116 : decode cX9_guess_2 116 = .ok (.aload_n 0, 1) := by decide +kernel
theorem dX9_guess_2_117 : decode cX9_guess_2 117 = .ok (.getfield 60, 3) := by decide +kernel
theorem dX9_guess_2_120 : decode cX9_guess_2 120 = .ok (.iload_n 1, 1) := by decide +kernel
theorem dX9_guess_2_121 : decode cX9_guess_2 121 = .ok (.iaload, 1) := by decide +kernel
theorem dX9_guess_2_122 : decode cX9_guess_2 122 = .ok (.bipush 24, 2) := by decide +kernel
theorem dX9_guess_2_124 : decode cX9_guess_2 124 = .ok (.irem, 1) := by decide +kernel
theorem dX9_guess_2_125 : decode cX9_guess_2 125 = .ok (.ireturn, 1) := by decide +kernel
theorem dX9_guess_2_126 : decode cX9_guess_2 126 = .ok (.aload_n 0, 1) := by decide +kernel
theorem dX9_guess_2_127 : decode cX9_guess_2 127 = .ok (.getfield 63, 3) := by decide +kernel
theorem dX9_guess_2_130 : decode cX9_guess_2 130 = .ok (.iload_n 1, 1) := by decide +kernel
theorem dX9_guess_2_131 : decode cX9_guess_2 131 = .ok (.iaload, 1) := by decide +kernel
theorem dX9_guess_2_132 : decode cX9_guess_2 132 = .ok (.ireturn, 1) := by decide +kernel
theorem dX9_guess_2_133 : decode cX9_guess_2 133 = .ok (.aload_n 0, 1) := by decide +kernel
theorem dX9_guess_2_134 : decode cX9_guess_2 134 = .ok (.getfield 57, 3) := by decide +kernel
theorem dX9_guess_2_137 : decode cX9_guess_2 137 = .ok (.iload_n 1, 1) := by decide +kernel
theorem dX9_guess_2_138 : decode cX9_guess_2 138 = .ok (.iaload, 1) := by decide +kernel
theorem dX9_guess_2_139 : decode cX9_guess_2 139 = .ok (.aload_n 0, 1) := by decide +kernel
theorem dX9_guess_2_140 : decode cX9_guess_2 140 = .ok (.getfield 173, 3) := by decide +kernel
theorem dX9_guess_2_143 : decode cX9_guess_2 143 = .ok (.if_icmp .gt 7, 3) := by decide +kernel
theorem dX9_guess_2_146 : decode cX9_guess_2 146 = .ok (.iconst 1, 1) := by decide +kernel
theorem dX9_guess_2_147 : decode cX9_guess_2 147 = .ok (.goto 4, 3) := by decide +kernel
theorem dX9_guess_2_150 : decode cX9_guess_2 150 = .ok (.iconst 0, 1) := by decide +kernel
theorem dX9_guess_2_151 : decode cX9_guess_2 151 = .ok (.ireturn, 1) := by decide +kernel
theorem dX9_guess_2_152 : decode cX9_guess_2 152 = .ok (.aload_n 0, 1) := by decide +kernel
theorem dX9_guess_2_153 : decode cX9_guess_2 153 = .ok (.getfield 66, 3) := by decide +kernel
theorem dX9_guess_2_156 : decode cX9_guess_2 156 = .ok (.iload_n 1, 1) := by decide +kernel
theorem dX9_guess_2_157 : decode cX9_guess_2 157 = .ok (.iaload, 1) := by decide +kernel
theorem dX9_guess_2_158 : decode cX9_guess_2 158 = .ok (.ireturn, 1) := by decide +kernel
theorem dX9_guess_2_159 : decode cX9_guess_2 159 = .ok (.aload_n 0, 1) := by decide +kernel
theorem dX9_guess_2_160 : decode cX9_guess_2 160 = .ok (.getfield 69, 3) := by decide +kernel
theorem dX9_guess_2_163 : decode cX9_guess_2 163 = .ok (.iload_n 1, 1) := by decide +kernel
theorem dX9_guess_2_164 : decode cX9_guess_2 164 = .ok (.iaload, 1) := by decide +kernel
theorem dX9_guess_2_165 : decode cX9_guess_2 165 = .ok (.ireturn, 1) := by decide +kernel
theorem dX9_guess_2_166 : decode cX9_guess_2 166 = .ok (.bipush (-2), 2) := by decide +kernel
theorem dX9_guess_2_168 : decode cX9_guess_2 168 = .ok (.ireturn, 1) := by decide +kernel
abbrev cX9_letter : ByteArray := prog_14_method_60_code
def yX9_letter : MethodName := ⟨RX9, "letter", "(III)I"⟩
theorem dX9_letter_0 : decode cX9_letter 0 = .ok (.aload_n 0, 1) := by decide +kernel
theorem dX9_letter_1 : decode cX9_letter 1 = .ok (.iload_n 1, 1) := by decide +kernel
theorem dX9_letter_2 : decode cX9_letter 2 = .ok (.iload_n 2, 1) := by decide +kernel
theorem dX9_letter_3 : decode cX9_letter 3 = .ok (.invokevirtual 264, 3) := by decide +kernel
theorem dX9_letter_6 : decode cX9_letter 6 = .ok (.ifCond .ne 5, 3) := by decide +kernel
theorem dX9_letter_9 : decode cX9_letter 9 = .ok (.iconst (-1), 1) := by decide +kernel
theorem dX9_letter_10 : decode cX9_letter 10 = .ok (.ireturn, 1) := by decide +kernel
theorem dX9_letter_11 : decode cX9_letter 11 = .ok (.aload_n 0, 1) := by decide +kernel
theorem dX9_letter_12 : decode cX9_letter 12 = .ok (.getfield 48, 3) := by decide +kernel
theorem dX9_letter_15 : decode cX9_letter 15 = .ok (.bipush 40, 2) := by decide +kernel
theorem dX9_letter_17 : decode cX9_letter 17 = .ok (.iload_n 1, 1) := by decide +kernel
theorem dX9_letter_18 : decode cX9_letter 18 = .ok (.imul, 1) := by decide +kernel
theorem dX9_letter_19 : decode cX9_letter 19 = .ok (.iload_n 2, 1) := by decide +kernel
theorem dX9_letter_20 : decode cX9_letter 20 = .ok (.iadd, 1) := by decide +kernel
theorem dX9_letter_21 : decode cX9_letter 21 = .ok (.iaload, 1) := by decide +kernel
theorem dX9_letter_22 : decode cX9_letter 22 = .ok (.istore 4, 2) := by decide +kernel
theorem dX9_letter_24 : decode cX9_letter 24 = .ok (.iload_n 3, 1) := by decide +kernel
theorem dX9_letter_25 : decode cX9_letter 25 = .ok (.ifCond .ne 6, 3) := by decide +kernel
theorem dX9_letter_28 : decode cX9_letter 28 = .ok (.iload 4, 2) := by decide +kernel
theorem dX9_letter_30 : decode cX9_letter 30 = .ok (.ireturn, 1) := by decide +kernel
theorem dX9_letter_31 : decode cX9_letter 31 = .ok (.iload_n 3, 1) := by decide +kernel
theorem dX9_letter_32 : decode cX9_letter 32 = .ok (.iconst 1, 1) := by decide +kernel
theorem dX9_letter_33 : decode cX9_letter 33 = .ok (.if_icmp .lt 31, 3) := by decide +kernel
theorem dX9_letter_36 : decode cX9_letter 36 = .ok (.iload_n 3, 1) := by decide +kernel
theorem dX9_letter_37 : decode cX9_letter 37 = .ok (.iload 4, 2) := by decide +kernel
theorem dX9_letter_39 : decode cX9_letter 39 = .ok (.if_icmp .gt 25, 3) := by decide +kernel
theorem dX9_letter_42 : decode cX9_letter 42 = .ok (.aload_n 0, 1) := by decide +kernel
theorem dX9_letter_43 : decode cX9_letter 43 = .ok (.getfield 45, 3) := by decide +kernel
theorem dX9_letter_46 : decode cX9_letter 46 = .ok (.sipush 1100, 3) := by decide +kernel
theorem dX9_letter_49 : decode cX9_letter 49 = .ok (.bipush 40, 2) := by decide +kernel
theorem dX9_letter_51 : decode cX9_letter 51 = .ok (.iload_n 1, 1) := by decide +kernel
theorem dX9_letter_52 : decode cX9_letter 52 = .ok (.imul, 1) := by decide +kernel
theorem dX9_letter_53 : decode cX9_letter 53 = .ok (.iload_n 2, 1) := by decide +kernel
theorem dX9_letter_54 : decode cX9_letter 54 = .ok (.iadd, 1) := by decide +kernel
theorem dX9_letter_55 : decode cX9_letter 55 = .ok (.imul, 1) := by decide +kernel
theorem dX9_letter_56 : decode cX9_letter 56 = .ok (.iload_n 3, 1) := by decide +kernel
theorem dX9_letter_57 : decode cX9_letter 57 = .ok (.iadd, 1) := by decide +kernel
theorem dX9_letter_58 : decode cX9_letter 58 = .ok (.iconst 1, 1) := by decide +kernel
theorem dX9_letter_59 : decode cX9_letter 59 = .ok (.isub, 1) := by decide +kernel
theorem dX9_letter_60 : decode cX9_letter 60 = .ok (.iaload, 1) := by decide +kernel
theorem dX9_letter_61 : decode cX9_letter 61 = .ok (.goto 4, 3) := by decide +kernel
theorem dX9_letter_64 : decode cX9_letter 64 = .ok (.iconst (-1), 1) := by decide +kernel
theorem dX9_letter_65 : decode cX9_letter 65 = .ok (.ireturn, 1) := by decide +kernel
abbrev cX9_count : ByteArray := prog_14_method_61_code
def yX9_count : MethodName := ⟨RX9, "count", "(I)I"⟩
theorem dX9_count_0 : decode cX9_count 0 = .ok (.iload_n 1, 1) := by decide +kernel
theorem dX9_count_1 : decode cX9_count 1 = .ok (.tableswitch 73 10 15 #[39, 44, 49, 54, 59, 66], 39) := by decide +kernel
theorem dX9_count_40 : decode cX9_count 40 = .ok (.aload_n 0, 1) := by decide +kernel
theorem dX9_count_41 : decode cX9_count 41 = .ok (.getfield 118, 3) := by decide +kernel
theorem dX9_count_44 : decode cX9_count 44 = .ok (.ireturn, 1) := by decide +kernel
theorem dX9_count_45 : decode cX9_count 45 = .ok (.aload_n 0, 1) := by decide +kernel
theorem dX9_count_46 : decode cX9_count 46 = .ok (.getfield 170, 3) := by decide +kernel
theorem dX9_count_49 : decode cX9_count 49 = .ok (.ireturn, 1) := by decide +kernel
theorem dX9_count_50 : decode cX9_count 50 = .ok (.aload_n 0, 1) := by decide +kernel
theorem dX9_count_51 : decode cX9_count 51 = .ok (.getfield 173, 3) := by decide +kernel
theorem dX9_count_54 : decode cX9_count 54 = .ok (.ireturn, 1) := by decide +kernel
theorem dX9_count_55 : decode cX9_count 55 = .ok (.aload_n 0, 1) := by decide +kernel
theorem dX9_count_56 : decode cX9_count 56 = .ok (.getfield 176, 3) := by decide +kernel
theorem dX9_count_59 : decode cX9_count 59 = .ok (.ireturn, 1) := by decide +kernel
theorem dX9_count_60 : decode cX9_count 60 = .ok (.aload_n 0, 1) := by decide +kernel
theorem dX9_count_61 : decode cX9_count 61 = .ok (.getfield 41, 3) := by decide +kernel
theorem dX9_count_64 : decode cX9_count 64 = .ok (.iconst 0, 1) := by decide +kernel
theorem dX9_count_65 : decode cX9_count 65 = .ok (.iaload, 1) := by decide +kernel
theorem dX9_count_66 : decode cX9_count 66 = .ok (.ireturn, 1) := by decide +kernel
theorem dX9_count_67 : decode cX9_count 67 = .ok (.aload_n 0, 1) := by decide +kernel
theorem dX9_count_68 : decode cX9_count 68 = .ok (.getfield 41, 3) := by decide +kernel
theorem dX9_count_71 : decode cX9_count 71 = .ok (.iconst 1, 1) := by decide +kernel
theorem dX9_count_72 : decode cX9_count 72 = .ok (.iaload, 1) := by decide +kernel
theorem dX9_count_73 : decode cX9_count 73 = .ok (.ireturn, 1) := by decide +kernel
theorem dX9_count_74 : decode cX9_count 74 = .ok (.iload_n 1, 1) := by decide +kernel
theorem dX9_count_75 : decode cX9_count 75 = .ok (.ifCond .lt 18, 3) := by decide +kernel
theorem dX9_count_78 : decode cX9_count 78 = .ok (.iload_n 1, 1) := by decide +kernel
theorem dX9_count_79 : decode cX9_count 79 = .ok (.bipush 10, 2) := by decide +kernel
theorem dX9_count_81 : decode cX9_count 81 = .ok (.if_icmp .ge 12, 3) := by decide +kernel
theorem dX9_count_84 : decode cX9_count 84 = .ok (.aload_n 0, 1) := by decide +kernel
theorem dX9_count_85 : decode cX9_count 85 = .ok (.getfield 38, 3) := by decide +kernel
theorem dX9_count_88 : decode cX9_count 88 = .ok (.iload_n 1, 1) := by decide +kernel
theorem dX9_count_89 : decode cX9_count 89 = .ok (.iaload, 1) := by decide +kernel
theorem dX9_count_90 : decode cX9_count 90 = .ok (.goto 4, 3) := by decide +kernel
theorem dX9_count_93 : decode cX9_count 93 = .ok (.iconst (-1), 1) := by decide +kernel
theorem dX9_count_94 : decode cX9_count 94 = .ok (.ireturn, 1) := by decide +kernel
theorem q64 : (Jvm.Cond.initialized "FarTypewriterModel") ∈ lw_all := lw_g (lw_at lw_m1 11 rfl) rfl
theorem q765 : (Jvm.Cond.instantiable "FarTypewriterModel" (46 : Nat)) ∈ lw_all := lw_g (lw_at lw_m3 232 rfl) rfl
theorem q767 : (Jvm.Cond.instanceMethod ({ cls := "FarTypewriterModel", name := "<init>", desc := "()V" } : Jvm.MethodName)) ∈ lw_all := lw_g (lw_at lw_m3 234 rfl) rfl
theorem q768 : (Jvm.Cond.code ({ cls := "FarTypewriterModel", name := "<init>", desc := "()V" } : Jvm.MethodName) prog_14_method_1_code (1 : Nat) (Option.none : Option Jvm.ClassFile.FieldType)) ∈ lw_all := lw_g (lw_at lw_m3 235 rfl) rfl
theorem q769 : (Jvm.Cond.methodLink "FarTypewriterModel" (1 : Nat) ({ cls := "java/lang/Object", name := "<init>", desc := "()V" } : Jvm.MethodName)) ∈ lw_all := lw_g (lw_at lw_m3 236 rfl) rfl
theorem q770 : (Jvm.Cond.constant "FarTypewriterModel" (44 : Nat) (88000 : Int32)) ∈ lw_all := lw_g (lw_at lw_m3 237 rfl) rfl
theorem q771 : (Jvm.Cond.methodLink "FarTypewriterModel" (72 : Nat) ({ cls := "FarTypewriterModel", name := "begins", desc := "(III)V" } : Jvm.MethodName)) ∈ lw_all := lw_g (lw_at lw_m3 238 rfl) rfl
theorem q772 : (Jvm.Cond.privateMethod ({ cls := "FarTypewriterModel", name := "begins", desc := "(III)V" } : Jvm.MethodName)) ∈ lw_tbl := lw_at lw_m3 239 rfl
theorem q773 : (Jvm.Cond.instanceMethod ({ cls := "FarTypewriterModel", name := "begins", desc := "(III)V" } : Jvm.MethodName)) ∈ lw_all := lw_g (lw_at lw_m4 0 rfl) rfl
theorem q774 : (Jvm.Cond.code ({ cls := "FarTypewriterModel", name := "begins", desc := "(III)V" } : Jvm.MethodName) prog_14_method_14_code (5 : Nat) (Option.none : Option Jvm.ClassFile.FieldType)) ∈ lw_all := lw_g (lw_at lw_m4 1 rfl) rfl
theorem q775 : (Jvm.Cond.methodLink "FarTypewriterModel" (76 : Nat) ({ cls := "FarTypewriterModel", name := "blank", desc := "(III)V" } : Jvm.MethodName)) ∈ lw_all := lw_g (lw_at lw_m4 2 rfl) rfl
theorem q776 : (Jvm.Cond.privateMethod ({ cls := "FarTypewriterModel", name := "blank", desc := "(III)V" } : Jvm.MethodName)) ∈ lw_tbl := lw_at lw_m4 3 rfl
theorem q777 : (Jvm.Cond.instanceMethod ({ cls := "FarTypewriterModel", name := "blank", desc := "(III)V" } : Jvm.MethodName)) ∈ lw_all := lw_g (lw_at lw_m4 4 rfl) rfl
theorem q778 : (Jvm.Cond.code ({ cls := "FarTypewriterModel", name := "blank", desc := "(III)V" } : Jvm.MethodName) prog_14_method_2_code (5 : Nat) (Option.none : Option Jvm.ClassFile.FieldType)) ∈ lw_all := lw_g (lw_at lw_m4 5 rfl) rfl
theorem q779 : (Jvm.Cond.fieldLink "FarTypewriterModel" (7 : Nat) "FarTypewriterModel" "letter" "[I") ∈ lw_all := lw_g (lw_at lw_m4 6 rfl) rfl
theorem q780 : (Jvm.Cond.fieldLink "FarTypewriterModel" (13 : Nat) "FarTypewriterModel" "mark" "[I") ∈ lw_all := lw_g (lw_at lw_m4 7 rfl) rfl
theorem q781 : (Jvm.Cond.fieldLink "FarTypewriterModel" (16 : Nat) "FarTypewriterModel" "cursorRow" "[I") ∈ lw_all := lw_g (lw_at lw_m4 8 rfl) rfl
theorem q782 : (Jvm.Cond.fieldLink "FarTypewriterModel" (19 : Nat) "FarTypewriterModel" "cursorColumn" "[I") ∈ lw_all := lw_g (lw_at lw_m4 9 rfl) rfl
theorem q783 : (Jvm.Cond.fieldLink "FarTypewriterModel" (22 : Nat) "FarTypewriterModel" "number" "[I") ∈ lw_all := lw_g (lw_at lw_m4 10 rfl) rfl
theorem q784 : (Jvm.Cond.fieldLink "FarTypewriterModel" (25 : Nat) "FarTypewriterModel" "tookThen" "[I") ∈ lw_all := lw_g (lw_at lw_m4 11 rfl) rfl
theorem q785 : (Jvm.Cond.fieldLink "FarTypewriterModel" (83 : Nat) "FarTypewriterModel" "pen" "I") ∈ lw_all := lw_g (lw_at lw_m4 12 rfl) rfl
theorem q786 : (Jvm.Cond.fieldLink "FarTypewriterModel" (106 : Nat) "FarTypewriterModel" "program" "I") ∈ lw_all := lw_g (lw_at lw_m4 13 rfl) rfl
theorem q787 : (Jvm.Cond.fieldLink "FarTypewriterModel" (103 : Nat) "FarTypewriterModel" "passed" "I") ∈ lw_all := lw_g (lw_at lw_m4 14 rfl) rfl
theorem q788 : (Jvm.Cond.fieldLink "FarTypewriterModel" (28 : Nat) "FarTypewriterModel" "frame" "I") ∈ lw_all := lw_g (lw_at lw_m4 15 rfl) rfl
theorem q789 : (Jvm.Cond.fieldLink "FarTypewriterModel" (32 : Nat) "FarTypewriterModel" "again" "I") ∈ lw_all := lw_g (lw_at lw_m4 16 rfl) rfl
theorem q790 : (Jvm.Cond.fieldLink "FarTypewriterModel" (118 : Nat) "FarTypewriterModel" "clock" "I") ∈ lw_all := lw_g (lw_at lw_m4 17 rfl) rfl
theorem q791 : (Jvm.Cond.fieldLink "FarTypewriterModel" (121 : Nat) "FarTypewriterModel" "took" "I") ∈ lw_all := lw_g (lw_at lw_m4 18 rfl) rfl
theorem q792 : (Jvm.Cond.fieldLink "FarTypewriterModel" (124 : Nat) "FarTypewriterModel" "sure" "I") ∈ lw_all := lw_g (lw_at lw_m4 19 rfl) rfl
theorem q793 : (Jvm.Cond.fieldLink "FarTypewriterModel" (127 : Nat) "FarTypewriterModel" "farStates" "I") ∈ lw_all := lw_g (lw_at lw_m4 20 rfl) rfl
theorem q794 : (Jvm.Cond.fieldLink "FarTypewriterModel" (130 : Nat) "FarTypewriterModel" "farLast" "I") ∈ lw_all := lw_g (lw_at lw_m4 21 rfl) rfl
theorem q795 : (Jvm.Cond.fieldLink "FarTypewriterModel" (133 : Nat) "FarTypewriterModel" "farSent" "I") ∈ lw_all := lw_g (lw_at lw_m4 22 rfl) rfl
theorem q796 : (Jvm.Cond.fieldLink "FarTypewriterModel" (136 : Nat) "FarTypewriterModel" "farOwes" "Z") ∈ lw_all := lw_g (lw_at lw_m4 23 rfl) rfl
theorem q797 : (Jvm.Cond.fieldLink "FarTypewriterModel" (140 : Nat) "FarTypewriterModel" "farAddress" "I") ∈ lw_all := lw_g (lw_at lw_m4 24 rfl) rfl
theorem q798 : (Jvm.Cond.fieldLink "FarTypewriterModel" (143 : Nat) "FarTypewriterModel" "mostKeys" "I") ∈ lw_all := lw_g (lw_at lw_m4 25 rfl) rfl
theorem q799 : (Jvm.Cond.fieldLink "FarTypewriterModel" (35 : Nat) "FarTypewriterModel" "key" "[I") ∈ lw_all := lw_g (lw_at lw_m4 26 rfl) rfl
theorem q800 : (Jvm.Cond.fieldLink "FarTypewriterModel" (146 : Nat) "FarTypewriterModel" "keys" "I") ∈ lw_all := lw_g (lw_at lw_m4 27 rfl) rfl
theorem q801 : (Jvm.Cond.fieldLink "FarTypewriterModel" (149 : Nat) "FarTypewriterModel" "known" "I") ∈ lw_all := lw_g (lw_at lw_m4 28 rfl) rfl
theorem q802 : (Jvm.Cond.fieldLink "FarTypewriterModel" (152 : Nat) "FarTypewriterModel" "nearStates" "I") ∈ lw_all := lw_g (lw_at lw_m4 29 rfl) rfl
theorem q803 : (Jvm.Cond.fieldLink "FarTypewriterModel" (155 : Nat) "FarTypewriterModel" "nearLast" "I") ∈ lw_all := lw_g (lw_at lw_m4 30 rfl) rfl
theorem q804 : (Jvm.Cond.fieldLink "FarTypewriterModel" (158 : Nat) "FarTypewriterModel" "nearSent" "I") ∈ lw_all := lw_g (lw_at lw_m4 31 rfl) rfl
theorem q805 : (Jvm.Cond.fieldLink "FarTypewriterModel" (161 : Nat) "FarTypewriterModel" "nearOwes" "Z") ∈ lw_all := lw_g (lw_at lw_m4 32 rfl) rfl
theorem q806 : (Jvm.Cond.fieldLink "FarTypewriterModel" (164 : Nat) "FarTypewriterModel" "address" "I") ∈ lw_all := lw_g (lw_at lw_m4 33 rfl) rfl
theorem q807 : (Jvm.Cond.fieldLink "FarTypewriterModel" (167 : Nat) "FarTypewriterModel" "sureTold" "I") ∈ lw_all := lw_g (lw_at lw_m4 34 rfl) rfl
theorem q808 : (Jvm.Cond.fieldLink "FarTypewriterModel" (38 : Nat) "FarTypewriterModel" "counts" "[I") ∈ lw_all := lw_g (lw_at lw_m4 35 rfl) rfl
theorem q809 : (Jvm.Cond.fieldLink "FarTypewriterModel" (41 : Nat) "FarTypewriterModel" "many" "[I") ∈ lw_all := lw_g (lw_at lw_m4 36 rfl) rfl
theorem q810 : (Jvm.Cond.fieldLink "FarTypewriterModel" (45 : Nat) "FarTypewriterModel" "bytes" "[I") ∈ lw_all := lw_g (lw_at lw_m4 37 rfl) rfl
theorem q811 : (Jvm.Cond.fieldLink "FarTypewriterModel" (48 : Nat) "FarTypewriterModel" "sizes" "[I") ∈ lw_all := lw_g (lw_at lw_m4 38 rfl) rfl
theorem q812 : (Jvm.Cond.fieldLink "FarTypewriterModel" (51 : Nat) "FarTypewriterModel" "hand" "[I") ∈ lw_all := lw_g (lw_at lw_m4 39 rfl) rfl
theorem q813 : (Jvm.Cond.fieldLink "FarTypewriterModel" (183 : Nat) "FarTypewriterModel" "size" "I") ∈ lw_all := lw_g (lw_at lw_m4 40 rfl) rfl
theorem q814 : (Jvm.Cond.fieldLink "FarTypewriterModel" (200 : Nat) "FarTypewriterModel" "first" "I") ∈ lw_all := lw_g (lw_at lw_m4 41 rfl) rfl
theorem q815 : (Jvm.Cond.fieldLink "FarTypewriterModel" (203 : Nat) "FarTypewriterModel" "last" "I") ∈ lw_all := lw_g (lw_at lw_m4 42 rfl) rfl
theorem q816 : (Jvm.Cond.fieldLink "FarTypewriterModel" (170 : Nat) "FarTypewriterModel" "guesses" "I") ∈ lw_all := lw_g (lw_at lw_m4 43 rfl) rfl
theorem q817 : (Jvm.Cond.fieldLink "FarTypewriterModel" (173 : Nat) "FarTypewriterModel" "confirmed" "I") ∈ lw_all := lw_g (lw_at lw_m4 44 rfl) rfl
theorem q818 : (Jvm.Cond.fieldLink "FarTypewriterModel" (176 : Nat) "FarTypewriterModel" "age" "I") ∈ lw_all := lw_g (lw_at lw_m4 45 rfl) rfl
theorem q819 : (Jvm.Cond.fieldLink "FarTypewriterModel" (54 : Nat) "FarTypewriterModel" "guessKey" "[I") ∈ lw_all := lw_g (lw_at lw_m4 46 rfl) rfl
theorem q820 : (Jvm.Cond.fieldLink "FarTypewriterModel" (57 : Nat) "FarTypewriterModel" "guessAge" "[I") ∈ lw_all := lw_g (lw_at lw_m4 47 rfl) rfl
theorem q821 : (Jvm.Cond.fieldLink "FarTypewriterModel" (60 : Nat) "FarTypewriterModel" "guessCell" "[I") ∈ lw_all := lw_g (lw_at lw_m4 48 rfl) rfl
theorem q822 : (Jvm.Cond.fieldLink "FarTypewriterModel" (63 : Nat) "FarTypewriterModel" "guessLetter" "[I") ∈ lw_all := lw_g (lw_at lw_m4 49 rfl) rfl
theorem q823 : (Jvm.Cond.fieldLink "FarTypewriterModel" (66 : Nat) "FarTypewriterModel" "guessRow" "[I") ∈ lw_all := lw_g (lw_at lw_m4 50 rfl) rfl
theorem q824 : (Jvm.Cond.fieldLink "FarTypewriterModel" (69 : Nat) "FarTypewriterModel" "guessColumn" "[I") ∈ lw_all := lw_g (lw_at lw_m4 51 rfl) rfl
theorem q825 : (Jvm.Cond.laysFinal "FarTypewriterModel" "FarTypewriterModel" "letter" "[I") ∈ lw_all := lw_g (lw_at lw_m4 52 rfl) rfl
theorem q826 : (Jvm.Cond.soleField "FarTypewriterModel" "letter") ∈ lw_all := lw_g (lw_at lw_m4 53 rfl) rfl
theorem q827 : (Jvm.Cond.laysFinal "FarTypewriterModel" "FarTypewriterModel" "mark" "[I") ∈ lw_all := lw_g (lw_at lw_m4 54 rfl) rfl
theorem q828 : (Jvm.Cond.soleField "FarTypewriterModel" "mark") ∈ lw_all := lw_g (lw_at lw_m4 55 rfl) rfl
theorem q829 : (Jvm.Cond.laysFinal "FarTypewriterModel" "FarTypewriterModel" "cursorRow" "[I") ∈ lw_all := lw_g (lw_at lw_m4 56 rfl) rfl
theorem q830 : (Jvm.Cond.soleField "FarTypewriterModel" "cursorRow") ∈ lw_all := lw_g (lw_at lw_m4 57 rfl) rfl
theorem q831 : (Jvm.Cond.laysFinal "FarTypewriterModel" "FarTypewriterModel" "cursorColumn" "[I") ∈ lw_all := lw_g (lw_at lw_m4 58 rfl) rfl
theorem q832 : (Jvm.Cond.soleField "FarTypewriterModel" "cursorColumn") ∈ lw_all := lw_g (lw_at lw_m4 59 rfl) rfl
theorem q833 : (Jvm.Cond.laysFinal "FarTypewriterModel" "FarTypewriterModel" "number" "[I") ∈ lw_all := lw_g (lw_at lw_m4 60 rfl) rfl
theorem q834 : (Jvm.Cond.soleField "FarTypewriterModel" "number") ∈ lw_all := lw_g (lw_at lw_m4 61 rfl) rfl
theorem q835 : (Jvm.Cond.laysFinal "FarTypewriterModel" "FarTypewriterModel" "tookThen" "[I") ∈ lw_all := lw_g (lw_at lw_m4 62 rfl) rfl
theorem q836 : (Jvm.Cond.soleField "FarTypewriterModel" "tookThen") ∈ lw_all := lw_g (lw_at lw_m4 63 rfl) rfl
theorem q837 : (Jvm.Cond.lays "FarTypewriterModel" "FarTypewriterModel" "pen" "I") ∈ lw_all := lw_g (lw_at lw_m4 64 rfl) rfl
theorem q838 : (Jvm.Cond.soleField "FarTypewriterModel" "pen") ∈ lw_all := lw_g (lw_at lw_m4 65 rfl) rfl
theorem q839 : (Jvm.Cond.lays "FarTypewriterModel" "FarTypewriterModel" "program" "I") ∈ lw_all := lw_g (lw_at lw_m4 66 rfl) rfl
theorem q840 : (Jvm.Cond.soleField "FarTypewriterModel" "program") ∈ lw_all := lw_g (lw_at lw_m4 67 rfl) rfl
theorem q841 : (Jvm.Cond.lays "FarTypewriterModel" "FarTypewriterModel" "passed" "I") ∈ lw_all := lw_g (lw_at lw_m4 68 rfl) rfl
theorem q842 : (Jvm.Cond.soleField "FarTypewriterModel" "passed") ∈ lw_all := lw_g (lw_at lw_m4 69 rfl) rfl
theorem q843 : (Jvm.Cond.lays "FarTypewriterModel" "FarTypewriterModel" "frame" "I") ∈ lw_all := lw_g (lw_at lw_m4 70 rfl) rfl
theorem q844 : (Jvm.Cond.soleField "FarTypewriterModel" "frame") ∈ lw_all := lw_g (lw_at lw_m4 71 rfl) rfl
theorem q845 : (Jvm.Cond.lays "FarTypewriterModel" "FarTypewriterModel" "again" "I") ∈ lw_all := lw_g (lw_at lw_m4 72 rfl) rfl
theorem q846 : (Jvm.Cond.soleField "FarTypewriterModel" "again") ∈ lw_all := lw_g (lw_at lw_m4 73 rfl) rfl
theorem q847 : (Jvm.Cond.lays "FarTypewriterModel" "FarTypewriterModel" "clock" "I") ∈ lw_all := lw_g (lw_at lw_m4 74 rfl) rfl
theorem q848 : (Jvm.Cond.soleField "FarTypewriterModel" "clock") ∈ lw_all := lw_g (lw_at lw_m4 75 rfl) rfl
theorem q849 : (Jvm.Cond.lays "FarTypewriterModel" "FarTypewriterModel" "took" "I") ∈ lw_all := lw_g (lw_at lw_m4 76 rfl) rfl
theorem q850 : (Jvm.Cond.soleField "FarTypewriterModel" "took") ∈ lw_all := lw_g (lw_at lw_m4 77 rfl) rfl
theorem q851 : (Jvm.Cond.lays "FarTypewriterModel" "FarTypewriterModel" "sure" "I") ∈ lw_all := lw_g (lw_at lw_m4 78 rfl) rfl
theorem q852 : (Jvm.Cond.soleField "FarTypewriterModel" "sure") ∈ lw_all := lw_g (lw_at lw_m4 79 rfl) rfl
theorem q853 : (Jvm.Cond.lays "FarTypewriterModel" "FarTypewriterModel" "farStates" "I") ∈ lw_all := lw_g (lw_at lw_m4 80 rfl) rfl
theorem q854 : (Jvm.Cond.soleField "FarTypewriterModel" "farStates") ∈ lw_all := lw_g (lw_at lw_m4 81 rfl) rfl
theorem q855 : (Jvm.Cond.lays "FarTypewriterModel" "FarTypewriterModel" "farLast" "I") ∈ lw_all := lw_g (lw_at lw_m4 82 rfl) rfl
theorem q856 : (Jvm.Cond.soleField "FarTypewriterModel" "farLast") ∈ lw_all := lw_g (lw_at lw_m4 83 rfl) rfl
theorem q857 : (Jvm.Cond.lays "FarTypewriterModel" "FarTypewriterModel" "farSent" "I") ∈ lw_all := lw_g (lw_at lw_m4 84 rfl) rfl
theorem q858 : (Jvm.Cond.soleField "FarTypewriterModel" "farSent") ∈ lw_all := lw_g (lw_at lw_m4 85 rfl) rfl
theorem q859 : (Jvm.Cond.lays "FarTypewriterModel" "FarTypewriterModel" "farOwes" "Z") ∈ lw_all := lw_g (lw_at lw_m4 86 rfl) rfl
theorem q860 : (Jvm.Cond.soleField "FarTypewriterModel" "farOwes") ∈ lw_all := lw_g (lw_at lw_m4 87 rfl) rfl
theorem q861 : (Jvm.Cond.lays "FarTypewriterModel" "FarTypewriterModel" "farAddress" "I") ∈ lw_all := lw_g (lw_at lw_m4 88 rfl) rfl
theorem q862 : (Jvm.Cond.soleField "FarTypewriterModel" "farAddress") ∈ lw_all := lw_g (lw_at lw_m4 89 rfl) rfl
theorem q863 : (Jvm.Cond.lays "FarTypewriterModel" "FarTypewriterModel" "mostKeys" "I") ∈ lw_all := lw_g (lw_at lw_m4 90 rfl) rfl
theorem q864 : (Jvm.Cond.soleField "FarTypewriterModel" "mostKeys") ∈ lw_all := lw_g (lw_at lw_m4 91 rfl) rfl
theorem q865 : (Jvm.Cond.laysFinal "FarTypewriterModel" "FarTypewriterModel" "key" "[I") ∈ lw_all := lw_g (lw_at lw_m4 92 rfl) rfl
theorem q866 : (Jvm.Cond.soleField "FarTypewriterModel" "key") ∈ lw_all := lw_g (lw_at lw_m4 93 rfl) rfl
theorem q867 : (Jvm.Cond.lays "FarTypewriterModel" "FarTypewriterModel" "keys" "I") ∈ lw_all := lw_g (lw_at lw_m4 94 rfl) rfl
theorem q868 : (Jvm.Cond.soleField "FarTypewriterModel" "keys") ∈ lw_all := lw_g (lw_at lw_m4 95 rfl) rfl
theorem q869 : (Jvm.Cond.lays "FarTypewriterModel" "FarTypewriterModel" "known" "I") ∈ lw_all := lw_g (lw_at lw_m4 96 rfl) rfl
theorem q870 : (Jvm.Cond.soleField "FarTypewriterModel" "known") ∈ lw_all := lw_g (lw_at lw_m4 97 rfl) rfl
theorem q871 : (Jvm.Cond.lays "FarTypewriterModel" "FarTypewriterModel" "nearStates" "I") ∈ lw_all := lw_g (lw_at lw_m4 98 rfl) rfl
theorem q872 : (Jvm.Cond.soleField "FarTypewriterModel" "nearStates") ∈ lw_all := lw_g (lw_at lw_m4 99 rfl) rfl
theorem q873 : (Jvm.Cond.lays "FarTypewriterModel" "FarTypewriterModel" "nearLast" "I") ∈ lw_all := lw_g (lw_at lw_m4 100 rfl) rfl
theorem q874 : (Jvm.Cond.soleField "FarTypewriterModel" "nearLast") ∈ lw_all := lw_g (lw_at lw_m4 101 rfl) rfl
theorem q875 : (Jvm.Cond.lays "FarTypewriterModel" "FarTypewriterModel" "nearSent" "I") ∈ lw_all := lw_g (lw_at lw_m4 102 rfl) rfl
theorem q876 : (Jvm.Cond.soleField "FarTypewriterModel" "nearSent") ∈ lw_all := lw_g (lw_at lw_m4 103 rfl) rfl
theorem q877 : (Jvm.Cond.lays "FarTypewriterModel" "FarTypewriterModel" "nearOwes" "Z") ∈ lw_all := lw_g (lw_at lw_m4 104 rfl) rfl
theorem q878 : (Jvm.Cond.soleField "FarTypewriterModel" "nearOwes") ∈ lw_all := lw_g (lw_at lw_m4 105 rfl) rfl
theorem q879 : (Jvm.Cond.lays "FarTypewriterModel" "FarTypewriterModel" "address" "I") ∈ lw_all := lw_g (lw_at lw_m4 106 rfl) rfl
theorem q880 : (Jvm.Cond.soleField "FarTypewriterModel" "address") ∈ lw_all := lw_g (lw_at lw_m4 107 rfl) rfl
theorem q881 : (Jvm.Cond.lays "FarTypewriterModel" "FarTypewriterModel" "sureTold" "I") ∈ lw_all := lw_g (lw_at lw_m4 108 rfl) rfl
theorem q882 : (Jvm.Cond.soleField "FarTypewriterModel" "sureTold") ∈ lw_all := lw_g (lw_at lw_m4 109 rfl) rfl
theorem q883 : (Jvm.Cond.laysFinal "FarTypewriterModel" "FarTypewriterModel" "counts" "[I") ∈ lw_all := lw_g (lw_at lw_m4 110 rfl) rfl
theorem q884 : (Jvm.Cond.soleField "FarTypewriterModel" "counts") ∈ lw_all := lw_g (lw_at lw_m4 111 rfl) rfl
theorem q885 : (Jvm.Cond.laysFinal "FarTypewriterModel" "FarTypewriterModel" "many" "[I") ∈ lw_all := lw_g (lw_at lw_m4 112 rfl) rfl
theorem q886 : (Jvm.Cond.soleField "FarTypewriterModel" "many") ∈ lw_all := lw_g (lw_at lw_m4 113 rfl) rfl
theorem q887 : (Jvm.Cond.laysFinal "FarTypewriterModel" "FarTypewriterModel" "bytes" "[I") ∈ lw_all := lw_g (lw_at lw_m4 114 rfl) rfl
theorem q888 : (Jvm.Cond.soleField "FarTypewriterModel" "bytes") ∈ lw_all := lw_g (lw_at lw_m4 115 rfl) rfl
theorem q889 : (Jvm.Cond.laysFinal "FarTypewriterModel" "FarTypewriterModel" "sizes" "[I") ∈ lw_all := lw_g (lw_at lw_m4 116 rfl) rfl
theorem q890 : (Jvm.Cond.soleField "FarTypewriterModel" "sizes") ∈ lw_all := lw_g (lw_at lw_m4 117 rfl) rfl
theorem q891 : (Jvm.Cond.laysFinal "FarTypewriterModel" "FarTypewriterModel" "hand" "[I") ∈ lw_all := lw_g (lw_at lw_m4 118 rfl) rfl
theorem q892 : (Jvm.Cond.soleField "FarTypewriterModel" "hand") ∈ lw_all := lw_g (lw_at lw_m4 119 rfl) rfl
theorem q893 : (Jvm.Cond.lays "FarTypewriterModel" "FarTypewriterModel" "size" "I") ∈ lw_all := lw_g (lw_at lw_m4 120 rfl) rfl
theorem q894 : (Jvm.Cond.soleField "FarTypewriterModel" "size") ∈ lw_all := lw_g (lw_at lw_m4 121 rfl) rfl
theorem q895 : (Jvm.Cond.lays "FarTypewriterModel" "FarTypewriterModel" "first" "I") ∈ lw_all := lw_g (lw_at lw_m4 122 rfl) rfl
theorem q896 : (Jvm.Cond.soleField "FarTypewriterModel" "first") ∈ lw_all := lw_g (lw_at lw_m4 123 rfl) rfl
theorem q897 : (Jvm.Cond.lays "FarTypewriterModel" "FarTypewriterModel" "last" "I") ∈ lw_all := lw_g (lw_at lw_m4 124 rfl) rfl
theorem q898 : (Jvm.Cond.soleField "FarTypewriterModel" "last") ∈ lw_all := lw_g (lw_at lw_m4 125 rfl) rfl
theorem q899 : (Jvm.Cond.lays "FarTypewriterModel" "FarTypewriterModel" "guesses" "I") ∈ lw_all := lw_g (lw_at lw_m4 126 rfl) rfl
theorem q900 : (Jvm.Cond.soleField "FarTypewriterModel" "guesses") ∈ lw_all := lw_g (lw_at lw_m4 127 rfl) rfl
theorem q901 : (Jvm.Cond.lays "FarTypewriterModel" "FarTypewriterModel" "confirmed" "I") ∈ lw_all := lw_g (lw_at lw_m4 128 rfl) rfl
theorem q902 : (Jvm.Cond.soleField "FarTypewriterModel" "confirmed") ∈ lw_all := lw_g (lw_at lw_m4 129 rfl) rfl
theorem q903 : (Jvm.Cond.lays "FarTypewriterModel" "FarTypewriterModel" "age" "I") ∈ lw_all := lw_g (lw_at lw_m4 130 rfl) rfl
theorem q904 : (Jvm.Cond.soleField "FarTypewriterModel" "age") ∈ lw_all := lw_g (lw_at lw_m4 131 rfl) rfl
theorem q905 : (Jvm.Cond.laysFinal "FarTypewriterModel" "FarTypewriterModel" "guessKey" "[I") ∈ lw_all := lw_g (lw_at lw_m4 132 rfl) rfl
theorem q906 : (Jvm.Cond.soleField "FarTypewriterModel" "guessKey") ∈ lw_all := lw_g (lw_at lw_m4 133 rfl) rfl
theorem q907 : (Jvm.Cond.laysFinal "FarTypewriterModel" "FarTypewriterModel" "guessAge" "[I") ∈ lw_all := lw_g (lw_at lw_m4 134 rfl) rfl
theorem q908 : (Jvm.Cond.soleField "FarTypewriterModel" "guessAge") ∈ lw_all := lw_g (lw_at lw_m4 135 rfl) rfl
theorem q909 : (Jvm.Cond.laysFinal "FarTypewriterModel" "FarTypewriterModel" "guessCell" "[I") ∈ lw_all := lw_g (lw_at lw_m4 136 rfl) rfl
theorem q910 : (Jvm.Cond.soleField "FarTypewriterModel" "guessCell") ∈ lw_all := lw_g (lw_at lw_m4 137 rfl) rfl
theorem q911 : (Jvm.Cond.laysFinal "FarTypewriterModel" "FarTypewriterModel" "guessLetter" "[I") ∈ lw_all := lw_g (lw_at lw_m4 138 rfl) rfl
theorem q912 : (Jvm.Cond.soleField "FarTypewriterModel" "guessLetter") ∈ lw_all := lw_g (lw_at lw_m4 139 rfl) rfl
theorem q913 : (Jvm.Cond.laysFinal "FarTypewriterModel" "FarTypewriterModel" "guessRow" "[I") ∈ lw_all := lw_g (lw_at lw_m4 140 rfl) rfl
theorem q914 : (Jvm.Cond.soleField "FarTypewriterModel" "guessRow") ∈ lw_all := lw_g (lw_at lw_m4 141 rfl) rfl
theorem q915 : (Jvm.Cond.laysFinal "FarTypewriterModel" "FarTypewriterModel" "guessColumn" "[I") ∈ lw_all := lw_g (lw_at lw_m4 142 rfl) rfl
theorem q916 : (Jvm.Cond.soleField "FarTypewriterModel" "guessColumn") ∈ lw_all := lw_g (lw_at lw_m4 143 rfl) rfl
theorem q917 : (Jvm.Cond.superclass "FarTypewriterModel" "java/lang/Object") ∈ lw_all := lw_g (lw_at lw_m4 144 rfl) rfl
theorem q919 : (Jvm.Cond.instanceMethod ({ cls := "FarTypewriterModel", name := "open", desc := "(III)Z" } : Jvm.MethodName)) ∈ lw_all := lw_g (lw_at lw_m4 146 rfl) rfl
theorem q920 : (Jvm.Cond.selects "FarTypewriterModel" ({ cls := "FarTypewriterModel", name := "open", desc := "(III)Z" } : Jvm.MethodName) ({ cls := "FarTypewriterModel", name := "open", desc := "(III)Z" } : Jvm.MethodName)) ∈ lw_all := lw_g (lw_at lw_m4 147 rfl) rfl
theorem q921 : (Jvm.Cond.code ({ cls := "FarTypewriterModel", name := "open", desc := "(III)Z" } : Jvm.MethodName) prog_14_method_15_code (4 : Nat) (Option.some Jvm.ClassFile.FieldType.boolean)) ∈ lw_all := lw_g (lw_at lw_m4 148 rfl) rfl
theorem q923 : (Jvm.Cond.instanceMethod ({ cls := "FarTypewriterModel", name := "program", desc := "(I)I" } : Jvm.MethodName)) ∈ lw_all := lw_g (lw_at lw_m4 150 rfl) rfl
theorem q924 : (Jvm.Cond.selects "FarTypewriterModel" ({ cls := "FarTypewriterModel", name := "program", desc := "(I)I" } : Jvm.MethodName) ({ cls := "FarTypewriterModel", name := "program", desc := "(I)I" } : Jvm.MethodName)) ∈ lw_all := lw_g (lw_at lw_m4 151 rfl) rfl
theorem q925 : (Jvm.Cond.code ({ cls := "FarTypewriterModel", name := "program", desc := "(I)I" } : Jvm.MethodName) prog_14_method_16_code (3 : Nat) (Option.some Jvm.ClassFile.FieldType.int)) ∈ lw_all := lw_g (lw_at lw_m4 152 rfl) rfl
theorem q927 : (Jvm.Cond.instanceMethod ({ cls := "FarTypewriterModel", name := "write", desc := "(I)Z" } : Jvm.MethodName)) ∈ lw_all := lw_g (lw_at lw_m4 154 rfl) rfl
theorem q928 : (Jvm.Cond.selects "FarTypewriterModel" ({ cls := "FarTypewriterModel", name := "write", desc := "(I)Z" } : Jvm.MethodName) ({ cls := "FarTypewriterModel", name := "write", desc := "(I)Z" } : Jvm.MethodName)) ∈ lw_all := lw_g (lw_at lw_m4 155 rfl) rfl
theorem q929 : (Jvm.Cond.code ({ cls := "FarTypewriterModel", name := "write", desc := "(I)Z" } : Jvm.MethodName) prog_14_method_17_code (2 : Nat) (Option.some Jvm.ClassFile.FieldType.boolean)) ∈ lw_all := lw_g (lw_at lw_m4 156 rfl) rfl
theorem q930 : (Jvm.Cond.methodLink "FarTypewriterModel" (89 : Nat) ({ cls := "FarTypewriterModel", name := "isLetter", desc := "(I)Z" } : Jvm.MethodName)) ∈ lw_all := lw_g (lw_at lw_m4 157 rfl) rfl
theorem q931 : (Jvm.Cond.static ({ cls := "FarTypewriterModel", name := "isLetter", desc := "(I)Z" } : Jvm.MethodName)) ∈ lw_all := lw_g (lw_at lw_m4 158 rfl) rfl
theorem q932 : (Jvm.Cond.code ({ cls := "FarTypewriterModel", name := "isLetter", desc := "(I)Z" } : Jvm.MethodName) prog_14_method_8_code (1 : Nat) (Option.some Jvm.ClassFile.FieldType.boolean)) ∈ lw_all := lw_g (lw_at lw_m4 159 rfl) rfl
theorem q933 : (Jvm.Cond.methodLink "FarTypewriterModel" (93 : Nat) ({ cls := "FarTypewriterModel", name := "puts", desc := "(I)V" } : Jvm.MethodName)) ∈ lw_all := lw_g (lw_at lw_m4 160 rfl) rfl
theorem q934 : (Jvm.Cond.privateMethod ({ cls := "FarTypewriterModel", name := "puts", desc := "(I)V" } : Jvm.MethodName)) ∈ lw_tbl := lw_at lw_m4 161 rfl
theorem q935 : (Jvm.Cond.instanceMethod ({ cls := "FarTypewriterModel", name := "puts", desc := "(I)V" } : Jvm.MethodName)) ∈ lw_all := lw_g (lw_at lw_m4 162 rfl) rfl
theorem q936 : (Jvm.Cond.code ({ cls := "FarTypewriterModel", name := "puts", desc := "(I)V" } : Jvm.MethodName) prog_14_method_6_code (3 : Nat) (Option.none : Option Jvm.ClassFile.FieldType)) ∈ lw_all := lw_g (lw_at lw_m4 163 rfl) rfl
theorem q937 : (Jvm.Cond.methodLink "FarTypewriterModel" (86 : Nat) ({ cls := "FarTypewriterModel", name := "newLine", desc := "()V" } : Jvm.MethodName)) ∈ lw_all := lw_g (lw_at lw_m4 164 rfl) rfl
theorem q938 : (Jvm.Cond.privateMethod ({ cls := "FarTypewriterModel", name := "newLine", desc := "()V" } : Jvm.MethodName)) ∈ lw_tbl := lw_at lw_m4 165 rfl
theorem q939 : (Jvm.Cond.instanceMethod ({ cls := "FarTypewriterModel", name := "newLine", desc := "()V" } : Jvm.MethodName)) ∈ lw_all := lw_g (lw_at lw_m4 166 rfl) rfl
theorem q940 : (Jvm.Cond.code ({ cls := "FarTypewriterModel", name := "newLine", desc := "()V" } : Jvm.MethodName) prog_14_method_5_code (1 : Nat) (Option.none : Option Jvm.ClassFile.FieldType)) ∈ lw_all := lw_g (lw_at lw_m4 167 rfl) rfl
theorem q941 : (Jvm.Cond.methodLink "FarTypewriterModel" (79 : Nat) ({ cls := "FarTypewriterModel", name := "scrolls", desc := "(II)V" } : Jvm.MethodName)) ∈ lw_all := lw_g (lw_at lw_m4 168 rfl) rfl
theorem q942 : (Jvm.Cond.privateMethod ({ cls := "FarTypewriterModel", name := "scrolls", desc := "(II)V" } : Jvm.MethodName)) ∈ lw_tbl := lw_at lw_m4 169 rfl
theorem q943 : (Jvm.Cond.instanceMethod ({ cls := "FarTypewriterModel", name := "scrolls", desc := "(II)V" } : Jvm.MethodName)) ∈ lw_all := lw_g (lw_at lw_m4 170 rfl) rfl
theorem q944 : (Jvm.Cond.code ({ cls := "FarTypewriterModel", name := "scrolls", desc := "(II)V" } : Jvm.MethodName) prog_14_method_4_code (4 : Nat) (Option.none : Option Jvm.ClassFile.FieldType)) ∈ lw_all := lw_g (lw_at lw_m4 171 rfl) rfl
theorem q945 : (Jvm.Cond.methodLink "FarTypewriterModel" (97 : Nat) ({ cls := "FarTypewriterModel", name := "back", desc := "()V" } : Jvm.MethodName)) ∈ lw_all := lw_g (lw_at lw_m4 172 rfl) rfl
theorem q946 : (Jvm.Cond.privateMethod ({ cls := "FarTypewriterModel", name := "back", desc := "()V" } : Jvm.MethodName)) ∈ lw_tbl := lw_at lw_m4 173 rfl
theorem q947 : (Jvm.Cond.instanceMethod ({ cls := "FarTypewriterModel", name := "back", desc := "()V" } : Jvm.MethodName)) ∈ lw_all := lw_g (lw_at lw_m4 174 rfl) rfl
theorem q948 : (Jvm.Cond.code ({ cls := "FarTypewriterModel", name := "back", desc := "()V" } : Jvm.MethodName) prog_14_method_7_code (2 : Nat) (Option.none : Option Jvm.ClassFile.FieldType)) ∈ lw_all := lw_g (lw_at lw_m4 175 rfl) rfl
theorem q950 : (Jvm.Cond.instanceMethod ({ cls := "FarTypewriterModel", name := "move", desc := "(II)Z" } : Jvm.MethodName)) ∈ lw_all := lw_g (lw_at lw_m4 177 rfl) rfl
theorem q951 : (Jvm.Cond.selects "FarTypewriterModel" ({ cls := "FarTypewriterModel", name := "move", desc := "(II)Z" } : Jvm.MethodName) ({ cls := "FarTypewriterModel", name := "move", desc := "(II)Z" } : Jvm.MethodName)) ∈ lw_all := lw_g (lw_at lw_m4 178 rfl) rfl
theorem q952 : (Jvm.Cond.code ({ cls := "FarTypewriterModel", name := "move", desc := "(II)Z" } : Jvm.MethodName) prog_14_method_19_code (3 : Nat) (Option.some Jvm.ClassFile.FieldType.boolean)) ∈ lw_all := lw_g (lw_at lw_m4 179 rfl) rfl
theorem q953 : (Jvm.Cond.methodLink "FarTypewriterModel" (179 : Nat) ({ cls := "FarTypewriterModel", name := "isCell", desc := "(II)Z" } : Jvm.MethodName)) ∈ lw_all := lw_g (lw_at lw_m4 180 rfl) rfl
theorem q954 : (Jvm.Cond.static ({ cls := "FarTypewriterModel", name := "isCell", desc := "(II)Z" } : Jvm.MethodName)) ∈ lw_all := lw_g (lw_at lw_m4 181 rfl) rfl
theorem q955 : (Jvm.Cond.code ({ cls := "FarTypewriterModel", name := "isCell", desc := "(II)Z" } : Jvm.MethodName) prog_14_method_18_code (2 : Nat) (Option.some Jvm.ClassFile.FieldType.boolean)) ∈ lw_all := lw_g (lw_at lw_m4 182 rfl) rfl
theorem q957 : (Jvm.Cond.instanceMethod ({ cls := "FarTypewriterModel", name := "wipe", desc := "(I)Z" } : Jvm.MethodName)) ∈ lw_all := lw_g (lw_at lw_m4 184 rfl) rfl
theorem q958 : (Jvm.Cond.selects "FarTypewriterModel" ({ cls := "FarTypewriterModel", name := "wipe", desc := "(I)Z" } : Jvm.MethodName) ({ cls := "FarTypewriterModel", name := "wipe", desc := "(I)Z" } : Jvm.MethodName)) ∈ lw_all := lw_g (lw_at lw_m4 185 rfl) rfl
theorem q959 : (Jvm.Cond.code ({ cls := "FarTypewriterModel", name := "wipe", desc := "(I)Z" } : Jvm.MethodName) prog_14_method_20_code (2 : Nat) (Option.some Jvm.ClassFile.FieldType.boolean)) ∈ lw_all := lw_g (lw_at lw_m4 186 rfl) rfl
theorem q961 : (Jvm.Cond.instanceMethod ({ cls := "FarTypewriterModel", name := "scroll", desc := "(I)Z" } : Jvm.MethodName)) ∈ lw_all := lw_g (lw_at lw_m4 188 rfl) rfl
theorem q962 : (Jvm.Cond.selects "FarTypewriterModel" ({ cls := "FarTypewriterModel", name := "scroll", desc := "(I)Z" } : Jvm.MethodName) ({ cls := "FarTypewriterModel", name := "scroll", desc := "(I)Z" } : Jvm.MethodName)) ∈ lw_all := lw_g (lw_at lw_m4 189 rfl) rfl
theorem q963 : (Jvm.Cond.code ({ cls := "FarTypewriterModel", name := "scroll", desc := "(I)Z" } : Jvm.MethodName) prog_14_method_21_code (2 : Nat) (Option.some Jvm.ClassFile.FieldType.boolean)) ∈ lw_all := lw_g (lw_at lw_m4 190 rfl) rfl
theorem q965 : (Jvm.Cond.instanceMethod ({ cls := "FarTypewriterModel", name := "pen", desc := "(I)I" } : Jvm.MethodName)) ∈ lw_all := lw_g (lw_at lw_m4 192 rfl) rfl
theorem q966 : (Jvm.Cond.selects "FarTypewriterModel" ({ cls := "FarTypewriterModel", name := "pen", desc := "(I)I" } : Jvm.MethodName) ({ cls := "FarTypewriterModel", name := "pen", desc := "(I)I" } : Jvm.MethodName)) ∈ lw_all := lw_g (lw_at lw_m4 193 rfl) rfl
theorem q967 : (Jvm.Cond.code ({ cls := "FarTypewriterModel", name := "pen", desc := "(I)I" } : Jvm.MethodName) prog_14_method_22_code (3 : Nat) (Option.some Jvm.ClassFile.FieldType.int)) ∈ lw_all := lw_g (lw_at lw_m4 194 rfl) rfl
theorem q969 : (Jvm.Cond.instanceMethod ({ cls := "FarTypewriterModel", name := "tick", desc := "()I" } : Jvm.MethodName)) ∈ lw_all := lw_g (lw_at lw_m4 196 rfl) rfl
theorem q970 : (Jvm.Cond.selects "FarTypewriterModel" ({ cls := "FarTypewriterModel", name := "tick", desc := "()I" } : Jvm.MethodName) ({ cls := "FarTypewriterModel", name := "tick", desc := "()I" } : Jvm.MethodName)) ∈ lw_all := lw_g (lw_at lw_m4 197 rfl) rfl
theorem q971 : (Jvm.Cond.code ({ cls := "FarTypewriterModel", name := "tick", desc := "()I" } : Jvm.MethodName) prog_14_method_39_code (2 : Nat) (Option.some Jvm.ClassFile.FieldType.int)) ∈ lw_all := lw_g (lw_at lw_m4 198 rfl) rfl
theorem q972 : (Jvm.Cond.methodLink "FarTypewriterModel" (237 : Nat) ({ cls := "FarTypewriterModel", name := "farTick", desc := "()V" } : Jvm.MethodName)) ∈ lw_all := lw_g (lw_at lw_m4 199 rfl) rfl
theorem q973 : (Jvm.Cond.privateMethod ({ cls := "FarTypewriterModel", name := "farTick", desc := "()V" } : Jvm.MethodName)) ∈ lw_tbl := lw_at lw_m4 200 rfl
theorem q974 : (Jvm.Cond.instanceMethod ({ cls := "FarTypewriterModel", name := "farTick", desc := "()V" } : Jvm.MethodName)) ∈ lw_all := lw_g (lw_at lw_m4 201 rfl) rfl
theorem q975 : (Jvm.Cond.code ({ cls := "FarTypewriterModel", name := "farTick", desc := "()V" } : Jvm.MethodName) prog_14_method_37_code (4 : Nat) (Option.none : Option Jvm.ClassFile.FieldType)) ∈ lw_all := lw_g (lw_at lw_m4 202 rfl) rfl
theorem q976 : (Jvm.Cond.methodLink "FarTypewriterModel" (217 : Nat) ({ cls := "FarTypewriterModel", name := "farNewest", desc := "()I" } : Jvm.MethodName)) ∈ lw_all := lw_g (lw_at lw_m4 203 rfl) rfl
theorem q977 : (Jvm.Cond.privateMethod ({ cls := "FarTypewriterModel", name := "farNewest", desc := "()I" } : Jvm.MethodName)) ∈ lw_tbl := lw_at lw_m4 204 rfl
theorem q978 : (Jvm.Cond.instanceMethod ({ cls := "FarTypewriterModel", name := "farNewest", desc := "()I" } : Jvm.MethodName)) ∈ lw_all := lw_g (lw_at lw_m4 205 rfl) rfl
theorem q979 : (Jvm.Cond.code ({ cls := "FarTypewriterModel", name := "farNewest", desc := "()I" } : Jvm.MethodName) prog_14_method_27_code (1 : Nat) (Option.some Jvm.ClassFile.FieldType.int)) ∈ lw_all := lw_g (lw_at lw_m4 206 rfl) rfl
theorem q980 : (Jvm.Cond.methodLink "FarTypewriterModel" (221 : Nat) ({ cls := "FarTypewriterModel", name := "sameCells", desc := "(II)Z" } : Jvm.MethodName)) ∈ lw_all := lw_g (lw_at lw_m4 207 rfl) rfl
theorem q981 : (Jvm.Cond.privateMethod ({ cls := "FarTypewriterModel", name := "sameCells", desc := "(II)Z" } : Jvm.MethodName)) ∈ lw_tbl := lw_at lw_m4 208 rfl
theorem q982 : (Jvm.Cond.instanceMethod ({ cls := "FarTypewriterModel", name := "sameCells", desc := "(II)Z" } : Jvm.MethodName)) ∈ lw_all := lw_g (lw_at lw_m4 209 rfl) rfl
theorem q983 : (Jvm.Cond.code ({ cls := "FarTypewriterModel", name := "sameCells", desc := "(II)Z" } : Jvm.MethodName) prog_14_method_29_code (4 : Nat) (Option.some Jvm.ClassFile.FieldType.boolean)) ∈ lw_all := lw_g (lw_at lw_m4 210 rfl) rfl
theorem q984 : (Jvm.Cond.methodLink "FarTypewriterModel" (197 : Nat) ({ cls := "FarTypewriterModel", name := "copies", desc := "(II)V" } : Jvm.MethodName)) ∈ lw_all := lw_g (lw_at lw_m4 211 rfl) rfl
theorem q985 : (Jvm.Cond.privateMethod ({ cls := "FarTypewriterModel", name := "copies", desc := "(II)V" } : Jvm.MethodName)) ∈ lw_tbl := lw_at lw_m4 212 rfl
theorem q986 : (Jvm.Cond.instanceMethod ({ cls := "FarTypewriterModel", name := "copies", desc := "(II)V" } : Jvm.MethodName)) ∈ lw_all := lw_g (lw_at lw_m4 213 rfl) rfl
theorem q987 : (Jvm.Cond.code ({ cls := "FarTypewriterModel", name := "copies", desc := "(II)V" } : Jvm.MethodName) prog_14_method_3_code (4 : Nat) (Option.none : Option Jvm.ClassFile.FieldType)) ∈ lw_all := lw_g (lw_at lw_m4 214 rfl) rfl
theorem q988 : (Jvm.Cond.methodLink "FarTypewriterModel" (186 : Nat) ({ cls := "FarTypewriterModel", name := "adds", desc := "(I)V" } : Jvm.MethodName)) ∈ lw_all := lw_g (lw_at lw_m4 215 rfl) rfl
theorem q989 : (Jvm.Cond.privateMethod ({ cls := "FarTypewriterModel", name := "adds", desc := "(I)V" } : Jvm.MethodName)) ∈ lw_tbl := lw_at lw_m4 216 rfl
theorem q990 : (Jvm.Cond.instanceMethod ({ cls := "FarTypewriterModel", name := "adds", desc := "(I)V" } : Jvm.MethodName)) ∈ lw_all := lw_g (lw_at lw_m4 217 rfl) rfl
theorem q991 : (Jvm.Cond.code ({ cls := "FarTypewriterModel", name := "adds", desc := "(I)V" } : Jvm.MethodName) prog_14_method_23_code (2 : Nat) (Option.none : Option Jvm.ClassFile.FieldType)) ∈ lw_all := lw_g (lw_at lw_m4 218 rfl) rfl
theorem q992 : (Jvm.Cond.methodLink "FarTypewriterModel" (194 : Nat) ({ cls := "FarTypewriterModel", name := "addsTwo", desc := "(I)V" } : Jvm.MethodName)) ∈ lw_all := lw_g (lw_at lw_m4 219 rfl) rfl
theorem q993 : (Jvm.Cond.privateMethod ({ cls := "FarTypewriterModel", name := "addsTwo", desc := "(I)V" } : Jvm.MethodName)) ∈ lw_tbl := lw_at lw_m4 220 rfl
theorem q994 : (Jvm.Cond.instanceMethod ({ cls := "FarTypewriterModel", name := "addsTwo", desc := "(I)V" } : Jvm.MethodName)) ∈ lw_all := lw_g (lw_at lw_m4 221 rfl) rfl
theorem q995 : (Jvm.Cond.code ({ cls := "FarTypewriterModel", name := "addsTwo", desc := "(I)V" } : Jvm.MethodName) prog_14_method_24_code (2 : Nat) (Option.none : Option Jvm.ClassFile.FieldType)) ∈ lw_all := lw_g (lw_at lw_m4 222 rfl) rfl
theorem q996 : (Jvm.Cond.methodLink "FarTypewriterModel" (224 : Nat) ({ cls := "FarTypewriterModel", name := "stateOf", desc := "(III)I" } : Jvm.MethodName)) ∈ lw_all := lw_g (lw_at lw_m4 223 rfl) rfl
theorem q997 : (Jvm.Cond.privateMethod ({ cls := "FarTypewriterModel", name := "stateOf", desc := "(III)I" } : Jvm.MethodName)) ∈ lw_tbl := lw_at lw_m4 224 rfl
theorem q998 : (Jvm.Cond.instanceMethod ({ cls := "FarTypewriterModel", name := "stateOf", desc := "(III)I" } : Jvm.MethodName)) ∈ lw_all := lw_g (lw_at lw_m4 225 rfl) rfl
theorem q999 : (Jvm.Cond.code ({ cls := "FarTypewriterModel", name := "stateOf", desc := "(III)I" } : Jvm.MethodName) prog_14_method_31_code (5 : Nat) (Option.some Jvm.ClassFile.FieldType.int)) ∈ lw_all := lw_g (lw_at lw_m4 226 rfl) rfl
theorem q1000 : (Jvm.Cond.methodLink "FarTypewriterModel" (228 : Nat) ({ cls := "FarTypewriterModel", name := "difference", desc := "(II)V" } : Jvm.MethodName)) ∈ lw_all := lw_g (lw_at lw_m4 227 rfl) rfl
theorem q1001 : (Jvm.Cond.privateMethod ({ cls := "FarTypewriterModel", name := "difference", desc := "(II)V" } : Jvm.MethodName)) ∈ lw_tbl := lw_at lw_m4 228 rfl
theorem q1002 : (Jvm.Cond.instanceMethod ({ cls := "FarTypewriterModel", name := "difference", desc := "(II)V" } : Jvm.MethodName)) ∈ lw_all := lw_g (lw_at lw_m4 229 rfl) rfl
theorem q1003 : (Jvm.Cond.code ({ cls := "FarTypewriterModel", name := "difference", desc := "(II)V" } : Jvm.MethodName) prog_14_method_35_code (7 : Nat) (Option.none : Option Jvm.ClassFile.FieldType)) ∈ lw_all := lw_g (lw_at lw_m4 230 rfl) rfl
theorem q1004 : (Jvm.Cond.methodLink "FarTypewriterModel" (213 : Nat) ({ cls := "FarTypewriterModel", name := "rowsOf", desc := "(IIZ)I" } : Jvm.MethodName)) ∈ lw_all := lw_g (lw_at lw_m4 231 rfl) rfl
theorem q1005 : (Jvm.Cond.privateMethod ({ cls := "FarTypewriterModel", name := "rowsOf", desc := "(IIZ)I" } : Jvm.MethodName)) ∈ lw_tbl := lw_at lw_m4 232 rfl
theorem q1006 : (Jvm.Cond.instanceMethod ({ cls := "FarTypewriterModel", name := "rowsOf", desc := "(IIZ)I" } : Jvm.MethodName)) ∈ lw_all := lw_g (lw_at lw_m4 233 rfl) rfl
theorem q1007 : (Jvm.Cond.code ({ cls := "FarTypewriterModel", name := "rowsOf", desc := "(IIZ)I" } : Jvm.MethodName) prog_14_method_34_code (9 : Nat) (Option.some Jvm.ClassFile.FieldType.int)) ∈ lw_all := lw_g (lw_at lw_m4 234 rfl) rfl
theorem q1008 : (Jvm.Cond.methodLink "FarTypewriterModel" (206 : Nat) ({ cls := "FarTypewriterModel", name := "differs", desc := "(III)Z" } : Jvm.MethodName)) ∈ lw_all := lw_g (lw_at lw_m4 235 rfl) rfl
theorem q1009 : (Jvm.Cond.privateMethod ({ cls := "FarTypewriterModel", name := "differs", desc := "(III)Z" } : Jvm.MethodName)) ∈ lw_tbl := lw_at lw_m4 236 rfl
theorem q1010 : (Jvm.Cond.instanceMethod ({ cls := "FarTypewriterModel", name := "differs", desc := "(III)Z" } : Jvm.MethodName)) ∈ lw_all := lw_g (lw_at lw_m4 237 rfl) rfl
theorem q1011 : (Jvm.Cond.code ({ cls := "FarTypewriterModel", name := "differs", desc := "(III)Z" } : Jvm.MethodName) prog_14_method_32_code (7 : Nat) (Option.some Jvm.ClassFile.FieldType.boolean)) ∈ lw_all := lw_g (lw_at lw_m4 238 rfl) rfl
theorem q1012 : (Jvm.Cond.methodLink "FarTypewriterModel" (210 : Nat) ({ cls := "FarTypewriterModel", name := "areLike", desc := "(II)Z" } : Jvm.MethodName)) ∈ lw_all := lw_g (lw_at lw_m4 239 rfl) rfl
theorem q1013 : (Jvm.Cond.privateMethod ({ cls := "FarTypewriterModel", name := "areLike", desc := "(II)Z" } : Jvm.MethodName)) ∈ lw_tbl := lw_at lw_m5 0 rfl
theorem q1014 : (Jvm.Cond.instanceMethod ({ cls := "FarTypewriterModel", name := "areLike", desc := "(II)Z" } : Jvm.MethodName)) ∈ lw_all := lw_g (lw_at lw_m5 1 rfl) rfl
theorem q1015 : (Jvm.Cond.code ({ cls := "FarTypewriterModel", name := "areLike", desc := "(II)Z" } : Jvm.MethodName) prog_14_method_33_code (6 : Nat) (Option.some Jvm.ClassFile.FieldType.boolean)) ∈ lw_all := lw_g (lw_at lw_m5 2 rfl) rfl
theorem q1016 : (Jvm.Cond.methodLink "FarTypewriterModel" (231 : Nat) ({ cls := "FarTypewriterModel", name := "sends", desc := "(I)V" } : Jvm.MethodName)) ∈ lw_all := lw_g (lw_at lw_m5 3 rfl) rfl
theorem q1017 : (Jvm.Cond.privateMethod ({ cls := "FarTypewriterModel", name := "sends", desc := "(I)V" } : Jvm.MethodName)) ∈ lw_tbl := lw_at lw_m5 4 rfl
theorem q1018 : (Jvm.Cond.instanceMethod ({ cls := "FarTypewriterModel", name := "sends", desc := "(I)V" } : Jvm.MethodName)) ∈ lw_all := lw_g (lw_at lw_m5 5 rfl) rfl
theorem q1019 : (Jvm.Cond.code ({ cls := "FarTypewriterModel", name := "sends", desc := "(I)V" } : Jvm.MethodName) prog_14_method_26_code (4 : Nat) (Option.none : Option Jvm.ClassFile.FieldType)) ∈ lw_all := lw_g (lw_at lw_m5 6 rfl) rfl
theorem q1020 : (Jvm.Cond.methodLink "FarTypewriterModel" (190 : Nat) ({ cls := "FarTypewriterModel", name := "sumOf", desc := "(I)I" } : Jvm.MethodName)) ∈ lw_all := lw_g (lw_at lw_m5 7 rfl) rfl
theorem q1021 : (Jvm.Cond.privateMethod ({ cls := "FarTypewriterModel", name := "sumOf", desc := "(I)I" } : Jvm.MethodName)) ∈ lw_tbl := lw_at lw_m5 8 rfl
theorem q1022 : (Jvm.Cond.instanceMethod ({ cls := "FarTypewriterModel", name := "sumOf", desc := "(I)I" } : Jvm.MethodName)) ∈ lw_all := lw_g (lw_at lw_m5 9 rfl) rfl
theorem q1023 : (Jvm.Cond.code ({ cls := "FarTypewriterModel", name := "sumOf", desc := "(I)I" } : Jvm.MethodName) prog_14_method_25_code (4 : Nat) (Option.some Jvm.ClassFile.FieldType.int)) ∈ lw_all := lw_g (lw_at lw_m5 10 rfl) rfl
theorem q1024 : (Jvm.Cond.constant "FarTypewriterModel" (189 : Nat) (65521 : Int32)) ∈ lw_all := lw_g (lw_at lw_m5 11 rfl) rfl
theorem q1025 : (Jvm.Cond.methodLink "FarTypewriterModel" (240 : Nat) ({ cls := "FarTypewriterModel", name := "nearTick", desc := "()V" } : Jvm.MethodName)) ∈ lw_all := lw_g (lw_at lw_m5 12 rfl) rfl
theorem q1026 : (Jvm.Cond.privateMethod ({ cls := "FarTypewriterModel", name := "nearTick", desc := "()V" } : Jvm.MethodName)) ∈ lw_tbl := lw_at lw_m5 13 rfl
theorem q1027 : (Jvm.Cond.instanceMethod ({ cls := "FarTypewriterModel", name := "nearTick", desc := "()V" } : Jvm.MethodName)) ∈ lw_all := lw_g (lw_at lw_m5 14 rfl) rfl
theorem q1028 : (Jvm.Cond.code ({ cls := "FarTypewriterModel", name := "nearTick", desc := "()V" } : Jvm.MethodName) prog_14_method_38_code (3 : Nat) (Option.none : Option Jvm.ClassFile.FieldType)) ∈ lw_all := lw_g (lw_at lw_m5 15 rfl) rfl
theorem q1029 : (Jvm.Cond.methodLink "FarTypewriterModel" (234 : Nat) ({ cls := "FarTypewriterModel", name := "nearNewest", desc := "()I" } : Jvm.MethodName)) ∈ lw_all := lw_g (lw_at lw_m5 16 rfl) rfl
theorem q1030 : (Jvm.Cond.privateMethod ({ cls := "FarTypewriterModel", name := "nearNewest", desc := "()I" } : Jvm.MethodName)) ∈ lw_tbl := lw_at lw_m5 17 rfl
theorem q1031 : (Jvm.Cond.instanceMethod ({ cls := "FarTypewriterModel", name := "nearNewest", desc := "()I" } : Jvm.MethodName)) ∈ lw_all := lw_g (lw_at lw_m5 18 rfl) rfl
theorem q1032 : (Jvm.Cond.code ({ cls := "FarTypewriterModel", name := "nearNewest", desc := "()I" } : Jvm.MethodName) prog_14_method_28_code (1 : Nat) (Option.some Jvm.ClassFile.FieldType.int)) ∈ lw_all := lw_g (lw_at lw_m5 19 rfl) rfl
theorem q1034 : (Jvm.Cond.instanceMethod ({ cls := "FarTypewriterModel", name := "carry", desc := "(IIII)I" } : Jvm.MethodName)) ∈ lw_all := lw_g (lw_at lw_m5 21 rfl) rfl
theorem q1035 : (Jvm.Cond.selects "FarTypewriterModel" ({ cls := "FarTypewriterModel", name := "carry", desc := "(IIII)I" } : Jvm.MethodName) ({ cls := "FarTypewriterModel", name := "carry", desc := "(IIII)I" } : Jvm.MethodName)) ∈ lw_all := lw_g (lw_at lw_m5 22 rfl) rfl
theorem q1036 : (Jvm.Cond.code ({ cls := "FarTypewriterModel", name := "carry", desc := "(IIII)I" } : Jvm.MethodName) prog_14_method_47_code (6 : Nat) (Option.some Jvm.ClassFile.FieldType.int)) ∈ lw_all := lw_g (lw_at lw_m5 23 rfl) rfl
theorem q1037 : (Jvm.Cond.methodLink "FarTypewriterModel" (264 : Nat) ({ cls := "FarTypewriterModel", name := "isLetterOf", desc := "(II)Z" } : Jvm.MethodName)) ∈ lw_all := lw_g (lw_at lw_m5 24 rfl) rfl
theorem q1038 : (Jvm.Cond.privateMethod ({ cls := "FarTypewriterModel", name := "isLetterOf", desc := "(II)Z" } : Jvm.MethodName)) ∈ lw_tbl := lw_at lw_m5 25 rfl
theorem q1039 : (Jvm.Cond.instanceMethod ({ cls := "FarTypewriterModel", name := "isLetterOf", desc := "(II)Z" } : Jvm.MethodName)) ∈ lw_all := lw_g (lw_at lw_m5 26 rfl) rfl
theorem q1040 : (Jvm.Cond.code ({ cls := "FarTypewriterModel", name := "isLetterOf", desc := "(II)Z" } : Jvm.MethodName) prog_14_method_46_code (3 : Nat) (Option.some Jvm.ClassFile.FieldType.boolean)) ∈ lw_all := lw_g (lw_at lw_m5 27 rfl) rfl
theorem q1041 : (Jvm.Cond.methodLink "FarTypewriterModel" (267 : Nat) ({ cls := "FarTypewriterModel", name := "takesHand", desc := "(II)V" } : Jvm.MethodName)) ∈ lw_all := lw_g (lw_at lw_m5 28 rfl) rfl
theorem q1042 : (Jvm.Cond.privateMethod ({ cls := "FarTypewriterModel", name := "takesHand", desc := "(II)V" } : Jvm.MethodName)) ∈ lw_tbl := lw_at lw_m5 29 rfl
theorem q1043 : (Jvm.Cond.instanceMethod ({ cls := "FarTypewriterModel", name := "takesHand", desc := "(II)V" } : Jvm.MethodName)) ∈ lw_all := lw_g (lw_at lw_m5 30 rfl) rfl
theorem q1044 : (Jvm.Cond.code ({ cls := "FarTypewriterModel", name := "takesHand", desc := "(II)V" } : Jvm.MethodName) prog_14_method_44_code (4 : Nat) (Option.none : Option Jvm.ClassFile.FieldType)) ∈ lw_all := lw_g (lw_at lw_m5 31 rfl) rfl
theorem q1045 : (Jvm.Cond.methodLink "FarTypewriterModel" (270 : Nat) ({ cls := "FarTypewriterModel", name := "drops", desc := "(II)V" } : Jvm.MethodName)) ∈ lw_all := lw_g (lw_at lw_m5 32 rfl) rfl
theorem q1046 : (Jvm.Cond.privateMethod ({ cls := "FarTypewriterModel", name := "drops", desc := "(II)V" } : Jvm.MethodName)) ∈ lw_tbl := lw_at lw_m5 33 rfl
theorem q1047 : (Jvm.Cond.instanceMethod ({ cls := "FarTypewriterModel", name := "drops", desc := "(II)V" } : Jvm.MethodName)) ∈ lw_all := lw_g (lw_at lw_m5 34 rfl) rfl
theorem q1048 : (Jvm.Cond.code ({ cls := "FarTypewriterModel", name := "drops", desc := "(II)V" } : Jvm.MethodName) prog_14_method_45_code (6 : Nat) (Option.none : Option Jvm.ClassFile.FieldType)) ∈ lw_all := lw_g (lw_at lw_m5 35 rfl) rfl
theorem q1049 : (Jvm.Cond.methodLink "FarTypewriterModel" (273 : Nat) ({ cls := "FarTypewriterModel", name := "taken", desc := "(IZ)V" } : Jvm.MethodName)) ∈ lw_all := lw_g (lw_at lw_m5 36 rfl) rfl
theorem q1050 : (Jvm.Cond.privateMethod ({ cls := "FarTypewriterModel", name := "taken", desc := "(IZ)V" } : Jvm.MethodName)) ∈ lw_tbl := lw_at lw_m5 37 rfl
theorem q1051 : (Jvm.Cond.instanceMethod ({ cls := "FarTypewriterModel", name := "taken", desc := "(IZ)V" } : Jvm.MethodName)) ∈ lw_all := lw_g (lw_at lw_m5 38 rfl) rfl
theorem q1052 : (Jvm.Cond.code ({ cls := "FarTypewriterModel", name := "taken", desc := "(IZ)V" } : Jvm.MethodName) prog_14_method_43_code (5 : Nat) (Option.none : Option Jvm.ClassFile.FieldType)) ∈ lw_all := lw_g (lw_at lw_m5 39 rfl) rfl
theorem q1053 : (Jvm.Cond.methodLink "FarTypewriterModel" (243 : Nat) ({ cls := "FarTypewriterModel", name := "twoAt", desc := "(I)I" } : Jvm.MethodName)) ∈ lw_all := lw_g (lw_at lw_m5 40 rfl) rfl
theorem q1054 : (Jvm.Cond.privateMethod ({ cls := "FarTypewriterModel", name := "twoAt", desc := "(I)I" } : Jvm.MethodName)) ∈ lw_tbl := lw_at lw_m5 41 rfl
theorem q1055 : (Jvm.Cond.instanceMethod ({ cls := "FarTypewriterModel", name := "twoAt", desc := "(I)I" } : Jvm.MethodName)) ∈ lw_all := lw_g (lw_at lw_m5 42 rfl) rfl
theorem q1056 : (Jvm.Cond.code ({ cls := "FarTypewriterModel", name := "twoAt", desc := "(I)I" } : Jvm.MethodName) prog_14_method_40_code (2 : Nat) (Option.some Jvm.ClassFile.FieldType.int)) ∈ lw_all := lw_g (lw_at lw_m5 43 rfl) rfl
theorem q1057 : (Jvm.Cond.methodLink "FarTypewriterModel" (258 : Nat) ({ cls := "FarTypewriterModel", name := "byFar", desc := "()V" } : Jvm.MethodName)) ∈ lw_all := lw_g (lw_at lw_m5 44 rfl) rfl
theorem q1058 : (Jvm.Cond.privateMethod ({ cls := "FarTypewriterModel", name := "byFar", desc := "()V" } : Jvm.MethodName)) ∈ lw_tbl := lw_at lw_m5 45 rfl
theorem q1059 : (Jvm.Cond.instanceMethod ({ cls := "FarTypewriterModel", name := "byFar", desc := "()V" } : Jvm.MethodName)) ∈ lw_all := lw_g (lw_at lw_m5 46 rfl) rfl
theorem q1060 : (Jvm.Cond.code ({ cls := "FarTypewriterModel", name := "byFar", desc := "()V" } : Jvm.MethodName) prog_14_method_41_code (4 : Nat) (Option.none : Option Jvm.ClassFile.FieldType)) ∈ lw_all := lw_g (lw_at lw_m5 47 rfl) rfl
theorem q1061 : (Jvm.Cond.methodLink "FarTypewriterModel" (246 : Nat) ({ cls := "FarTypewriterModel", name := "takesKey", desc := "(I)V" } : Jvm.MethodName)) ∈ lw_all := lw_g (lw_at lw_m5 48 rfl) rfl
theorem q1062 : (Jvm.Cond.privateMethod ({ cls := "FarTypewriterModel", name := "takesKey", desc := "(I)V" } : Jvm.MethodName)) ∈ lw_tbl := lw_at lw_m5 49 rfl
theorem q1063 : (Jvm.Cond.instanceMethod ({ cls := "FarTypewriterModel", name := "takesKey", desc := "(I)V" } : Jvm.MethodName)) ∈ lw_all := lw_g (lw_at lw_m5 50 rfl) rfl
theorem q1064 : (Jvm.Cond.code ({ cls := "FarTypewriterModel", name := "takesKey", desc := "(I)V" } : Jvm.MethodName) prog_14_method_13_code (2 : Nat) (Option.none : Option Jvm.ClassFile.FieldType)) ∈ lw_all := lw_g (lw_at lw_m5 51 rfl) rfl
theorem q1065 : (Jvm.Cond.methodLink "FarTypewriterModel" (100 : Nat) ({ cls := "FarTypewriterModel", name := "echo", desc := "(I)V" } : Jvm.MethodName)) ∈ lw_all := lw_g (lw_at lw_m5 52 rfl) rfl
theorem q1066 : (Jvm.Cond.privateMethod ({ cls := "FarTypewriterModel", name := "echo", desc := "(I)V" } : Jvm.MethodName)) ∈ lw_tbl := lw_at lw_m5 53 rfl
theorem q1067 : (Jvm.Cond.instanceMethod ({ cls := "FarTypewriterModel", name := "echo", desc := "(I)V" } : Jvm.MethodName)) ∈ lw_all := lw_g (lw_at lw_m5 54 rfl) rfl
theorem q1068 : (Jvm.Cond.code ({ cls := "FarTypewriterModel", name := "echo", desc := "(I)V" } : Jvm.MethodName) prog_14_method_9_code (2 : Nat) (Option.none : Option Jvm.ClassFile.FieldType)) ∈ lw_all := lw_g (lw_at lw_m5 55 rfl) rfl
theorem q1069 : (Jvm.Cond.methodLink "FarTypewriterModel" (109 : Nat) ({ cls := "FarTypewriterModel", name := "lines", desc := "(I)V" } : Jvm.MethodName)) ∈ lw_all := lw_g (lw_at lw_m5 56 rfl) rfl
theorem q1070 : (Jvm.Cond.privateMethod ({ cls := "FarTypewriterModel", name := "lines", desc := "(I)V" } : Jvm.MethodName)) ∈ lw_tbl := lw_at lw_m5 57 rfl
theorem q1071 : (Jvm.Cond.instanceMethod ({ cls := "FarTypewriterModel", name := "lines", desc := "(I)V" } : Jvm.MethodName)) ∈ lw_all := lw_g (lw_at lw_m5 58 rfl) rfl
theorem q1072 : (Jvm.Cond.code ({ cls := "FarTypewriterModel", name := "lines", desc := "(I)V" } : Jvm.MethodName) prog_14_method_10_code (2 : Nat) (Option.none : Option Jvm.ClassFile.FieldType)) ∈ lw_all := lw_g (lw_at lw_m5 59 rfl) rfl
theorem q1073 : (Jvm.Cond.methodLink "FarTypewriterModel" (112 : Nat) ({ cls := "FarTypewriterModel", name := "pass", desc := "(I)V" } : Jvm.MethodName)) ∈ lw_all := lw_g (lw_at lw_m5 60 rfl) rfl
theorem q1074 : (Jvm.Cond.privateMethod ({ cls := "FarTypewriterModel", name := "pass", desc := "(I)V" } : Jvm.MethodName)) ∈ lw_tbl := lw_at lw_m5 61 rfl
theorem q1075 : (Jvm.Cond.instanceMethod ({ cls := "FarTypewriterModel", name := "pass", desc := "(I)V" } : Jvm.MethodName)) ∈ lw_all := lw_g (lw_at lw_m5 62 rfl) rfl
theorem q1076 : (Jvm.Cond.code ({ cls := "FarTypewriterModel", name := "pass", desc := "(I)V" } : Jvm.MethodName) prog_14_method_11_code (3 : Nat) (Option.none : Option Jvm.ClassFile.FieldType)) ∈ lw_all := lw_g (lw_at lw_m5 63 rfl) rfl
theorem q1077 : (Jvm.Cond.methodLink "FarTypewriterModel" (115 : Nat) ({ cls := "FarTypewriterModel", name := "pages", desc := "(I)V" } : Jvm.MethodName)) ∈ lw_all := lw_g (lw_at lw_m5 64 rfl) rfl
theorem q1078 : (Jvm.Cond.privateMethod ({ cls := "FarTypewriterModel", name := "pages", desc := "(I)V" } : Jvm.MethodName)) ∈ lw_tbl := lw_at lw_m5 65 rfl
theorem q1079 : (Jvm.Cond.instanceMethod ({ cls := "FarTypewriterModel", name := "pages", desc := "(I)V" } : Jvm.MethodName)) ∈ lw_all := lw_g (lw_at lw_m5 66 rfl) rfl
theorem q1080 : (Jvm.Cond.code ({ cls := "FarTypewriterModel", name := "pages", desc := "(I)V" } : Jvm.MethodName) prog_14_method_12_code (3 : Nat) (Option.none : Option Jvm.ClassFile.FieldType)) ∈ lw_all := lw_g (lw_at lw_m5 67 rfl) rfl
theorem q1081 : (Jvm.Cond.methodLink "FarTypewriterModel" (249 : Nat) ({ cls := "FarTypewriterModel", name := "goBelow", desc := "(III)I" } : Jvm.MethodName)) ∈ lw_all := lw_g (lw_at lw_m5 68 rfl) rfl
theorem q1082 : (Jvm.Cond.privateMethod ({ cls := "FarTypewriterModel", name := "goBelow", desc := "(III)I" } : Jvm.MethodName)) ∈ lw_tbl := lw_at lw_m5 69 rfl
theorem q1083 : (Jvm.Cond.instanceMethod ({ cls := "FarTypewriterModel", name := "goBelow", desc := "(III)I" } : Jvm.MethodName)) ∈ lw_all := lw_g (lw_at lw_m5 70 rfl) rfl
theorem q1084 : (Jvm.Cond.code ({ cls := "FarTypewriterModel", name := "goBelow", desc := "(III)I" } : Jvm.MethodName) prog_14_method_30_code (6 : Nat) (Option.some Jvm.ClassFile.FieldType.int)) ∈ lw_all := lw_g (lw_at lw_m5 71 rfl) rfl
theorem q1085 : (Jvm.Cond.methodLink "FarTypewriterModel" (261 : Nat) ({ cls := "FarTypewriterModel", name := "byNear", desc := "()V" } : Jvm.MethodName)) ∈ lw_all := lw_g (lw_at lw_m5 72 rfl) rfl
theorem q1086 : (Jvm.Cond.privateMethod ({ cls := "FarTypewriterModel", name := "byNear", desc := "()V" } : Jvm.MethodName)) ∈ lw_tbl := lw_at lw_m5 73 rfl
theorem q1087 : (Jvm.Cond.instanceMethod ({ cls := "FarTypewriterModel", name := "byNear", desc := "()V" } : Jvm.MethodName)) ∈ lw_all := lw_g (lw_at lw_m5 74 rfl) rfl
theorem q1088 : (Jvm.Cond.code ({ cls := "FarTypewriterModel", name := "byNear", desc := "()V" } : Jvm.MethodName) prog_14_method_42_code (5 : Nat) (Option.none : Option Jvm.ClassFile.FieldType)) ∈ lw_all := lw_g (lw_at lw_m5 75 rfl) rfl
theorem q1089 : (Jvm.Cond.methodLink "FarTypewriterModel" (252 : Nat) ({ cls := "FarTypewriterModel", name := "laid", desc := "(III)V" } : Jvm.MethodName)) ∈ lw_all := lw_g (lw_at lw_m5 76 rfl) rfl
theorem q1090 : (Jvm.Cond.privateMethod ({ cls := "FarTypewriterModel", name := "laid", desc := "(III)V" } : Jvm.MethodName)) ∈ lw_tbl := lw_at lw_m5 77 rfl
theorem q1091 : (Jvm.Cond.instanceMethod ({ cls := "FarTypewriterModel", name := "laid", desc := "(III)V" } : Jvm.MethodName)) ∈ lw_all := lw_g (lw_at lw_m5 78 rfl) rfl
theorem q1092 : (Jvm.Cond.code ({ cls := "FarTypewriterModel", name := "laid", desc := "(III)V" } : Jvm.MethodName) prog_14_method_36_code (10 : Nat) (Option.none : Option Jvm.ClassFile.FieldType)) ∈ lw_all := lw_g (lw_at lw_m5 79 rfl) rfl
theorem q1093 : (Jvm.Cond.methodLink "FarTypewriterModel" (255 : Nat) ({ cls := "FarTypewriterModel", name := "settles", desc := "()V" } : Jvm.MethodName)) ∈ lw_all := lw_g (lw_at lw_m5 80 rfl) rfl
theorem q1094 : (Jvm.Cond.privateMethod ({ cls := "FarTypewriterModel", name := "settles", desc := "()V" } : Jvm.MethodName)) ∈ lw_tbl := lw_at lw_m5 81 rfl
theorem q1095 : (Jvm.Cond.instanceMethod ({ cls := "FarTypewriterModel", name := "settles", desc := "()V" } : Jvm.MethodName)) ∈ lw_all := lw_g (lw_at lw_m5 82 rfl) rfl
theorem q1096 : (Jvm.Cond.code ({ cls := "FarTypewriterModel", name := "settles", desc := "()V" } : Jvm.MethodName) prog_14_method_52_code (5 : Nat) (Option.none : Option Jvm.ClassFile.FieldType)) ∈ lw_all := lw_g (lw_at lw_m5 83 rfl) rfl
theorem q1098 : (Jvm.Cond.instanceMethod ({ cls := "FarTypewriterModel", name := "round", desc := "()I" } : Jvm.MethodName)) ∈ lw_all := lw_g (lw_at lw_m5 85 rfl) rfl
theorem q1099 : (Jvm.Cond.selects "FarTypewriterModel" ({ cls := "FarTypewriterModel", name := "round", desc := "()I" } : Jvm.MethodName) ({ cls := "FarTypewriterModel", name := "round", desc := "()I" } : Jvm.MethodName)) ∈ lw_all := lw_g (lw_at lw_m5 86 rfl) rfl
theorem q1100 : (Jvm.Cond.code ({ cls := "FarTypewriterModel", name := "round", desc := "()I" } : Jvm.MethodName) prog_14_method_48_code (3 : Nat) (Option.some Jvm.ClassFile.FieldType.int)) ∈ lw_all := lw_g (lw_at lw_m5 87 rfl) rfl
theorem q1101 : (Jvm.Cond.methodLink "FarTypewriterModel" (277 : Nat) ({ cls := "FarTypewriterModel", name := "tick", desc := "()I" } : Jvm.MethodName)) ∈ lw_all := lw_g (lw_at lw_m5 88 rfl) rfl
theorem q1103 : (Jvm.Cond.instanceMethod ({ cls := "FarTypewriterModel", name := "roam", desc := "()I" } : Jvm.MethodName)) ∈ lw_all := lw_g (lw_at lw_m5 90 rfl) rfl
theorem q1104 : (Jvm.Cond.selects "FarTypewriterModel" ({ cls := "FarTypewriterModel", name := "roam", desc := "()I" } : Jvm.MethodName) ({ cls := "FarTypewriterModel", name := "roam", desc := "()I" } : Jvm.MethodName)) ∈ lw_all := lw_g (lw_at lw_m5 91 rfl) rfl
theorem q1105 : (Jvm.Cond.code ({ cls := "FarTypewriterModel", name := "roam", desc := "()I" } : Jvm.MethodName) prog_14_method_49_code (1 : Nat) (Option.some Jvm.ClassFile.FieldType.int)) ∈ lw_all := lw_g (lw_at lw_m5 92 rfl) rfl
theorem q1107 : (Jvm.Cond.instanceMethod ({ cls := "FarTypewriterModel", name := "key", desc := "(I)I" } : Jvm.MethodName)) ∈ lw_all := lw_g (lw_at lw_m5 94 rfl) rfl
theorem q1108 : (Jvm.Cond.selects "FarTypewriterModel" ({ cls := "FarTypewriterModel", name := "key", desc := "(I)I" } : Jvm.MethodName) ({ cls := "FarTypewriterModel", name := "key", desc := "(I)I" } : Jvm.MethodName)) ∈ lw_all := lw_g (lw_at lw_m5 95 rfl) rfl
theorem q1109 : (Jvm.Cond.code ({ cls := "FarTypewriterModel", name := "key", desc := "(I)I" } : Jvm.MethodName) prog_14_method_51_code (7 : Nat) (Option.some Jvm.ClassFile.FieldType.int)) ∈ lw_all := lw_g (lw_at lw_m5 96 rfl) rfl
theorem q1110 : (Jvm.Cond.methodLink "FarTypewriterModel" (280 : Nat) ({ cls := "FarTypewriterModel", name := "guess", desc := "(IIII)V" } : Jvm.MethodName)) ∈ lw_all := lw_g (lw_at lw_m5 97 rfl) rfl
theorem q1111 : (Jvm.Cond.privateMethod ({ cls := "FarTypewriterModel", name := "guess", desc := "(IIII)V" } : Jvm.MethodName)) ∈ lw_tbl := lw_at lw_m5 98 rfl
theorem q1112 : (Jvm.Cond.instanceMethod ({ cls := "FarTypewriterModel", name := "guess", desc := "(IIII)V" } : Jvm.MethodName)) ∈ lw_all := lw_g (lw_at lw_m5 99 rfl) rfl
theorem q1113 : (Jvm.Cond.code ({ cls := "FarTypewriterModel", name := "guess", desc := "(IIII)V" } : Jvm.MethodName) prog_14_method_50_code (5 : Nat) (Option.none : Option Jvm.ClassFile.FieldType)) ∈ lw_all := lw_g (lw_at lw_m5 100 rfl) rfl
theorem q1115 : (Jvm.Cond.instanceMethod ({ cls := "FarTypewriterModel", name := "cell", desc := "(IIII)I" } : Jvm.MethodName)) ∈ lw_all := lw_g (lw_at lw_m5 102 rfl) rfl
theorem q1116 : (Jvm.Cond.selects "FarTypewriterModel" ({ cls := "FarTypewriterModel", name := "cell", desc := "(IIII)I" } : Jvm.MethodName) ({ cls := "FarTypewriterModel", name := "cell", desc := "(IIII)I" } : Jvm.MethodName)) ∈ lw_all := lw_g (lw_at lw_m5 103 rfl) rfl
theorem q1117 : (Jvm.Cond.code ({ cls := "FarTypewriterModel", name := "cell", desc := "(IIII)I" } : Jvm.MethodName) prog_14_method_54_code (7 : Nat) (Option.some Jvm.ClassFile.FieldType.int)) ∈ lw_all := lw_g (lw_at lw_m5 104 rfl) rfl
theorem q1118 : (Jvm.Cond.methodLink "FarTypewriterModel" (284 : Nat) ({ cls := "FarTypewriterModel", name := "screenOf", desc := "(I)I" } : Jvm.MethodName)) ∈ lw_all := lw_g (lw_at lw_m5 105 rfl) rfl
theorem q1119 : (Jvm.Cond.privateMethod ({ cls := "FarTypewriterModel", name := "screenOf", desc := "(I)I" } : Jvm.MethodName)) ∈ lw_tbl := lw_at lw_m5 106 rfl
theorem q1120 : (Jvm.Cond.instanceMethod ({ cls := "FarTypewriterModel", name := "screenOf", desc := "(I)I" } : Jvm.MethodName)) ∈ lw_all := lw_g (lw_at lw_m5 107 rfl) rfl
theorem q1121 : (Jvm.Cond.code ({ cls := "FarTypewriterModel", name := "screenOf", desc := "(I)I" } : Jvm.MethodName) prog_14_method_53_code (3 : Nat) (Option.some Jvm.ClassFile.FieldType.int)) ∈ lw_all := lw_g (lw_at lw_m5 108 rfl) rfl
theorem q1123 : (Jvm.Cond.instanceMethod ({ cls := "FarTypewriterModel", name := "cursor", desc := "(II)I" } : Jvm.MethodName)) ∈ lw_all := lw_g (lw_at lw_m5 110 rfl) rfl
theorem q1124 : (Jvm.Cond.selects "FarTypewriterModel" ({ cls := "FarTypewriterModel", name := "cursor", desc := "(II)I" } : Jvm.MethodName) ({ cls := "FarTypewriterModel", name := "cursor", desc := "(II)I" } : Jvm.MethodName)) ∈ lw_all := lw_g (lw_at lw_m5 111 rfl) rfl
theorem q1125 : (Jvm.Cond.code ({ cls := "FarTypewriterModel", name := "cursor", desc := "(II)I" } : Jvm.MethodName) prog_14_method_55_code (4 : Nat) (Option.some Jvm.ClassFile.FieldType.int)) ∈ lw_all := lw_g (lw_at lw_m5 112 rfl) rfl
theorem q1127 : (Jvm.Cond.instanceMethod ({ cls := "FarTypewriterModel", name := "alike", desc := "()Z" } : Jvm.MethodName)) ∈ lw_all := lw_g (lw_at lw_m5 114 rfl) rfl
theorem q1128 : (Jvm.Cond.selects "FarTypewriterModel" ({ cls := "FarTypewriterModel", name := "alike", desc := "()Z" } : Jvm.MethodName) ({ cls := "FarTypewriterModel", name := "alike", desc := "()Z" } : Jvm.MethodName)) ∈ lw_all := lw_g (lw_at lw_m5 115 rfl) rfl
theorem q1129 : (Jvm.Cond.code ({ cls := "FarTypewriterModel", name := "alike", desc := "()Z" } : Jvm.MethodName) prog_14_method_56_code (1 : Nat) (Option.some Jvm.ClassFile.FieldType.boolean)) ∈ lw_all := lw_g (lw_at lw_m5 116 rfl) rfl
theorem q1131 : (Jvm.Cond.instanceMethod ({ cls := "FarTypewriterModel", name := "state", desc := "(II)I" } : Jvm.MethodName)) ∈ lw_all := lw_g (lw_at lw_m5 118 rfl) rfl
theorem q1132 : (Jvm.Cond.selects "FarTypewriterModel" ({ cls := "FarTypewriterModel", name := "state", desc := "(II)I" } : Jvm.MethodName) ({ cls := "FarTypewriterModel", name := "state", desc := "(II)I" } : Jvm.MethodName)) ∈ lw_all := lw_g (lw_at lw_m5 119 rfl) rfl
theorem q1133 : (Jvm.Cond.code ({ cls := "FarTypewriterModel", name := "state", desc := "(II)I" } : Jvm.MethodName) prog_14_method_57_code (4 : Nat) (Option.some Jvm.ClassFile.FieldType.int)) ∈ lw_all := lw_g (lw_at lw_m5 120 rfl) rfl
theorem q1135 : (Jvm.Cond.instanceMethod ({ cls := "FarTypewriterModel", name := "kept", desc := "(II)I" } : Jvm.MethodName)) ∈ lw_all := lw_g (lw_at lw_m5 122 rfl) rfl
theorem q1136 : (Jvm.Cond.selects "FarTypewriterModel" ({ cls := "FarTypewriterModel", name := "kept", desc := "(II)I" } : Jvm.MethodName) ({ cls := "FarTypewriterModel", name := "kept", desc := "(II)I" } : Jvm.MethodName)) ∈ lw_all := lw_g (lw_at lw_m5 123 rfl) rfl
theorem q1137 : (Jvm.Cond.code ({ cls := "FarTypewriterModel", name := "kept", desc := "(II)I" } : Jvm.MethodName) prog_14_method_58_code (3 : Nat) (Option.some Jvm.ClassFile.FieldType.int)) ∈ lw_all := lw_g (lw_at lw_m5 124 rfl) rfl
theorem q1139 : (Jvm.Cond.instanceMethod ({ cls := "FarTypewriterModel", name := "guess", desc := "(II)I" } : Jvm.MethodName)) ∈ lw_all := lw_g (lw_at lw_m5 126 rfl) rfl
theorem q1140 : (Jvm.Cond.selects "FarTypewriterModel" ({ cls := "FarTypewriterModel", name := "guess", desc := "(II)I" } : Jvm.MethodName) ({ cls := "FarTypewriterModel", name := "guess", desc := "(II)I" } : Jvm.MethodName)) ∈ lw_all := lw_g (lw_at lw_m5 127 rfl) rfl
theorem q1141 : (Jvm.Cond.code ({ cls := "FarTypewriterModel", name := "guess", desc := "(II)I" } : Jvm.MethodName) prog_14_method_59_code (3 : Nat) (Option.some Jvm.ClassFile.FieldType.int)) ∈ lw_all := lw_g (lw_at lw_m5 128 rfl) rfl
theorem q1143 : (Jvm.Cond.instanceMethod ({ cls := "FarTypewriterModel", name := "letter", desc := "(III)I" } : Jvm.MethodName)) ∈ lw_all := lw_g (lw_at lw_m5 130 rfl) rfl
theorem q1144 : (Jvm.Cond.selects "FarTypewriterModel" ({ cls := "FarTypewriterModel", name := "letter", desc := "(III)I" } : Jvm.MethodName) ({ cls := "FarTypewriterModel", name := "letter", desc := "(III)I" } : Jvm.MethodName)) ∈ lw_all := lw_g (lw_at lw_m5 131 rfl) rfl
theorem q1145 : (Jvm.Cond.code ({ cls := "FarTypewriterModel", name := "letter", desc := "(III)I" } : Jvm.MethodName) prog_14_method_60_code (5 : Nat) (Option.some Jvm.ClassFile.FieldType.int)) ∈ lw_all := lw_g (lw_at lw_m5 132 rfl) rfl
theorem q1147 : (Jvm.Cond.instanceMethod ({ cls := "FarTypewriterModel", name := "count", desc := "(I)I" } : Jvm.MethodName)) ∈ lw_all := lw_g (lw_at lw_m5 134 rfl) rfl
theorem q1148 : (Jvm.Cond.selects "FarTypewriterModel" ({ cls := "FarTypewriterModel", name := "count", desc := "(I)I" } : Jvm.MethodName) ({ cls := "FarTypewriterModel", name := "count", desc := "(I)I" } : Jvm.MethodName)) ∈ lw_all := lw_g (lw_at lw_m5 135 rfl) rfl
theorem q1149 : (Jvm.Cond.code ({ cls := "FarTypewriterModel", name := "count", desc := "(I)I" } : Jvm.MethodName) prog_14_method_61_code (2 : Nat) (Option.some Jvm.ClassFile.FieldType.int)) ∈ lw_all := lw_g (lw_at lw_m5 136 rfl) rfl
theorem in_X9 : ∀ w ∈ wsX90, w ∈ lw_all := lw_in wsX90 [825, 827, 829, 831, 833, 835, 837, 839, 841, 843, 845, 847, 849, 851, 853, 855, 857, 859, 861, 863, 865, 867, 869, 871, 873, 875, 877, 879, 881, 883, 885, 887, 889, 891, 893, 895, 897, 899, 901, 903, 905, 907, 909, 911, 913, 915] (by decide +kernel) (by decide +kernel)
