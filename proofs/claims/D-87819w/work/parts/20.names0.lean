/-! FarTypewriter -/
set_option maxRecDepth 100000
def RX0 : String := "FarTypewriter"
def TX0 : u_T := fun k => match k with
  | 0 => ("FarTypewriter", "frame", "I", false)
  | 1 => ("FarTypewriter", "again", "I", false)
  | 2 => ("FarTypewriter", "clock", "I", false)
  | 3 => ("FarTypewriter", "counts", "[I", true)
  | 4 => ("FarTypewriter", "lines", "[LFarTypewriter$Line;", true)
  | 5 => ("FarTypewriter", "moving", "LFarTypewriter$Letter;", true)
  | 6 => ("FarTypewriter", "keys", "[B", true)
  | 7 => ("FarTypewriter", "typed", "I", false)
  | 8 => ("FarTypewriter", "known", "I", false)
  | 9 => ("FarTypewriter", "nearSent", "I", false)
  | 10 => ("FarTypewriter", "nearLast", "I", false)
  | 11 => ("FarTypewriter", "address", "I", false)
  | 12 => ("FarTypewriter", "sureTold", "I", false)
  | 13 => ("FarTypewriter", "nearOwes", "Z", false)
  | 14 => ("FarTypewriter", "near", "LFarTypewriter$Shelf;", true)
  | 15 => ("FarTypewriter", "program", "LFarTypewriter$Program;", false)
  | 16 => ("FarTypewriter", "kind", "I", false)
  | 17 => ("FarTypewriter", "pen", "I", false)
  | 18 => ("FarTypewriter", "took", "I", false)
  | 19 => ("FarTypewriter", "sure", "I", false)
  | 20 => ("FarTypewriter", "farSent", "I", false)
  | 21 => ("FarTypewriter", "farLast", "I", false)
  | 22 => ("FarTypewriter", "answers", "I", false)
  | 23 => ("FarTypewriter", "keysHeard", "I", false)
  | 24 => ("FarTypewriter", "farOwes", "Z", false)
  | 25 => ("FarTypewriter", "far", "LFarTypewriter$Shelf;", true)
  | 26 => ("FarTypewriter", "screen", "LFarTypewriter$Screen;", true)
  | 27 => ("FarTypewriter", "guesses", "[LFarTypewriter$Guess;", true)
  | 28 => ("FarTypewriter", "guessed", "I", false)
  | 29 => ("FarTypewriter", "age", "I", false)
  | 30 => ("FarTypewriter", "confirmed", "I", false)
  | 31 => ("FarTypewriter", "aside", "LFarTypewriter$Screen;", true)
  | _ => ("FarTypewriter", "scrolled", "LFarTypewriter$Screen;", true)
def tyX0 : Nat → FieldType := fun k => match k with
  | 0 => .int
  | 1 => .int
  | 2 => .int
  | 3 => .array .int
  | 4 => .array (.object "FarTypewriter$Line")
  | 5 => .object "FarTypewriter$Letter"
  | 6 => .array .byte
  | 7 => .int
  | 8 => .int
  | 9 => .int
  | 10 => .int
  | 11 => .int
  | 12 => .int
  | 13 => .boolean
  | 14 => .object "FarTypewriter$Shelf"
  | 15 => .object "FarTypewriter$Program"
  | 16 => .int
  | 17 => .int
  | 18 => .int
  | 19 => .int
  | 20 => .int
  | 21 => .int
  | 22 => .int
  | 23 => .int
  | 24 => .boolean
  | 25 => .object "FarTypewriter$Shelf"
  | 26 => .object "FarTypewriter$Screen"
  | 27 => .array (.object "FarTypewriter$Guess")
  | 28 => .int
  | 29 => .int
  | 30 => .int
  | 31 => .object "FarTypewriter$Screen"
  | _ => .object "FarTypewriter$Screen"
abbrev wsX00 : List Cond := u_ws RX0 TX0 33
set_option maxRecDepth 100000 in
theorem nmX0 : ∀ a, a < 33 → ∀ b, b < 33 → a ≠ b → (TX0 a).2.1 ≠ (TX0 b).2.1 := by decide +kernel
set_option maxRecDepth 100000 in
theorem tyX0_ok : ∀ k, k < 33 → parseFieldDescriptor (TX0 k).2.2.1 = some (tyX0 k) := by decide +kernel
abbrev cX0_init : ByteArray := prog_1_method_3_code
def yX0_init : MethodName := ⟨RX0, "<init>", "()V"⟩
theorem dX0_init_0 : decode cX0_init 0 = .ok (.aload_n 0, 1) := by decide +kernel
theorem dX0_init_1 : decode cX0_init 1 = .ok (.invokespecial 18, 3) := by decide +kernel
theorem dX0_init_4 : decode cX0_init 4 = .ok (.aload_n 0, 1) := by decide +kernel
theorem dX0_init_5 : decode cX0_init 5 = .ok (.iconst 2, 1) := by decide +kernel
theorem dX0_init_6 : decode cX0_init 6 = .ok (.putfield 21, 3) := by decide +kernel
theorem dX0_init_9 : decode cX0_init 9 = .ok (.aload_n 0, 1) := by decide +kernel
theorem dX0_init_10 : decode cX0_init 10 = .ok (.iconst 5, 1) := by decide +kernel
theorem dX0_init_11 : decode cX0_init 11 = .ok (.putfield 25, 3) := by decide +kernel
theorem dX0_init_14 : decode cX0_init 14 = .ok (.aload_n 0, 1) := by decide +kernel
theorem dX0_init_15 : decode cX0_init 15 = .ok (.bipush 10, 2) := by decide +kernel
theorem dX0_init_17 : decode cX0_init 17 = .ok (.newarray .int, 2) := by decide +kernel
theorem dX0_init_19 : decode cX0_init 19 = .ok (.putfield 28, 3) := by decide +kernel
theorem dX0_init_22 : decode cX0_init 22 = .ok (.aload_n 0, 1) := by decide +kernel
theorem dX0_init_23 : decode cX0_init 23 = .ok (.iconst 2, 1) := by decide +kernel
theorem dX0_init_24 : decode cX0_init 24 = .ok (.anewarray 32, 3) := by decide +kernel
theorem dX0_init_27 : decode cX0_init 27 = .ok (.dup, 1) := by decide +kernel
theorem dX0_init_28 : decode cX0_init 28 = .ok (.iconst 0, 1) := by decide +kernel
theorem dX0_init_29 : decode cX0_init 29 = .ok (.new 32, 3) := by decide +kernel
theorem dX0_init_32 : decode cX0_init 32 = .ok (.dup, 1) := by decide +kernel
theorem dX0_init_33 : decode cX0_init 33 = .ok (.invokespecial 34, 3) := by decide +kernel
theorem dX0_init_36 : decode cX0_init 36 = .ok (.aastore, 1) := by decide +kernel
theorem dX0_init_37 : decode cX0_init 37 = .ok (.dup, 1) := by decide +kernel
theorem dX0_init_38 : decode cX0_init 38 = .ok (.iconst 1, 1) := by decide +kernel
theorem dX0_init_39 : decode cX0_init 39 = .ok (.new 32, 3) := by decide +kernel
theorem dX0_init_42 : decode cX0_init 42 = .ok (.dup, 1) := by decide +kernel
theorem dX0_init_43 : decode cX0_init 43 = .ok (.invokespecial 34, 3) := by decide +kernel
theorem dX0_init_46 : decode cX0_init 46 = .ok (.aastore, 1) := by decide +kernel
theorem dX0_init_47 : decode cX0_init 47 = .ok (.putfield 35, 3) := by decide +kernel
theorem dX0_init_50 : decode cX0_init 50 = .ok (.aload_n 0, 1) := by decide +kernel
theorem dX0_init_51 : decode cX0_init 51 = .ok (.new 39, 3) := by decide +kernel
theorem dX0_init_54 : decode cX0_init 54 = .ok (.dup, 1) := by decide +kernel
theorem dX0_init_55 : decode cX0_init 55 = .ok (.invokespecial 41, 3) := by decide +kernel
theorem dX0_init_58 : decode cX0_init 58 = .ok (.putfield 42, 3) := by decide +kernel
theorem dX0_init_61 : decode cX0_init 61 = .ok (.aload_n 0, 1) := by decide +kernel
theorem dX0_init_62 : decode cX0_init 62 = .ok (.sipush 1000, 3) := by decide +kernel
theorem dX0_init_65 : decode cX0_init 65 = .ok (.newarray .byte, 2) := by decide +kernel
theorem dX0_init_67 : decode cX0_init 67 = .ok (.putfield 46, 3) := by decide +kernel
theorem dX0_init_70 : decode cX0_init 70 = .ok (.aload_n 0, 1) := by decide +kernel
theorem dX0_init_71 : decode cX0_init 71 = .ok (.iconst 1, 1) := by decide +kernel
theorem dX0_init_72 : decode cX0_init 72 = .ok (.putfield 50, 3) := by decide +kernel
theorem dX0_init_75 : decode cX0_init 75 = .ok (.aload_n 0, 1) := by decide +kernel
theorem dX0_init_76 : decode cX0_init 76 = .ok (.new 53, 3) := by decide +kernel
theorem dX0_init_79 : decode cX0_init 79 = .ok (.dup, 1) := by decide +kernel
theorem dX0_init_80 : decode cX0_init 80 = .ok (.invokespecial 55, 3) := by decide +kernel
theorem dX0_init_83 : decode cX0_init 83 = .ok (.putfield 56, 3) := by decide +kernel
theorem dX0_init_86 : decode cX0_init 86 = .ok (.aload_n 0, 1) := by decide +kernel
theorem dX0_init_87 : decode cX0_init 87 = .ok (.new 1, 3) := by decide +kernel
theorem dX0_init_90 : decode cX0_init 90 = .ok (.dup, 1) := by decide +kernel
theorem dX0_init_91 : decode cX0_init 91 = .ok (.invokespecial 3, 3) := by decide +kernel
theorem dX0_init_94 : decode cX0_init 94 = .ok (.putfield 60, 3) := by decide +kernel
theorem dX0_init_97 : decode cX0_init 97 = .ok (.aload_n 0, 1) := by decide +kernel
theorem dX0_init_98 : decode cX0_init 98 = .ok (.iconst 1, 1) := by decide +kernel
theorem dX0_init_99 : decode cX0_init 99 = .ok (.putfield 64, 3) := by decide +kernel
theorem dX0_init_102 : decode cX0_init 102 = .ok (.aload_n 0, 1) := by decide +kernel
theorem dX0_init_103 : decode cX0_init 103 = .ok (.new 53, 3) := by decide +kernel
theorem dX0_init_106 : decode cX0_init 106 = .ok (.dup, 1) := by decide +kernel
theorem dX0_init_107 : decode cX0_init 107 = .ok (.invokespecial 55, 3) := by decide +kernel
theorem dX0_init_110 : decode cX0_init 110 = .ok (.putfield 67, 3) := by decide +kernel
theorem dX0_init_113 : decode cX0_init 113 = .ok (.aload_n 0, 1) := by decide +kernel
theorem dX0_init_114 : decode cX0_init 114 = .ok (.new 70, 3) := by decide +kernel
theorem dX0_init_117 : decode cX0_init 117 = .ok (.dup, 1) := by decide +kernel
theorem dX0_init_118 : decode cX0_init 118 = .ok (.invokespecial 72, 3) := by decide +kernel
theorem dX0_init_121 : decode cX0_init 121 = .ok (.putfield 73, 3) := by decide +kernel
theorem dX0_init_124 : decode cX0_init 124 = .ok (.aload_n 0, 1) := by decide +kernel
theorem dX0_init_125 : decode cX0_init 125 = .ok (.bipush 60, 2) := by decide +kernel
theorem dX0_init_127 : decode cX0_init 127 = .ok (.anewarray 77, 3) := by decide +kernel
theorem dX0_init_130 : decode cX0_init 130 = .ok (.putfield 79, 3) := by decide +kernel
theorem dX0_init_133 : decode cX0_init 133 = .ok (.aload_n 0, 1) := by decide +kernel
theorem dX0_init_134 : decode cX0_init 134 = .ok (.iconst 1, 1) := by decide +kernel
theorem dX0_init_135 : decode cX0_init 135 = .ok (.putfield 83, 3) := by decide +kernel
theorem dX0_init_138 : decode cX0_init 138 = .ok (.aload_n 0, 1) := by decide +kernel
theorem dX0_init_139 : decode cX0_init 139 = .ok (.new 70, 3) := by decide +kernel
theorem dX0_init_142 : decode cX0_init 142 = .ok (.dup, 1) := by decide +kernel
theorem dX0_init_143 : decode cX0_init 143 = .ok (.invokespecial 72, 3) := by decide +kernel
theorem dX0_init_146 : decode cX0_init 146 = .ok (.putfield 86, 3) := by decide +kernel
theorem dX0_init_149 : decode cX0_init 149 = .ok (.aload_n 0, 1) := by decide +kernel
theorem dX0_init_150 : decode cX0_init 150 = .ok (.new 70, 3) := by decide +kernel
theorem dX0_init_153 : decode cX0_init 153 = .ok (.dup, 1) := by decide +kernel
theorem dX0_init_154 : decode cX0_init 154 = .ok (.invokespecial 72, 3) := by decide +kernel
theorem dX0_init_157 : decode cX0_init 157 = .ok (.putfield 89, 3) := by decide +kernel
theorem dX0_init_160 : decode cX0_init 160 = .ok (.iconst 0, 1) := by decide +kernel
theorem dX0_init_161 : decode cX0_init 161 = .ok (.istore_n 1, 1) := by decide +kernel
theorem dX0_init_162 : decode cX0_init 162 = .ok (.iload_n 1, 1) := by decide +kernel
theorem dX0_init_163 : decode cX0_init 163 = .ok (.bipush 60, 2) := by decide +kernel
theorem dX0_init_165 : decode cX0_init 165 = .ok (.if_icmp .ge 22, 3) := by decide +kernel
theorem dX0_init_168 : decode cX0_init 168 = .ok (.aload_n 0, 1) := by decide +kernel
theorem dX0_init_169 : decode cX0_init 169 = .ok (.getfield 79, 3) := by decide +kernel
theorem dX0_init_172 : decode cX0_init 172 = .ok (.iload_n 1, 1) := by decide +kernel
theorem dX0_init_173 : decode cX0_init 173 = .ok (.new 77, 3) := by decide +kernel
theorem dX0_init_176 : decode cX0_init 176 = .ok (.dup, 1) := by decide +kernel
theorem dX0_init_177 : decode cX0_init 177 = .ok (.invokespecial 92, 3) := by decide +kernel
theorem dX0_init_180 : decode cX0_init 180 = .ok (.aastore, 1) := by decide +kernel
theorem dX0_init_181 : decode cX0_init 181 = .ok (.iinc 1 1, 3) := by decide +kernel
theorem dX0_init_184 : decode cX0_init 184 = .ok (.goto (-22), 3) := by decide +kernel
theorem dX0_init_187 : decode cX0_init 187 = .ok (.aload_n 0, 1) := by decide +kernel
theorem dX0_init_188 : decode cX0_init 188 = .ok (.invokevirtual 93, 3) := by decide +kernel
theorem dX0_init_191 : decode cX0_init 191 = .ok (.return_, 1) := by decide +kernel
abbrev cX0_begin : ByteArray := prog_1_method_4_code
def yX0_begin : MethodName := ⟨RX0, "begin", "()V"⟩
theorem dX0_begin_0 : decode cX0_begin 0 = .ok (.aload_n 0, 1) := by decide +kernel
theorem dX0_begin_1 : decode cX0_begin 1 = .ok (.getfield 73, 3) := by decide +kernel
theorem dX0_begin_4 : decode cX0_begin 4 = .ok (.new 70, 3) := by decide +kernel
theorem dX0_begin_7 : decode cX0_begin 7 = .ok (.dup, 1) := by decide +kernel
theorem dX0_begin_8 : decode cX0_begin 8 = .ok (.invokespecial 72, 3) := by decide +kernel
theorem dX0_begin_11 : decode cX0_begin 11 = .ok (.invokevirtual 96, 3) := by decide +kernel
theorem dX0_begin_14 : decode cX0_begin 14 = .ok (.aload_n 0, 1) := by decide +kernel
theorem dX0_begin_15 : decode cX0_begin 15 = .ok (.getfield 56, 3) := by decide +kernel
theorem dX0_begin_18 : decode cX0_begin 18 = .ok (.iconst 0, 1) := by decide +kernel
theorem dX0_begin_19 : decode cX0_begin 19 = .ok (.putfield 100, 3) := by decide +kernel
theorem dX0_begin_22 : decode cX0_begin 22 = .ok (.aload_n 0, 1) := by decide +kernel
theorem dX0_begin_23 : decode cX0_begin 23 = .ok (.getfield 67, 3) := by decide +kernel
theorem dX0_begin_26 : decode cX0_begin 26 = .ok (.iconst 0, 1) := by decide +kernel
theorem dX0_begin_27 : decode cX0_begin 27 = .ok (.putfield 100, 3) := by decide +kernel
theorem dX0_begin_30 : decode cX0_begin 30 = .ok (.aload_n 0, 1) := by decide +kernel
theorem dX0_begin_31 : decode cX0_begin 31 = .ok (.getfield 56, 3) := by decide +kernel
theorem dX0_begin_34 : decode cX0_begin 34 = .ok (.astore_n 1, 1) := by decide +kernel
theorem dX0_begin_35 : decode cX0_begin 35 = .ok (.aload_n 1, 1) := by decide +kernel
theorem dX0_begin_36 : decode cX0_begin 36 = .ok (.invokevirtual 103, 3) := by decide +kernel
theorem dX0_begin_39 : decode cX0_begin 39 = .ok (.astore_n 2, 1) := by decide +kernel
theorem dX0_begin_40 : decode cX0_begin 40 = .ok (.aload_n 2, 1) := by decide +kernel
theorem dX0_begin_41 : decode cX0_begin 41 = .ok (.getfield 107, 3) := by decide +kernel
theorem dX0_begin_44 : decode cX0_begin 44 = .ok (.aload_n 0, 1) := by decide +kernel
theorem dX0_begin_45 : decode cX0_begin 45 = .ok (.getfield 73, 3) := by decide +kernel
theorem dX0_begin_48 : decode cX0_begin 48 = .ok (.invokevirtual 96, 3) := by decide +kernel
theorem dX0_begin_51 : decode cX0_begin 51 = .ok (.aload_n 2, 1) := by decide +kernel
theorem dX0_begin_52 : decode cX0_begin 52 = .ok (.iconst 0, 1) := by decide +kernel
theorem dX0_begin_53 : decode cX0_begin 53 = .ok (.putfield 110, 3) := by decide +kernel
theorem dX0_begin_56 : decode cX0_begin 56 = .ok (.aload_n 2, 1) := by decide +kernel
theorem dX0_begin_57 : decode cX0_begin 57 = .ok (.iconst 0, 1) := by decide +kernel
theorem dX0_begin_58 : decode cX0_begin 58 = .ok (.putfield 113, 3) := by decide +kernel
theorem dX0_begin_61 : decode cX0_begin 61 = .ok (.aload_n 1, 1) := by decide +kernel
theorem dX0_begin_62 : decode cX0_begin 62 = .ok (.aload_n 0, 1) := by decide +kernel
theorem dX0_begin_63 : decode cX0_begin 63 = .ok (.getfield 67, 3) := by decide +kernel
theorem dX0_begin_66 : decode cX0_begin 66 = .ok (.if_acmp .ne 6, 3) := by decide +kernel
theorem dX0_begin_69 : decode cX0_begin 69 = .ok (.goto 11, 3) := by decide +kernel
theorem dX0_begin_72 : decode cX0_begin 72 = .ok (.aload_n 0, 1) := by decide +kernel
theorem dX0_begin_73 : decode cX0_begin 73 = .ok (.getfield 67, 3) := by decide +kernel
theorem dX0_begin_76 : decode cX0_begin 76 = .ok (.astore_n 1, 1) := by decide +kernel
theorem dX0_begin_77 : decode cX0_begin 77 = .ok (.goto (-42), 3) := by decide +kernel
theorem dX0_begin_80 : decode cX0_begin 80 = .ok (.iconst 0, 1) := by decide +kernel
theorem dX0_begin_81 : decode cX0_begin 81 = .ok (.istore_n 1, 1) := by decide +kernel
theorem dX0_begin_82 : decode cX0_begin 82 = .ok (.iload_n 1, 1) := by decide +kernel
theorem dX0_begin_83 : decode cX0_begin 83 = .ok (.aload_n 0, 1) := by decide +kernel
theorem dX0_begin_84 : decode cX0_begin 84 = .ok (.getfield 28, 3) := by decide +kernel
theorem dX0_begin_87 : decode cX0_begin 87 = .ok (.arraylength, 1) := by decide +kernel
theorem dX0_begin_88 : decode cX0_begin 88 = .ok (.if_icmp .ge 16, 3) := by decide +kernel
theorem dX0_begin_91 : decode cX0_begin 91 = .ok (.aload_n 0, 1) := by decide +kernel
theorem dX0_begin_92 : decode cX0_begin 92 = .ok (.getfield 28, 3) := by decide +kernel
theorem dX0_begin_95 : decode cX0_begin 95 = .ok (.iload_n 1, 1) := by decide +kernel
theorem dX0_begin_96 : decode cX0_begin 96 = .ok (.iconst 0, 1) := by decide +kernel
theorem dX0_begin_97 : decode cX0_begin 97 = .ok (.iastore, 1) := by decide +kernel
theorem dX0_begin_98 : decode cX0_begin 98 = .ok (.iinc 1 1, 3) := by decide +kernel
theorem dX0_begin_101 : decode cX0_begin 101 = .ok (.goto (-19), 3) := by decide +kernel
theorem dX0_begin_104 : decode cX0_begin 104 = .ok (.aload_n 0, 1) := by decide +kernel
theorem dX0_begin_105 : decode cX0_begin 105 = .ok (.getfield 35, 3) := by decide +kernel
theorem dX0_begin_108 : decode cX0_begin 108 = .ok (.iconst 0, 1) := by decide +kernel
theorem dX0_begin_109 : decode cX0_begin 109 = .ok (.aaload, 1) := by decide +kernel
theorem dX0_begin_110 : decode cX0_begin 110 = .ok (.iconst 0, 1) := by decide +kernel
theorem dX0_begin_111 : decode cX0_begin 111 = .ok (.putfield 116, 3) := by decide +kernel
theorem dX0_begin_114 : decode cX0_begin 114 = .ok (.aload_n 0, 1) := by decide +kernel
theorem dX0_begin_115 : decode cX0_begin 115 = .ok (.getfield 35, 3) := by decide +kernel
theorem dX0_begin_118 : decode cX0_begin 118 = .ok (.iconst 1, 1) := by decide +kernel
theorem dX0_begin_119 : decode cX0_begin 119 = .ok (.aaload, 1) := by decide +kernel
theorem dX0_begin_120 : decode cX0_begin 120 = .ok (.iconst 0, 1) := by decide +kernel
theorem dX0_begin_121 : decode cX0_begin 121 = .ok (.putfield 116, 3) := by decide +kernel
theorem dX0_begin_124 : decode cX0_begin 124 = .ok (.aload_n 0, 1) := by decide +kernel
theorem dX0_begin_125 : decode cX0_begin 125 = .ok (.iconst 0, 1) := by decide +kernel
theorem dX0_begin_126 : decode cX0_begin 126 = .ok (.putfield 117, 3) := by decide +kernel
theorem dX0_begin_129 : decode cX0_begin 129 = .ok (.aload_n 0, 1) := by decide +kernel
theorem dX0_begin_130 : decode cX0_begin 130 = .ok (.iconst 0, 1) := by decide +kernel
theorem dX0_begin_131 : decode cX0_begin 131 = .ok (.putfield 120, 3) := by decide +kernel
theorem dX0_begin_134 : decode cX0_begin 134 = .ok (.aload_n 0, 1) := by decide +kernel
theorem dX0_begin_135 : decode cX0_begin 135 = .ok (.iconst 0, 1) := by decide +kernel
theorem dX0_begin_136 : decode cX0_begin 136 = .ok (.putfield 123, 3) := by decide +kernel
theorem dX0_begin_139 : decode cX0_begin 139 = .ok (.aload_n 0, 1) := by decide +kernel
theorem dX0_begin_140 : decode cX0_begin 140 = .ok (.iconst 0, 1) := by decide +kernel
theorem dX0_begin_141 : decode cX0_begin 141 = .ok (.putfield 126, 3) := by decide +kernel
theorem dX0_begin_144 : decode cX0_begin 144 = .ok (.aload_n 0, 1) := by decide +kernel
theorem dX0_begin_145 : decode cX0_begin 145 = .ok (.iconst 0, 1) := by decide +kernel
theorem dX0_begin_146 : decode cX0_begin 146 = .ok (.putfield 129, 3) := by decide +kernel
theorem dX0_begin_149 : decode cX0_begin 149 = .ok (.aload_n 0, 1) := by decide +kernel
theorem dX0_begin_150 : decode cX0_begin 150 = .ok (.iconst 1, 1) := by decide +kernel
theorem dX0_begin_151 : decode cX0_begin 151 = .ok (.putfield 50, 3) := by decide +kernel
theorem dX0_begin_154 : decode cX0_begin 154 = .ok (.aload_n 0, 1) := by decide +kernel
theorem dX0_begin_155 : decode cX0_begin 155 = .ok (.iconst 0, 1) := by decide +kernel
theorem dX0_begin_156 : decode cX0_begin 156 = .ok (.putfield 132, 3) := by decide +kernel
theorem dX0_begin_159 : decode cX0_begin 159 = .ok (.aload_n 0, 1) := by decide +kernel
theorem dX0_begin_160 : decode cX0_begin 160 = .ok (.iconst 0, 1) := by decide +kernel
theorem dX0_begin_161 : decode cX0_begin 161 = .ok (.putfield 135, 3) := by decide +kernel
theorem dX0_begin_164 : decode cX0_begin 164 = .ok (.aload_n 0, 1) := by decide +kernel
theorem dX0_begin_165 : decode cX0_begin 165 = .ok (.iconst 0, 1) := by decide +kernel
theorem dX0_begin_166 : decode cX0_begin 166 = .ok (.putfield 139, 3) := by decide +kernel
theorem dX0_begin_169 : decode cX0_begin 169 = .ok (.aload_n 0, 1) := by decide +kernel
theorem dX0_begin_170 : decode cX0_begin 170 = .ok (.iconst 0, 1) := by decide +kernel
theorem dX0_begin_171 : decode cX0_begin 171 = .ok (.putfield 142, 3) := by decide +kernel
theorem dX0_begin_174 : decode cX0_begin 174 = .ok (.aload_n 0, 1) := by decide +kernel
theorem dX0_begin_175 : decode cX0_begin 175 = .ok (.iconst 0, 1) := by decide +kernel
theorem dX0_begin_176 : decode cX0_begin 176 = .ok (.putfield 143, 3) := by decide +kernel
theorem dX0_begin_179 : decode cX0_begin 179 = .ok (.aload_n 0, 1) := by decide +kernel
theorem dX0_begin_180 : decode cX0_begin 180 = .ok (.iconst 0, 1) := by decide +kernel
theorem dX0_begin_181 : decode cX0_begin 181 = .ok (.putfield 146, 3) := by decide +kernel
theorem dX0_begin_184 : decode cX0_begin 184 = .ok (.aload_n 0, 1) := by decide +kernel
theorem dX0_begin_185 : decode cX0_begin 185 = .ok (.iconst 0, 1) := by decide +kernel
theorem dX0_begin_186 : decode cX0_begin 186 = .ok (.putfield 149, 3) := by decide +kernel
theorem dX0_begin_189 : decode cX0_begin 189 = .ok (.aload_n 0, 1) := by decide +kernel
theorem dX0_begin_190 : decode cX0_begin 190 = .ok (.iconst 1, 1) := by decide +kernel
theorem dX0_begin_191 : decode cX0_begin 191 = .ok (.putfield 64, 3) := by decide +kernel
theorem dX0_begin_194 : decode cX0_begin 194 = .ok (.aload_n 0, 1) := by decide +kernel
theorem dX0_begin_195 : decode cX0_begin 195 = .ok (.iconst 0, 1) := by decide +kernel
theorem dX0_begin_196 : decode cX0_begin 196 = .ok (.putfield 152, 3) := by decide +kernel
theorem dX0_begin_199 : decode cX0_begin 199 = .ok (.aload_n 0, 1) := by decide +kernel
theorem dX0_begin_200 : decode cX0_begin 200 = .ok (.iconst 0, 1) := by decide +kernel
theorem dX0_begin_201 : decode cX0_begin 201 = .ok (.putfield 155, 3) := by decide +kernel
theorem dX0_begin_204 : decode cX0_begin 204 = .ok (.aload_n 0, 1) := by decide +kernel
theorem dX0_begin_205 : decode cX0_begin 205 = .ok (.iconst 0, 1) := by decide +kernel
theorem dX0_begin_206 : decode cX0_begin 206 = .ok (.putfield 158, 3) := by decide +kernel
theorem dX0_begin_209 : decode cX0_begin 209 = .ok (.aload_n 0, 1) := by decide +kernel
theorem dX0_begin_210 : decode cX0_begin 210 = .ok (.iconst 1, 1) := by decide +kernel
theorem dX0_begin_211 : decode cX0_begin 211 = .ok (.putfield 83, 3) := by decide +kernel
theorem dX0_begin_214 : decode cX0_begin 214 = .ok (.aload_n 0, 1) := by decide +kernel
theorem dX0_begin_215 : decode cX0_begin 215 = .ok (.iconst 0, 1) := by decide +kernel
theorem dX0_begin_216 : decode cX0_begin 216 = .ok (.putfield 161, 3) := by decide +kernel
theorem dX0_begin_219 : decode cX0_begin 219 = .ok (.return_, 1) := by decide +kernel
abbrev cX0_open : ByteArray := prog_1_method_5_code
def yX0_open : MethodName := ⟨RX0, "open", "(III)Z"⟩
theorem dX0_open_0 : decode cX0_open 0 = .ok (.iload_n 1, 1) := by decide +kernel
theorem dX0_open_1 : decode cX0_open 1 = .ok (.ifCond .lt 30, 3) := by decide +kernel
theorem dX0_open_4 : decode cX0_open 4 = .ok (.iload_n 1, 1) := by decide +kernel
theorem dX0_open_5 : decode cX0_open 5 = .ok (.iconst 3, 1) := by decide +kernel
theorem dX0_open_6 : decode cX0_open 6 = .ok (.if_icmp .gt 25, 3) := by decide +kernel
theorem dX0_open_9 : decode cX0_open 9 = .ok (.iload_n 2, 1) := by decide +kernel
theorem dX0_open_10 : decode cX0_open 10 = .ok (.iconst 1, 1) := by decide +kernel
theorem dX0_open_11 : decode cX0_open 11 = .ok (.if_icmp .lt 20, 3) := by decide +kernel
theorem dX0_open_14 : decode cX0_open 14 = .ok (.iload_n 2, 1) := by decide +kernel
theorem dX0_open_15 : decode cX0_open 15 = .ok (.bipush 20, 2) := by decide +kernel
theorem dX0_open_17 : decode cX0_open 17 = .ok (.if_icmp .gt 14, 3) := by decide +kernel
theorem dX0_open_20 : decode cX0_open 20 = .ok (.iload_n 3, 1) := by decide +kernel
theorem dX0_open_21 : decode cX0_open 21 = .ok (.iload_n 2, 1) := by decide +kernel
theorem dX0_open_22 : decode cX0_open 22 = .ok (.if_icmp .lt 9, 3) := by decide +kernel
theorem dX0_open_25 : decode cX0_open 25 = .ok (.iload_n 3, 1) := by decide +kernel
theorem dX0_open_26 : decode cX0_open 26 = .ok (.bipush 50, 2) := by decide +kernel
theorem dX0_open_28 : decode cX0_open 28 = .ok (.if_icmp .le 5, 3) := by decide +kernel
theorem dX0_open_31 : decode cX0_open 31 = .ok (.iconst 0, 1) := by decide +kernel
theorem dX0_open_32 : decode cX0_open 32 = .ok (.ireturn, 1) := by decide +kernel
theorem dX0_open_33 : decode cX0_open 33 = .ok (.aload_n 0, 1) := by decide +kernel
theorem dX0_open_34 : decode cX0_open 34 = .ok (.invokevirtual 93, 3) := by decide +kernel
theorem dX0_open_37 : decode cX0_open 37 = .ok (.aload_n 0, 1) := by decide +kernel
theorem dX0_open_38 : decode cX0_open 38 = .ok (.iload_n 1, 1) := by decide +kernel
theorem dX0_open_39 : decode cX0_open 39 = .ok (.putfield 164, 3) := by decide +kernel
theorem dX0_open_42 : decode cX0_open 42 = .ok (.aload_n 0, 1) := by decide +kernel
theorem dX0_open_43 : decode cX0_open 43 = .ok (.iload_n 1, 1) := by decide +kernel
theorem dX0_open_44 : decode cX0_open 44 = .ok (.invokestatic 167, 3) := by decide +kernel
theorem dX0_open_47 : decode cX0_open 47 = .ok (.putfield 60, 3) := by decide +kernel
theorem dX0_open_50 : decode cX0_open 50 = .ok (.aload_n 0, 1) := by decide +kernel
theorem dX0_open_51 : decode cX0_open 51 = .ok (.iload_n 2, 1) := by decide +kernel
theorem dX0_open_52 : decode cX0_open 52 = .ok (.putfield 21, 3) := by decide +kernel
theorem dX0_open_55 : decode cX0_open 55 = .ok (.aload_n 0, 1) := by decide +kernel
theorem dX0_open_56 : decode cX0_open 56 = .ok (.iload_n 3, 1) := by decide +kernel
theorem dX0_open_57 : decode cX0_open 57 = .ok (.putfield 25, 3) := by decide +kernel
theorem dX0_open_60 : decode cX0_open 60 = .ok (.iconst 1, 1) := by decide +kernel
theorem dX0_open_61 : decode cX0_open 61 = .ok (.ireturn, 1) := by decide +kernel
abbrev cX0_made : ByteArray := prog_1_method_2_code
def yX0_made : MethodName := ⟨RX0, "made", "(I)LFarTypewriter$Program;"⟩
theorem dX0_made_0 : decode cX0_made 0 = .ok (.iload_n 0, 1) := by decide +kernel
theorem dX0_made_1 : decode cX0_made 1 = .ok (.ifCond .ne 13, 3) := by decide +kernel
theorem dX0_made_4 : decode cX0_made 4 = .ok (.new 1, 3) := by decide +kernel
theorem dX0_made_7 : decode cX0_made 7 = .ok (.dup, 1) := by decide +kernel
theorem dX0_made_8 : decode cX0_made 8 = .ok (.invokespecial 3, 3) := by decide +kernel
theorem dX0_made_11 : decode cX0_made 11 = .ok (.goto 40, 3) := by decide +kernel
theorem dX0_made_14 : decode cX0_made 14 = .ok (.iload_n 0, 1) := by decide +kernel
theorem dX0_made_15 : decode cX0_made 15 = .ok (.iconst 1, 1) := by decide +kernel
theorem dX0_made_16 : decode cX0_made 16 = .ok (.if_icmp .ne 13, 3) := by decide +kernel
theorem dX0_made_19 : decode cX0_made 19 = .ok (.new 9, 3) := by decide +kernel
theorem dX0_made_22 : decode cX0_made 22 = .ok (.dup, 1) := by decide +kernel
theorem dX0_made_23 : decode cX0_made 23 = .ok (.invokespecial 11, 3) := by decide +kernel
theorem dX0_made_26 : decode cX0_made 26 = .ok (.goto 25, 3) := by decide +kernel
theorem dX0_made_29 : decode cX0_made 29 = .ok (.iload_n 0, 1) := by decide +kernel
theorem dX0_made_30 : decode cX0_made 30 = .ok (.iconst 2, 1) := by decide +kernel
theorem dX0_made_31 : decode cX0_made 31 = .ok (.if_icmp .ne 13, 3) := by decide +kernel
theorem dX0_made_34 : decode cX0_made 34 = .ok (.new 12, 3) := by decide +kernel
theorem dX0_made_37 : decode cX0_made 37 = .ok (.dup, 1) := by decide +kernel
theorem dX0_made_38 : decode cX0_made 38 = .ok (.invokespecial 14, 3) := by decide +kernel
theorem dX0_made_41 : decode cX0_made 41 = .ok (.goto 10, 3) := by decide +kernel
theorem dX0_made_44 : decode cX0_made 44 = .ok (.new 15, 3) := by decide +kernel
theorem dX0_made_47 : decode cX0_made 47 = .ok (.dup, 1) := by decide +kernel
theorem dX0_made_48 : decode cX0_made 48 = .ok (.invokespecial 17, 3) := by decide +kernel
theorem dX0_made_51 : decode cX0_made 51 = .ok (.areturn, 1) := by decide +kernel
abbrev cX0_program : ByteArray := prog_1_method_6_code
def yX0_program : MethodName := ⟨RX0, "program", "(I)I"⟩
theorem dX0_program_0 : decode cX0_program 0 = .ok (.iload_n 1, 1) := by decide +kernel
theorem dX0_program_1 : decode cX0_program 1 = .ok (.ifCond .lt 8, 3) := by decide +kernel
theorem dX0_program_4 : decode cX0_program 4 = .ok (.iload_n 1, 1) := by decide +kernel
theorem dX0_program_5 : decode cX0_program 5 = .ok (.iconst 3, 1) := by decide +kernel
theorem dX0_program_6 : decode cX0_program 6 = .ok (.if_icmp .le 5, 3) := by decide +kernel
theorem dX0_program_9 : decode cX0_program 9 = .ok (.iconst (-1), 1) := by decide +kernel
theorem dX0_program_10 : decode cX0_program 10 = .ok (.ireturn, 1) := by decide +kernel
theorem dX0_program_11 : decode cX0_program 11 = .ok (.aload_n 0, 1) := by decide +kernel
theorem dX0_program_12 : decode cX0_program 12 = .ok (.getfield 164, 3) := by decide +kernel
theorem dX0_program_15 : decode cX0_program 15 = .ok (.istore_n 2, 1) := by decide +kernel
theorem dX0_program_16 : decode cX0_program 16 = .ok (.aload_n 0, 1) := by decide +kernel
theorem dX0_program_17 : decode cX0_program 17 = .ok (.iload_n 1, 1) := by decide +kernel
theorem dX0_program_18 : decode cX0_program 18 = .ok (.putfield 164, 3) := by decide +kernel
theorem dX0_program_21 : decode cX0_program 21 = .ok (.aload_n 0, 1) := by decide +kernel
theorem dX0_program_22 : decode cX0_program 22 = .ok (.iload_n 1, 1) := by decide +kernel
theorem dX0_program_23 : decode cX0_program 23 = .ok (.invokestatic 167, 3) := by decide +kernel
theorem dX0_program_26 : decode cX0_program 26 = .ok (.putfield 60, 3) := by decide +kernel
theorem dX0_program_29 : decode cX0_program 29 = .ok (.iload_n 2, 1) := by decide +kernel
theorem dX0_program_30 : decode cX0_program 30 = .ok (.ireturn, 1) := by decide +kernel
abbrev cX0_write : ByteArray := prog_1_method_7_code
def yX0_write : MethodName := ⟨RX0, "write", "(I)Z"⟩
theorem dX0_write_0 : decode cX0_write 0 = .ok (.iload_n 1, 1) := by decide +kernel
theorem dX0_write_1 : decode cX0_write 1 = .ok (.invokestatic 171, 3) := by decide +kernel
theorem dX0_write_4 : decode cX0_write 4 = .ok (.ifCond .eq 18, 3) := by decide +kernel
theorem dX0_write_7 : decode cX0_write 7 = .ok (.aload_n 0, 1) := by decide +kernel
theorem dX0_write_8 : decode cX0_write 8 = .ok (.getfield 73, 3) := by decide +kernel
theorem dX0_write_11 : decode cX0_write 11 = .ok (.iload_n 1, 1) := by decide +kernel
theorem dX0_write_12 : decode cX0_write 12 = .ok (.aload_n 0, 1) := by decide +kernel
theorem dX0_write_13 : decode cX0_write 13 = .ok (.getfield 139, 3) := by decide +kernel
theorem dX0_write_16 : decode cX0_write 16 = .ok (.invokevirtual 175, 3) := by decide +kernel
theorem dX0_write_19 : decode cX0_write 19 = .ok (.goto 37, 3) := by decide +kernel
theorem dX0_write_22 : decode cX0_write 22 = .ok (.iload_n 1, 1) := by decide +kernel
theorem dX0_write_23 : decode cX0_write 23 = .ok (.bipush 13, 2) := by decide +kernel
theorem dX0_write_25 : decode cX0_write 25 = .ok (.if_icmp .ne 13, 3) := by decide +kernel
theorem dX0_write_28 : decode cX0_write 28 = .ok (.aload_n 0, 1) := by decide +kernel
theorem dX0_write_29 : decode cX0_write 29 = .ok (.getfield 73, 3) := by decide +kernel
theorem dX0_write_32 : decode cX0_write 32 = .ok (.invokevirtual 179, 3) := by decide +kernel
theorem dX0_write_35 : decode cX0_write 35 = .ok (.goto 21, 3) := by decide +kernel
theorem dX0_write_38 : decode cX0_write 38 = .ok (.iload_n 1, 1) := by decide +kernel
theorem dX0_write_39 : decode cX0_write 39 = .ok (.bipush 8, 2) := by decide +kernel
theorem dX0_write_41 : decode cX0_write 41 = .ok (.if_icmp .ne 13, 3) := by decide +kernel
theorem dX0_write_44 : decode cX0_write 44 = .ok (.aload_n 0, 1) := by decide +kernel
theorem dX0_write_45 : decode cX0_write 45 = .ok (.getfield 73, 3) := by decide +kernel
theorem dX0_write_48 : decode cX0_write 48 = .ok (.invokevirtual 182, 3) := by decide +kernel
theorem dX0_write_51 : decode cX0_write 51 = .ok (.goto 5, 3) := by decide +kernel
theorem dX0_write_54 : decode cX0_write 54 = .ok (.iconst 0, 1) := by decide +kernel
theorem dX0_write_55 : decode cX0_write 55 = .ok (.ireturn, 1) := by decide +kernel
theorem dX0_write_56 : decode cX0_write 56 = .ok (.iconst 1, 1) := by decide +kernel
theorem dX0_write_57 : decode cX0_write 57 = .ok (.ireturn, 1) := by decide +kernel
abbrev cX0_isLetter : ByteArray := prog_1_method_1_code
def yX0_isLetter : MethodName := ⟨RX0, "isLetter", "(I)Z"⟩
theorem dX0_isLetter_0 : decode cX0_isLetter 0 = .ok (.iload_n 0, 1) := by decide +kernel
theorem dX0_isLetter_1 : decode cX0_isLetter 1 = .ok (.bipush 32, 2) := by decide +kernel
theorem dX0_isLetter_3 : decode cX0_isLetter 3 = .ok (.if_icmp .lt 13, 3) := by decide +kernel
theorem dX0_isLetter_6 : decode cX0_isLetter 6 = .ok (.iload_n 0, 1) := by decide +kernel
theorem dX0_isLetter_7 : decode cX0_isLetter 7 = .ok (.bipush 126, 2) := by decide +kernel
theorem dX0_isLetter_9 : decode cX0_isLetter 9 = .ok (.if_icmp .gt 7, 3) := by decide +kernel
theorem dX0_isLetter_12 : decode cX0_isLetter 12 = .ok (.iconst 1, 1) := by decide +kernel
theorem dX0_isLetter_13 : decode cX0_isLetter 13 = .ok (.goto 4, 3) := by decide +kernel
theorem dX0_isLetter_16 : decode cX0_isLetter 16 = .ok (.iconst 0, 1) := by decide +kernel
theorem dX0_isLetter_17 : decode cX0_isLetter 17 = .ok (.ireturn, 1) := by decide +kernel
abbrev cX0_move : ByteArray := prog_1_method_8_code
def yX0_move : MethodName := ⟨RX0, "move", "(II)Z"⟩
theorem dX0_move_0 : decode cX0_move 0 = .ok (.iload_n 1, 1) := by decide +kernel
theorem dX0_move_1 : decode cX0_move 1 = .ok (.iload_n 2, 1) := by decide +kernel
theorem dX0_move_2 : decode cX0_move 2 = .ok (.invokestatic 185, 3) := by decide +kernel
theorem dX0_move_5 : decode cX0_move 5 = .ok (.ifCond .ne 5, 3) := by decide +kernel
theorem dX0_move_8 : decode cX0_move 8 = .ok (.iconst 0, 1) := by decide +kernel
theorem dX0_move_9 : decode cX0_move 9 = .ok (.ireturn, 1) := by decide +kernel
theorem dX0_move_10 : decode cX0_move 10 = .ok (.aload_n 0, 1) := by decide +kernel
theorem dX0_move_11 : decode cX0_move 11 = .ok (.getfield 73, 3) := by decide +kernel
theorem dX0_move_14 : decode cX0_move 14 = .ok (.iload_n 1, 1) := by decide +kernel
theorem dX0_move_15 : decode cX0_move 15 = .ok (.putfield 189, 3) := by decide +kernel
theorem dX0_move_18 : decode cX0_move 18 = .ok (.aload_n 0, 1) := by decide +kernel
theorem dX0_move_19 : decode cX0_move 19 = .ok (.getfield 73, 3) := by decide +kernel
theorem dX0_move_22 : decode cX0_move 22 = .ok (.iload_n 2, 1) := by decide +kernel
theorem dX0_move_23 : decode cX0_move 23 = .ok (.putfield 192, 3) := by decide +kernel
theorem dX0_move_26 : decode cX0_move 26 = .ok (.iconst 1, 1) := by decide +kernel
theorem dX0_move_27 : decode cX0_move 27 = .ok (.ireturn, 1) := by decide +kernel
abbrev cX0_wipe : ByteArray := prog_1_method_9_code
def yX0_wipe : MethodName := ⟨RX0, "wipe", "(I)Z"⟩
theorem dX0_wipe_0 : decode cX0_wipe 0 = .ok (.aload_n 0, 1) := by decide +kernel
theorem dX0_wipe_1 : decode cX0_wipe 1 = .ok (.getfield 73, 3) := by decide +kernel
theorem dX0_wipe_4 : decode cX0_wipe 4 = .ok (.iload_n 1, 1) := by decide +kernel
theorem dX0_wipe_5 : decode cX0_wipe 5 = .ok (.invokevirtual 195, 3) := by decide +kernel
theorem dX0_wipe_8 : decode cX0_wipe 8 = .ok (.iconst 1, 1) := by decide +kernel
theorem dX0_wipe_9 : decode cX0_wipe 9 = .ok (.ireturn, 1) := by decide +kernel
theorem dX0_wipe_10 : decode cX0_wipe 10 = .ok (.astore_n 2, 1) := by decide +kernel
theorem dX0_wipe_11 : decode cX0_wipe 11 = .ok (.iconst 0, 1) := by decide +kernel
theorem dX0_wipe_12 : decode cX0_wipe 12 = .ok (.ireturn, 1) := by decide +kernel
abbrev cX0_scroll : ByteArray := prog_1_method_10_code
def yX0_scroll : MethodName := ⟨RX0, "scroll", "(I)Z"⟩
theorem dX0_scroll_0 : decode cX0_scroll 0 = .ok (.iload_n 1, 1) := by decide +kernel
theorem dX0_scroll_1 : decode cX0_scroll 1 = .ok (.iconst 1, 1) := by decide +kernel
theorem dX0_scroll_2 : decode cX0_scroll 2 = .ok (.if_icmp .lt 9, 3) := by decide +kernel
theorem dX0_scroll_5 : decode cX0_scroll 5 = .ok (.iload_n 1, 1) := by decide +kernel
theorem dX0_scroll_6 : decode cX0_scroll 6 = .ok (.bipush 8, 2) := by decide +kernel
theorem dX0_scroll_8 : decode cX0_scroll 8 = .ok (.if_icmp .le 5, 3) := by decide +kernel
theorem dX0_scroll_11 : decode cX0_scroll 11 = .ok (.iconst 0, 1) := by decide +kernel
theorem dX0_scroll_12 : decode cX0_scroll 12 = .ok (.ireturn, 1) := by decide +kernel
theorem dX0_scroll_13 : decode cX0_scroll 13 = .ok (.aload_n 0, 1) := by decide +kernel
theorem dX0_scroll_14 : decode cX0_scroll 14 = .ok (.getfield 73, 3) := by decide +kernel
theorem dX0_scroll_17 : decode cX0_scroll 17 = .ok (.iload_n 1, 1) := by decide +kernel
theorem dX0_scroll_18 : decode cX0_scroll 18 = .ok (.invokevirtual 201, 3) := by decide +kernel
theorem dX0_scroll_21 : decode cX0_scroll 21 = .ok (.iconst 1, 1) := by decide +kernel
theorem dX0_scroll_22 : decode cX0_scroll 22 = .ok (.ireturn, 1) := by decide +kernel
abbrev cX0_pen : ByteArray := prog_1_method_11_code
def yX0_pen : MethodName := ⟨RX0, "pen", "(I)I"⟩
theorem dX0_pen_0 : decode cX0_pen 0 = .ok (.iload_n 1, 1) := by decide +kernel
theorem dX0_pen_1 : decode cX0_pen 1 = .ok (.ifCond .lt 8, 3) := by decide +kernel
theorem dX0_pen_4 : decode cX0_pen 4 = .ok (.iload_n 1, 1) := by decide +kernel
theorem dX0_pen_5 : decode cX0_pen 5 = .ok (.iconst 3, 1) := by decide +kernel
theorem dX0_pen_6 : decode cX0_pen 6 = .ok (.if_icmp .le 5, 3) := by decide +kernel
theorem dX0_pen_9 : decode cX0_pen 9 = .ok (.iconst (-1), 1) := by decide +kernel
theorem dX0_pen_10 : decode cX0_pen 10 = .ok (.ireturn, 1) := by decide +kernel
theorem dX0_pen_11 : decode cX0_pen 11 = .ok (.aload_n 0, 1) := by decide +kernel
theorem dX0_pen_12 : decode cX0_pen 12 = .ok (.getfield 139, 3) := by decide +kernel
theorem dX0_pen_15 : decode cX0_pen 15 = .ok (.istore_n 2, 1) := by decide +kernel
theorem dX0_pen_16 : decode cX0_pen 16 = .ok (.aload_n 0, 1) := by decide +kernel
theorem dX0_pen_17 : decode cX0_pen 17 = .ok (.iload_n 1, 1) := by decide +kernel
theorem dX0_pen_18 : decode cX0_pen 18 = .ok (.putfield 139, 3) := by decide +kernel
theorem dX0_pen_21 : decode cX0_pen 21 = .ok (.iload_n 2, 1) := by decide +kernel
theorem dX0_pen_22 : decode cX0_pen 22 = .ok (.ireturn, 1) := by decide +kernel
abbrev cX0_key : ByteArray := prog_1_method_12_code
def yX0_key : MethodName := ⟨RX0, "key", "(I)I"⟩
theorem dX0_key_0 : decode cX0_key 0 = .ok (.iload_n 1, 1) := by decide +kernel
theorem dX0_key_1 : decode cX0_key 1 = .ok (.invokestatic 171, 3) := by decide +kernel
theorem dX0_key_4 : decode cX0_key 4 = .ok (.ifCond .ne 25, 3) := by decide +kernel
theorem dX0_key_7 : decode cX0_key 7 = .ok (.iload_n 1, 1) := by decide +kernel
theorem dX0_key_8 : decode cX0_key 8 = .ok (.bipush 8, 2) := by decide +kernel
theorem dX0_key_10 : decode cX0_key 10 = .ok (.if_icmp .eq 19, 3) := by decide +kernel
theorem dX0_key_13 : decode cX0_key 13 = .ok (.iload_n 1, 1) := by decide +kernel
theorem dX0_key_14 : decode cX0_key 14 = .ok (.bipush 13, 2) := by decide +kernel
theorem dX0_key_16 : decode cX0_key 16 = .ok (.if_icmp .eq 13, 3) := by decide +kernel
theorem dX0_key_19 : decode cX0_key 19 = .ok (.iload_n 1, 1) := by decide +kernel
theorem dX0_key_20 : decode cX0_key 20 = .ok (.iconst 1, 1) := by decide +kernel
theorem dX0_key_21 : decode cX0_key 21 = .ok (.if_icmp .lt 12, 3) := by decide +kernel
theorem dX0_key_24 : decode cX0_key 24 = .ok (.iload_n 1, 1) := by decide +kernel
theorem dX0_key_25 : decode cX0_key 25 = .ok (.iconst 4, 1) := by decide +kernel
theorem dX0_key_26 : decode cX0_key 26 = .ok (.if_icmp .gt 7, 3) := by decide +kernel
theorem dX0_key_29 : decode cX0_key 29 = .ok (.iconst 1, 1) := by decide +kernel
theorem dX0_key_30 : decode cX0_key 30 = .ok (.goto 4, 3) := by decide +kernel
theorem dX0_key_33 : decode cX0_key 33 = .ok (.iconst 0, 1) := by decide +kernel
theorem dX0_key_34 : decode cX0_key 34 = .ok (.istore_n 2, 1) := by decide +kernel
theorem dX0_key_35 : decode cX0_key 35 = .ok (.iload_n 2, 1) := by decide +kernel
theorem dX0_key_36 : decode cX0_key 36 = .ok (.ifCond .eq 13, 3) := by decide +kernel
theorem dX0_key_39 : decode cX0_key 39 = .ok (.aload_n 0, 1) := by decide +kernel
theorem dX0_key_40 : decode cX0_key 40 = .ok (.getfield 120, 3) := by decide +kernel
theorem dX0_key_43 : decode cX0_key 43 = .ok (.sipush 1000, 3) := by decide +kernel
theorem dX0_key_46 : decode cX0_key 46 = .ok (.if_icmp .ne 5, 3) := by decide +kernel
theorem dX0_key_49 : decode cX0_key 49 = .ok (.iconst (-1), 1) := by decide +kernel
theorem dX0_key_50 : decode cX0_key 50 = .ok (.ireturn, 1) := by decide +kernel
theorem dX0_key_51 : decode cX0_key 51 = .ok (.aload_n 0, 1) := by decide +kernel
theorem dX0_key_52 : decode cX0_key 52 = .ok (.iload_n 1, 1) := by decide +kernel
theorem dX0_key_53 : decode cX0_key 53 = .ok (.invokevirtual 204, 3) := by decide +kernel
theorem dX0_key_56 : decode cX0_key 56 = .ok (.aload_n 0, 1) := by decide +kernel
theorem dX0_key_57 : decode cX0_key 57 = .ok (.getfield 46, 3) := by decide +kernel
theorem dX0_key_60 : decode cX0_key 60 = .ok (.aload_n 0, 1) := by decide +kernel
theorem dX0_key_61 : decode cX0_key 61 = .ok (.getfield 120, 3) := by decide +kernel
theorem dX0_key_64 : decode cX0_key 64 = .ok (.iload_n 1, 1) := by decide +kernel
theorem dX0_key_65 : decode cX0_key 65 = .ok (.i2b, 1) := by decide +kernel
theorem dX0_key_66 : decode cX0_key 66 = .ok (.bastore, 1) := by decide +kernel
theorem dX0_key_67 : decode cX0_key 67 = .ok (.aload_n 0, 1) := by decide +kernel
theorem dX0_key_68 : decode cX0_key 68 = .ok (.dup, 1) := by decide +kernel
theorem dX0_key_69 : decode cX0_key 69 = .ok (.getfield 120, 3) := by decide +kernel
theorem dX0_key_72 : decode cX0_key 72 = .ok (.iconst 1, 1) := by decide +kernel
theorem dX0_key_73 : decode cX0_key 73 = .ok (.iadd, 1) := by decide +kernel
theorem dX0_key_74 : decode cX0_key 74 = .ok (.putfield 120, 3) := by decide +kernel
theorem dX0_key_77 : decode cX0_key 77 = .ok (.aload_n 0, 1) := by decide +kernel
theorem dX0_key_78 : decode cX0_key 78 = .ok (.getfield 120, 3) := by decide +kernel
theorem dX0_key_81 : decode cX0_key 81 = .ok (.ireturn, 1) := by decide +kernel
abbrev cX0_guess : ByteArray := prog_1_method_14_code
def yX0_guess : MethodName := ⟨RX0, "guess", "(I)V"⟩
theorem dX0_guess_0 : decode cX0_guess 0 = .ok (.aload_n 0, 1) := by decide +kernel
theorem dX0_guess_1 : decode cX0_guess 1 = .ok (.getfield 60, 3) := by decide +kernel
theorem dX0_guess_4 : decode cX0_guess 4 = .ok (.invokevirtual 214, 3) := by decide +kernel
theorem dX0_guess_7 : decode cX0_guess 7 = .ok (.ifCond .eq 20, 3) := by decide +kernel
theorem dX0_guess_10 : decode cX0_guess 10 = .ok (.iload_n 1, 1) := by decide +kernel
theorem dX0_guess_11 : decode cX0_guess 11 = .ok (.iconst 3, 1) := by decide +kernel
theorem dX0_guess_12 : decode cX0_guess 12 = .ok (.if_icmp .eq 26, 3) := by decide +kernel
theorem dX0_guess_15 : decode cX0_guess 15 = .ok (.iload_n 1, 1) := by decide +kernel
theorem dX0_guess_16 : decode cX0_guess 16 = .ok (.iconst 4, 1) := by decide +kernel
theorem dX0_guess_17 : decode cX0_guess 17 = .ok (.if_icmp .eq 21, 3) := by decide +kernel
theorem dX0_guess_20 : decode cX0_guess 20 = .ok (.iload_n 1, 1) := by decide +kernel
theorem dX0_guess_21 : decode cX0_guess 21 = .ok (.invokestatic 171, 3) := by decide +kernel
theorem dX0_guess_24 : decode cX0_guess 24 = .ok (.ifCond .ne 14, 3) := by decide +kernel
theorem dX0_guess_27 : decode cX0_guess 27 = .ok (.aload_n 0, 1) := by decide +kernel
theorem dX0_guess_28 : decode cX0_guess 28 = .ok (.dup, 1) := by decide +kernel
theorem dX0_guess_29 : decode cX0_guess 29 = .ok (.getfield 83, 3) := by decide +kernel
theorem dX0_guess_32 : decode cX0_guess 32 = .ok (.iconst 1, 1) := by decide +kernel
theorem dX0_guess_33 : decode cX0_guess 33 = .ok (.iadd, 1) := by decide +kernel
theorem dX0_guess_34 : decode cX0_guess 34 = .ok (.putfield 83, 3) := by decide +kernel
theorem dX0_guess_37 : decode cX0_guess 37 = .ok (.return_, 1) := by decide +kernel
theorem dX0_guess_38 : decode cX0_guess 38 = .ok (.aload_n 0, 1) := by decide +kernel
theorem dX0_guess_39 : decode cX0_guess 39 = .ok (.aload_n 0, 1) := by decide +kernel
theorem dX0_guess_40 : decode cX0_guess 40 = .ok (.getfield 83, 3) := by decide +kernel
theorem dX0_guess_43 : decode cX0_guess 43 = .ok (.invokevirtual 220, 3) := by decide +kernel
theorem dX0_guess_46 : decode cX0_guess 46 = .ok (.astore_n 2, 1) := by decide +kernel
theorem dX0_guess_47 : decode cX0_guess 47 = .ok (.iload_n 1, 1) := by decide +kernel
theorem dX0_guess_48 : decode cX0_guess 48 = .ok (.invokestatic 171, 3) := by decide +kernel
theorem dX0_guess_51 : decode cX0_guess 51 = .ok (.istore_n 3, 1) := by decide +kernel
theorem dX0_guess_52 : decode cX0_guess 52 = .ok (.iload_n 3, 1) := by decide +kernel
theorem dX0_guess_53 : decode cX0_guess 53 = .ok (.ifCond .eq 12, 3) := by decide +kernel
theorem dX0_guess_56 : decode cX0_guess 56 = .ok (.aload_n 2, 1) := by decide +kernel
theorem dX0_guess_57 : decode cX0_guess 57 = .ok (.getfield 192, 3) := by decide +kernel
theorem dX0_guess_60 : decode cX0_guess 60 = .ok (.iconst 1, 1) := by decide +kernel
theorem dX0_guess_61 : decode cX0_guess 61 = .ok (.iadd, 1) := by decide +kernel
theorem dX0_guess_62 : decode cX0_guess 62 = .ok (.goto 18, 3) := by decide +kernel
theorem dX0_guess_65 : decode cX0_guess 65 = .ok (.aload_n 2, 1) := by decide +kernel
theorem dX0_guess_66 : decode cX0_guess 66 = .ok (.getfield 192, 3) := by decide +kernel
theorem dX0_guess_69 : decode cX0_guess 69 = .ok (.iload_n 1, 1) := by decide +kernel
theorem dX0_guess_70 : decode cX0_guess 70 = .ok (.iconst 3, 1) := by decide +kernel
theorem dX0_guess_71 : decode cX0_guess 71 = .ok (.if_icmp .ne 7, 3) := by decide +kernel
theorem dX0_guess_74 : decode cX0_guess 74 = .ok (.iconst 1, 1) := by decide +kernel
theorem dX0_guess_75 : decode cX0_guess 75 = .ok (.goto 4, 3) := by decide +kernel
theorem dX0_guess_78 : decode cX0_guess 78 = .ok (.iconst (-1), 1) := by decide +kernel
theorem dX0_guess_79 : decode cX0_guess 79 = .ok (.iadd, 1) := by decide +kernel
theorem dX0_guess_80 : decode cX0_guess 80 = .ok (.istore 4, 2) := by decide +kernel
theorem dX0_guess_82 : decode cX0_guess 82 = .ok (.iload_n 3, 1) := by decide +kernel
theorem dX0_guess_83 : decode cX0_guess 83 = .ok (.ifCond .ne 16, 3) := by decide +kernel
theorem dX0_guess_86 : decode cX0_guess 86 = .ok (.iload 4, 2) := by decide +kernel
theorem dX0_guess_88 : decode cX0_guess 88 = .ok (.ifCond .lt 10, 3) := by decide +kernel
theorem dX0_guess_91 : decode cX0_guess 91 = .ok (.iload 4, 2) := by decide +kernel
theorem dX0_guess_93 : decode cX0_guess 93 = .ok (.bipush 24, 2) := by decide +kernel
theorem dX0_guess_95 : decode cX0_guess 95 = .ok (.if_icmp .lt 4, 3) := by decide +kernel
theorem dX0_guess_98 : decode cX0_guess 98 = .ok (.return_, 1) := by decide +kernel
theorem dX0_guess_99 : decode cX0_guess 99 = .ok (.aload_n 0, 1) := by decide +kernel
theorem dX0_guess_100 : decode cX0_guess 100 = .ok (.getfield 158, 3) := by decide +kernel
theorem dX0_guess_103 : decode cX0_guess 103 = .ok (.bipush 60, 2) := by decide +kernel
theorem dX0_guess_105 : decode cX0_guess 105 = .ok (.if_icmp .ne 4, 3) := by decide +kernel
theorem dX0_guess_108 : decode cX0_guess 108 = .ok (.return_, 1) := by decide +kernel
theorem dX0_guess_109 : decode cX0_guess 109 = .ok (.aload_n 0, 1) := by decide +kernel
theorem dX0_guess_110 : decode cX0_guess 110 = .ok (.getfield 79, 3) := by decide +kernel
theorem dX0_guess_113 : decode cX0_guess 113 = .ok (.aload_n 0, 1) := by decide +kernel
theorem dX0_guess_114 : decode cX0_guess 114 = .ok (.getfield 158, 3) := by decide +kernel
theorem dX0_guess_117 : decode cX0_guess 117 = .ok (.aaload, 1) := by decide +kernel
theorem dX0_guess_118 : decode cX0_guess 118 = .ok (.astore 5, 2) := by decide +kernel
theorem dX0_guess_120 : decode cX0_guess 120 = .ok (.aload_n 0, 1) := by decide +kernel
theorem dX0_guess_121 : decode cX0_guess 121 = .ok (.dup, 1) := by decide +kernel
theorem dX0_guess_122 : decode cX0_guess 122 = .ok (.getfield 158, 3) := by decide +kernel
theorem dX0_guess_125 : decode cX0_guess 125 = .ok (.iconst 1, 1) := by decide +kernel
theorem dX0_guess_126 : decode cX0_guess 126 = .ok (.iadd, 1) := by decide +kernel
theorem dX0_guess_127 : decode cX0_guess 127 = .ok (.putfield 158, 3) := by decide +kernel
theorem dX0_guess_130 : decode cX0_guess 130 = .ok (.aload 5, 2) := by decide +kernel
theorem dX0_guess_132 : decode cX0_guess 132 = .ok (.aload_n 0, 1) := by decide +kernel
theorem dX0_guess_133 : decode cX0_guess 133 = .ok (.getfield 120, 3) := by decide +kernel
theorem dX0_guess_136 : decode cX0_guess 136 = .ok (.iconst 1, 1) := by decide +kernel
theorem dX0_guess_137 : decode cX0_guess 137 = .ok (.iadd, 1) := by decide +kernel
theorem dX0_guess_138 : decode cX0_guess 138 = .ok (.putfield 224, 3) := by decide +kernel
theorem dX0_guess_141 : decode cX0_guess 141 = .ok (.aload 5, 2) := by decide +kernel
theorem dX0_guess_143 : decode cX0_guess 143 = .ok (.aload_n 0, 1) := by decide +kernel
theorem dX0_guess_144 : decode cX0_guess 144 = .ok (.getfield 83, 3) := by decide +kernel
theorem dX0_guess_147 : decode cX0_guess 147 = .ok (.putfield 210, 3) := by decide +kernel
theorem dX0_guess_150 : decode cX0_guess 150 = .ok (.aload 5, 2) := by decide +kernel
theorem dX0_guess_152 : decode cX0_guess 152 = .ok (.iload_n 3, 1) := by decide +kernel
theorem dX0_guess_153 : decode cX0_guess 153 = .ok (.ifCond .eq 10, 3) := by decide +kernel
theorem dX0_guess_156 : decode cX0_guess 156 = .ok (.aload_n 2, 1) := by decide +kernel
theorem dX0_guess_157 : decode cX0_guess 157 = .ok (.getfield 189, 3) := by decide +kernel
theorem dX0_guess_160 : decode cX0_guess 160 = .ok (.goto 4, 3) := by decide +kernel
theorem dX0_guess_163 : decode cX0_guess 163 = .ok (.iconst (-1), 1) := by decide +kernel
theorem dX0_guess_164 : decode cX0_guess 164 = .ok (.putfield 227, 3) := by decide +kernel
theorem dX0_guess_167 : decode cX0_guess 167 = .ok (.aload 5, 2) := by decide +kernel
theorem dX0_guess_169 : decode cX0_guess 169 = .ok (.iload_n 3, 1) := by decide +kernel
theorem dX0_guess_170 : decode cX0_guess 170 = .ok (.ifCond .eq 10, 3) := by decide +kernel
theorem dX0_guess_173 : decode cX0_guess 173 = .ok (.aload_n 2, 1) := by decide +kernel
theorem dX0_guess_174 : decode cX0_guess 174 = .ok (.getfield 192, 3) := by decide +kernel
theorem dX0_guess_177 : decode cX0_guess 177 = .ok (.goto 4, 3) := by decide +kernel
theorem dX0_guess_180 : decode cX0_guess 180 = .ok (.iconst (-1), 1) := by decide +kernel
theorem dX0_guess_181 : decode cX0_guess 181 = .ok (.putfield 228, 3) := by decide +kernel
theorem dX0_guess_184 : decode cX0_guess 184 = .ok (.aload 5, 2) := by decide +kernel
theorem dX0_guess_186 : decode cX0_guess 186 = .ok (.iload_n 3, 1) := by decide +kernel
theorem dX0_guess_187 : decode cX0_guess 187 = .ok (.ifCond .eq 7, 3) := by decide +kernel
theorem dX0_guess_190 : decode cX0_guess 190 = .ok (.iload_n 1, 1) := by decide +kernel
theorem dX0_guess_191 : decode cX0_guess 191 = .ok (.goto 4, 3) := by decide +kernel
theorem dX0_guess_194 : decode cX0_guess 194 = .ok (.iconst (-1), 1) := by decide +kernel
theorem dX0_guess_195 : decode cX0_guess 195 = .ok (.putfield 229, 3) := by decide +kernel
theorem dX0_guess_198 : decode cX0_guess 198 = .ok (.aload 5, 2) := by decide +kernel
theorem dX0_guess_200 : decode cX0_guess 200 = .ok (.aload_n 2, 1) := by decide +kernel
theorem dX0_guess_201 : decode cX0_guess 201 = .ok (.getfield 189, 3) := by decide +kernel
theorem dX0_guess_204 : decode cX0_guess 204 = .ok (.putfield 232, 3) := by decide +kernel
theorem dX0_guess_207 : decode cX0_guess 207 = .ok (.aload 5, 2) := by decide +kernel
theorem dX0_guess_209 : decode cX0_guess 209 = .ok (.iload 4, 2) := by decide +kernel
theorem dX0_guess_211 : decode cX0_guess 211 = .ok (.bipush 23, 2) := by decide +kernel
theorem dX0_guess_213 : decode cX0_guess 213 = .ok (.invokestatic 235, 3) := by decide +kernel
theorem dX0_guess_216 : decode cX0_guess 216 = .ok (.putfield 241, 3) := by decide +kernel
theorem dX0_guess_219 : decode cX0_guess 219 = .ok (.iload 4, 2) := by decide +kernel
theorem dX0_guess_221 : decode cX0_guess 221 = .ok (.bipush 24, 2) := by decide +kernel
theorem dX0_guess_223 : decode cX0_guess 223 = .ok (.if_icmp .ne 13, 3) := by decide +kernel
theorem dX0_guess_226 : decode cX0_guess 226 = .ok (.aload_n 0, 1) := by decide +kernel
theorem dX0_guess_227 : decode cX0_guess 227 = .ok (.dup, 1) := by decide +kernel
theorem dX0_guess_228 : decode cX0_guess 228 = .ok (.getfield 83, 3) := by decide +kernel
theorem dX0_guess_231 : decode cX0_guess 231 = .ok (.iconst 1, 1) := by decide +kernel
theorem dX0_guess_232 : decode cX0_guess 232 = .ok (.iadd, 1) := by decide +kernel
theorem dX0_guess_233 : decode cX0_guess 233 = .ok (.putfield 83, 3) := by decide +kernel
theorem dX0_guess_236 : decode cX0_guess 236 = .ok (.return_, 1) := by decide +kernel
abbrev cX0_laid : ByteArray := prog_1_method_13_code
def yX0_laid : MethodName := ⟨RX0, "laid", "(I)LFarTypewriter$Screen;"⟩
theorem dX0_laid_0 : decode cX0_laid 0 = .ok (.aload_n 0, 1) := by decide +kernel
theorem dX0_laid_1 : decode cX0_laid 1 = .ok (.getfield 86, 3) := by decide +kernel
theorem dX0_laid_4 : decode cX0_laid 4 = .ok (.aload_n 0, 1) := by decide +kernel
theorem dX0_laid_5 : decode cX0_laid 5 = .ok (.getfield 56, 3) := by decide +kernel
theorem dX0_laid_8 : decode cX0_laid 8 = .ok (.invokevirtual 207, 3) := by decide +kernel
theorem dX0_laid_11 : decode cX0_laid 11 = .ok (.getfield 107, 3) := by decide +kernel
theorem dX0_laid_14 : decode cX0_laid 14 = .ok (.invokevirtual 96, 3) := by decide +kernel
theorem dX0_laid_17 : decode cX0_laid 17 = .ok (.iconst 0, 1) := by decide +kernel
theorem dX0_laid_18 : decode cX0_laid 18 = .ok (.istore_n 2, 1) := by decide +kernel
theorem dX0_laid_19 : decode cX0_laid 19 = .ok (.iload_n 2, 1) := by decide +kernel
theorem dX0_laid_20 : decode cX0_laid 20 = .ok (.aload_n 0, 1) := by decide +kernel
theorem dX0_laid_21 : decode cX0_laid 21 = .ok (.getfield 158, 3) := by decide +kernel
theorem dX0_laid_24 : decode cX0_laid 24 = .ok (.if_icmp .ge 35, 3) := by decide +kernel
theorem dX0_laid_27 : decode cX0_laid 27 = .ok (.aload_n 0, 1) := by decide +kernel
theorem dX0_laid_28 : decode cX0_laid 28 = .ok (.getfield 79, 3) := by decide +kernel
theorem dX0_laid_31 : decode cX0_laid 31 = .ok (.iload_n 2, 1) := by decide +kernel
theorem dX0_laid_32 : decode cX0_laid 32 = .ok (.aaload, 1) := by decide +kernel
theorem dX0_laid_33 : decode cX0_laid 33 = .ok (.getfield 210, 3) := by decide +kernel
theorem dX0_laid_36 : decode cX0_laid 36 = .ok (.iload_n 1, 1) := by decide +kernel
theorem dX0_laid_37 : decode cX0_laid 37 = .ok (.if_icmp .gt 16, 3) := by decide +kernel
theorem dX0_laid_40 : decode cX0_laid 40 = .ok (.aload_n 0, 1) := by decide +kernel
theorem dX0_laid_41 : decode cX0_laid 41 = .ok (.getfield 79, 3) := by decide +kernel
theorem dX0_laid_44 : decode cX0_laid 44 = .ok (.iload_n 2, 1) := by decide +kernel
theorem dX0_laid_45 : decode cX0_laid 45 = .ok (.aaload, 1) := by decide +kernel
theorem dX0_laid_46 : decode cX0_laid 46 = .ok (.aload_n 0, 1) := by decide +kernel
theorem dX0_laid_47 : decode cX0_laid 47 = .ok (.getfield 86, 3) := by decide +kernel
theorem dX0_laid_50 : decode cX0_laid 50 = .ok (.invokevirtual 211, 3) := by decide +kernel
theorem dX0_laid_53 : decode cX0_laid 53 = .ok (.iinc 2 1, 3) := by decide +kernel
theorem dX0_laid_56 : decode cX0_laid 56 = .ok (.goto (-37), 3) := by decide +kernel
theorem dX0_laid_59 : decode cX0_laid 59 = .ok (.aload_n 0, 1) := by decide +kernel
theorem dX0_laid_60 : decode cX0_laid 60 = .ok (.getfield 86, 3) := by decide +kernel
theorem dX0_laid_63 : decode cX0_laid 63 = .ok (.areturn, 1) := by decide +kernel
abbrev cX0_tick : ByteArray := prog_1_method_16_code
def yX0_tick : MethodName := ⟨RX0, "tick", "()I"⟩
theorem dX0_tick_0 : decode cX0_tick 0 = .ok (.aload_n 0, 1) := by decide +kernel
theorem dX0_tick_1 : decode cX0_tick 1 = .ok (.dup, 1) := by decide +kernel
theorem dX0_tick_2 : decode cX0_tick 2 = .ok (.getfield 117, 3) := by decide +kernel
theorem dX0_tick_5 : decode cX0_tick 5 = .ok (.iconst 1, 1) := by decide +kernel
theorem dX0_tick_6 : decode cX0_tick 6 = .ok (.iadd, 1) := by decide +kernel
theorem dX0_tick_7 : decode cX0_tick 7 = .ok (.putfield 117, 3) := by decide +kernel
theorem dX0_tick_10 : decode cX0_tick 10 = .ok (.aload_n 0, 1) := by decide +kernel
theorem dX0_tick_11 : decode cX0_tick 11 = .ok (.getfield 28, 3) := by decide +kernel
theorem dX0_tick_14 : decode cX0_tick 14 = .ok (.iconst 0, 1) := by decide +kernel
theorem dX0_tick_15 : decode cX0_tick 15 = .ok (.iaload, 1) := by decide +kernel
theorem dX0_tick_16 : decode cX0_tick 16 = .ok (.istore_n 1, 1) := by decide +kernel
theorem dX0_tick_17 : decode cX0_tick 17 = .ok (.aload_n 0, 1) := by decide +kernel
theorem dX0_tick_18 : decode cX0_tick 18 = .ok (.getfield 67, 3) := by decide +kernel
theorem dX0_tick_21 : decode cX0_tick 21 = .ok (.invokevirtual 207, 3) := by decide +kernel
theorem dX0_tick_24 : decode cX0_tick 24 = .ok (.astore_n 2, 1) := by decide +kernel
theorem dX0_tick_25 : decode cX0_tick 25 = .ok (.aload_n 0, 1) := by decide +kernel
theorem dX0_tick_26 : decode cX0_tick 26 = .ok (.getfield 67, 3) := by decide +kernel
theorem dX0_tick_29 : decode cX0_tick 29 = .ok (.getfield 100, 3) := by decide +kernel
theorem dX0_tick_32 : decode cX0_tick 32 = .ok (.bipush 32, 2) := by decide +kernel
theorem dX0_tick_34 : decode cX0_tick 34 = .ok (.if_icmp .ge 67, 3) := by decide +kernel
theorem dX0_tick_37 : decode cX0_tick 37 = .ok (.aload_n 0, 1) := by decide +kernel
theorem dX0_tick_38 : decode cX0_tick 38 = .ok (.getfield 73, 3) := by decide +kernel
theorem dX0_tick_41 : decode cX0_tick 41 = .ok (.aload_n 2, 1) := by decide +kernel
theorem dX0_tick_42 : decode cX0_tick 42 = .ok (.getfield 107, 3) := by decide +kernel
theorem dX0_tick_45 : decode cX0_tick 45 = .ok (.invokevirtual 254, 3) := by decide +kernel
theorem dX0_tick_48 : decode cX0_tick 48 = .ok (.ifCond .eq 14, 3) := by decide +kernel
theorem dX0_tick_51 : decode cX0_tick 51 = .ok (.aload_n 0, 1) := by decide +kernel
theorem dX0_tick_52 : decode cX0_tick 52 = .ok (.getfield 142, 3) := by decide +kernel
theorem dX0_tick_55 : decode cX0_tick 55 = .ok (.aload_n 2, 1) := by decide +kernel
theorem dX0_tick_56 : decode cX0_tick 56 = .ok (.getfield 113, 3) := by decide +kernel
theorem dX0_tick_59 : decode cX0_tick 59 = .ok (.if_icmp .eq 42, 3) := by decide +kernel
theorem dX0_tick_62 : decode cX0_tick 62 = .ok (.aload_n 2, 1) := by decide +kernel
theorem dX0_tick_63 : decode cX0_tick 63 = .ok (.getfield 110, 3) := by decide +kernel
theorem dX0_tick_66 : decode cX0_tick 66 = .ok (.iconst 1, 1) := by decide +kernel
theorem dX0_tick_67 : decode cX0_tick 67 = .ok (.iadd, 1) := by decide +kernel
theorem dX0_tick_68 : decode cX0_tick 68 = .ok (.istore_n 3, 1) := by decide +kernel
theorem dX0_tick_69 : decode cX0_tick 69 = .ok (.aload_n 0, 1) := by decide +kernel
theorem dX0_tick_70 : decode cX0_tick 70 = .ok (.getfield 67, 3) := by decide +kernel
theorem dX0_tick_73 : decode cX0_tick 73 = .ok (.invokevirtual 103, 3) := by decide +kernel
theorem dX0_tick_76 : decode cX0_tick 76 = .ok (.astore_n 2, 1) := by decide +kernel
theorem dX0_tick_77 : decode cX0_tick 77 = .ok (.aload_n 2, 1) := by decide +kernel
theorem dX0_tick_78 : decode cX0_tick 78 = .ok (.getfield 107, 3) := by decide +kernel
theorem dX0_tick_81 : decode cX0_tick 81 = .ok (.aload_n 0, 1) := by decide +kernel
theorem dX0_tick_82 : decode cX0_tick 82 = .ok (.getfield 73, 3) := by decide +kernel
theorem dX0_tick_85 : decode cX0_tick 85 = .ok (.invokevirtual 96, 3) := by decide +kernel
theorem dX0_tick_88 : decode cX0_tick 88 = .ok (.aload_n 2, 1) := by decide +kernel
theorem dX0_tick_89 : decode cX0_tick 89 = .ok (.iload_n 3, 1) := by decide +kernel
theorem dX0_tick_90 : decode cX0_tick 90 = .ok (.putfield 110, 3) := by decide +kernel
theorem dX0_tick_93 : decode cX0_tick 93 = .ok (.aload_n 2, 1) := by decide +kernel
theorem dX0_tick_94 : decode cX0_tick 94 = .ok (.aload_n 0, 1) := by decide +kernel
theorem dX0_tick_95 : decode cX0_tick 95 = .ok (.getfield 142, 3) := by decide +kernel
theorem dX0_tick_98 : decode cX0_tick 98 = .ok (.putfield 113, 3) := by decide +kernel
theorem dX0_tick_101 : decode cX0_tick 101 = .ok (.aload_n 0, 1) := by decide +kernel
theorem dX0_tick_102 : decode cX0_tick 102 = .ok (.getfield 117, 3) := by decide +kernel
theorem dX0_tick_105 : decode cX0_tick 105 = .ok (.aload_n 0, 1) := by decide +kernel
theorem dX0_tick_106 : decode cX0_tick 106 = .ok (.getfield 149, 3) := by decide +kernel
theorem dX0_tick_109 : decode cX0_tick 109 = .ok (.isub, 1) := by decide +kernel
theorem dX0_tick_110 : decode cX0_tick 110 = .ok (.istore_n 3, 1) := by decide +kernel
theorem dX0_tick_111 : decode cX0_tick 111 = .ok (.aload_n 2, 1) := by decide +kernel
theorem dX0_tick_112 : decode cX0_tick 112 = .ok (.getfield 110, 3) := by decide +kernel
theorem dX0_tick_115 : decode cX0_tick 115 = .ok (.aload_n 0, 1) := by decide +kernel
theorem dX0_tick_116 : decode cX0_tick 116 = .ok (.getfield 146, 3) := by decide +kernel
theorem dX0_tick_119 : decode cX0_tick 119 = .ok (.if_icmp .ne 10, 3) := by decide +kernel
theorem dX0_tick_122 : decode cX0_tick 122 = .ok (.aload_n 0, 1) := by decide +kernel
theorem dX0_tick_123 : decode cX0_tick 123 = .ok (.getfield 155, 3) := by decide +kernel
theorem dX0_tick_126 : decode cX0_tick 126 = .ok (.ifCond .eq 11, 3) := by decide +kernel
theorem dX0_tick_129 : decode cX0_tick 129 = .ok (.iload_n 3, 1) := by decide +kernel
theorem dX0_tick_130 : decode cX0_tick 130 = .ok (.aload_n 0, 1) := by decide +kernel
theorem dX0_tick_131 : decode cX0_tick 131 = .ok (.getfield 21, 3) := by decide +kernel
theorem dX0_tick_134 : decode cX0_tick 134 = .ok (.if_icmp .ge 22, 3) := by decide +kernel
theorem dX0_tick_137 : decode cX0_tick 137 = .ok (.aload_n 0, 1) := by decide +kernel
theorem dX0_tick_138 : decode cX0_tick 138 = .ok (.getfield 143, 3) := by decide +kernel
theorem dX0_tick_141 : decode cX0_tick 141 = .ok (.aload_n 2, 1) := by decide +kernel
theorem dX0_tick_142 : decode cX0_tick 142 = .ok (.getfield 110, 3) := by decide +kernel
theorem dX0_tick_145 : decode cX0_tick 145 = .ok (.if_icmp .ge 16, 3) := by decide +kernel
theorem dX0_tick_148 : decode cX0_tick 148 = .ok (.iload_n 3, 1) := by decide +kernel
theorem dX0_tick_149 : decode cX0_tick 149 = .ok (.aload_n 0, 1) := by decide +kernel
theorem dX0_tick_150 : decode cX0_tick 150 = .ok (.getfield 25, 3) := by decide +kernel
theorem dX0_tick_153 : decode cX0_tick 153 = .ok (.if_icmp .lt 8, 3) := by decide +kernel
theorem dX0_tick_156 : decode cX0_tick 156 = .ok (.aload_n 0, 1) := by decide +kernel
theorem dX0_tick_157 : decode cX0_tick 157 = .ok (.aload_n 2, 1) := by decide +kernel
theorem dX0_tick_158 : decode cX0_tick 158 = .ok (.invokevirtual 258, 3) := by decide +kernel
theorem dX0_tick_161 : decode cX0_tick 161 = .ok (.aload_n 0, 1) := by decide +kernel
theorem dX0_tick_162 : decode cX0_tick 162 = .ok (.getfield 117, 3) := by decide +kernel
theorem dX0_tick_165 : decode cX0_tick 165 = .ok (.aload_n 0, 1) := by decide +kernel
theorem dX0_tick_166 : decode cX0_tick 166 = .ok (.getfield 129, 3) := by decide +kernel
theorem dX0_tick_169 : decode cX0_tick 169 = .ok (.isub, 1) := by decide +kernel
theorem dX0_tick_170 : decode cX0_tick 170 = .ok (.istore_n 3, 1) := by decide +kernel
theorem dX0_tick_171 : decode cX0_tick 171 = .ok (.aload_n 0, 1) := by decide +kernel
theorem dX0_tick_172 : decode cX0_tick 172 = .ok (.getfield 120, 3) := by decide +kernel
theorem dX0_tick_175 : decode cX0_tick 175 = .ok (.aload_n 0, 1) := by decide +kernel
theorem dX0_tick_176 : decode cX0_tick 176 = .ok (.getfield 126, 3) := by decide +kernel
theorem dX0_tick_179 : decode cX0_tick 179 = .ok (.if_icmp .ne 10, 3) := by decide +kernel
theorem dX0_tick_182 : decode cX0_tick 182 = .ok (.aload_n 0, 1) := by decide +kernel
theorem dX0_tick_183 : decode cX0_tick 183 = .ok (.getfield 135, 3) := by decide +kernel
theorem dX0_tick_186 : decode cX0_tick 186 = .ok (.ifCond .eq 11, 3) := by decide +kernel
theorem dX0_tick_189 : decode cX0_tick 189 = .ok (.iload_n 3, 1) := by decide +kernel
theorem dX0_tick_190 : decode cX0_tick 190 = .ok (.aload_n 0, 1) := by decide +kernel
theorem dX0_tick_191 : decode cX0_tick 191 = .ok (.getfield 21, 3) := by decide +kernel
theorem dX0_tick_194 : decode cX0_tick 194 = .ok (.if_icmp .ge 32, 3) := by decide +kernel
theorem dX0_tick_197 : decode cX0_tick 197 = .ok (.aload_n 0, 1) := by decide +kernel
theorem dX0_tick_198 : decode cX0_tick 198 = .ok (.getfield 123, 3) := by decide +kernel
theorem dX0_tick_201 : decode cX0_tick 201 = .ok (.aload_n 0, 1) := by decide +kernel
theorem dX0_tick_202 : decode cX0_tick 202 = .ok (.getfield 120, 3) := by decide +kernel
theorem dX0_tick_205 : decode cX0_tick 205 = .ok (.if_icmp .ge 11, 3) := by decide +kernel
theorem dX0_tick_208 : decode cX0_tick 208 = .ok (.iload_n 3, 1) := by decide +kernel
theorem dX0_tick_209 : decode cX0_tick 209 = .ok (.aload_n 0, 1) := by decide +kernel
theorem dX0_tick_210 : decode cX0_tick 210 = .ok (.getfield 25, 3) := by decide +kernel
theorem dX0_tick_213 : decode cX0_tick 213 = .ok (.if_icmp .ge 13, 3) := by decide +kernel
theorem dX0_tick_216 : decode cX0_tick 216 = .ok (.iload_n 3, 1) := by decide +kernel
theorem dX0_tick_217 : decode cX0_tick 217 = .ok (.iconst 4, 1) := by decide +kernel
theorem dX0_tick_218 : decode cX0_tick 218 = .ok (.aload_n 0, 1) := by decide +kernel
theorem dX0_tick_219 : decode cX0_tick 219 = .ok (.getfield 25, 3) := by decide +kernel
theorem dX0_tick_222 : decode cX0_tick 222 = .ok (.imul, 1) := by decide +kernel
theorem dX0_tick_223 : decode cX0_tick 223 = .ok (.if_icmp .lt 7, 3) := by decide +kernel
theorem dX0_tick_226 : decode cX0_tick 226 = .ok (.aload_n 0, 1) := by decide +kernel
theorem dX0_tick_227 : decode cX0_tick 227 = .ok (.invokevirtual 262, 3) := by decide +kernel
theorem dX0_tick_230 : decode cX0_tick 230 = .ok (.aload_n 0, 1) := by decide +kernel
theorem dX0_tick_231 : decode cX0_tick 231 = .ok (.getfield 28, 3) := by decide +kernel
theorem dX0_tick_234 : decode cX0_tick 234 = .ok (.iconst 0, 1) := by decide +kernel
theorem dX0_tick_235 : decode cX0_tick 235 = .ok (.iaload, 1) := by decide +kernel
theorem dX0_tick_236 : decode cX0_tick 236 = .ok (.iload_n 1, 1) := by decide +kernel
theorem dX0_tick_237 : decode cX0_tick 237 = .ok (.isub, 1) := by decide +kernel
theorem dX0_tick_238 : decode cX0_tick 238 = .ok (.ireturn, 1) := by decide +kernel
abbrev cX0_sendsFar : ByteArray := prog_1_method_18_code
def yX0_sendsFar : MethodName := ⟨RX0, "sendsFar", "(LFarTypewriter$State;)V"⟩
theorem dX0_sendsFar_0 : decode cX0_sendsFar 0 = .ok (.aload_n 0, 1) := by decide +kernel
theorem dX0_sendsFar_1 : decode cX0_sendsFar 1 = .ok (.getfield 67, 3) := by decide +kernel
theorem dX0_sendsFar_4 : decode cX0_sendsFar 4 = .ok (.getfield 275, 3) := by decide +kernel
theorem dX0_sendsFar_7 : decode cX0_sendsFar 7 = .ok (.aload_n 0, 1) := by decide +kernel
theorem dX0_sendsFar_8 : decode cX0_sendsFar 8 = .ok (.getfield 67, 3) := by decide +kernel
theorem dX0_sendsFar_11 : decode cX0_sendsFar 11 = .ok (.aload_n 0, 1) := by decide +kernel
theorem dX0_sendsFar_12 : decode cX0_sendsFar 12 = .ok (.getfield 143, 3) := by decide +kernel
theorem dX0_sendsFar_15 : decode cX0_sendsFar 15 = .ok (.invokevirtual 279, 3) := by decide +kernel
theorem dX0_sendsFar_18 : decode cX0_sendsFar 18 = .ok (.aaload, 1) := by decide +kernel
theorem dX0_sendsFar_19 : decode cX0_sendsFar 19 = .ok (.astore_n 2, 1) := by decide +kernel
theorem dX0_sendsFar_20 : decode cX0_sendsFar 20 = .ok (.aload_n 0, 1) := by decide +kernel
theorem dX0_sendsFar_21 : decode cX0_sendsFar 21 = .ok (.getfield 42, 3) := by decide +kernel
theorem dX0_sendsFar_24 : decode cX0_sendsFar 24 = .ok (.iconst 0, 1) := by decide +kernel
theorem dX0_sendsFar_25 : decode cX0_sendsFar 25 = .ok (.putfield 265, 3) := by decide +kernel
theorem dX0_sendsFar_28 : decode cX0_sendsFar 28 = .ok (.aload_n 0, 1) := by decide +kernel
theorem dX0_sendsFar_29 : decode cX0_sendsFar 29 = .ok (.getfield 42, 3) := by decide +kernel
theorem dX0_sendsFar_32 : decode cX0_sendsFar 32 = .ok (.bipush 83, 2) := by decide +kernel
theorem dX0_sendsFar_34 : decode cX0_sendsFar 34 = .ok (.invokevirtual 266, 3) := by decide +kernel
theorem dX0_sendsFar_37 : decode cX0_sendsFar 37 = .ok (.aload_n 0, 1) := by decide +kernel
theorem dX0_sendsFar_38 : decode cX0_sendsFar 38 = .ok (.getfield 42, 3) := by decide +kernel
theorem dX0_sendsFar_41 : decode cX0_sendsFar 41 = .ok (.aload_n 0, 1) := by decide +kernel
theorem dX0_sendsFar_42 : decode cX0_sendsFar 42 = .ok (.getfield 64, 3) := by decide +kernel
theorem dX0_sendsFar_45 : decode cX0_sendsFar 45 = .ok (.invokevirtual 266, 3) := by decide +kernel
theorem dX0_sendsFar_48 : decode cX0_sendsFar 48 = .ok (.aload_n 0, 1) := by decide +kernel
theorem dX0_sendsFar_49 : decode cX0_sendsFar 49 = .ok (.getfield 42, 3) := by decide +kernel
theorem dX0_sendsFar_52 : decode cX0_sendsFar 52 = .ok (.aload_n 0, 1) := by decide +kernel
theorem dX0_sendsFar_53 : decode cX0_sendsFar 53 = .ok (.getfield 143, 3) := by decide +kernel
theorem dX0_sendsFar_56 : decode cX0_sendsFar 56 = .ok (.invokevirtual 269, 3) := by decide +kernel
theorem dX0_sendsFar_59 : decode cX0_sendsFar 59 = .ok (.aload_n 0, 1) := by decide +kernel
theorem dX0_sendsFar_60 : decode cX0_sendsFar 60 = .ok (.getfield 42, 3) := by decide +kernel
theorem dX0_sendsFar_63 : decode cX0_sendsFar 63 = .ok (.aload_n 1, 1) := by decide +kernel
theorem dX0_sendsFar_64 : decode cX0_sendsFar 64 = .ok (.getfield 110, 3) := by decide +kernel
theorem dX0_sendsFar_67 : decode cX0_sendsFar 67 = .ok (.invokevirtual 269, 3) := by decide +kernel
theorem dX0_sendsFar_70 : decode cX0_sendsFar 70 = .ok (.aload_n 0, 1) := by decide +kernel
theorem dX0_sendsFar_71 : decode cX0_sendsFar 71 = .ok (.getfield 42, 3) := by decide +kernel
theorem dX0_sendsFar_74 : decode cX0_sendsFar 74 = .ok (.aload_n 1, 1) := by decide +kernel
theorem dX0_sendsFar_75 : decode cX0_sendsFar 75 = .ok (.getfield 113, 3) := by decide +kernel
theorem dX0_sendsFar_78 : decode cX0_sendsFar 78 = .ok (.invokevirtual 269, 3) := by decide +kernel
theorem dX0_sendsFar_81 : decode cX0_sendsFar 81 = .ok (.aload_n 0, 1) := by decide +kernel
theorem dX0_sendsFar_82 : decode cX0_sendsFar 82 = .ok (.getfield 42, 3) := by decide +kernel
theorem dX0_sendsFar_85 : decode cX0_sendsFar 85 = .ok (.aload_n 1, 1) := by decide +kernel
theorem dX0_sendsFar_86 : decode cX0_sendsFar 86 = .ok (.getfield 107, 3) := by decide +kernel
theorem dX0_sendsFar_89 : decode cX0_sendsFar 89 = .ok (.getfield 189, 3) := by decide +kernel
theorem dX0_sendsFar_92 : decode cX0_sendsFar 92 = .ok (.invokevirtual 266, 3) := by decide +kernel
theorem dX0_sendsFar_95 : decode cX0_sendsFar 95 = .ok (.aload_n 0, 1) := by decide +kernel
theorem dX0_sendsFar_96 : decode cX0_sendsFar 96 = .ok (.getfield 42, 3) := by decide +kernel
theorem dX0_sendsFar_99 : decode cX0_sendsFar 99 = .ok (.aload_n 1, 1) := by decide +kernel
theorem dX0_sendsFar_100 : decode cX0_sendsFar 100 = .ok (.getfield 107, 3) := by decide +kernel
theorem dX0_sendsFar_103 : decode cX0_sendsFar 103 = .ok (.getfield 192, 3) := by decide +kernel
theorem dX0_sendsFar_106 : decode cX0_sendsFar 106 = .ok (.invokevirtual 266, 3) := by decide +kernel
theorem dX0_sendsFar_109 : decode cX0_sendsFar 109 = .ok (.aload_n 0, 1) := by decide +kernel
theorem dX0_sendsFar_110 : decode cX0_sendsFar 110 = .ok (.aload_n 2, 1) := by decide +kernel
theorem dX0_sendsFar_111 : decode cX0_sendsFar 111 = .ok (.getfield 107, 3) := by decide +kernel
theorem dX0_sendsFar_114 : decode cX0_sendsFar 114 = .ok (.aload_n 1, 1) := by decide +kernel
theorem dX0_sendsFar_115 : decode cX0_sendsFar 115 = .ok (.getfield 107, 3) := by decide +kernel
theorem dX0_sendsFar_118 : decode cX0_sendsFar 118 = .ok (.invokevirtual 283, 3) := by decide +kernel
theorem dX0_sendsFar_121 : decode cX0_sendsFar 121 = .ok (.aload_n 0, 1) := by decide +kernel
theorem dX0_sendsFar_122 : decode cX0_sendsFar 122 = .ok (.aload_n 1, 1) := by decide +kernel
theorem dX0_sendsFar_123 : decode cX0_sendsFar 123 = .ok (.getfield 110, 3) := by decide +kernel
theorem dX0_sendsFar_126 : decode cX0_sendsFar 126 = .ok (.putfield 146, 3) := by decide +kernel
theorem dX0_sendsFar_129 : decode cX0_sendsFar 129 = .ok (.aload_n 0, 1) := by decide +kernel
theorem dX0_sendsFar_130 : decode cX0_sendsFar 130 = .ok (.aload_n 0, 1) := by decide +kernel
theorem dX0_sendsFar_131 : decode cX0_sendsFar 131 = .ok (.getfield 117, 3) := by decide +kernel
theorem dX0_sendsFar_134 : decode cX0_sendsFar 134 = .ok (.putfield 149, 3) := by decide +kernel
theorem dX0_sendsFar_137 : decode cX0_sendsFar 137 = .ok (.aload_n 0, 1) := by decide +kernel
theorem dX0_sendsFar_138 : decode cX0_sendsFar 138 = .ok (.iconst 0, 1) := by decide +kernel
theorem dX0_sendsFar_139 : decode cX0_sendsFar 139 = .ok (.putfield 155, 3) := by decide +kernel
theorem dX0_sendsFar_142 : decode cX0_sendsFar 142 = .ok (.aload_n 0, 1) := by decide +kernel
theorem dX0_sendsFar_143 : decode cX0_sendsFar 143 = .ok (.iconst 1, 1) := by decide +kernel
theorem dX0_sendsFar_144 : decode cX0_sendsFar 144 = .ok (.invokevirtual 272, 3) := by decide +kernel
theorem dX0_sendsFar_147 : decode cX0_sendsFar 147 = .ok (.return_, 1) := by decide +kernel
abbrev cX0_differs : ByteArray := prog_1_method_20_code
def yX0_differs : MethodName := ⟨RX0, "differs", "(LFarTypewriter$Screen;LFarTypewriter$Screen;)V"⟩
theorem dX0_differs_0 : decode cX0_differs 0 = .ok (.iconst (-1), 1) := by decide +kernel
theorem dX0_differs_1 : decode cX0_differs 1 = .ok (.istore_n 3, 1) := by decide +kernel
theorem dX0_differs_2 : decode cX0_differs 2 = .ok (.iconst 0, 1) := by decide +kernel
theorem dX0_differs_3 : decode cX0_differs 3 = .ok (.istore 4, 2) := by decide +kernel
theorem dX0_differs_5 : decode cX0_differs 5 = .ok (.iconst 0, 1) := by decide +kernel
theorem dX0_differs_6 : decode cX0_differs 6 = .ok (.istore 5, 2) := by decide +kernel
theorem dX0_differs_8 : decode cX0_differs 8 = .ok (.iload 5, 2) := by decide +kernel
theorem dX0_differs_10 : decode cX0_differs 10 = .ok (.bipush 8, 2) := by decide +kernel
theorem dX0_differs_12 : decode cX0_differs 12 = .ok (.if_icmp .gt 42, 3) := by decide +kernel
theorem dX0_differs_15 : decode cX0_differs 15 = .ok (.aload_n 0, 1) := by decide +kernel
theorem dX0_differs_16 : decode cX0_differs 16 = .ok (.aload_n 1, 1) := by decide +kernel
theorem dX0_differs_17 : decode cX0_differs 17 = .ok (.aload_n 2, 1) := by decide +kernel
theorem dX0_differs_18 : decode cX0_differs 18 = .ok (.iload 5, 2) := by decide +kernel
theorem dX0_differs_20 : decode cX0_differs 20 = .ok (.iconst 0, 1) := by decide +kernel
theorem dX0_differs_21 : decode cX0_differs 21 = .ok (.invokevirtual 297, 3) := by decide +kernel
theorem dX0_differs_24 : decode cX0_differs 24 = .ok (.istore 6, 2) := by decide +kernel
theorem dX0_differs_26 : decode cX0_differs 26 = .ok (.iload_n 3, 1) := by decide +kernel
theorem dX0_differs_27 : decode cX0_differs 27 = .ok (.iconst (-1), 1) := by decide +kernel
theorem dX0_differs_28 : decode cX0_differs 28 = .ok (.if_icmp .eq 13, 3) := by decide +kernel
theorem dX0_differs_31 : decode cX0_differs 31 = .ok (.iload 6, 2) := by decide +kernel
theorem dX0_differs_33 : decode cX0_differs 33 = .ok (.iload 4, 2) := by decide +kernel
theorem dX0_differs_35 : decode cX0_differs 35 = .ok (.if_icmp .lt 6, 3) := by decide +kernel
theorem dX0_differs_38 : decode cX0_differs 38 = .ok (.goto 10, 3) := by decide +kernel
theorem dX0_differs_41 : decode cX0_differs 41 = .ok (.iload 5, 2) := by decide +kernel
theorem dX0_differs_43 : decode cX0_differs 43 = .ok (.istore_n 3, 1) := by decide +kernel
theorem dX0_differs_44 : decode cX0_differs 44 = .ok (.iload 6, 2) := by decide +kernel
theorem dX0_differs_46 : decode cX0_differs 46 = .ok (.istore 4, 2) := by decide +kernel
theorem dX0_differs_48 : decode cX0_differs 48 = .ok (.iinc 5 1, 3) := by decide +kernel
theorem dX0_differs_51 : decode cX0_differs 51 = .ok (.goto (-43), 3) := by decide +kernel
theorem dX0_differs_54 : decode cX0_differs 54 = .ok (.aload_n 0, 1) := by decide +kernel
theorem dX0_differs_55 : decode cX0_differs 55 = .ok (.aload_n 1, 1) := by decide +kernel
theorem dX0_differs_56 : decode cX0_differs 56 = .ok (.aload_n 2, 1) := by decide +kernel
theorem dX0_differs_57 : decode cX0_differs 57 = .ok (.iload_n 3, 1) := by decide +kernel
theorem dX0_differs_58 : decode cX0_differs 58 = .ok (.iconst 1, 1) := by decide +kernel
theorem dX0_differs_59 : decode cX0_differs 59 = .ok (.invokevirtual 297, 3) := by decide +kernel
theorem dX0_differs_62 : decode cX0_differs 62 = .ok (.pop, 1) := by decide +kernel
theorem dX0_differs_63 : decode cX0_differs 63 = .ok (.return_, 1) := by decide +kernel
abbrev cX0_bytes : ByteArray := prog_1_method_21_code
def yX0_bytes : MethodName := ⟨RX0, "bytes", "(LFarTypewriter$Screen;LFarTypewriter$Screen;IZ)I"⟩
theorem dX0_bytes_0 : decode cX0_bytes 0 = .ok (.aload_n 0, 1) := by decide +kernel
theorem dX0_bytes_1 : decode cX0_bytes 1 = .ok (.getfield 89, 3) := by decide +kernel
theorem dX0_bytes_4 : decode cX0_bytes 4 = .ok (.aload_n 1, 1) := by decide +kernel
theorem dX0_bytes_5 : decode cX0_bytes 5 = .ok (.invokevirtual 96, 3) := by decide +kernel
theorem dX0_bytes_8 : decode cX0_bytes 8 = .ok (.aload_n 0, 1) := by decide +kernel
theorem dX0_bytes_9 : decode cX0_bytes 9 = .ok (.getfield 89, 3) := by decide +kernel
theorem dX0_bytes_12 : decode cX0_bytes 12 = .ok (.iload_n 3, 1) := by decide +kernel
theorem dX0_bytes_13 : decode cX0_bytes 13 = .ok (.invokevirtual 201, 3) := by decide +kernel
theorem dX0_bytes_16 : decode cX0_bytes 16 = .ok (.iconst 1, 1) := by decide +kernel
theorem dX0_bytes_17 : decode cX0_bytes 17 = .ok (.istore 5, 2) := by decide +kernel
theorem dX0_bytes_19 : decode cX0_bytes 19 = .ok (.iload 4, 2) := by decide +kernel
theorem dX0_bytes_21 : decode cX0_bytes 21 = .ok (.ifCond .eq 11, 3) := by decide +kernel
theorem dX0_bytes_24 : decode cX0_bytes 24 = .ok (.aload_n 0, 1) := by decide +kernel
theorem dX0_bytes_25 : decode cX0_bytes 25 = .ok (.getfield 42, 3) := by decide +kernel
theorem dX0_bytes_28 : decode cX0_bytes 28 = .ok (.iload_n 3, 1) := by decide +kernel
theorem dX0_bytes_29 : decode cX0_bytes 29 = .ok (.invokevirtual 266, 3) := by decide +kernel
theorem dX0_bytes_32 : decode cX0_bytes 32 = .ok (.iconst 0, 1) := by decide +kernel
theorem dX0_bytes_33 : decode cX0_bytes 33 = .ok (.istore 6, 2) := by decide +kernel
theorem dX0_bytes_35 : decode cX0_bytes 35 = .ok (.iload 6, 2) := by decide +kernel
theorem dX0_bytes_37 : decode cX0_bytes 37 = .ok (.bipush 8, 2) := by decide +kernel
theorem dX0_bytes_39 : decode cX0_bytes 39 = .ok (.if_icmp .ge 195, 3) := by decide +kernel
theorem dX0_bytes_42 : decode cX0_bytes 42 = .ok (.aload_n 2, 1) := by decide +kernel
theorem dX0_bytes_43 : decode cX0_bytes 43 = .ok (.aload_n 0, 1) := by decide +kernel
theorem dX0_bytes_44 : decode cX0_bytes 44 = .ok (.getfield 89, 3) := by decide +kernel
theorem dX0_bytes_47 : decode cX0_bytes 47 = .ok (.iload 6, 2) := by decide +kernel
theorem dX0_bytes_49 : decode cX0_bytes 49 = .ok (.iconst 1, 1) := by decide +kernel
theorem dX0_bytes_50 : decode cX0_bytes 50 = .ok (.invokevirtual 301, 3) := by decide +kernel
theorem dX0_bytes_53 : decode cX0_bytes 53 = .ok (.istore 7, 2) := by decide +kernel
theorem dX0_bytes_55 : decode cX0_bytes 55 = .ok (.iload 7, 2) := by decide +kernel
theorem dX0_bytes_57 : decode cX0_bytes 57 = .ok (.iconst (-1), 1) := by decide +kernel
theorem dX0_bytes_58 : decode cX0_bytes 58 = .ok (.if_icmp .ne 6, 3) := by decide +kernel
theorem dX0_bytes_61 : decode cX0_bytes 61 = .ok (.goto 167, 3) := by decide +kernel
theorem dX0_bytes_64 : decode cX0_bytes 64 = .ok (.aload_n 2, 1) := by decide +kernel
theorem dX0_bytes_65 : decode cX0_bytes 65 = .ok (.aload_n 0, 1) := by decide +kernel
theorem dX0_bytes_66 : decode cX0_bytes 66 = .ok (.getfield 89, 3) := by decide +kernel
theorem dX0_bytes_69 : decode cX0_bytes 69 = .ok (.iload 6, 2) := by decide +kernel
theorem dX0_bytes_71 : decode cX0_bytes 71 = .ok (.iconst 0, 1) := by decide +kernel
theorem dX0_bytes_72 : decode cX0_bytes 72 = .ok (.invokevirtual 301, 3) := by decide +kernel
theorem dX0_bytes_75 : decode cX0_bytes 75 = .ok (.istore 8, 2) := by decide +kernel
theorem dX0_bytes_77 : decode cX0_bytes 77 = .ok (.aload_n 2, 1) := by decide +kernel
theorem dX0_bytes_78 : decode cX0_bytes 78 = .ok (.iload 6, 2) := by decide +kernel
theorem dX0_bytes_80 : decode cX0_bytes 80 = .ok (.iload 7, 2) := by decide +kernel
theorem dX0_bytes_82 : decode cX0_bytes 82 = .ok (.iload 8, 2) := by decide +kernel
theorem dX0_bytes_84 : decode cX0_bytes 84 = .ok (.invokevirtual 304, 3) := by decide +kernel
theorem dX0_bytes_87 : decode cX0_bytes 87 = .ok (.istore 9, 2) := by decide +kernel
theorem dX0_bytes_89 : decode cX0_bytes 89 = .ok (.iload 5, 2) := by decide +kernel
theorem dX0_bytes_91 : decode cX0_bytes 91 = .ok (.iload 9, 2) := by decide +kernel
theorem dX0_bytes_93 : decode cX0_bytes 93 = .ok (.ifCond .eq 8, 3) := by decide +kernel
theorem dX0_bytes_96 : decode cX0_bytes 96 = .ok (.bipush 6, 2) := by decide +kernel
theorem dX0_bytes_98 : decode cX0_bytes 98 = .ok (.goto 14, 3) := by decide +kernel
theorem dX0_bytes_101 : decode cX0_bytes 101 = .ok (.iconst 4, 1) := by decide +kernel
theorem dX0_bytes_102 : decode cX0_bytes 102 = .ok (.iconst 2, 1) := by decide +kernel
theorem dX0_bytes_103 : decode cX0_bytes 103 = .ok (.iload 8, 2) := by decide +kernel
theorem dX0_bytes_105 : decode cX0_bytes 105 = .ok (.iload 7, 2) := by decide +kernel
theorem dX0_bytes_107 : decode cX0_bytes 107 = .ok (.isub, 1) := by decide +kernel
theorem dX0_bytes_108 : decode cX0_bytes 108 = .ok (.iconst 1, 1) := by decide +kernel
theorem dX0_bytes_109 : decode cX0_bytes 109 = .ok (.iadd, 1) := by decide +kernel
theorem dX0_bytes_110 : decode cX0_bytes 110 = .ok (.imul, 1) := by decide +kernel
theorem dX0_bytes_111 : decode cX0_bytes 111 = .ok (.iadd, 1) := by decide +kernel
theorem dX0_bytes_112 : decode cX0_bytes 112 = .ok (.iadd, 1) := by decide +kernel
theorem dX0_bytes_113 : decode cX0_bytes 113 = .ok (.istore 5, 2) := by decide +kernel
theorem dX0_bytes_115 : decode cX0_bytes 115 = .ok (.iload 4, 2) := by decide +kernel
theorem dX0_bytes_117 : decode cX0_bytes 117 = .ok (.ifCond .ne 6, 3) := by decide +kernel
theorem dX0_bytes_120 : decode cX0_bytes 120 = .ok (.goto 108, 3) := by decide +kernel
theorem dX0_bytes_123 : decode cX0_bytes 123 = .ok (.aload_n 0, 1) := by decide +kernel
theorem dX0_bytes_124 : decode cX0_bytes 124 = .ok (.getfield 42, 3) := by decide +kernel
theorem dX0_bytes_127 : decode cX0_bytes 127 = .ok (.iload 6, 2) := by decide +kernel
theorem dX0_bytes_129 : decode cX0_bytes 129 = .ok (.invokevirtual 266, 3) := by decide +kernel
theorem dX0_bytes_132 : decode cX0_bytes 132 = .ok (.aload_n 0, 1) := by decide +kernel
theorem dX0_bytes_133 : decode cX0_bytes 133 = .ok (.getfield 42, 3) := by decide +kernel
theorem dX0_bytes_136 : decode cX0_bytes 136 = .ok (.iload 9, 2) := by decide +kernel
theorem dX0_bytes_138 : decode cX0_bytes 138 = .ok (.ifCond .eq 7, 3) := by decide +kernel
theorem dX0_bytes_141 : decode cX0_bytes 141 = .ok (.iconst 1, 1) := by decide +kernel
theorem dX0_bytes_142 : decode cX0_bytes 142 = .ok (.goto 4, 3) := by decide +kernel
theorem dX0_bytes_145 : decode cX0_bytes 145 = .ok (.iconst 0, 1) := by decide +kernel
theorem dX0_bytes_146 : decode cX0_bytes 146 = .ok (.invokevirtual 266, 3) := by decide +kernel
theorem dX0_bytes_149 : decode cX0_bytes 149 = .ok (.aload_n 0, 1) := by decide +kernel
theorem dX0_bytes_150 : decode cX0_bytes 150 = .ok (.getfield 42, 3) := by decide +kernel
theorem dX0_bytes_153 : decode cX0_bytes 153 = .ok (.iload 7, 2) := by decide +kernel
theorem dX0_bytes_155 : decode cX0_bytes 155 = .ok (.invokevirtual 266, 3) := by decide +kernel
theorem dX0_bytes_158 : decode cX0_bytes 158 = .ok (.aload_n 0, 1) := by decide +kernel
theorem dX0_bytes_159 : decode cX0_bytes 159 = .ok (.getfield 42, 3) := by decide +kernel
theorem dX0_bytes_162 : decode cX0_bytes 162 = .ok (.iload 8, 2) := by decide +kernel
theorem dX0_bytes_164 : decode cX0_bytes 164 = .ok (.invokevirtual 266, 3) := by decide +kernel
theorem dX0_bytes_167 : decode cX0_bytes 167 = .ok (.iload 7, 2) := by decide +kernel
theorem dX0_bytes_169 : decode cX0_bytes 169 = .ok (.istore 10, 2) := by decide +kernel
theorem dX0_bytes_171 : decode cX0_bytes 171 = .ok (.iload 10, 2) := by decide +kernel
theorem dX0_bytes_173 : decode cX0_bytes 173 = .ok (.iload 9, 2) := by decide +kernel
theorem dX0_bytes_175 : decode cX0_bytes 175 = .ok (.ifCond .eq 8, 3) := by decide +kernel
theorem dX0_bytes_178 : decode cX0_bytes 178 = .ok (.iload 7, 2) := by decide +kernel
theorem dX0_bytes_180 : decode cX0_bytes 180 = .ok (.goto 5, 3) := by decide +kernel
theorem dX0_bytes_183 : decode cX0_bytes 183 = .ok (.iload 8, 2) := by decide +kernel
theorem dX0_bytes_185 : decode cX0_bytes 185 = .ok (.if_icmp .gt 43, 3) := by decide +kernel
theorem dX0_bytes_188 : decode cX0_bytes 188 = .ok (.aload_n 0, 1) := by decide +kernel
theorem dX0_bytes_189 : decode cX0_bytes 189 = .ok (.getfield 42, 3) := by decide +kernel
theorem dX0_bytes_192 : decode cX0_bytes 192 = .ok (.aload_n 2, 1) := by decide +kernel
theorem dX0_bytes_193 : decode cX0_bytes 193 = .ok (.getfield 308, 3) := by decide +kernel
theorem dX0_bytes_196 : decode cX0_bytes 196 = .ok (.iload 6, 2) := by decide +kernel
theorem dX0_bytes_198 : decode cX0_bytes 198 = .ok (.aaload, 1) := by decide +kernel
theorem dX0_bytes_199 : decode cX0_bytes 199 = .ok (.iload 10, 2) := by decide +kernel
theorem dX0_bytes_201 : decode cX0_bytes 201 = .ok (.baload, 1) := by decide +kernel
theorem dX0_bytes_202 : decode cX0_bytes 202 = .ok (.invokevirtual 266, 3) := by decide +kernel
theorem dX0_bytes_205 : decode cX0_bytes 205 = .ok (.aload_n 0, 1) := by decide +kernel
theorem dX0_bytes_206 : decode cX0_bytes 206 = .ok (.getfield 42, 3) := by decide +kernel
theorem dX0_bytes_209 : decode cX0_bytes 209 = .ok (.aload_n 2, 1) := by decide +kernel
theorem dX0_bytes_210 : decode cX0_bytes 210 = .ok (.getfield 312, 3) := by decide +kernel
theorem dX0_bytes_213 : decode cX0_bytes 213 = .ok (.iload 6, 2) := by decide +kernel
theorem dX0_bytes_215 : decode cX0_bytes 215 = .ok (.aaload, 1) := by decide +kernel
theorem dX0_bytes_216 : decode cX0_bytes 216 = .ok (.iload 10, 2) := by decide +kernel
theorem dX0_bytes_218 : decode cX0_bytes 218 = .ok (.baload, 1) := by decide +kernel
theorem dX0_bytes_219 : decode cX0_bytes 219 = .ok (.invokevirtual 266, 3) := by decide +kernel
theorem dX0_bytes_222 : decode cX0_bytes 222 = .ok (.iinc 10 1, 3) := by decide +kernel
theorem dX0_bytes_225 : decode cX0_bytes 225 = .ok (.goto (-54), 3) := by decide +kernel
theorem dX0_bytes_228 : decode cX0_bytes 228 = .ok (.iinc 6 1, 3) := by decide +kernel
theorem dX0_bytes_231 : decode cX0_bytes 231 = .ok (.goto (-196), 3) := by decide +kernel
theorem dX0_bytes_234 : decode cX0_bytes 234 = .ok (.iload 5, 2) := by decide +kernel
theorem dX0_bytes_236 : decode cX0_bytes 236 = .ok (.ireturn, 1) := by decide +kernel
abbrev cX0_sends : ByteArray := prog_1_method_19_code
def yX0_sends : MethodName := ⟨RX0, "sends", "(I)V"⟩
theorem dX0_sends_0 : decode cX0_sends 0 = .ok (.aload_n 0, 1) := by decide +kernel
theorem dX0_sends_1 : decode cX0_sends 1 = .ok (.getfield 42, 3) := by decide +kernel
theorem dX0_sends_4 : decode cX0_sends 4 = .ok (.aload_n 0, 1) := by decide +kernel
theorem dX0_sends_5 : decode cX0_sends 5 = .ok (.getfield 42, 3) := by decide +kernel
theorem dX0_sends_8 : decode cX0_sends 8 = .ok (.aload_n 0, 1) := by decide +kernel
theorem dX0_sends_9 : decode cX0_sends 9 = .ok (.getfield 42, 3) := by decide +kernel
theorem dX0_sends_12 : decode cX0_sends 12 = .ok (.getfield 265, 3) := by decide +kernel
theorem dX0_sends_15 : decode cX0_sends 15 = .ok (.invokevirtual 287, 3) := by decide +kernel
theorem dX0_sends_18 : decode cX0_sends 18 = .ok (.invokevirtual 269, 3) := by decide +kernel
theorem dX0_sends_21 : decode cX0_sends 21 = .ok (.aload_n 0, 1) := by decide +kernel
theorem dX0_sends_22 : decode cX0_sends 22 = .ok (.getfield 28, 3) := by decide +kernel
theorem dX0_sends_25 : decode cX0_sends 25 = .ok (.iconst 0, 1) := by decide +kernel
theorem dX0_sends_26 : decode cX0_sends 26 = .ok (.dup2, 1) := by decide +kernel
theorem dX0_sends_27 : decode cX0_sends 27 = .ok (.iaload, 1) := by decide +kernel
theorem dX0_sends_28 : decode cX0_sends 28 = .ok (.iconst 1, 1) := by decide +kernel
theorem dX0_sends_29 : decode cX0_sends 29 = .ok (.iadd, 1) := by decide +kernel
theorem dX0_sends_30 : decode cX0_sends 30 = .ok (.iastore, 1) := by decide +kernel
theorem dX0_sends_31 : decode cX0_sends 31 = .ok (.aload_n 0, 1) := by decide +kernel
theorem dX0_sends_32 : decode cX0_sends 32 = .ok (.getfield 28, 3) := by decide +kernel
theorem dX0_sends_35 : decode cX0_sends 35 = .ok (.iconst 1, 1) := by decide +kernel
theorem dX0_sends_36 : decode cX0_sends 36 = .ok (.dup2, 1) := by decide +kernel
theorem dX0_sends_37 : decode cX0_sends 37 = .ok (.iaload, 1) := by decide +kernel
theorem dX0_sends_38 : decode cX0_sends 38 = .ok (.aload_n 0, 1) := by decide +kernel
theorem dX0_sends_39 : decode cX0_sends 39 = .ok (.getfield 42, 3) := by decide +kernel
theorem dX0_sends_42 : decode cX0_sends 42 = .ok (.getfield 265, 3) := by decide +kernel
theorem dX0_sends_45 : decode cX0_sends 45 = .ok (.iadd, 1) := by decide +kernel
theorem dX0_sends_46 : decode cX0_sends 46 = .ok (.iastore, 1) := by decide +kernel
theorem dX0_sends_47 : decode cX0_sends 47 = .ok (.aload_n 0, 1) := by decide +kernel
theorem dX0_sends_48 : decode cX0_sends 48 = .ok (.getfield 35, 3) := by decide +kernel
theorem dX0_sends_51 : decode cX0_sends 51 = .ok (.iload_n 1, 1) := by decide +kernel
theorem dX0_sends_52 : decode cX0_sends 52 = .ok (.aaload, 1) := by decide +kernel
theorem dX0_sends_53 : decode cX0_sends 53 = .ok (.astore_n 2, 1) := by decide +kernel
theorem dX0_sends_54 : decode cX0_sends 54 = .ok (.aload_n 2, 1) := by decide +kernel
theorem dX0_sends_55 : decode cX0_sends 55 = .ok (.getfield 116, 3) := by decide +kernel
theorem dX0_sends_58 : decode cX0_sends 58 = .ok (.bipush 40, 2) := by decide +kernel
theorem dX0_sends_60 : decode cX0_sends 60 = .ok (.if_icmp .ne 14, 3) := by decide +kernel
theorem dX0_sends_63 : decode cX0_sends 63 = .ok (.aload_n 0, 1) := by decide +kernel
theorem dX0_sends_64 : decode cX0_sends 64 = .ok (.getfield 28, 3) := by decide +kernel
theorem dX0_sends_67 : decode cX0_sends 67 = .ok (.iconst 2, 1) := by decide +kernel
theorem dX0_sends_68 : decode cX0_sends 68 = .ok (.dup2, 1) := by decide +kernel
theorem dX0_sends_69 : decode cX0_sends 69 = .ok (.iaload, 1) := by decide +kernel
theorem dX0_sends_70 : decode cX0_sends 70 = .ok (.iconst 1, 1) := by decide +kernel
theorem dX0_sends_71 : decode cX0_sends 71 = .ok (.iadd, 1) := by decide +kernel
theorem dX0_sends_72 : decode cX0_sends 72 = .ok (.iastore, 1) := by decide +kernel
theorem dX0_sends_73 : decode cX0_sends 73 = .ok (.return_, 1) := by decide +kernel
theorem dX0_sends_74 : decode cX0_sends 74 = .ok (.aload_n 2, 1) := by decide +kernel
theorem dX0_sends_75 : decode cX0_sends 75 = .ok (.getfield 290, 3) := by decide +kernel
theorem dX0_sends_78 : decode cX0_sends 78 = .ok (.aload_n 2, 1) := by decide +kernel
theorem dX0_sends_79 : decode cX0_sends 79 = .ok (.getfield 116, 3) := by decide +kernel
theorem dX0_sends_82 : decode cX0_sends 82 = .ok (.aaload, 1) := by decide +kernel
theorem dX0_sends_83 : decode cX0_sends 83 = .ok (.aload_n 0, 1) := by decide +kernel
theorem dX0_sends_84 : decode cX0_sends 84 = .ok (.getfield 42, 3) := by decide +kernel
theorem dX0_sends_87 : decode cX0_sends 87 = .ok (.invokevirtual 294, 3) := by decide +kernel
theorem dX0_sends_90 : decode cX0_sends 90 = .ok (.aload_n 2, 1) := by decide +kernel
theorem dX0_sends_91 : decode cX0_sends 91 = .ok (.dup, 1) := by decide +kernel
theorem dX0_sends_92 : decode cX0_sends 92 = .ok (.getfield 116, 3) := by decide +kernel
theorem dX0_sends_95 : decode cX0_sends 95 = .ok (.iconst 1, 1) := by decide +kernel
theorem dX0_sends_96 : decode cX0_sends 96 = .ok (.iadd, 1) := by decide +kernel
theorem dX0_sends_97 : decode cX0_sends 97 = .ok (.putfield 116, 3) := by decide +kernel
theorem dX0_sends_100 : decode cX0_sends 100 = .ok (.return_, 1) := by decide +kernel
abbrev cX0_sendsNear : ByteArray := prog_1_method_17_code
def yX0_sendsNear : MethodName := ⟨RX0, "sendsNear", "()V"⟩
theorem dX0_sendsNear_0 : decode cX0_sendsNear 0 = .ok (.aload_n 0, 1) := by decide +kernel
theorem dX0_sendsNear_1 : decode cX0_sendsNear 1 = .ok (.getfield 42, 3) := by decide +kernel
theorem dX0_sendsNear_4 : decode cX0_sendsNear 4 = .ok (.iconst 0, 1) := by decide +kernel
theorem dX0_sendsNear_5 : decode cX0_sendsNear 5 = .ok (.putfield 265, 3) := by decide +kernel
theorem dX0_sendsNear_8 : decode cX0_sendsNear 8 = .ok (.aload_n 0, 1) := by decide +kernel
theorem dX0_sendsNear_9 : decode cX0_sendsNear 9 = .ok (.getfield 42, 3) := by decide +kernel
theorem dX0_sendsNear_12 : decode cX0_sendsNear 12 = .ok (.bipush 75, 2) := by decide +kernel
theorem dX0_sendsNear_14 : decode cX0_sendsNear 14 = .ok (.invokevirtual 266, 3) := by decide +kernel
theorem dX0_sendsNear_17 : decode cX0_sendsNear 17 = .ok (.aload_n 0, 1) := by decide +kernel
theorem dX0_sendsNear_18 : decode cX0_sendsNear 18 = .ok (.getfield 42, 3) := by decide +kernel
theorem dX0_sendsNear_21 : decode cX0_sendsNear 21 = .ok (.aload_n 0, 1) := by decide +kernel
theorem dX0_sendsNear_22 : decode cX0_sendsNear 22 = .ok (.getfield 50, 3) := by decide +kernel
theorem dX0_sendsNear_25 : decode cX0_sendsNear 25 = .ok (.invokevirtual 266, 3) := by decide +kernel
theorem dX0_sendsNear_28 : decode cX0_sendsNear 28 = .ok (.aload_n 0, 1) := by decide +kernel
theorem dX0_sendsNear_29 : decode cX0_sendsNear 29 = .ok (.getfield 42, 3) := by decide +kernel
theorem dX0_sendsNear_32 : decode cX0_sendsNear 32 = .ok (.aload_n 0, 1) := by decide +kernel
theorem dX0_sendsNear_33 : decode cX0_sendsNear 33 = .ok (.getfield 123, 3) := by decide +kernel
theorem dX0_sendsNear_36 : decode cX0_sendsNear 36 = .ok (.invokevirtual 269, 3) := by decide +kernel
theorem dX0_sendsNear_39 : decode cX0_sendsNear 39 = .ok (.aload_n 0, 1) := by decide +kernel
theorem dX0_sendsNear_40 : decode cX0_sendsNear 40 = .ok (.getfield 42, 3) := by decide +kernel
theorem dX0_sendsNear_43 : decode cX0_sendsNear 43 = .ok (.aload_n 0, 1) := by decide +kernel
theorem dX0_sendsNear_44 : decode cX0_sendsNear 44 = .ok (.getfield 120, 3) := by decide +kernel
theorem dX0_sendsNear_47 : decode cX0_sendsNear 47 = .ok (.invokevirtual 269, 3) := by decide +kernel
theorem dX0_sendsNear_50 : decode cX0_sendsNear 50 = .ok (.aload_n 0, 1) := by decide +kernel
theorem dX0_sendsNear_51 : decode cX0_sendsNear 51 = .ok (.getfield 42, 3) := by decide +kernel
theorem dX0_sendsNear_54 : decode cX0_sendsNear 54 = .ok (.aload_n 0, 1) := by decide +kernel
theorem dX0_sendsNear_55 : decode cX0_sendsNear 55 = .ok (.getfield 56, 3) := by decide +kernel
theorem dX0_sendsNear_58 : decode cX0_sendsNear 58 = .ok (.invokevirtual 207, 3) := by decide +kernel
theorem dX0_sendsNear_61 : decode cX0_sendsNear 61 = .ok (.getfield 110, 3) := by decide +kernel
theorem dX0_sendsNear_64 : decode cX0_sendsNear 64 = .ok (.invokevirtual 269, 3) := by decide +kernel
theorem dX0_sendsNear_67 : decode cX0_sendsNear 67 = .ok (.aload_n 0, 1) := by decide +kernel
theorem dX0_sendsNear_68 : decode cX0_sendsNear 68 = .ok (.getfield 123, 3) := by decide +kernel
theorem dX0_sendsNear_71 : decode cX0_sendsNear 71 = .ok (.istore_n 1, 1) := by decide +kernel
theorem dX0_sendsNear_72 : decode cX0_sendsNear 72 = .ok (.iload_n 1, 1) := by decide +kernel
theorem dX0_sendsNear_73 : decode cX0_sendsNear 73 = .ok (.aload_n 0, 1) := by decide +kernel
theorem dX0_sendsNear_74 : decode cX0_sendsNear 74 = .ok (.getfield 120, 3) := by decide +kernel
theorem dX0_sendsNear_77 : decode cX0_sendsNear 77 = .ok (.if_icmp .ge 22, 3) := by decide +kernel
theorem dX0_sendsNear_80 : decode cX0_sendsNear 80 = .ok (.aload_n 0, 1) := by decide +kernel
theorem dX0_sendsNear_81 : decode cX0_sendsNear 81 = .ok (.getfield 42, 3) := by decide +kernel
theorem dX0_sendsNear_84 : decode cX0_sendsNear 84 = .ok (.aload_n 0, 1) := by decide +kernel
theorem dX0_sendsNear_85 : decode cX0_sendsNear 85 = .ok (.getfield 46, 3) := by decide +kernel
theorem dX0_sendsNear_88 : decode cX0_sendsNear 88 = .ok (.iload_n 1, 1) := by decide +kernel
theorem dX0_sendsNear_89 : decode cX0_sendsNear 89 = .ok (.baload, 1) := by decide +kernel
theorem dX0_sendsNear_90 : decode cX0_sendsNear 90 = .ok (.invokevirtual 266, 3) := by decide +kernel
theorem dX0_sendsNear_93 : decode cX0_sendsNear 93 = .ok (.iinc 1 1, 3) := by decide +kernel
theorem dX0_sendsNear_96 : decode cX0_sendsNear 96 = .ok (.goto (-24), 3) := by decide +kernel
theorem dX0_sendsNear_99 : decode cX0_sendsNear 99 = .ok (.aload_n 0, 1) := by decide +kernel
theorem dX0_sendsNear_100 : decode cX0_sendsNear 100 = .ok (.aload_n 0, 1) := by decide +kernel
theorem dX0_sendsNear_101 : decode cX0_sendsNear 101 = .ok (.getfield 120, 3) := by decide +kernel
theorem dX0_sendsNear_104 : decode cX0_sendsNear 104 = .ok (.putfield 126, 3) := by decide +kernel
theorem dX0_sendsNear_107 : decode cX0_sendsNear 107 = .ok (.aload_n 0, 1) := by decide +kernel
theorem dX0_sendsNear_108 : decode cX0_sendsNear 108 = .ok (.aload_n 0, 1) := by decide +kernel
theorem dX0_sendsNear_109 : decode cX0_sendsNear 109 = .ok (.getfield 117, 3) := by decide +kernel
theorem dX0_sendsNear_112 : decode cX0_sendsNear 112 = .ok (.putfield 129, 3) := by decide +kernel
theorem dX0_sendsNear_115 : decode cX0_sendsNear 115 = .ok (.aload_n 0, 1) := by decide +kernel
theorem dX0_sendsNear_116 : decode cX0_sendsNear 116 = .ok (.iconst 0, 1) := by decide +kernel
theorem dX0_sendsNear_117 : decode cX0_sendsNear 117 = .ok (.putfield 135, 3) := by decide +kernel
theorem dX0_sendsNear_120 : decode cX0_sendsNear 120 = .ok (.aload_n 0, 1) := by decide +kernel
theorem dX0_sendsNear_121 : decode cX0_sendsNear 121 = .ok (.iconst 0, 1) := by decide +kernel
theorem dX0_sendsNear_122 : decode cX0_sendsNear 122 = .ok (.invokevirtual 272, 3) := by decide +kernel
theorem dX0_sendsNear_125 : decode cX0_sendsNear 125 = .ok (.return_, 1) := by decide +kernel
abbrev cX0_round : ByteArray := prog_1_method_26_code
def yX0_round : MethodName := ⟨RX0, "round", "()I"⟩
theorem dX0_round_0 : decode cX0_round 0 = .ok (.aload_n 0, 1) := by decide +kernel
theorem dX0_round_1 : decode cX0_round 1 = .ok (.invokevirtual 346, 3) := by decide +kernel
theorem dX0_round_4 : decode cX0_round 4 = .ok (.pop, 1) := by decide +kernel
theorem dX0_round_5 : decode cX0_round 5 = .ok (.iconst 0, 1) := by decide +kernel
theorem dX0_round_6 : decode cX0_round 6 = .ok (.istore_n 1, 1) := by decide +kernel
theorem dX0_round_7 : decode cX0_round 7 = .ok (.iconst 0, 1) := by decide +kernel
theorem dX0_round_8 : decode cX0_round 8 = .ok (.istore_n 2, 1) := by decide +kernel
theorem dX0_round_9 : decode cX0_round 9 = .ok (.iload_n 2, 1) := by decide +kernel
theorem dX0_round_10 : decode cX0_round 10 = .ok (.iconst 2, 1) := by decide +kernel
theorem dX0_round_11 : decode cX0_round 11 = .ok (.if_icmp .ge 61, 3) := by decide +kernel
theorem dX0_round_14 : decode cX0_round 14 = .ok (.aload_n 0, 1) := by decide +kernel
theorem dX0_round_15 : decode cX0_round 15 = .ok (.getfield 35, 3) := by decide +kernel
theorem dX0_round_18 : decode cX0_round 18 = .ok (.iload_n 2, 1) := by decide +kernel
theorem dX0_round_19 : decode cX0_round 19 = .ok (.aaload, 1) := by decide +kernel
theorem dX0_round_20 : decode cX0_round 20 = .ok (.getfield 116, 3) := by decide +kernel
theorem dX0_round_23 : decode cX0_round 23 = .ok (.ifCond .le 43, 3) := by decide +kernel
theorem dX0_round_26 : decode cX0_round 26 = .ok (.aload_n 0, 1) := by decide +kernel
theorem dX0_round_27 : decode cX0_round 27 = .ok (.getfield 42, 3) := by decide +kernel
theorem dX0_round_30 : decode cX0_round 30 = .ok (.aload_n 0, 1) := by decide +kernel
theorem dX0_round_31 : decode cX0_round 31 = .ok (.getfield 35, 3) := by decide +kernel
theorem dX0_round_34 : decode cX0_round 34 = .ok (.iload_n 2, 1) := by decide +kernel
theorem dX0_round_35 : decode cX0_round 35 = .ok (.aaload, 1) := by decide +kernel
theorem dX0_round_36 : decode cX0_round 36 = .ok (.getfield 290, 3) := by decide +kernel
theorem dX0_round_39 : decode cX0_round 39 = .ok (.iconst 0, 1) := by decide +kernel
theorem dX0_round_40 : decode cX0_round 40 = .ok (.aaload, 1) := by decide +kernel
theorem dX0_round_41 : decode cX0_round 41 = .ok (.invokevirtual 294, 3) := by decide +kernel
theorem dX0_round_44 : decode cX0_round 44 = .ok (.aload_n 0, 1) := by decide +kernel
theorem dX0_round_45 : decode cX0_round 45 = .ok (.getfield 35, 3) := by decide +kernel
theorem dX0_round_48 : decode cX0_round 48 = .ok (.iload_n 2, 1) := by decide +kernel
theorem dX0_round_49 : decode cX0_round 49 = .ok (.aaload, 1) := by decide +kernel
theorem dX0_round_50 : decode cX0_round 50 = .ok (.iconst 0, 1) := by decide +kernel
theorem dX0_round_51 : decode cX0_round 51 = .ok (.invokevirtual 350, 3) := by decide +kernel
theorem dX0_round_54 : decode cX0_round 54 = .ok (.aload_n 0, 1) := by decide +kernel
theorem dX0_round_55 : decode cX0_round 55 = .ok (.iload_n 2, 1) := by decide +kernel
theorem dX0_round_56 : decode cX0_round 56 = .ok (.iconst 0, 1) := by decide +kernel
theorem dX0_round_57 : decode cX0_round 57 = .ok (.invokevirtual 353, 3) := by decide +kernel
theorem dX0_round_60 : decode cX0_round 60 = .ok (.iinc 1 1, 3) := by decide +kernel
theorem dX0_round_63 : decode cX0_round 63 = .ok (.goto (-49), 3) := by decide +kernel
theorem dX0_round_66 : decode cX0_round 66 = .ok (.iinc 2 1, 3) := by decide +kernel
theorem dX0_round_69 : decode cX0_round 69 = .ok (.goto (-60), 3) := by decide +kernel
theorem dX0_round_72 : decode cX0_round 72 = .ok (.iload_n 1, 1) := by decide +kernel
theorem dX0_round_73 : decode cX0_round 73 = .ok (.ireturn, 1) := by decide +kernel
abbrev cX0_takes : ByteArray := prog_1_method_23_code
def yX0_takes : MethodName := ⟨RX0, "takes", "(IZ)V"⟩
theorem dX0_takes_0 : decode cX0_takes 0 = .ok (.aload_n 0, 1) := by decide +kernel
theorem dX0_takes_1 : decode cX0_takes 1 = .ok (.getfield 42, 3) := by decide +kernel
theorem dX0_takes_4 : decode cX0_takes 4 = .ok (.iload_n 1, 1) := by decide +kernel
theorem dX0_takes_5 : decode cX0_takes 5 = .ok (.ifCond .ne 8, 3) := by decide +kernel
theorem dX0_takes_8 : decode cX0_takes 8 = .ok (.bipush 75, 2) := by decide +kernel
theorem dX0_takes_10 : decode cX0_takes 10 = .ok (.goto 5, 3) := by decide +kernel
theorem dX0_takes_13 : decode cX0_takes 13 = .ok (.bipush 83, 2) := by decide +kernel
theorem dX0_takes_15 : decode cX0_takes 15 = .ok (.invokevirtual 321, 3) := by decide +kernel
theorem dX0_takes_18 : decode cX0_takes 18 = .ok (.ifCond .eq 28, 3) := by decide +kernel
theorem dX0_takes_21 : decode cX0_takes 21 = .ok (.aload_n 0, 1) := by decide +kernel
theorem dX0_takes_22 : decode cX0_takes 22 = .ok (.getfield 42, 3) := by decide +kernel
theorem dX0_takes_25 : decode cX0_takes 25 = .ok (.getfield 265, 3) := by decide +kernel
theorem dX0_takes_28 : decode cX0_takes 28 = .ok (.iload_n 1, 1) := by decide +kernel
theorem dX0_takes_29 : decode cX0_takes 29 = .ok (.ifCond .ne 8, 3) := by decide +kernel
theorem dX0_takes_32 : decode cX0_takes 32 = .ok (.bipush 10, 2) := by decide +kernel
theorem dX0_takes_34 : decode cX0_takes 34 = .ok (.goto 5, 3) := by decide +kernel
theorem dX0_takes_37 : decode cX0_takes 37 = .ok (.bipush 13, 2) := by decide +kernel
theorem dX0_takes_39 : decode cX0_takes 39 = .ok (.if_icmp .lt 7, 3) := by decide +kernel
theorem dX0_takes_42 : decode cX0_takes 42 = .ok (.iconst 1, 1) := by decide +kernel
theorem dX0_takes_43 : decode cX0_takes 43 = .ok (.goto 4, 3) := by decide +kernel
theorem dX0_takes_46 : decode cX0_takes 46 = .ok (.iconst 0, 1) := by decide +kernel
theorem dX0_takes_47 : decode cX0_takes 47 = .ok (.istore_n 3, 1) := by decide +kernel
theorem dX0_takes_48 : decode cX0_takes 48 = .ok (.iload_n 3, 1) := by decide +kernel
theorem dX0_takes_49 : decode cX0_takes 49 = .ok (.ifCond .ne 14, 3) := by decide +kernel
theorem dX0_takes_52 : decode cX0_takes 52 = .ok (.aload_n 0, 1) := by decide +kernel
theorem dX0_takes_53 : decode cX0_takes 53 = .ok (.getfield 28, 3) := by decide +kernel
theorem dX0_takes_56 : decode cX0_takes 56 = .ok (.iconst 3, 1) := by decide +kernel
theorem dX0_takes_57 : decode cX0_takes 57 = .ok (.dup2, 1) := by decide +kernel
theorem dX0_takes_58 : decode cX0_takes 58 = .ok (.iaload, 1) := by decide +kernel
theorem dX0_takes_59 : decode cX0_takes 59 = .ok (.iconst 1, 1) := by decide +kernel
theorem dX0_takes_60 : decode cX0_takes 60 = .ok (.iadd, 1) := by decide +kernel
theorem dX0_takes_61 : decode cX0_takes 61 = .ok (.iastore, 1) := by decide +kernel
theorem dX0_takes_62 : decode cX0_takes 62 = .ok (.return_, 1) := by decide +kernel
theorem dX0_takes_63 : decode cX0_takes 63 = .ok (.iload_n 1, 1) := by decide +kernel
theorem dX0_takes_64 : decode cX0_takes 64 = .ok (.ifCond .ne 10, 3) := by decide +kernel
theorem dX0_takes_67 : decode cX0_takes 67 = .ok (.aload_n 0, 1) := by decide +kernel
theorem dX0_takes_68 : decode cX0_takes 68 = .ok (.invokevirtual 324, 3) := by decide +kernel
theorem dX0_takes_71 : decode cX0_takes 71 = .ok (.goto 7, 3) := by decide +kernel
theorem dX0_takes_74 : decode cX0_takes 74 = .ok (.aload_n 0, 1) := by decide +kernel
theorem dX0_takes_75 : decode cX0_takes 75 = .ok (.invokevirtual 327, 3) := by decide +kernel
theorem dX0_takes_78 : decode cX0_takes 78 = .ok (.istore 4, 2) := by decide +kernel
theorem dX0_takes_80 : decode cX0_takes 80 = .ok (.iload 4, 2) := by decide +kernel
theorem dX0_takes_82 : decode cX0_takes 82 = .ok (.ifCond .ne 4, 3) := by decide +kernel
theorem dX0_takes_85 : decode cX0_takes 85 = .ok (.return_, 1) := by decide +kernel
theorem dX0_takes_86 : decode cX0_takes 86 = .ok (.aload_n 0, 1) := by decide +kernel
theorem dX0_takes_87 : decode cX0_takes 87 = .ok (.getfield 28, 3) := by decide +kernel
theorem dX0_takes_90 : decode cX0_takes 90 = .ok (.iconst 5, 1) := by decide +kernel
theorem dX0_takes_91 : decode cX0_takes 91 = .ok (.dup2, 1) := by decide +kernel
theorem dX0_takes_92 : decode cX0_takes 92 = .ok (.iaload, 1) := by decide +kernel
theorem dX0_takes_93 : decode cX0_takes 93 = .ok (.iconst 1, 1) := by decide +kernel
theorem dX0_takes_94 : decode cX0_takes 94 = .ok (.iadd, 1) := by decide +kernel
theorem dX0_takes_95 : decode cX0_takes 95 = .ok (.iastore, 1) := by decide +kernel
theorem dX0_takes_96 : decode cX0_takes 96 = .ok (.aload_n 0, 1) := by decide +kernel
theorem dX0_takes_97 : decode cX0_takes 97 = .ok (.getfield 28, 3) := by decide +kernel
theorem dX0_takes_100 : decode cX0_takes 100 = .ok (.bipush 6, 2) := by decide +kernel
theorem dX0_takes_102 : decode cX0_takes 102 = .ok (.dup2, 1) := by decide +kernel
theorem dX0_takes_103 : decode cX0_takes 103 = .ok (.iaload, 1) := by decide +kernel
theorem dX0_takes_104 : decode cX0_takes 104 = .ok (.iload_n 2, 1) := by decide +kernel
theorem dX0_takes_105 : decode cX0_takes 105 = .ok (.ifCond .eq 7, 3) := by decide +kernel
theorem dX0_takes_108 : decode cX0_takes 108 = .ok (.iconst 1, 1) := by decide +kernel
theorem dX0_takes_109 : decode cX0_takes 109 = .ok (.goto 4, 3) := by decide +kernel
theorem dX0_takes_112 : decode cX0_takes 112 = .ok (.iconst 0, 1) := by decide +kernel
theorem dX0_takes_113 : decode cX0_takes 113 = .ok (.iadd, 1) := by decide +kernel
theorem dX0_takes_114 : decode cX0_takes 114 = .ok (.iastore, 1) := by decide +kernel
theorem dX0_takes_115 : decode cX0_takes 115 = .ok (.return_, 1) := by decide +kernel
abbrev cX0_takesFar : ByteArray := prog_1_method_24_code
def yX0_takesFar : MethodName := ⟨RX0, "takesFar", "()Z"⟩
theorem dX0_takesFar_0 : decode cX0_takesFar 0 = .ok (.aload_n 0, 1) := by decide +kernel
theorem dX0_takesFar_1 : decode cX0_takesFar 1 = .ok (.getfield 42, 3) := by decide +kernel
theorem dX0_takesFar_4 : decode cX0_takesFar 4 = .ok (.iconst 2, 1) := by decide +kernel
theorem dX0_takesFar_5 : decode cX0_takesFar 5 = .ok (.invokevirtual 330, 3) := by decide +kernel
theorem dX0_takesFar_8 : decode cX0_takesFar 8 = .ok (.istore_n 1, 1) := by decide +kernel
theorem dX0_takesFar_9 : decode cX0_takesFar 9 = .ok (.aload_n 0, 1) := by decide +kernel
theorem dX0_takesFar_10 : decode cX0_takesFar 10 = .ok (.getfield 42, 3) := by decide +kernel
theorem dX0_takesFar_13 : decode cX0_takesFar 13 = .ok (.iconst 4, 1) := by decide +kernel
theorem dX0_takesFar_14 : decode cX0_takesFar 14 = .ok (.invokevirtual 330, 3) := by decide +kernel
theorem dX0_takesFar_17 : decode cX0_takesFar 17 = .ok (.istore_n 2, 1) := by decide +kernel
theorem dX0_takesFar_18 : decode cX0_takesFar 18 = .ok (.aload_n 0, 1) := by decide +kernel
theorem dX0_takesFar_19 : decode cX0_takesFar 19 = .ok (.getfield 42, 3) := by decide +kernel
theorem dX0_takesFar_22 : decode cX0_takesFar 22 = .ok (.bipush 6, 2) := by decide +kernel
theorem dX0_takesFar_24 : decode cX0_takesFar 24 = .ok (.invokevirtual 330, 3) := by decide +kernel
theorem dX0_takesFar_27 : decode cX0_takesFar 27 = .ok (.istore_n 3, 1) := by decide +kernel
theorem dX0_takesFar_28 : decode cX0_takesFar 28 = .ok (.iload_n 1, 1) := by decide +kernel
theorem dX0_takesFar_29 : decode cX0_takesFar 29 = .ok (.aload_n 0, 1) := by decide +kernel
theorem dX0_takesFar_30 : decode cX0_takesFar 30 = .ok (.getfield 142, 3) := by decide +kernel
theorem dX0_takesFar_33 : decode cX0_takesFar 33 = .ok (.if_icmp .le 15, 3) := by decide +kernel
theorem dX0_takesFar_36 : decode cX0_takesFar 36 = .ok (.aload_n 0, 1) := by decide +kernel
theorem dX0_takesFar_37 : decode cX0_takesFar 37 = .ok (.getfield 28, 3) := by decide +kernel
theorem dX0_takesFar_40 : decode cX0_takesFar 40 = .ok (.iconst 4, 1) := by decide +kernel
theorem dX0_takesFar_41 : decode cX0_takesFar 41 = .ok (.dup2, 1) := by decide +kernel
theorem dX0_takesFar_42 : decode cX0_takesFar 42 = .ok (.iaload, 1) := by decide +kernel
theorem dX0_takesFar_43 : decode cX0_takesFar 43 = .ok (.iconst 1, 1) := by decide +kernel
theorem dX0_takesFar_44 : decode cX0_takesFar 44 = .ok (.iadd, 1) := by decide +kernel
theorem dX0_takesFar_45 : decode cX0_takesFar 45 = .ok (.iastore, 1) := by decide +kernel
theorem dX0_takesFar_46 : decode cX0_takesFar 46 = .ok (.iconst 0, 1) := by decide +kernel
theorem dX0_takesFar_47 : decode cX0_takesFar 47 = .ok (.ireturn, 1) := by decide +kernel
theorem dX0_takesFar_48 : decode cX0_takesFar 48 = .ok (.aload_n 0, 1) := by decide +kernel
theorem dX0_takesFar_49 : decode cX0_takesFar 49 = .ok (.getfield 142, 3) := by decide +kernel
theorem dX0_takesFar_52 : decode cX0_takesFar 52 = .ok (.istore 4, 2) := by decide +kernel
theorem dX0_takesFar_54 : decode cX0_takesFar 54 = .ok (.iload 4, 2) := by decide +kernel
theorem dX0_takesFar_56 : decode cX0_takesFar 56 = .ok (.iload_n 2, 1) := by decide +kernel
theorem dX0_takesFar_57 : decode cX0_takesFar 57 = .ok (.if_icmp .ge 67, 3) := by decide +kernel
theorem dX0_takesFar_60 : decode cX0_takesFar 60 = .ok (.bipush 8, 2) := by decide +kernel
theorem dX0_takesFar_62 : decode cX0_takesFar 62 = .ok (.iload 4, 2) := by decide +kernel
theorem dX0_takesFar_64 : decode cX0_takesFar 64 = .ok (.iadd, 1) := by decide +kernel
theorem dX0_takesFar_65 : decode cX0_takesFar 65 = .ok (.iload_n 1, 1) := by decide +kernel
theorem dX0_takesFar_66 : decode cX0_takesFar 66 = .ok (.isub, 1) := by decide +kernel
theorem dX0_takesFar_67 : decode cX0_takesFar 67 = .ok (.aload_n 0, 1) := by decide +kernel
theorem dX0_takesFar_68 : decode cX0_takesFar 68 = .ok (.getfield 42, 3) := by decide +kernel
theorem dX0_takesFar_71 : decode cX0_takesFar 71 = .ok (.getfield 265, 3) := by decide +kernel
theorem dX0_takesFar_74 : decode cX0_takesFar 74 = .ok (.iconst 2, 1) := by decide +kernel
theorem dX0_takesFar_75 : decode cX0_takesFar 75 = .ok (.isub, 1) := by decide +kernel
theorem dX0_takesFar_76 : decode cX0_takesFar 76 = .ok (.if_icmp .ge 48, 3) := by decide +kernel
theorem dX0_takesFar_79 : decode cX0_takesFar 79 = .ok (.aload_n 0, 1) := by decide +kernel
theorem dX0_takesFar_80 : decode cX0_takesFar 80 = .ok (.getfield 60, 3) := by decide +kernel
theorem dX0_takesFar_83 : decode cX0_takesFar 83 = .ok (.aload_n 0, 1) := by decide +kernel
theorem dX0_takesFar_84 : decode cX0_takesFar 84 = .ok (.getfield 42, 3) := by decide +kernel
theorem dX0_takesFar_87 : decode cX0_takesFar 87 = .ok (.bipush 8, 2) := by decide +kernel
theorem dX0_takesFar_89 : decode cX0_takesFar 89 = .ok (.iload 4, 2) := by decide +kernel
theorem dX0_takesFar_91 : decode cX0_takesFar 91 = .ok (.iadd, 1) := by decide +kernel
theorem dX0_takesFar_92 : decode cX0_takesFar 92 = .ok (.iload_n 1, 1) := by decide +kernel
theorem dX0_takesFar_93 : decode cX0_takesFar 93 = .ok (.isub, 1) := by decide +kernel
theorem dX0_takesFar_94 : decode cX0_takesFar 94 = .ok (.invokevirtual 315, 3) := by decide +kernel
theorem dX0_takesFar_97 : decode cX0_takesFar 97 = .ok (.aload_n 0, 1) := by decide +kernel
theorem dX0_takesFar_98 : decode cX0_takesFar 98 = .ok (.getfield 73, 3) := by decide +kernel
theorem dX0_takesFar_101 : decode cX0_takesFar 101 = .ok (.aload_n 0, 1) := by decide +kernel
theorem dX0_takesFar_102 : decode cX0_takesFar 102 = .ok (.getfield 139, 3) := by decide +kernel
theorem dX0_takesFar_105 : decode cX0_takesFar 105 = .ok (.invokevirtual 333, 3) := by decide +kernel
theorem dX0_takesFar_108 : decode cX0_takesFar 108 = .ok (.aload_n 0, 1) := by decide +kernel
theorem dX0_takesFar_109 : decode cX0_takesFar 109 = .ok (.dup, 1) := by decide +kernel
theorem dX0_takesFar_110 : decode cX0_takesFar 110 = .ok (.getfield 142, 3) := by decide +kernel
theorem dX0_takesFar_113 : decode cX0_takesFar 113 = .ok (.iconst 1, 1) := by decide +kernel
theorem dX0_takesFar_114 : decode cX0_takesFar 114 = .ok (.iadd, 1) := by decide +kernel
theorem dX0_takesFar_115 : decode cX0_takesFar 115 = .ok (.putfield 142, 3) := by decide +kernel
theorem dX0_takesFar_118 : decode cX0_takesFar 118 = .ok (.iinc 4 1, 3) := by decide +kernel
theorem dX0_takesFar_121 : decode cX0_takesFar 121 = .ok (.goto (-67), 3) := by decide +kernel
theorem dX0_takesFar_124 : decode cX0_takesFar 124 = .ok (.iload_n 3, 1) := by decide +kernel
theorem dX0_takesFar_125 : decode cX0_takesFar 125 = .ok (.aload_n 0, 1) := by decide +kernel
theorem dX0_takesFar_126 : decode cX0_takesFar 126 = .ok (.getfield 143, 3) := by decide +kernel
theorem dX0_takesFar_129 : decode cX0_takesFar 129 = .ok (.if_icmp .le 31, 3) := by decide +kernel
theorem dX0_takesFar_132 : decode cX0_takesFar 132 = .ok (.aload_n 0, 1) := by decide +kernel
theorem dX0_takesFar_133 : decode cX0_takesFar 133 = .ok (.getfield 67, 3) := by decide +kernel
theorem dX0_takesFar_136 : decode cX0_takesFar 136 = .ok (.iload_n 3, 1) := by decide +kernel
theorem dX0_takesFar_137 : decode cX0_takesFar 137 = .ok (.invokevirtual 279, 3) := by decide +kernel
theorem dX0_takesFar_140 : decode cX0_takesFar 140 = .ok (.iconst (-1), 1) := by decide +kernel
theorem dX0_takesFar_141 : decode cX0_takesFar 141 = .ok (.if_icmp .eq 19, 3) := by decide +kernel
theorem dX0_takesFar_144 : decode cX0_takesFar 144 = .ok (.aload_n 0, 1) := by decide +kernel
theorem dX0_takesFar_145 : decode cX0_takesFar 145 = .ok (.iload_n 3, 1) := by decide +kernel
theorem dX0_takesFar_146 : decode cX0_takesFar 146 = .ok (.putfield 143, 3) := by decide +kernel
theorem dX0_takesFar_149 : decode cX0_takesFar 149 = .ok (.aload_n 0, 1) := by decide +kernel
theorem dX0_takesFar_150 : decode cX0_takesFar 150 = .ok (.getfield 67, 3) := by decide +kernel
theorem dX0_takesFar_153 : decode cX0_takesFar 153 = .ok (.aload_n 0, 1) := by decide +kernel
theorem dX0_takesFar_154 : decode cX0_takesFar 154 = .ok (.getfield 143, 3) := by decide +kernel
theorem dX0_takesFar_157 : decode cX0_takesFar 157 = .ok (.invokevirtual 337, 3) := by decide +kernel
theorem dX0_takesFar_160 : decode cX0_takesFar 160 = .ok (.iload_n 2, 1) := by decide +kernel
theorem dX0_takesFar_161 : decode cX0_takesFar 161 = .ok (.aload_n 0, 1) := by decide +kernel
theorem dX0_takesFar_162 : decode cX0_takesFar 162 = .ok (.getfield 152, 3) := by decide +kernel
theorem dX0_takesFar_165 : decode cX0_takesFar 165 = .ok (.if_icmp .lt 20, 3) := by decide +kernel
theorem dX0_takesFar_168 : decode cX0_takesFar 168 = .ok (.aload_n 0, 1) := by decide +kernel
theorem dX0_takesFar_169 : decode cX0_takesFar 169 = .ok (.iload_n 2, 1) := by decide +kernel
theorem dX0_takesFar_170 : decode cX0_takesFar 170 = .ok (.putfield 152, 3) := by decide +kernel
theorem dX0_takesFar_173 : decode cX0_takesFar 173 = .ok (.aload_n 0, 1) := by decide +kernel
theorem dX0_takesFar_174 : decode cX0_takesFar 174 = .ok (.aload_n 0, 1) := by decide +kernel
theorem dX0_takesFar_175 : decode cX0_takesFar 175 = .ok (.getfield 42, 3) := by decide +kernel
theorem dX0_takesFar_178 : decode cX0_takesFar 178 = .ok (.iconst 1, 1) := by decide +kernel
theorem dX0_takesFar_179 : decode cX0_takesFar 179 = .ok (.invokevirtual 315, 3) := by decide +kernel
theorem dX0_takesFar_182 : decode cX0_takesFar 182 = .ok (.putfield 64, 3) := by decide +kernel
theorem dX0_takesFar_185 : decode cX0_takesFar 185 = .ok (.aload_n 0, 1) := by decide +kernel
theorem dX0_takesFar_186 : decode cX0_takesFar 186 = .ok (.aload_n 0, 1) := by decide +kernel
theorem dX0_takesFar_187 : decode cX0_takesFar 187 = .ok (.getfield 155, 3) := by decide +kernel
theorem dX0_takesFar_190 : decode cX0_takesFar 190 = .ok (.ifCond .ne 11, 3) := by decide +kernel
theorem dX0_takesFar_193 : decode cX0_takesFar 193 = .ok (.iload_n 1, 1) := by decide +kernel
theorem dX0_takesFar_194 : decode cX0_takesFar 194 = .ok (.aload_n 0, 1) := by decide +kernel
theorem dX0_takesFar_195 : decode cX0_takesFar 195 = .ok (.getfield 142, 3) := by decide +kernel
theorem dX0_takesFar_198 : decode cX0_takesFar 198 = .ok (.if_icmp .ge 7, 3) := by decide +kernel
theorem dX0_takesFar_201 : decode cX0_takesFar 201 = .ok (.iconst 1, 1) := by decide +kernel
theorem dX0_takesFar_202 : decode cX0_takesFar 202 = .ok (.goto 4, 3) := by decide +kernel
theorem dX0_takesFar_205 : decode cX0_takesFar 205 = .ok (.iconst 0, 1) := by decide +kernel
theorem dX0_takesFar_206 : decode cX0_takesFar 206 = .ok (.putfield 155, 3) := by decide +kernel
theorem dX0_takesFar_209 : decode cX0_takesFar 209 = .ok (.iconst 1, 1) := by decide +kernel
theorem dX0_takesFar_210 : decode cX0_takesFar 210 = .ok (.ireturn, 1) := by decide +kernel
abbrev cX0_takesNear : ByteArray := prog_1_method_25_code
def yX0_takesNear : MethodName := ⟨RX0, "takesNear", "()Z"⟩
theorem dX0_takesNear_0 : decode cX0_takesNear 0 = .ok (.aload_n 0, 1) := by decide +kernel
theorem dX0_takesNear_1 : decode cX0_takesNear 1 = .ok (.getfield 42, 3) := by decide +kernel
theorem dX0_takesNear_4 : decode cX0_takesNear 4 = .ok (.iconst 1, 1) := by decide +kernel
theorem dX0_takesNear_5 : decode cX0_takesNear 5 = .ok (.invokevirtual 315, 3) := by decide +kernel
theorem dX0_takesNear_8 : decode cX0_takesNear 8 = .ok (.aload_n 0, 1) := by decide +kernel
theorem dX0_takesNear_9 : decode cX0_takesNear 9 = .ok (.getfield 50, 3) := by decide +kernel
theorem dX0_takesNear_12 : decode cX0_takesNear 12 = .ok (.if_icmp .eq 15, 3) := by decide +kernel
theorem dX0_takesNear_15 : decode cX0_takesNear 15 = .ok (.aload_n 0, 1) := by decide +kernel
theorem dX0_takesNear_16 : decode cX0_takesNear 16 = .ok (.getfield 28, 3) := by decide +kernel
theorem dX0_takesNear_19 : decode cX0_takesNear 19 = .ok (.iconst 2, 1) := by decide +kernel
theorem dX0_takesNear_20 : decode cX0_takesNear 20 = .ok (.dup2, 1) := by decide +kernel
theorem dX0_takesNear_21 : decode cX0_takesNear 21 = .ok (.iaload, 1) := by decide +kernel
theorem dX0_takesNear_22 : decode cX0_takesNear 22 = .ok (.iconst 1, 1) := by decide +kernel
theorem dX0_takesNear_23 : decode cX0_takesNear 23 = .ok (.iadd, 1) := by decide +kernel
theorem dX0_takesNear_24 : decode cX0_takesNear 24 = .ok (.iastore, 1) := by decide +kernel
theorem dX0_takesNear_25 : decode cX0_takesNear 25 = .ok (.iconst 0, 1) := by decide +kernel
theorem dX0_takesNear_26 : decode cX0_takesNear 26 = .ok (.ireturn, 1) := by decide +kernel
theorem dX0_takesNear_27 : decode cX0_takesNear 27 = .ok (.aload_n 0, 1) := by decide +kernel
theorem dX0_takesNear_28 : decode cX0_takesNear 28 = .ok (.getfield 42, 3) := by decide +kernel
theorem dX0_takesNear_31 : decode cX0_takesNear 31 = .ok (.iconst 2, 1) := by decide +kernel
theorem dX0_takesNear_32 : decode cX0_takesNear 32 = .ok (.invokevirtual 330, 3) := by decide +kernel
theorem dX0_takesNear_35 : decode cX0_takesNear 35 = .ok (.istore_n 1, 1) := by decide +kernel
theorem dX0_takesNear_36 : decode cX0_takesNear 36 = .ok (.aload_n 0, 1) := by decide +kernel
theorem dX0_takesNear_37 : decode cX0_takesNear 37 = .ok (.getfield 42, 3) := by decide +kernel
theorem dX0_takesNear_40 : decode cX0_takesNear 40 = .ok (.iconst 4, 1) := by decide +kernel
theorem dX0_takesNear_41 : decode cX0_takesNear 41 = .ok (.invokevirtual 330, 3) := by decide +kernel
theorem dX0_takesNear_44 : decode cX0_takesNear 44 = .ok (.istore_n 2, 1) := by decide +kernel
theorem dX0_takesNear_45 : decode cX0_takesNear 45 = .ok (.aload_n 0, 1) := by decide +kernel
theorem dX0_takesNear_46 : decode cX0_takesNear 46 = .ok (.getfield 56, 3) := by decide +kernel
theorem dX0_takesNear_49 : decode cX0_takesNear 49 = .ok (.iload_n 1, 1) := by decide +kernel
theorem dX0_takesNear_50 : decode cX0_takesNear 50 = .ok (.invokevirtual 279, 3) := by decide +kernel
theorem dX0_takesNear_53 : decode cX0_takesNear 53 = .ok (.iconst (-1), 1) := by decide +kernel
theorem dX0_takesNear_54 : decode cX0_takesNear 54 = .ok (.if_icmp .ne 45, 3) := by decide +kernel
theorem dX0_takesNear_57 : decode cX0_takesNear 57 = .ok (.aload_n 0, 1) := by decide +kernel
theorem dX0_takesNear_58 : decode cX0_takesNear 58 = .ok (.getfield 28, 3) := by decide +kernel
theorem dX0_takesNear_61 : decode cX0_takesNear 61 = .ok (.iconst 4, 1) := by decide +kernel
theorem dX0_takesNear_62 : decode cX0_takesNear 62 = .ok (.dup2, 1) := by decide +kernel
theorem dX0_takesNear_63 : decode cX0_takesNear 63 = .ok (.iaload, 1) := by decide +kernel
theorem dX0_takesNear_64 : decode cX0_takesNear 64 = .ok (.iconst 1, 1) := by decide +kernel
theorem dX0_takesNear_65 : decode cX0_takesNear 65 = .ok (.iadd, 1) := by decide +kernel
theorem dX0_takesNear_66 : decode cX0_takesNear 66 = .ok (.iastore, 1) := by decide +kernel
theorem dX0_takesNear_67 : decode cX0_takesNear 67 = .ok (.aload_n 0, 1) := by decide +kernel
theorem dX0_takesNear_68 : decode cX0_takesNear 68 = .ok (.aload_n 0, 1) := by decide +kernel
theorem dX0_takesNear_69 : decode cX0_takesNear 69 = .ok (.getfield 135, 3) := by decide +kernel
theorem dX0_takesNear_72 : decode cX0_takesNear 72 = .ok (.ifCond .ne 17, 3) := by decide +kernel
theorem dX0_takesNear_75 : decode cX0_takesNear 75 = .ok (.iload_n 1, 1) := by decide +kernel
theorem dX0_takesNear_76 : decode cX0_takesNear 76 = .ok (.aload_n 0, 1) := by decide +kernel
theorem dX0_takesNear_77 : decode cX0_takesNear 77 = .ok (.getfield 56, 3) := by decide +kernel
theorem dX0_takesNear_80 : decode cX0_takesNear 80 = .ok (.invokevirtual 207, 3) := by decide +kernel
theorem dX0_takesNear_83 : decode cX0_takesNear 83 = .ok (.getfield 110, 3) := by decide +kernel
theorem dX0_takesNear_86 : decode cX0_takesNear 86 = .ok (.if_icmp .ge 7, 3) := by decide +kernel
theorem dX0_takesNear_89 : decode cX0_takesNear 89 = .ok (.iconst 1, 1) := by decide +kernel
theorem dX0_takesNear_90 : decode cX0_takesNear 90 = .ok (.goto 4, 3) := by decide +kernel
theorem dX0_takesNear_93 : decode cX0_takesNear 93 = .ok (.iconst 0, 1) := by decide +kernel
theorem dX0_takesNear_94 : decode cX0_takesNear 94 = .ok (.putfield 135, 3) := by decide +kernel
theorem dX0_takesNear_97 : decode cX0_takesNear 97 = .ok (.iconst 0, 1) := by decide +kernel
theorem dX0_takesNear_98 : decode cX0_takesNear 98 = .ok (.ireturn, 1) := by decide +kernel
theorem dX0_takesNear_99 : decode cX0_takesNear 99 = .ok (.aload_n 0, 1) := by decide +kernel
theorem dX0_takesNear_100 : decode cX0_takesNear 100 = .ok (.getfield 56, 3) := by decide +kernel
theorem dX0_takesNear_103 : decode cX0_takesNear 103 = .ok (.iload_n 1, 1) := by decide +kernel
theorem dX0_takesNear_104 : decode cX0_takesNear 104 = .ok (.invokevirtual 337, 3) := by decide +kernel
theorem dX0_takesNear_107 : decode cX0_takesNear 107 = .ok (.aload_n 0, 1) := by decide +kernel
theorem dX0_takesNear_108 : decode cX0_takesNear 108 = .ok (.getfield 56, 3) := by decide +kernel
theorem dX0_takesNear_111 : decode cX0_takesNear 111 = .ok (.getfield 275, 3) := by decide +kernel
theorem dX0_takesNear_114 : decode cX0_takesNear 114 = .ok (.iconst 0, 1) := by decide +kernel
theorem dX0_takesNear_115 : decode cX0_takesNear 115 = .ok (.aaload, 1) := by decide +kernel
theorem dX0_takesNear_116 : decode cX0_takesNear 116 = .ok (.astore_n 3, 1) := by decide +kernel
theorem dX0_takesNear_117 : decode cX0_takesNear 117 = .ok (.aload_n 0, 1) := by decide +kernel
theorem dX0_takesNear_118 : decode cX0_takesNear 118 = .ok (.aload_n 0, 1) := by decide +kernel
theorem dX0_takesNear_119 : decode cX0_takesNear 119 = .ok (.getfield 123, 3) := by decide +kernel
theorem dX0_takesNear_122 : decode cX0_takesNear 122 = .ok (.aload_n 0, 1) := by decide +kernel
theorem dX0_takesNear_123 : decode cX0_takesNear 123 = .ok (.getfield 42, 3) := by decide +kernel
theorem dX0_takesNear_126 : decode cX0_takesNear 126 = .ok (.bipush 6, 2) := by decide +kernel
theorem dX0_takesNear_128 : decode cX0_takesNear 128 = .ok (.invokevirtual 330, 3) := by decide +kernel
theorem dX0_takesNear_131 : decode cX0_takesNear 131 = .ok (.invokestatic 248, 3) := by decide +kernel
theorem dX0_takesNear_134 : decode cX0_takesNear 134 = .ok (.putfield 123, 3) := by decide +kernel
theorem dX0_takesNear_137 : decode cX0_takesNear 137 = .ok (.aload_n 0, 1) := by decide +kernel
theorem dX0_takesNear_138 : decode cX0_takesNear 138 = .ok (.iload_n 1, 1) := by decide +kernel
theorem dX0_takesNear_139 : decode cX0_takesNear 139 = .ok (.putfield 132, 3) := by decide +kernel
theorem dX0_takesNear_142 : decode cX0_takesNear 142 = .ok (.iload_n 2, 1) := by decide +kernel
theorem dX0_takesNear_143 : decode cX0_takesNear 143 = .ok (.aload_n 0, 1) := by decide +kernel
theorem dX0_takesNear_144 : decode cX0_takesNear 144 = .ok (.getfield 56, 3) := by decide +kernel
theorem dX0_takesNear_147 : decode cX0_takesNear 147 = .ok (.invokevirtual 207, 3) := by decide +kernel
theorem dX0_takesNear_150 : decode cX0_takesNear 150 = .ok (.getfield 110, 3) := by decide +kernel
theorem dX0_takesNear_153 : decode cX0_takesNear 153 = .ok (.if_icmp .le 102, 3) := by decide +kernel
theorem dX0_takesNear_156 : decode cX0_takesNear 156 = .ok (.aload_n 0, 1) := by decide +kernel
theorem dX0_takesNear_157 : decode cX0_takesNear 157 = .ok (.getfield 56, 3) := by decide +kernel
theorem dX0_takesNear_160 : decode cX0_takesNear 160 = .ok (.invokevirtual 103, 3) := by decide +kernel
theorem dX0_takesNear_163 : decode cX0_takesNear 163 = .ok (.astore 4, 2) := by decide +kernel
theorem dX0_takesNear_165 : decode cX0_takesNear 165 = .ok (.aload 4, 2) := by decide +kernel
theorem dX0_takesNear_167 : decode cX0_takesNear 167 = .ok (.getfield 107, 3) := by decide +kernel
theorem dX0_takesNear_170 : decode cX0_takesNear 170 = .ok (.aload_n 3, 1) := by decide +kernel
theorem dX0_takesNear_171 : decode cX0_takesNear 171 = .ok (.getfield 107, 3) := by decide +kernel
theorem dX0_takesNear_174 : decode cX0_takesNear 174 = .ok (.invokevirtual 96, 3) := by decide +kernel
theorem dX0_takesNear_177 : decode cX0_takesNear 177 = .ok (.aload 4, 2) := by decide +kernel
theorem dX0_takesNear_179 : decode cX0_takesNear 179 = .ok (.iload_n 2, 1) := by decide +kernel
theorem dX0_takesNear_180 : decode cX0_takesNear 180 = .ok (.putfield 110, 3) := by decide +kernel
theorem dX0_takesNear_183 : decode cX0_takesNear 183 = .ok (.aload 4, 2) := by decide +kernel
theorem dX0_takesNear_185 : decode cX0_takesNear 185 = .ok (.aload_n 0, 1) := by decide +kernel
theorem dX0_takesNear_186 : decode cX0_takesNear 186 = .ok (.getfield 42, 3) := by decide +kernel
theorem dX0_takesNear_189 : decode cX0_takesNear 189 = .ok (.bipush 6, 2) := by decide +kernel
theorem dX0_takesNear_191 : decode cX0_takesNear 191 = .ok (.invokevirtual 330, 3) := by decide +kernel
theorem dX0_takesNear_194 : decode cX0_takesNear 194 = .ok (.putfield 113, 3) := by decide +kernel
theorem dX0_takesNear_197 : decode cX0_takesNear 197 = .ok (.aload_n 0, 1) := by decide +kernel
theorem dX0_takesNear_198 : decode cX0_takesNear 198 = .ok (.getfield 42, 3) := by decide +kernel
theorem dX0_takesNear_201 : decode cX0_takesNear 201 = .ok (.aload 4, 2) := by decide +kernel
theorem dX0_takesNear_203 : decode cX0_takesNear 203 = .ok (.getfield 107, 3) := by decide +kernel
theorem dX0_takesNear_206 : decode cX0_takesNear 206 = .ok (.invokestatic 340, 3) := by decide +kernel
theorem dX0_takesNear_209 : decode cX0_takesNear 209 = .ok (.pop, 1) := by decide +kernel
theorem dX0_takesNear_210 : decode cX0_takesNear 210 = .ok (.aload 4, 2) := by decide +kernel
theorem dX0_takesNear_212 : decode cX0_takesNear 212 = .ok (.getfield 107, 3) := by decide +kernel
theorem dX0_takesNear_215 : decode cX0_takesNear 215 = .ok (.aload_n 0, 1) := by decide +kernel
theorem dX0_takesNear_216 : decode cX0_takesNear 216 = .ok (.getfield 42, 3) := by decide +kernel
theorem dX0_takesNear_219 : decode cX0_takesNear 219 = .ok (.bipush 8, 2) := by decide +kernel
theorem dX0_takesNear_221 : decode cX0_takesNear 221 = .ok (.invokevirtual 315, 3) := by decide +kernel
theorem dX0_takesNear_224 : decode cX0_takesNear 224 = .ok (.putfield 189, 3) := by decide +kernel
theorem dX0_takesNear_227 : decode cX0_takesNear 227 = .ok (.aload 4, 2) := by decide +kernel
theorem dX0_takesNear_229 : decode cX0_takesNear 229 = .ok (.getfield 107, 3) := by decide +kernel
theorem dX0_takesNear_232 : decode cX0_takesNear 232 = .ok (.aload_n 0, 1) := by decide +kernel
theorem dX0_takesNear_233 : decode cX0_takesNear 233 = .ok (.getfield 42, 3) := by decide +kernel
theorem dX0_takesNear_236 : decode cX0_takesNear 236 = .ok (.bipush 9, 2) := by decide +kernel
theorem dX0_takesNear_238 : decode cX0_takesNear 238 = .ok (.invokevirtual 315, 3) := by decide +kernel
theorem dX0_takesNear_241 : decode cX0_takesNear 241 = .ok (.putfield 192, 3) := by decide +kernel
theorem dX0_takesNear_244 : decode cX0_takesNear 244 = .ok (.aload_n 0, 1) := by decide +kernel
theorem dX0_takesNear_245 : decode cX0_takesNear 245 = .ok (.aload_n 0, 1) := by decide +kernel
theorem dX0_takesNear_246 : decode cX0_takesNear 246 = .ok (.getfield 56, 3) := by decide +kernel
theorem dX0_takesNear_249 : decode cX0_takesNear 249 = .ok (.invokevirtual 207, 3) := by decide +kernel
theorem dX0_takesNear_252 : decode cX0_takesNear 252 = .ok (.invokevirtual 343, 3) := by decide +kernel
theorem dX0_takesNear_255 : decode cX0_takesNear 255 = .ok (.aload_n 0, 1) := by decide +kernel
theorem dX0_takesNear_256 : decode cX0_takesNear 256 = .ok (.aload_n 0, 1) := by decide +kernel
theorem dX0_takesNear_257 : decode cX0_takesNear 257 = .ok (.getfield 135, 3) := by decide +kernel
theorem dX0_takesNear_260 : decode cX0_takesNear 260 = .ok (.ifCond .ne 17, 3) := by decide +kernel
theorem dX0_takesNear_263 : decode cX0_takesNear 263 = .ok (.iload_n 1, 1) := by decide +kernel
theorem dX0_takesNear_264 : decode cX0_takesNear 264 = .ok (.aload_n 0, 1) := by decide +kernel
theorem dX0_takesNear_265 : decode cX0_takesNear 265 = .ok (.getfield 56, 3) := by decide +kernel
theorem dX0_takesNear_268 : decode cX0_takesNear 268 = .ok (.invokevirtual 207, 3) := by decide +kernel
theorem dX0_takesNear_271 : decode cX0_takesNear 271 = .ok (.getfield 110, 3) := by decide +kernel
theorem dX0_takesNear_274 : decode cX0_takesNear 274 = .ok (.if_icmp .ge 7, 3) := by decide +kernel
theorem dX0_takesNear_277 : decode cX0_takesNear 277 = .ok (.iconst 1, 1) := by decide +kernel
theorem dX0_takesNear_278 : decode cX0_takesNear 278 = .ok (.goto 4, 3) := by decide +kernel
theorem dX0_takesNear_281 : decode cX0_takesNear 281 = .ok (.iconst 0, 1) := by decide +kernel
theorem dX0_takesNear_282 : decode cX0_takesNear 282 = .ok (.putfield 135, 3) := by decide +kernel
theorem dX0_takesNear_285 : decode cX0_takesNear 285 = .ok (.iconst 1, 1) := by decide +kernel
theorem dX0_takesNear_286 : decode cX0_takesNear 286 = .ok (.ireturn, 1) := by decide +kernel
abbrev cX0_lays : ByteArray := prog_1_method_22_code
def yX0_lays : MethodName := ⟨RX0, "lays", "(LFarTypewriter$Letter;LFarTypewriter$Screen;)Z"⟩
theorem dX0_lays_0 : decode cX0_lays 0 = .ok (.bipush 11, 2) := by decide +kernel
theorem dX0_lays_2 : decode cX0_lays 2 = .ok (.istore_n 2, 1) := by decide +kernel
theorem dX0_lays_3 : decode cX0_lays 3 = .ok (.aload_n 0, 1) := by decide +kernel
theorem dX0_lays_4 : decode cX0_lays 4 = .ok (.getfield 265, 3) := by decide +kernel
theorem dX0_lays_7 : decode cX0_lays 7 = .ok (.iconst 2, 1) := by decide +kernel
theorem dX0_lays_8 : decode cX0_lays 8 = .ok (.isub, 1) := by decide +kernel
theorem dX0_lays_9 : decode cX0_lays 9 = .ok (.istore_n 3, 1) := by decide +kernel
theorem dX0_lays_10 : decode cX0_lays 10 = .ok (.iload_n 3, 1) := by decide +kernel
theorem dX0_lays_11 : decode cX0_lays 11 = .ok (.iload_n 2, 1) := by decide +kernel
theorem dX0_lays_12 : decode cX0_lays 12 = .ok (.if_icmp .lt 14, 3) := by decide +kernel
theorem dX0_lays_15 : decode cX0_lays 15 = .ok (.aload_n 0, 1) := by decide +kernel
theorem dX0_lays_16 : decode cX0_lays 16 = .ok (.bipush 10, 2) := by decide +kernel
theorem dX0_lays_18 : decode cX0_lays 18 = .ok (.invokevirtual 315, 3) := by decide +kernel
theorem dX0_lays_21 : decode cX0_lays 21 = .ok (.bipush 8, 2) := by decide +kernel
theorem dX0_lays_23 : decode cX0_lays 23 = .ok (.if_icmp .le 5, 3) := by decide +kernel
theorem dX0_lays_26 : decode cX0_lays 26 = .ok (.iconst 0, 1) := by decide +kernel
theorem dX0_lays_27 : decode cX0_lays 27 = .ok (.ireturn, 1) := by decide +kernel
theorem dX0_lays_28 : decode cX0_lays 28 = .ok (.aload_n 1, 1) := by decide +kernel
theorem dX0_lays_29 : decode cX0_lays 29 = .ok (.aload_n 0, 1) := by decide +kernel
theorem dX0_lays_30 : decode cX0_lays 30 = .ok (.bipush 10, 2) := by decide +kernel
theorem dX0_lays_32 : decode cX0_lays 32 = .ok (.invokevirtual 315, 3) := by decide +kernel
theorem dX0_lays_35 : decode cX0_lays 35 = .ok (.invokevirtual 201, 3) := by decide +kernel
theorem dX0_lays_38 : decode cX0_lays 38 = .ok (.iload_n 2, 1) := by decide +kernel
theorem dX0_lays_39 : decode cX0_lays 39 = .ok (.iload_n 3, 1) := by decide +kernel
theorem dX0_lays_40 : decode cX0_lays 40 = .ok (.if_icmp .ge 168, 3) := by decide +kernel
theorem dX0_lays_43 : decode cX0_lays 43 = .ok (.iload_n 2, 1) := by decide +kernel
theorem dX0_lays_44 : decode cX0_lays 44 = .ok (.bipush 6, 2) := by decide +kernel
theorem dX0_lays_46 : decode cX0_lays 46 = .ok (.iadd, 1) := by decide +kernel
theorem dX0_lays_47 : decode cX0_lays 47 = .ok (.iload_n 3, 1) := by decide +kernel
theorem dX0_lays_48 : decode cX0_lays 48 = .ok (.if_icmp .le 5, 3) := by decide +kernel
theorem dX0_lays_51 : decode cX0_lays 51 = .ok (.iconst 0, 1) := by decide +kernel
theorem dX0_lays_52 : decode cX0_lays 52 = .ok (.ireturn, 1) := by decide +kernel
theorem dX0_lays_53 : decode cX0_lays 53 = .ok (.aload_n 0, 1) := by decide +kernel
theorem dX0_lays_54 : decode cX0_lays 54 = .ok (.iload_n 2, 1) := by decide +kernel
theorem dX0_lays_55 : decode cX0_lays 55 = .ok (.invokevirtual 315, 3) := by decide +kernel
theorem dX0_lays_58 : decode cX0_lays 58 = .ok (.istore 4, 2) := by decide +kernel
theorem dX0_lays_60 : decode cX0_lays 60 = .ok (.aload_n 0, 1) := by decide +kernel
theorem dX0_lays_61 : decode cX0_lays 61 = .ok (.iload_n 2, 1) := by decide +kernel
theorem dX0_lays_62 : decode cX0_lays 62 = .ok (.iconst 1, 1) := by decide +kernel
theorem dX0_lays_63 : decode cX0_lays 63 = .ok (.iadd, 1) := by decide +kernel
theorem dX0_lays_64 : decode cX0_lays 64 = .ok (.invokevirtual 315, 3) := by decide +kernel
theorem dX0_lays_67 : decode cX0_lays 67 = .ok (.iconst 1, 1) := by decide +kernel
theorem dX0_lays_68 : decode cX0_lays 68 = .ok (.if_icmp .ne 7, 3) := by decide +kernel
theorem dX0_lays_71 : decode cX0_lays 71 = .ok (.iconst 1, 1) := by decide +kernel
theorem dX0_lays_72 : decode cX0_lays 72 = .ok (.goto 4, 3) := by decide +kernel
theorem dX0_lays_75 : decode cX0_lays 75 = .ok (.iconst 0, 1) := by decide +kernel
theorem dX0_lays_76 : decode cX0_lays 76 = .ok (.istore 5, 2) := by decide +kernel
theorem dX0_lays_78 : decode cX0_lays 78 = .ok (.aload_n 0, 1) := by decide +kernel
theorem dX0_lays_79 : decode cX0_lays 79 = .ok (.iload_n 2, 1) := by decide +kernel
theorem dX0_lays_80 : decode cX0_lays 80 = .ok (.iconst 2, 1) := by decide +kernel
theorem dX0_lays_81 : decode cX0_lays 81 = .ok (.iadd, 1) := by decide +kernel
theorem dX0_lays_82 : decode cX0_lays 82 = .ok (.invokevirtual 315, 3) := by decide +kernel
theorem dX0_lays_85 : decode cX0_lays 85 = .ok (.istore 6, 2) := by decide +kernel
theorem dX0_lays_87 : decode cX0_lays 87 = .ok (.aload_n 0, 1) := by decide +kernel
theorem dX0_lays_88 : decode cX0_lays 88 = .ok (.iload_n 2, 1) := by decide +kernel
theorem dX0_lays_89 : decode cX0_lays 89 = .ok (.iconst 3, 1) := by decide +kernel
theorem dX0_lays_90 : decode cX0_lays 90 = .ok (.iadd, 1) := by decide +kernel
theorem dX0_lays_91 : decode cX0_lays 91 = .ok (.invokevirtual 315, 3) := by decide +kernel
theorem dX0_lays_94 : decode cX0_lays 94 = .ok (.istore 7, 2) := by decide +kernel
theorem dX0_lays_96 : decode cX0_lays 96 = .ok (.iinc 2 4, 3) := by decide +kernel
theorem dX0_lays_99 : decode cX0_lays 99 = .ok (.iload 4, 2) := by decide +kernel
theorem dX0_lays_101 : decode cX0_lays 101 = .ok (.bipush 8, 2) := by decide +kernel
theorem dX0_lays_103 : decode cX0_lays 103 = .ok (.if_icmp .ge 37, 3) := by decide +kernel
theorem dX0_lays_106 : decode cX0_lays 106 = .ok (.iload 7, 2) := by decide +kernel
theorem dX0_lays_108 : decode cX0_lays 108 = .ok (.bipush 24, 2) := by decide +kernel
theorem dX0_lays_110 : decode cX0_lays 110 = .ok (.if_icmp .ge 30, 3) := by decide +kernel
theorem dX0_lays_113 : decode cX0_lays 113 = .ok (.iload 6, 2) := by decide +kernel
theorem dX0_lays_115 : decode cX0_lays 115 = .ok (.iload 7, 2) := by decide +kernel
theorem dX0_lays_117 : decode cX0_lays 117 = .ok (.if_icmp .gt 23, 3) := by decide +kernel
theorem dX0_lays_120 : decode cX0_lays 120 = .ok (.iload 5, 2) := by decide +kernel
theorem dX0_lays_122 : decode cX0_lays 122 = .ok (.ifCond .ne 20, 3) := by decide +kernel
theorem dX0_lays_125 : decode cX0_lays 125 = .ok (.iload_n 2, 1) := by decide +kernel
theorem dX0_lays_126 : decode cX0_lays 126 = .ok (.iconst 2, 1) := by decide +kernel
theorem dX0_lays_127 : decode cX0_lays 127 = .ok (.iload 7, 2) := by decide +kernel
theorem dX0_lays_129 : decode cX0_lays 129 = .ok (.iload 6, 2) := by decide +kernel
theorem dX0_lays_131 : decode cX0_lays 131 = .ok (.isub, 1) := by decide +kernel
theorem dX0_lays_132 : decode cX0_lays 132 = .ok (.iconst 1, 1) := by decide +kernel
theorem dX0_lays_133 : decode cX0_lays 133 = .ok (.iadd, 1) := by decide +kernel
theorem dX0_lays_134 : decode cX0_lays 134 = .ok (.imul, 1) := by decide +kernel
theorem dX0_lays_135 : decode cX0_lays 135 = .ok (.iadd, 1) := by decide +kernel
theorem dX0_lays_136 : decode cX0_lays 136 = .ok (.iload_n 3, 1) := by decide +kernel
theorem dX0_lays_137 : decode cX0_lays 137 = .ok (.if_icmp .le 5, 3) := by decide +kernel
theorem dX0_lays_140 : decode cX0_lays 140 = .ok (.iconst 0, 1) := by decide +kernel
theorem dX0_lays_141 : decode cX0_lays 141 = .ok (.ireturn, 1) := by decide +kernel
theorem dX0_lays_142 : decode cX0_lays 142 = .ok (.iload 6, 2) := by decide +kernel
theorem dX0_lays_144 : decode cX0_lays 144 = .ok (.istore 8, 2) := by decide +kernel
theorem dX0_lays_146 : decode cX0_lays 146 = .ok (.iload 8, 2) := by decide +kernel
theorem dX0_lays_148 : decode cX0_lays 148 = .ok (.iload 7, 2) := by decide +kernel
theorem dX0_lays_150 : decode cX0_lays 150 = .ok (.if_icmp .gt 42, 3) := by decide +kernel
theorem dX0_lays_153 : decode cX0_lays 153 = .ok (.aload_n 1, 1) := by decide +kernel
theorem dX0_lays_154 : decode cX0_lays 154 = .ok (.iload 4, 2) := by decide +kernel
theorem dX0_lays_156 : decode cX0_lays 156 = .ok (.iload 8, 2) := by decide +kernel
theorem dX0_lays_158 : decode cX0_lays 158 = .ok (.aload_n 0, 1) := by decide +kernel
theorem dX0_lays_159 : decode cX0_lays 159 = .ok (.iload_n 2, 1) := by decide +kernel
theorem dX0_lays_160 : decode cX0_lays 160 = .ok (.invokevirtual 315, 3) := by decide +kernel
theorem dX0_lays_163 : decode cX0_lays 163 = .ok (.aload_n 0, 1) := by decide +kernel
theorem dX0_lays_164 : decode cX0_lays 164 = .ok (.iload_n 2, 1) := by decide +kernel
theorem dX0_lays_165 : decode cX0_lays 165 = .ok (.iconst 1, 1) := by decide +kernel
theorem dX0_lays_166 : decode cX0_lays 166 = .ok (.iadd, 1) := by decide +kernel
theorem dX0_lays_167 : decode cX0_lays 167 = .ok (.invokevirtual 315, 3) := by decide +kernel
theorem dX0_lays_170 : decode cX0_lays 170 = .ok (.invokevirtual 318, 3) := by decide +kernel
theorem dX0_lays_173 : decode cX0_lays 173 = .ok (.iload_n 2, 1) := by decide +kernel
theorem dX0_lays_174 : decode cX0_lays 174 = .ok (.iload 5, 2) := by decide +kernel
theorem dX0_lays_176 : decode cX0_lays 176 = .ok (.ifCond .eq 7, 3) := by decide +kernel
theorem dX0_lays_179 : decode cX0_lays 179 = .ok (.iconst 0, 1) := by decide +kernel
theorem dX0_lays_180 : decode cX0_lays 180 = .ok (.goto 4, 3) := by decide +kernel
theorem dX0_lays_183 : decode cX0_lays 183 = .ok (.iconst 2, 1) := by decide +kernel
theorem dX0_lays_184 : decode cX0_lays 184 = .ok (.iadd, 1) := by decide +kernel
theorem dX0_lays_185 : decode cX0_lays 185 = .ok (.istore_n 2, 1) := by decide +kernel
theorem dX0_lays_186 : decode cX0_lays 186 = .ok (.iinc 8 1, 3) := by decide +kernel
theorem dX0_lays_189 : decode cX0_lays 189 = .ok (.goto (-43), 3) := by decide +kernel
theorem dX0_lays_192 : decode cX0_lays 192 = .ok (.iload_n 2, 1) := by decide +kernel
theorem dX0_lays_193 : decode cX0_lays 193 = .ok (.iload 5, 2) := by decide +kernel
theorem dX0_lays_195 : decode cX0_lays 195 = .ok (.ifCond .eq 7, 3) := by decide +kernel
theorem dX0_lays_198 : decode cX0_lays 198 = .ok (.iconst 2, 1) := by decide +kernel
theorem dX0_lays_199 : decode cX0_lays 199 = .ok (.goto 4, 3) := by decide +kernel
theorem dX0_lays_202 : decode cX0_lays 202 = .ok (.iconst 0, 1) := by decide +kernel
theorem dX0_lays_203 : decode cX0_lays 203 = .ok (.iadd, 1) := by decide +kernel
theorem dX0_lays_204 : decode cX0_lays 204 = .ok (.istore_n 2, 1) := by decide +kernel
theorem dX0_lays_205 : decode cX0_lays 205 = .ok (.goto (-167), 3) := by decide +kernel
theorem dX0_lays_208 : decode cX0_lays 208 = .ok (.iconst 1, 1) := by decide +kernel
theorem dX0_lays_209 : decode cX0_lays 209 = .ok (.ireturn, 1) := by decide +kernel
abbrev cX0_settles : ByteArray := prog_1_method_15_code
def yX0_settles : MethodName := ⟨RX0, "settles", "(LFarTypewriter$State;)V"⟩
theorem dX0_settles_0 : decode cX0_settles 0 = .ok (.iconst 0, 1) := by decide +kernel
theorem dX0_settles_1 : decode cX0_settles 1 = .ok (.istore_n 2, 1) := by decide +kernel
theorem dX0_settles_2 : decode cX0_settles 2 = .ok (.iload_n 2, 1) := by decide +kernel
theorem dX0_settles_3 : decode cX0_settles 3 = .ok (.aload_n 0, 1) := by decide +kernel
theorem dX0_settles_4 : decode cX0_settles 4 = .ok (.getfield 158, 3) := by decide +kernel
theorem dX0_settles_7 : decode cX0_settles 7 = .ok (.if_icmp .ge 112, 3) := by decide +kernel
theorem dX0_settles_10 : decode cX0_settles 10 = .ok (.aload_n 0, 1) := by decide +kernel
theorem dX0_settles_11 : decode cX0_settles 11 = .ok (.getfield 79, 3) := by decide +kernel
theorem dX0_settles_14 : decode cX0_settles 14 = .ok (.iload_n 2, 1) := by decide +kernel
theorem dX0_settles_15 : decode cX0_settles 15 = .ok (.aaload, 1) := by decide +kernel
theorem dX0_settles_16 : decode cX0_settles 16 = .ok (.getfield 224, 3) := by decide +kernel
theorem dX0_settles_19 : decode cX0_settles 19 = .ok (.aload_n 1, 1) := by decide +kernel
theorem dX0_settles_20 : decode cX0_settles 20 = .ok (.getfield 113, 3) := by decide +kernel
theorem dX0_settles_23 : decode cX0_settles 23 = .ok (.if_icmp .gt 96, 3) := by decide +kernel
theorem dX0_settles_26 : decode cX0_settles 26 = .ok (.aload_n 0, 1) := by decide +kernel
theorem dX0_settles_27 : decode cX0_settles 27 = .ok (.getfield 79, 3) := by decide +kernel
theorem dX0_settles_30 : decode cX0_settles 30 = .ok (.iload_n 2, 1) := by decide +kernel
theorem dX0_settles_31 : decode cX0_settles 31 = .ok (.aaload, 1) := by decide +kernel
theorem dX0_settles_32 : decode cX0_settles 32 = .ok (.aload_n 1, 1) := by decide +kernel
theorem dX0_settles_33 : decode cX0_settles 33 = .ok (.invokevirtual 244, 3) := by decide +kernel
theorem dX0_settles_36 : decode cX0_settles 36 = .ok (.ifCond .ne 46, 3) := by decide +kernel
theorem dX0_settles_39 : decode cX0_settles 39 = .ok (.aload_n 0, 1) := by decide +kernel
theorem dX0_settles_40 : decode cX0_settles 40 = .ok (.getfield 28, 3) := by decide +kernel
theorem dX0_settles_43 : decode cX0_settles 43 = .ok (.bipush 8, 2) := by decide +kernel
theorem dX0_settles_45 : decode cX0_settles 45 = .ok (.dup2, 1) := by decide +kernel
theorem dX0_settles_46 : decode cX0_settles 46 = .ok (.iaload, 1) := by decide +kernel
theorem dX0_settles_47 : decode cX0_settles 47 = .ok (.iconst 1, 1) := by decide +kernel
theorem dX0_settles_48 : decode cX0_settles 48 = .ok (.iadd, 1) := by decide +kernel
theorem dX0_settles_49 : decode cX0_settles 49 = .ok (.iastore, 1) := by decide +kernel
theorem dX0_settles_50 : decode cX0_settles 50 = .ok (.aload_n 0, 1) := by decide +kernel
theorem dX0_settles_51 : decode cX0_settles 51 = .ok (.getfield 28, 3) := by decide +kernel
theorem dX0_settles_54 : decode cX0_settles 54 = .ok (.bipush 9, 2) := by decide +kernel
theorem dX0_settles_56 : decode cX0_settles 56 = .ok (.dup2, 1) := by decide +kernel
theorem dX0_settles_57 : decode cX0_settles 57 = .ok (.iaload, 1) := by decide +kernel
theorem dX0_settles_58 : decode cX0_settles 58 = .ok (.aload_n 0, 1) := by decide +kernel
theorem dX0_settles_59 : decode cX0_settles 59 = .ok (.getfield 158, 3) := by decide +kernel
theorem dX0_settles_62 : decode cX0_settles 62 = .ok (.iload_n 2, 1) := by decide +kernel
theorem dX0_settles_63 : decode cX0_settles 63 = .ok (.isub, 1) := by decide +kernel
theorem dX0_settles_64 : decode cX0_settles 64 = .ok (.iadd, 1) := by decide +kernel
theorem dX0_settles_65 : decode cX0_settles 65 = .ok (.iastore, 1) := by decide +kernel
theorem dX0_settles_66 : decode cX0_settles 66 = .ok (.aload_n 0, 1) := by decide +kernel
theorem dX0_settles_67 : decode cX0_settles 67 = .ok (.iconst 0, 1) := by decide +kernel
theorem dX0_settles_68 : decode cX0_settles 68 = .ok (.putfield 158, 3) := by decide +kernel
theorem dX0_settles_71 : decode cX0_settles 71 = .ok (.aload_n 0, 1) := by decide +kernel
theorem dX0_settles_72 : decode cX0_settles 72 = .ok (.dup, 1) := by decide +kernel
theorem dX0_settles_73 : decode cX0_settles 73 = .ok (.getfield 83, 3) := by decide +kernel
theorem dX0_settles_76 : decode cX0_settles 76 = .ok (.iconst 1, 1) := by decide +kernel
theorem dX0_settles_77 : decode cX0_settles 77 = .ok (.iadd, 1) := by decide +kernel
theorem dX0_settles_78 : decode cX0_settles 78 = .ok (.putfield 83, 3) := by decide +kernel
theorem dX0_settles_81 : decode cX0_settles 81 = .ok (.return_, 1) := by decide +kernel
theorem dX0_settles_82 : decode cX0_settles 82 = .ok (.aload_n 0, 1) := by decide +kernel
theorem dX0_settles_83 : decode cX0_settles 83 = .ok (.getfield 28, 3) := by decide +kernel
theorem dX0_settles_86 : decode cX0_settles 86 = .ok (.bipush 7, 2) := by decide +kernel
theorem dX0_settles_88 : decode cX0_settles 88 = .ok (.dup2, 1) := by decide +kernel
theorem dX0_settles_89 : decode cX0_settles 89 = .ok (.iaload, 1) := by decide +kernel
theorem dX0_settles_90 : decode cX0_settles 90 = .ok (.iconst 1, 1) := by decide +kernel
theorem dX0_settles_91 : decode cX0_settles 91 = .ok (.iadd, 1) := by decide +kernel
theorem dX0_settles_92 : decode cX0_settles 92 = .ok (.iastore, 1) := by decide +kernel
theorem dX0_settles_93 : decode cX0_settles 93 = .ok (.aload_n 0, 1) := by decide +kernel
theorem dX0_settles_94 : decode cX0_settles 94 = .ok (.aload_n 0, 1) := by decide +kernel
theorem dX0_settles_95 : decode cX0_settles 95 = .ok (.getfield 161, 3) := by decide +kernel
theorem dX0_settles_98 : decode cX0_settles 98 = .ok (.aload_n 0, 1) := by decide +kernel
theorem dX0_settles_99 : decode cX0_settles 99 = .ok (.getfield 79, 3) := by decide +kernel
theorem dX0_settles_102 : decode cX0_settles 102 = .ok (.iload_n 2, 1) := by decide +kernel
theorem dX0_settles_103 : decode cX0_settles 103 = .ok (.aaload, 1) := by decide +kernel
theorem dX0_settles_104 : decode cX0_settles 104 = .ok (.getfield 210, 3) := by decide +kernel
theorem dX0_settles_107 : decode cX0_settles 107 = .ok (.invokestatic 248, 3) := by decide +kernel
theorem dX0_settles_110 : decode cX0_settles 110 = .ok (.putfield 161, 3) := by decide +kernel
theorem dX0_settles_113 : decode cX0_settles 113 = .ok (.iinc 2 1, 3) := by decide +kernel
theorem dX0_settles_116 : decode cX0_settles 116 = .ok (.goto (-114), 3) := by decide +kernel
theorem dX0_settles_119 : decode cX0_settles 119 = .ok (.iload_n 2, 1) := by decide +kernel
theorem dX0_settles_120 : decode cX0_settles 120 = .ok (.istore_n 3, 1) := by decide +kernel
theorem dX0_settles_121 : decode cX0_settles 121 = .ok (.iload_n 3, 1) := by decide +kernel
theorem dX0_settles_122 : decode cX0_settles 122 = .ok (.aload_n 0, 1) := by decide +kernel
theorem dX0_settles_123 : decode cX0_settles 123 = .ok (.getfield 158, 3) := by decide +kernel
theorem dX0_settles_126 : decode cX0_settles 126 = .ok (.if_icmp .ge 26, 3) := by decide +kernel
theorem dX0_settles_129 : decode cX0_settles 129 = .ok (.aload_n 0, 1) := by decide +kernel
theorem dX0_settles_130 : decode cX0_settles 130 = .ok (.getfield 79, 3) := by decide +kernel
theorem dX0_settles_133 : decode cX0_settles 133 = .ok (.iload_n 3, 1) := by decide +kernel
theorem dX0_settles_134 : decode cX0_settles 134 = .ok (.iload_n 2, 1) := by decide +kernel
theorem dX0_settles_135 : decode cX0_settles 135 = .ok (.isub, 1) := by decide +kernel
theorem dX0_settles_136 : decode cX0_settles 136 = .ok (.aaload, 1) := by decide +kernel
theorem dX0_settles_137 : decode cX0_settles 137 = .ok (.aload_n 0, 1) := by decide +kernel
theorem dX0_settles_138 : decode cX0_settles 138 = .ok (.getfield 79, 3) := by decide +kernel
theorem dX0_settles_141 : decode cX0_settles 141 = .ok (.iload_n 3, 1) := by decide +kernel
theorem dX0_settles_142 : decode cX0_settles 142 = .ok (.aaload, 1) := by decide +kernel
theorem dX0_settles_143 : decode cX0_settles 143 = .ok (.invokevirtual 251, 3) := by decide +kernel
theorem dX0_settles_146 : decode cX0_settles 146 = .ok (.iinc 3 1, 3) := by decide +kernel
theorem dX0_settles_149 : decode cX0_settles 149 = .ok (.goto (-28), 3) := by decide +kernel
theorem dX0_settles_152 : decode cX0_settles 152 = .ok (.aload_n 0, 1) := by decide +kernel
theorem dX0_settles_153 : decode cX0_settles 153 = .ok (.dup, 1) := by decide +kernel
theorem dX0_settles_154 : decode cX0_settles 154 = .ok (.getfield 158, 3) := by decide +kernel
theorem dX0_settles_157 : decode cX0_settles 157 = .ok (.iload_n 2, 1) := by decide +kernel
theorem dX0_settles_158 : decode cX0_settles 158 = .ok (.isub, 1) := by decide +kernel
theorem dX0_settles_159 : decode cX0_settles 159 = .ok (.putfield 158, 3) := by decide +kernel
theorem dX0_settles_162 : decode cX0_settles 162 = .ok (.return_, 1) := by decide +kernel
abbrev cX0_carry : ByteArray := prog_1_method_27_code
def yX0_carry : MethodName := ⟨RX0, "carry", "(IIII)I"⟩
theorem dX0_carry_0 : decode cX0_carry 0 = .ok (.iload_n 1, 1) := by decide +kernel
theorem dX0_carry_1 : decode cX0_carry 1 = .ok (.ifCond .lt 34, 3) := by decide +kernel
theorem dX0_carry_4 : decode cX0_carry 4 = .ok (.iload_n 1, 1) := by decide +kernel
theorem dX0_carry_5 : decode cX0_carry 5 = .ok (.iconst 1, 1) := by decide +kernel
theorem dX0_carry_6 : decode cX0_carry 6 = .ok (.if_icmp .gt 29, 3) := by decide +kernel
theorem dX0_carry_9 : decode cX0_carry 9 = .ok (.iload_n 2, 1) := by decide +kernel
theorem dX0_carry_10 : decode cX0_carry 10 = .ok (.ifCond .lt 25, 3) := by decide +kernel
theorem dX0_carry_13 : decode cX0_carry 13 = .ok (.iload_n 2, 1) := by decide +kernel
theorem dX0_carry_14 : decode cX0_carry 14 = .ok (.aload_n 0, 1) := by decide +kernel
theorem dX0_carry_15 : decode cX0_carry 15 = .ok (.getfield 35, 3) := by decide +kernel
theorem dX0_carry_18 : decode cX0_carry 18 = .ok (.iload_n 1, 1) := by decide +kernel
theorem dX0_carry_19 : decode cX0_carry 19 = .ok (.aaload, 1) := by decide +kernel
theorem dX0_carry_20 : decode cX0_carry 20 = .ok (.getfield 116, 3) := by decide +kernel
theorem dX0_carry_23 : decode cX0_carry 23 = .ok (.if_icmp .ge 12, 3) := by decide +kernel
theorem dX0_carry_26 : decode cX0_carry 26 = .ok (.iload_n 3, 1) := by decide +kernel
theorem dX0_carry_27 : decode cX0_carry 27 = .ok (.ifCond .lt 8, 3) := by decide +kernel
theorem dX0_carry_30 : decode cX0_carry 30 = .ok (.iload_n 3, 1) := by decide +kernel
theorem dX0_carry_31 : decode cX0_carry 31 = .ok (.iconst 3, 1) := by decide +kernel
theorem dX0_carry_32 : decode cX0_carry 32 = .ok (.if_icmp .le 5, 3) := by decide +kernel
theorem dX0_carry_35 : decode cX0_carry 35 = .ok (.iconst (-1), 1) := by decide +kernel
theorem dX0_carry_36 : decode cX0_carry 36 = .ok (.ireturn, 1) := by decide +kernel
theorem dX0_carry_37 : decode cX0_carry 37 = .ok (.aload_n 0, 1) := by decide +kernel
theorem dX0_carry_38 : decode cX0_carry 38 = .ok (.getfield 35, 3) := by decide +kernel
theorem dX0_carry_41 : decode cX0_carry 41 = .ok (.iload_n 1, 1) := by decide +kernel
theorem dX0_carry_42 : decode cX0_carry 42 = .ok (.aaload, 1) := by decide +kernel
theorem dX0_carry_43 : decode cX0_carry 43 = .ok (.astore 5, 2) := by decide +kernel
theorem dX0_carry_45 : decode cX0_carry 45 = .ok (.iload_n 3, 1) := by decide +kernel
theorem dX0_carry_46 : decode cX0_carry 46 = .ok (.iconst 3, 1) := by decide +kernel
theorem dX0_carry_47 : decode cX0_carry 47 = .ok (.if_icmp .ne 29, 3) := by decide +kernel
theorem dX0_carry_50 : decode cX0_carry 50 = .ok (.iload 4, 2) := by decide +kernel
theorem dX0_carry_52 : decode cX0_carry 52 = .ok (.ifCond .lt 22, 3) := by decide +kernel
theorem dX0_carry_55 : decode cX0_carry 55 = .ok (.iload 4, 2) := by decide +kernel
theorem dX0_carry_57 : decode cX0_carry 57 = .ok (.sipush 256, 3) := by decide +kernel
theorem dX0_carry_60 : decode cX0_carry 60 = .ok (.idiv, 1) := by decide +kernel
theorem dX0_carry_61 : decode cX0_carry 61 = .ok (.aload 5, 2) := by decide +kernel
theorem dX0_carry_63 : decode cX0_carry 63 = .ok (.getfield 290, 3) := by decide +kernel
theorem dX0_carry_66 : decode cX0_carry 66 = .ok (.iload_n 2, 1) := by decide +kernel
theorem dX0_carry_67 : decode cX0_carry 67 = .ok (.aaload, 1) := by decide +kernel
theorem dX0_carry_68 : decode cX0_carry 68 = .ok (.getfield 265, 3) := by decide +kernel
theorem dX0_carry_71 : decode cX0_carry 71 = .ok (.if_icmp .lt 5, 3) := by decide +kernel
theorem dX0_carry_74 : decode cX0_carry 74 = .ok (.iconst (-1), 1) := by decide +kernel
theorem dX0_carry_75 : decode cX0_carry 75 = .ok (.ireturn, 1) := by decide +kernel
theorem dX0_carry_76 : decode cX0_carry 76 = .ok (.aload_n 0, 1) := by decide +kernel
theorem dX0_carry_77 : decode cX0_carry 77 = .ok (.getfield 42, 3) := by decide +kernel
theorem dX0_carry_80 : decode cX0_carry 80 = .ok (.aload 5, 2) := by decide +kernel
theorem dX0_carry_82 : decode cX0_carry 82 = .ok (.getfield 290, 3) := by decide +kernel
theorem dX0_carry_85 : decode cX0_carry 85 = .ok (.iload_n 2, 1) := by decide +kernel
theorem dX0_carry_86 : decode cX0_carry 86 = .ok (.aaload, 1) := by decide +kernel
theorem dX0_carry_87 : decode cX0_carry 87 = .ok (.invokevirtual 294, 3) := by decide +kernel
theorem dX0_carry_90 : decode cX0_carry 90 = .ok (.iload_n 3, 1) := by decide +kernel
theorem dX0_carry_91 : decode cX0_carry 91 = .ok (.iconst 2, 1) := by decide +kernel
theorem dX0_carry_92 : decode cX0_carry 92 = .ok (.if_icmp .eq 9, 3) := by decide +kernel
theorem dX0_carry_95 : decode cX0_carry 95 = .ok (.aload 5, 2) := by decide +kernel
theorem dX0_carry_97 : decode cX0_carry 97 = .ok (.iload_n 2, 1) := by decide +kernel
theorem dX0_carry_98 : decode cX0_carry 98 = .ok (.invokevirtual 350, 3) := by decide +kernel
theorem dX0_carry_101 : decode cX0_carry 101 = .ok (.iload_n 3, 1) := by decide +kernel
theorem dX0_carry_102 : decode cX0_carry 102 = .ok (.iconst 3, 1) := by decide +kernel
theorem dX0_carry_103 : decode cX0_carry 103 = .ok (.if_icmp .ne 28, 3) := by decide +kernel
theorem dX0_carry_106 : decode cX0_carry 106 = .ok (.aload_n 0, 1) := by decide +kernel
theorem dX0_carry_107 : decode cX0_carry 107 = .ok (.getfield 42, 3) := by decide +kernel
theorem dX0_carry_110 : decode cX0_carry 110 = .ok (.getfield 356, 3) := by decide +kernel
theorem dX0_carry_113 : decode cX0_carry 113 = .ok (.iload 4, 2) := by decide +kernel
theorem dX0_carry_115 : decode cX0_carry 115 = .ok (.sipush 256, 3) := by decide +kernel
theorem dX0_carry_118 : decode cX0_carry 118 = .ok (.idiv, 1) := by decide +kernel
theorem dX0_carry_119 : decode cX0_carry 119 = .ok (.dup2, 1) := by decide +kernel
theorem dX0_carry_120 : decode cX0_carry 120 = .ok (.baload, 1) := by decide +kernel
theorem dX0_carry_121 : decode cX0_carry 121 = .ok (.iload 4, 2) := by decide +kernel
theorem dX0_carry_123 : decode cX0_carry 123 = .ok (.sipush 256, 3) := by decide +kernel
theorem dX0_carry_126 : decode cX0_carry 126 = .ok (.irem, 1) := by decide +kernel
theorem dX0_carry_127 : decode cX0_carry 127 = .ok (.i2b, 1) := by decide +kernel
theorem dX0_carry_128 : decode cX0_carry 128 = .ok (.ixor, 1) := by decide +kernel
theorem dX0_carry_129 : decode cX0_carry 129 = .ok (.i2b, 1) := by decide +kernel
theorem dX0_carry_130 : decode cX0_carry 130 = .ok (.bastore, 1) := by decide +kernel
theorem dX0_carry_131 : decode cX0_carry 131 = .ok (.iload_n 3, 1) := by decide +kernel
theorem dX0_carry_132 : decode cX0_carry 132 = .ok (.iconst 1, 1) := by decide +kernel
theorem dX0_carry_133 : decode cX0_carry 133 = .ok (.if_icmp .ne 16, 3) := by decide +kernel
theorem dX0_carry_136 : decode cX0_carry 136 = .ok (.aload_n 0, 1) := by decide +kernel
theorem dX0_carry_137 : decode cX0_carry 137 = .ok (.getfield 28, 3) := by decide +kernel
theorem dX0_carry_140 : decode cX0_carry 140 = .ok (.iconst 2, 1) := by decide +kernel
theorem dX0_carry_141 : decode cX0_carry 141 = .ok (.dup2, 1) := by decide +kernel
theorem dX0_carry_142 : decode cX0_carry 142 = .ok (.iaload, 1) := by decide +kernel
theorem dX0_carry_143 : decode cX0_carry 143 = .ok (.iconst 1, 1) := by decide +kernel
theorem dX0_carry_144 : decode cX0_carry 144 = .ok (.iadd, 1) := by decide +kernel
theorem dX0_carry_145 : decode cX0_carry 145 = .ok (.iastore, 1) := by decide +kernel
theorem dX0_carry_146 : decode cX0_carry 146 = .ok (.goto 27, 3) := by decide +kernel
theorem dX0_carry_149 : decode cX0_carry 149 = .ok (.aload_n 0, 1) := by decide +kernel
theorem dX0_carry_150 : decode cX0_carry 150 = .ok (.iload_n 1, 1) := by decide +kernel
theorem dX0_carry_151 : decode cX0_carry 151 = .ok (.iload_n 3, 1) := by decide +kernel
theorem dX0_carry_152 : decode cX0_carry 152 = .ok (.iconst 3, 1) := by decide +kernel
theorem dX0_carry_153 : decode cX0_carry 153 = .ok (.if_icmp .ne 16, 3) := by decide +kernel
theorem dX0_carry_156 : decode cX0_carry 156 = .ok (.iload 4, 2) := by decide +kernel
theorem dX0_carry_158 : decode cX0_carry 158 = .ok (.sipush 256, 3) := by decide +kernel
theorem dX0_carry_161 : decode cX0_carry 161 = .ok (.irem, 1) := by decide +kernel
theorem dX0_carry_162 : decode cX0_carry 162 = .ok (.ifCond .eq 7, 3) := by decide +kernel
theorem dX0_carry_165 : decode cX0_carry 165 = .ok (.iconst 1, 1) := by decide +kernel
theorem dX0_carry_166 : decode cX0_carry 166 = .ok (.goto 4, 3) := by decide +kernel
theorem dX0_carry_169 : decode cX0_carry 169 = .ok (.iconst 0, 1) := by decide +kernel
theorem dX0_carry_170 : decode cX0_carry 170 = .ok (.invokevirtual 353, 3) := by decide +kernel
theorem dX0_carry_173 : decode cX0_carry 173 = .ok (.aload 5, 2) := by decide +kernel
theorem dX0_carry_175 : decode cX0_carry 175 = .ok (.getfield 116, 3) := by decide +kernel
theorem dX0_carry_178 : decode cX0_carry 178 = .ok (.ireturn, 1) := by decide +kernel
abbrev cX0_roam : ByteArray := prog_1_method_28_code
def yX0_roam : MethodName := ⟨RX0, "roam", "()I"⟩
theorem dX0_roam_0 : decode cX0_roam 0 = .ok (.aload_n 0, 1) := by decide +kernel
theorem dX0_roam_1 : decode cX0_roam 1 = .ok (.aload_n 0, 1) := by decide +kernel
theorem dX0_roam_2 : decode cX0_roam 2 = .ok (.getfield 50, 3) := by decide +kernel
theorem dX0_roam_5 : decode cX0_roam 5 = .ok (.sipush 255, 3) := by decide +kernel
theorem dX0_roam_8 : decode cX0_roam 8 = .ok (.if_icmp .ne 7, 3) := by decide +kernel
theorem dX0_roam_11 : decode cX0_roam 11 = .ok (.iconst 1, 1) := by decide +kernel
theorem dX0_roam_12 : decode cX0_roam 12 = .ok (.goto 9, 3) := by decide +kernel
theorem dX0_roam_15 : decode cX0_roam 15 = .ok (.aload_n 0, 1) := by decide +kernel
theorem dX0_roam_16 : decode cX0_roam 16 = .ok (.getfield 50, 3) := by decide +kernel
theorem dX0_roam_19 : decode cX0_roam 19 = .ok (.iconst 1, 1) := by decide +kernel
theorem dX0_roam_20 : decode cX0_roam 20 = .ok (.iadd, 1) := by decide +kernel
theorem dX0_roam_21 : decode cX0_roam 21 = .ok (.putfield 50, 3) := by decide +kernel
theorem dX0_roam_24 : decode cX0_roam 24 = .ok (.aload_n 0, 1) := by decide +kernel
theorem dX0_roam_25 : decode cX0_roam 25 = .ok (.iconst 1, 1) := by decide +kernel
theorem dX0_roam_26 : decode cX0_roam 26 = .ok (.putfield 135, 3) := by decide +kernel
theorem dX0_roam_29 : decode cX0_roam 29 = .ok (.aload_n 0, 1) := by decide +kernel
theorem dX0_roam_30 : decode cX0_roam 30 = .ok (.getfield 50, 3) := by decide +kernel
theorem dX0_roam_33 : decode cX0_roam 33 = .ok (.ireturn, 1) := by decide +kernel
abbrev cX0_cell : ByteArray := prog_1_method_30_code
def yX0_cell : MethodName := ⟨RX0, "cell", "(IIII)I"⟩
theorem dX0_cell_0 : decode cX0_cell 0 = .ok (.iload_n 1, 1) := by decide +kernel
theorem dX0_cell_1 : decode cX0_cell 1 = .ok (.ifCond .lt 19, 3) := by decide +kernel
theorem dX0_cell_4 : decode cX0_cell 4 = .ok (.iload_n 1, 1) := by decide +kernel
theorem dX0_cell_5 : decode cX0_cell 5 = .ok (.iconst 3, 1) := by decide +kernel
theorem dX0_cell_6 : decode cX0_cell 6 = .ok (.if_icmp .gt 14, 3) := by decide +kernel
theorem dX0_cell_9 : decode cX0_cell 9 = .ok (.iload 4, 2) := by decide +kernel
theorem dX0_cell_11 : decode cX0_cell 11 = .ok (.ifCond .lt 9, 3) := by decide +kernel
theorem dX0_cell_14 : decode cX0_cell 14 = .ok (.iload 4, 2) := by decide +kernel
theorem dX0_cell_16 : decode cX0_cell 16 = .ok (.iconst 1, 1) := by decide +kernel
theorem dX0_cell_17 : decode cX0_cell 17 = .ok (.if_icmp .le 5, 3) := by decide +kernel
theorem dX0_cell_20 : decode cX0_cell 20 = .ok (.iconst (-1), 1) := by decide +kernel
theorem dX0_cell_21 : decode cX0_cell 21 = .ok (.ireturn, 1) := by decide +kernel
theorem dX0_cell_22 : decode cX0_cell 22 = .ok (.aload_n 0, 1) := by decide +kernel
theorem dX0_cell_23 : decode cX0_cell 23 = .ok (.iload_n 1, 1) := by decide +kernel
theorem dX0_cell_24 : decode cX0_cell 24 = .ok (.invokevirtual 358, 3) := by decide +kernel
theorem dX0_cell_27 : decode cX0_cell 27 = .ok (.astore 5, 2) := by decide +kernel
theorem dX0_cell_29 : decode cX0_cell 29 = .ok (.iload 4, 2) := by decide +kernel
theorem dX0_cell_31 : decode cX0_cell 31 = .ok (.ifCond .ne 15, 3) := by decide +kernel
theorem dX0_cell_34 : decode cX0_cell 34 = .ok (.aload 5, 2) := by decide +kernel
theorem dX0_cell_36 : decode cX0_cell 36 = .ok (.getfield 308, 3) := by decide +kernel
theorem dX0_cell_39 : decode cX0_cell 39 = .ok (.iload_n 2, 1) := by decide +kernel
theorem dX0_cell_40 : decode cX0_cell 40 = .ok (.aaload, 1) := by decide +kernel
theorem dX0_cell_41 : decode cX0_cell 41 = .ok (.iload_n 3, 1) := by decide +kernel
theorem dX0_cell_42 : decode cX0_cell 42 = .ok (.baload, 1) := by decide +kernel
theorem dX0_cell_43 : decode cX0_cell 43 = .ok (.goto 12, 3) := by decide +kernel
theorem dX0_cell_46 : decode cX0_cell 46 = .ok (.aload 5, 2) := by decide +kernel
theorem dX0_cell_48 : decode cX0_cell 48 = .ok (.getfield 312, 3) := by decide +kernel
theorem dX0_cell_51 : decode cX0_cell 51 = .ok (.iload_n 2, 1) := by decide +kernel
theorem dX0_cell_52 : decode cX0_cell 52 = .ok (.aaload, 1) := by decide +kernel
theorem dX0_cell_53 : decode cX0_cell 53 = .ok (.iload_n 3, 1) := by decide +kernel
theorem dX0_cell_54 : decode cX0_cell 54 = .ok (.baload, 1) := by decide +kernel
theorem dX0_cell_55 : decode cX0_cell 55 = .ok (.ireturn, 1) := by decide +kernel
theorem dX0_cell_56 : decode cX0_cell 56 = .ok (.astore 5, 2) := by decide +kernel
theorem dX0_cell_58 : decode cX0_cell 58 = .ok (.iconst (-1), 1) := by decide +kernel
theorem dX0_cell_59 : decode cX0_cell 59 = .ok (.ireturn, 1) := by decide +kernel
abbrev cX0_seen : ByteArray := prog_1_method_29_code
def yX0_seen : MethodName := ⟨RX0, "seen", "(I)LFarTypewriter$Screen;"⟩
theorem dX0_seen_0 : decode cX0_seen 0 = .ok (.iload_n 1, 1) := by decide +kernel
theorem dX0_seen_1 : decode cX0_seen 1 = .ok (.ifCond .ne 16, 3) := by decide +kernel
theorem dX0_seen_4 : decode cX0_seen 4 = .ok (.aload_n 0, 1) := by decide +kernel
theorem dX0_seen_5 : decode cX0_seen 5 = .ok (.getfield 56, 3) := by decide +kernel
theorem dX0_seen_8 : decode cX0_seen 8 = .ok (.invokevirtual 207, 3) := by decide +kernel
theorem dX0_seen_11 : decode cX0_seen 11 = .ok (.getfield 107, 3) := by decide +kernel
theorem dX0_seen_14 : decode cX0_seen 14 = .ok (.goto 35, 3) := by decide +kernel
theorem dX0_seen_17 : decode cX0_seen 17 = .ok (.iload_n 1, 1) := by decide +kernel
theorem dX0_seen_18 : decode cX0_seen 18 = .ok (.iconst 1, 1) := by decide +kernel
theorem dX0_seen_19 : decode cX0_seen 19 = .ok (.if_icmp .ne 10, 3) := by decide +kernel
theorem dX0_seen_22 : decode cX0_seen 22 = .ok (.aload_n 0, 1) := by decide +kernel
theorem dX0_seen_23 : decode cX0_seen 23 = .ok (.getfield 73, 3) := by decide +kernel
theorem dX0_seen_26 : decode cX0_seen 26 = .ok (.goto 23, 3) := by decide +kernel
theorem dX0_seen_29 : decode cX0_seen 29 = .ok (.aload_n 0, 1) := by decide +kernel
theorem dX0_seen_30 : decode cX0_seen 30 = .ok (.iload_n 1, 1) := by decide +kernel
theorem dX0_seen_31 : decode cX0_seen 31 = .ok (.iconst 2, 1) := by decide +kernel
theorem dX0_seen_32 : decode cX0_seen 32 = .ok (.if_icmp .ne 10, 3) := by decide +kernel
theorem dX0_seen_35 : decode cX0_seen 35 = .ok (.aload_n 0, 1) := by decide +kernel
theorem dX0_seen_36 : decode cX0_seen 36 = .ok (.getfield 161, 3) := by decide +kernel
theorem dX0_seen_39 : decode cX0_seen 39 = .ok (.goto 7, 3) := by decide +kernel
theorem dX0_seen_42 : decode cX0_seen 42 = .ok (.aload_n 0, 1) := by decide +kernel
theorem dX0_seen_43 : decode cX0_seen 43 = .ok (.getfield 83, 3) := by decide +kernel
theorem dX0_seen_46 : decode cX0_seen 46 = .ok (.invokevirtual 220, 3) := by decide +kernel
theorem dX0_seen_49 : decode cX0_seen 49 = .ok (.areturn, 1) := by decide +kernel
abbrev cX0_cursor : ByteArray := prog_1_method_31_code
def yX0_cursor : MethodName := ⟨RX0, "cursor", "(II)I"⟩
theorem dX0_cursor_0 : decode cX0_cursor 0 = .ok (.iload_n 1, 1) := by decide +kernel
theorem dX0_cursor_1 : decode cX0_cursor 1 = .ok (.ifCond .lt 17, 3) := by decide +kernel
theorem dX0_cursor_4 : decode cX0_cursor 4 = .ok (.iload_n 1, 1) := by decide +kernel
theorem dX0_cursor_5 : decode cX0_cursor 5 = .ok (.iconst 3, 1) := by decide +kernel
theorem dX0_cursor_6 : decode cX0_cursor 6 = .ok (.if_icmp .gt 12, 3) := by decide +kernel
theorem dX0_cursor_9 : decode cX0_cursor 9 = .ok (.iload_n 2, 1) := by decide +kernel
theorem dX0_cursor_10 : decode cX0_cursor 10 = .ok (.ifCond .lt 8, 3) := by decide +kernel
theorem dX0_cursor_13 : decode cX0_cursor 13 = .ok (.iload_n 2, 1) := by decide +kernel
theorem dX0_cursor_14 : decode cX0_cursor 14 = .ok (.iconst 1, 1) := by decide +kernel
theorem dX0_cursor_15 : decode cX0_cursor 15 = .ok (.if_icmp .le 5, 3) := by decide +kernel
theorem dX0_cursor_18 : decode cX0_cursor 18 = .ok (.iconst (-1), 1) := by decide +kernel
theorem dX0_cursor_19 : decode cX0_cursor 19 = .ok (.ireturn, 1) := by decide +kernel
theorem dX0_cursor_20 : decode cX0_cursor 20 = .ok (.iload_n 2, 1) := by decide +kernel
theorem dX0_cursor_21 : decode cX0_cursor 21 = .ok (.ifCond .ne 14, 3) := by decide +kernel
theorem dX0_cursor_24 : decode cX0_cursor 24 = .ok (.aload_n 0, 1) := by decide +kernel
theorem dX0_cursor_25 : decode cX0_cursor 25 = .ok (.iload_n 1, 1) := by decide +kernel
theorem dX0_cursor_26 : decode cX0_cursor 26 = .ok (.invokevirtual 358, 3) := by decide +kernel
theorem dX0_cursor_29 : decode cX0_cursor 29 = .ok (.getfield 189, 3) := by decide +kernel
theorem dX0_cursor_32 : decode cX0_cursor 32 = .ok (.goto 11, 3) := by decide +kernel
theorem dX0_cursor_35 : decode cX0_cursor 35 = .ok (.aload_n 0, 1) := by decide +kernel
theorem dX0_cursor_36 : decode cX0_cursor 36 = .ok (.iload_n 1, 1) := by decide +kernel
theorem dX0_cursor_37 : decode cX0_cursor 37 = .ok (.invokevirtual 358, 3) := by decide +kernel
theorem dX0_cursor_40 : decode cX0_cursor 40 = .ok (.getfield 192, 3) := by decide +kernel
theorem dX0_cursor_43 : decode cX0_cursor 43 = .ok (.ireturn, 1) := by decide +kernel
abbrev cX0_alike : ByteArray := prog_1_method_32_code
def yX0_alike : MethodName := ⟨RX0, "alike", "()Z"⟩
theorem dX0_alike_0 : decode cX0_alike 0 = .ok (.aload_n 0, 1) := by decide +kernel
theorem dX0_alike_1 : decode cX0_alike 1 = .ok (.getfield 73, 3) := by decide +kernel
theorem dX0_alike_4 : decode cX0_alike 4 = .ok (.aload_n 0, 1) := by decide +kernel
theorem dX0_alike_5 : decode cX0_alike 5 = .ok (.getfield 56, 3) := by decide +kernel
theorem dX0_alike_8 : decode cX0_alike 8 = .ok (.invokevirtual 207, 3) := by decide +kernel
theorem dX0_alike_11 : decode cX0_alike 11 = .ok (.getfield 107, 3) := by decide +kernel
theorem dX0_alike_14 : decode cX0_alike 14 = .ok (.invokevirtual 254, 3) := by decide +kernel
theorem dX0_alike_17 : decode cX0_alike 17 = .ok (.ireturn, 1) := by decide +kernel
abbrev cX0_state : ByteArray := prog_1_method_33_code
def yX0_state : MethodName := ⟨RX0, "state", "(II)I"⟩
theorem dX0_state_0 : decode cX0_state 0 = .ok (.iload_n 1, 1) := by decide +kernel
theorem dX0_state_1 : decode cX0_state 1 = .ok (.ifCond .lt 8, 3) := by decide +kernel
theorem dX0_state_4 : decode cX0_state 4 = .ok (.iload_n 1, 1) := by decide +kernel
theorem dX0_state_5 : decode cX0_state 5 = .ok (.iconst 1, 1) := by decide +kernel
theorem dX0_state_6 : decode cX0_state 6 = .ok (.if_icmp .le 5, 3) := by decide +kernel
theorem dX0_state_9 : decode cX0_state 9 = .ok (.iconst (-1), 1) := by decide +kernel
theorem dX0_state_10 : decode cX0_state 10 = .ok (.ireturn, 1) := by decide +kernel
theorem dX0_state_11 : decode cX0_state 11 = .ok (.iload_n 1, 1) := by decide +kernel
theorem dX0_state_12 : decode cX0_state 12 = .ok (.ifCond .ne 7, 3) := by decide +kernel
theorem dX0_state_15 : decode cX0_state 15 = .ok (.iconst 1, 1) := by decide +kernel
theorem dX0_state_16 : decode cX0_state 16 = .ok (.goto 4, 3) := by decide +kernel
theorem dX0_state_19 : decode cX0_state 19 = .ok (.iconst 0, 1) := by decide +kernel
theorem dX0_state_20 : decode cX0_state 20 = .ok (.istore_n 3, 1) := by decide +kernel
theorem dX0_state_21 : decode cX0_state 21 = .ok (.iload_n 2, 1) := by decide +kernel
theorem dX0_state_22 : decode cX0_state 22 = .ok (.tableswitch 197 0 7 #[46, 62, 78, 100, 119, 135, 162, 178], 46) := by decide +kernel
theorem dX0_state_68 : decode cX0_state 68 = .ok (.iload_n 3, 1) := by decide +kernel
theorem dX0_state_69 : decode cX0_state 69 = .ok (.ifCond .eq 10, 3) := by decide +kernel
theorem dX0_state_72 : decode cX0_state 72 = .ok (.aload_n 0, 1) := by decide +kernel
theorem dX0_state_73 : decode cX0_state 73 = .ok (.getfield 120, 3) := by decide +kernel
theorem dX0_state_76 : decode cX0_state 76 = .ok (.goto 7, 3) := by decide +kernel
theorem dX0_state_79 : decode cX0_state 79 = .ok (.aload_n 0, 1) := by decide +kernel
theorem dX0_state_80 : decode cX0_state 80 = .ok (.getfield 142, 3) := by decide +kernel
theorem dX0_state_83 : decode cX0_state 83 = .ok (.ireturn, 1) := by decide +kernel
theorem dX0_state_84 : decode cX0_state 84 = .ok (.iload_n 3, 1) := by decide +kernel
theorem dX0_state_85 : decode cX0_state 85 = .ok (.ifCond .eq 10, 3) := by decide +kernel
theorem dX0_state_88 : decode cX0_state 88 = .ok (.aload_n 0, 1) := by decide +kernel
theorem dX0_state_89 : decode cX0_state 89 = .ok (.getfield 123, 3) := by decide +kernel
theorem dX0_state_92 : decode cX0_state 92 = .ok (.goto 7, 3) := by decide +kernel
theorem dX0_state_95 : decode cX0_state 95 = .ok (.aload_n 0, 1) := by decide +kernel
theorem dX0_state_96 : decode cX0_state 96 = .ok (.getfield 143, 3) := by decide +kernel
theorem dX0_state_99 : decode cX0_state 99 = .ok (.ireturn, 1) := by decide +kernel
theorem dX0_state_100 : decode cX0_state 100 = .ok (.iload_n 3, 1) := by decide +kernel
theorem dX0_state_101 : decode cX0_state 101 = .ok (.ifCond .eq 10, 3) := by decide +kernel
theorem dX0_state_104 : decode cX0_state 104 = .ok (.aload_n 0, 1) := by decide +kernel
theorem dX0_state_105 : decode cX0_state 105 = .ok (.getfield 56, 3) := by decide +kernel
theorem dX0_state_108 : decode cX0_state 108 = .ok (.goto 7, 3) := by decide +kernel
theorem dX0_state_111 : decode cX0_state 111 = .ok (.aload_n 0, 1) := by decide +kernel
theorem dX0_state_112 : decode cX0_state 112 = .ok (.getfield 67, 3) := by decide +kernel
theorem dX0_state_115 : decode cX0_state 115 = .ok (.invokevirtual 207, 3) := by decide +kernel
theorem dX0_state_118 : decode cX0_state 118 = .ok (.getfield 110, 3) := by decide +kernel
theorem dX0_state_121 : decode cX0_state 121 = .ok (.ireturn, 1) := by decide +kernel
theorem dX0_state_122 : decode cX0_state 122 = .ok (.iload_n 3, 1) := by decide +kernel
theorem dX0_state_123 : decode cX0_state 123 = .ok (.ifCond .eq 10, 3) := by decide +kernel
theorem dX0_state_126 : decode cX0_state 126 = .ok (.aload_n 0, 1) := by decide +kernel
theorem dX0_state_127 : decode cX0_state 127 = .ok (.getfield 56, 3) := by decide +kernel
theorem dX0_state_130 : decode cX0_state 130 = .ok (.goto 7, 3) := by decide +kernel
theorem dX0_state_133 : decode cX0_state 133 = .ok (.aload_n 0, 1) := by decide +kernel
theorem dX0_state_134 : decode cX0_state 134 = .ok (.getfield 67, 3) := by decide +kernel
theorem dX0_state_137 : decode cX0_state 137 = .ok (.getfield 100, 3) := by decide +kernel
theorem dX0_state_140 : decode cX0_state 140 = .ok (.ireturn, 1) := by decide +kernel
theorem dX0_state_141 : decode cX0_state 141 = .ok (.iload_n 3, 1) := by decide +kernel
theorem dX0_state_142 : decode cX0_state 142 = .ok (.ifCond .eq 10, 3) := by decide +kernel
theorem dX0_state_145 : decode cX0_state 145 = .ok (.aload_n 0, 1) := by decide +kernel
theorem dX0_state_146 : decode cX0_state 146 = .ok (.getfield 129, 3) := by decide +kernel
theorem dX0_state_149 : decode cX0_state 149 = .ok (.goto 7, 3) := by decide +kernel
theorem dX0_state_152 : decode cX0_state 152 = .ok (.aload_n 0, 1) := by decide +kernel
theorem dX0_state_153 : decode cX0_state 153 = .ok (.getfield 149, 3) := by decide +kernel
theorem dX0_state_156 : decode cX0_state 156 = .ok (.ireturn, 1) := by decide +kernel
theorem dX0_state_157 : decode cX0_state 157 = .ok (.iload_n 3, 1) := by decide +kernel
theorem dX0_state_158 : decode cX0_state 158 = .ok (.ifCond .eq 13, 3) := by decide +kernel
theorem dX0_state_161 : decode cX0_state 161 = .ok (.aload_n 0, 1) := by decide +kernel
theorem dX0_state_162 : decode cX0_state 162 = .ok (.getfield 135, 3) := by decide +kernel
theorem dX0_state_165 : decode cX0_state 165 = .ok (.ifCond .eq 17, 3) := by decide +kernel
theorem dX0_state_168 : decode cX0_state 168 = .ok (.goto 10, 3) := by decide +kernel
theorem dX0_state_171 : decode cX0_state 171 = .ok (.aload_n 0, 1) := by decide +kernel
theorem dX0_state_172 : decode cX0_state 172 = .ok (.getfield 155, 3) := by decide +kernel
theorem dX0_state_175 : decode cX0_state 175 = .ok (.ifCond .eq 7, 3) := by decide +kernel
theorem dX0_state_178 : decode cX0_state 178 = .ok (.iconst 1, 1) := by decide +kernel
theorem dX0_state_179 : decode cX0_state 179 = .ok (.goto 4, 3) := by decide +kernel
theorem dX0_state_182 : decode cX0_state 182 = .ok (.iconst 0, 1) := by decide +kernel
theorem dX0_state_183 : decode cX0_state 183 = .ok (.ireturn, 1) := by decide +kernel
theorem dX0_state_184 : decode cX0_state 184 = .ok (.iload_n 3, 1) := by decide +kernel
theorem dX0_state_185 : decode cX0_state 185 = .ok (.ifCond .eq 10, 3) := by decide +kernel
theorem dX0_state_188 : decode cX0_state 188 = .ok (.aload_n 0, 1) := by decide +kernel
theorem dX0_state_189 : decode cX0_state 189 = .ok (.getfield 50, 3) := by decide +kernel
theorem dX0_state_192 : decode cX0_state 192 = .ok (.goto 7, 3) := by decide +kernel
theorem dX0_state_195 : decode cX0_state 195 = .ok (.aload_n 0, 1) := by decide +kernel
theorem dX0_state_196 : decode cX0_state 196 = .ok (.getfield 64, 3) := by decide +kernel
theorem dX0_state_199 : decode cX0_state 199 = .ok (.ireturn, 1) := by decide +kernel
theorem dX0_state_200 : decode cX0_state 200 = .ok (.iload_n 3, 1) := by decide +kernel
theorem dX0_state_201 : decode cX0_state 201 = .ok (.ifCond .eq 10, 3) := by decide +kernel
theorem dX0_state_204 : decode cX0_state 204 = .ok (.aload_n 0, 1) := by decide +kernel
theorem dX0_state_205 : decode cX0_state 205 = .ok (.getfield 132, 3) := by decide +kernel
theorem dX0_state_208 : decode cX0_state 208 = .ok (.goto 10, 3) := by decide +kernel
theorem dX0_state_211 : decode cX0_state 211 = .ok (.aload_n 0, 1) := by decide +kernel
theorem dX0_state_212 : decode cX0_state 212 = .ok (.getfield 60, 3) := by decide +kernel
theorem dX0_state_215 : decode cX0_state 215 = .ok (.invokevirtual 361, 3) := by decide +kernel
theorem dX0_state_218 : decode cX0_state 218 = .ok (.ireturn, 1) := by decide +kernel
theorem dX0_state_219 : decode cX0_state 219 = .ok (.iconst (-1), 1) := by decide +kernel
theorem dX0_state_220 : decode cX0_state 220 = .ok (.ireturn, 1) := by decide +kernel
abbrev cX0_kept : ByteArray := prog_1_method_34_code
def yX0_kept : MethodName := ⟨RX0, "kept", "(II)I"⟩
theorem dX0_kept_0 : decode cX0_kept 0 = .ok (.iload_n 1, 1) := by decide +kernel
theorem dX0_kept_1 : decode cX0_kept 1 = .ok (.ifCond .lt 8, 3) := by decide +kernel
theorem dX0_kept_4 : decode cX0_kept 4 = .ok (.iload_n 1, 1) := by decide +kernel
theorem dX0_kept_5 : decode cX0_kept 5 = .ok (.iconst 1, 1) := by decide +kernel
theorem dX0_kept_6 : decode cX0_kept 6 = .ok (.if_icmp .le 5, 3) := by decide +kernel
theorem dX0_kept_9 : decode cX0_kept 9 = .ok (.iconst (-1), 1) := by decide +kernel
theorem dX0_kept_10 : decode cX0_kept 10 = .ok (.ireturn, 1) := by decide +kernel
theorem dX0_kept_11 : decode cX0_kept 11 = .ok (.iload_n 1, 1) := by decide +kernel
theorem dX0_kept_12 : decode cX0_kept 12 = .ok (.ifCond .ne 10, 3) := by decide +kernel
theorem dX0_kept_15 : decode cX0_kept 15 = .ok (.aload_n 0, 1) := by decide +kernel
theorem dX0_kept_16 : decode cX0_kept 16 = .ok (.getfield 56, 3) := by decide +kernel
theorem dX0_kept_19 : decode cX0_kept 19 = .ok (.goto 7, 3) := by decide +kernel
theorem dX0_kept_22 : decode cX0_kept 22 = .ok (.aload_n 0, 1) := by decide +kernel
theorem dX0_kept_23 : decode cX0_kept 23 = .ok (.getfield 67, 3) := by decide +kernel
theorem dX0_kept_26 : decode cX0_kept 26 = .ok (.astore_n 3, 1) := by decide +kernel
theorem dX0_kept_27 : decode cX0_kept 27 = .ok (.iload_n 2, 1) := by decide +kernel
theorem dX0_kept_28 : decode cX0_kept 28 = .ok (.ifCond .lt 11, 3) := by decide +kernel
theorem dX0_kept_31 : decode cX0_kept 31 = .ok (.iload_n 2, 1) := by decide +kernel
theorem dX0_kept_32 : decode cX0_kept 32 = .ok (.aload_n 3, 1) := by decide +kernel
theorem dX0_kept_33 : decode cX0_kept 33 = .ok (.getfield 100, 3) := by decide +kernel
theorem dX0_kept_36 : decode cX0_kept 36 = .ok (.if_icmp .lt 7, 3) := by decide +kernel
theorem dX0_kept_39 : decode cX0_kept 39 = .ok (.iconst (-1), 1) := by decide +kernel
theorem dX0_kept_40 : decode cX0_kept 40 = .ok (.goto 12, 3) := by decide +kernel
theorem dX0_kept_43 : decode cX0_kept 43 = .ok (.aload_n 3, 1) := by decide +kernel
theorem dX0_kept_44 : decode cX0_kept 44 = .ok (.getfield 275, 3) := by decide +kernel
theorem dX0_kept_47 : decode cX0_kept 47 = .ok (.iload_n 2, 1) := by decide +kernel
theorem dX0_kept_48 : decode cX0_kept 48 = .ok (.aaload, 1) := by decide +kernel
theorem dX0_kept_49 : decode cX0_kept 49 = .ok (.getfield 110, 3) := by decide +kernel
theorem dX0_kept_52 : decode cX0_kept 52 = .ok (.ireturn, 1) := by decide +kernel
abbrev cX0_guess_2 : ByteArray := prog_1_method_35_code
def yX0_guess_2 : MethodName := ⟨RX0, "guess", "(II)I"⟩
theorem dX0_guess_2_0 : decode cX0_guess_2 0 = .ok (.iload_n 1, 1) := by decide +kernel
theorem dX0_guess_2_1 : decode cX0_guess_2 1 = .ok (.ifCond .lt 11, 3) := by decide +kernel
theorem dX0_guess_2_4 : decode cX0_guess_2 4 = .ok (.iload_n 1, 1) := by decide +kernel
theorem dX0_guess_2_5 : decode cX0_guess_2 5 = .ok (.aload_n 0, 1) := by decide +kernel
theorem dX0_guess_2_6 : decode cX0_guess_2 6 = .ok (.getfield 158, 3) := by decide +kernel
theorem dX0_guess_2_9 : decode cX0_guess_2 9 = .ok (.if_icmp .lt 6, 3) := by decide +kernel
theorem dX0_guess_2_12 : decode cX0_guess_2 12 = .ok (.bipush (-2), 2) := by decide +kernel
theorem dX0_guess_2_14 : decode cX0_guess_2 14 = .ok (.ireturn, 1) := by decide +kernel
theorem dX0_guess_2_15 : decode cX0_guess_2 15 = .ok (.aload_n 0, 1) := by decide +kernel
theorem dX0_guess_2_16 : decode cX0_guess_2 16 = .ok (.getfield 79, 3) := by decide +kernel
theorem dX0_guess_2_19 : decode cX0_guess_2 19 = .ok (.iload_n 1, 1) := by decide +kernel
theorem dX0_guess_2_20 : decode cX0_guess_2 20 = .ok (.aaload, 1) := by decide +kernel
theorem dX0_guess_2_21 : decode cX0_guess_2 21 = .ok (.astore_n 3, 1) := by decide +kernel
theorem dX0_guess_2_22 : decode cX0_guess_2 22 = .ok (.iload_n 2, 1) := by decide +kernel
theorem dX0_guess_2_23 : decode cX0_guess_2 23 = .ok (.tableswitch 97 0 7 #[45, 50, 55, 60, 65, 70, 87, 92], 45) := by decide +kernel
theorem dX0_guess_2_68 : decode cX0_guess_2 68 = .ok (.aload_n 3, 1) := by decide +kernel
theorem dX0_guess_2_69 : decode cX0_guess_2 69 = .ok (.getfield 224, 3) := by decide +kernel
theorem dX0_guess_2_72 : decode cX0_guess_2 72 = .ok (.ireturn, 1) := by decide +kernel
theorem dX0_guess_2_73 : decode cX0_guess_2 73 = .ok (.aload_n 3, 1) := by decide +kernel
theorem dX0_guess_2_74 : decode cX0_guess_2 74 = .ok (.getfield 210, 3) := by decide +kernel
theorem dX0_guess_2_77 : decode cX0_guess_2 77 = .ok (.ireturn, 1) := by decide +kernel
theorem dX0_guess_2_78 : decode cX0_guess_2 78 = .ok (.aload_n 3, 1) := by decide +kernel
theorem dX0_guess_2_79 : decode cX0_guess_2 79 = .ok (.getfield 227, 3) := by decide +kernel
theorem dX0_guess_2_82 : decode cX0_guess_2 82 = .ok (.ireturn, 1) := by decide +kernel
theorem dX0_guess_2_83 : decode cX0_guess_2 83 = .ok (.aload_n 3, 1) := by decide +kernel
theorem dX0_guess_2_84 : decode cX0_guess_2 84 = .ok (.getfield 228, 3) := by decide +kernel
theorem dX0_guess_2_87 : decode cX0_guess_2 87 = .ok (.ireturn, 1) := by decide +kernel
theorem dX0_guess_2_88 : decode cX0_guess_2 88 = .ok (.aload_n 3, 1) := by decide +kernel
theorem dX0_guess_2_89 : decode cX0_guess_2 89 = .ok (.getfield 229, 3) := by decide +kernel
theorem dX0_guess_2_92 : decode cX0_guess_2 92 = .ok (.ireturn, 1) := by decide +kernel
theorem dX0_guess_2_93 : decode cX0_guess_2 93 = .ok (.aload_n 3, 1) := by decide +kernel
theorem dX0_guess_2_94 : decode cX0_guess_2 94 = .ok (.getfield 210, 3) := by decide +kernel
theorem dX0_guess_2_97 : decode cX0_guess_2 97 = .ok (.aload_n 0, 1) := by decide +kernel
theorem dX0_guess_2_98 : decode cX0_guess_2 98 = .ok (.getfield 161, 3) := by decide +kernel
theorem dX0_guess_2_101 : decode cX0_guess_2 101 = .ok (.if_icmp .gt 7, 3) := by decide +kernel
theorem dX0_guess_2_104 : decode cX0_guess_2 104 = .ok (.iconst 1, 1) := by decide +kernel
theorem dX0_guess_2_105 : decode cX0_guess_2 105 = .ok (.goto 4, 3) := by decide +kernel
theorem dX0_guess_2_108 : decode cX0_guess_2 108 = .ok (.iconst 0, 1) := by decide +kernel
theorem dX0_guess_2_109 : decode cX0_guess_2 109 = .ok (.ireturn, 1) := by decide +kernel
theorem dX0_guess_2_110 : decode cX0_guess_2 110 = .ok (.aload_n 3, 1) := by decide +kernel
theorem dX0_guess_2_111 : decode cX0_guess_2 111 = .ok (.getfield 232, 3) := by decide +kernel
theorem dX0_guess_2_114 : decode cX0_guess_2 114 = .ok (.ireturn, 1) := by decide +kernel
theorem dX0_guess_2_115 : decode cX0_guess_2 115 = .ok (.aload_n 3, 1) := by decide +kernel
theorem dX0_guess_2_116 : decode cX0_guess_2 116 = .ok (.getfield 241, 3) := by decide +kernel
theorem dX0_guess_2_119 : decode cX0_guess_2 119 = .ok (.ireturn, 1) := by decide +kernel
theorem dX0_guess_2_120 : decode cX0_guess_2 120 = .ok (.bipush (-2), 2) := by decide +kernel
theorem dX0_guess_2_122 : decode cX0_guess_2 122 = .ok (.ireturn, 1) := by decide +kernel
abbrev cX0_letter : ByteArray := prog_1_method_36_code
def yX0_letter : MethodName := ⟨RX0, "letter", "(III)I"⟩
theorem dX0_letter_0 : decode cX0_letter 0 = .ok (.iload_n 1, 1) := by decide +kernel
theorem dX0_letter_1 : decode cX0_letter 1 = .ok (.ifCond .lt 47, 3) := by decide +kernel
theorem dX0_letter_4 : decode cX0_letter 4 = .ok (.iload_n 1, 1) := by decide +kernel
theorem dX0_letter_5 : decode cX0_letter 5 = .ok (.iconst 1, 1) := by decide +kernel
theorem dX0_letter_6 : decode cX0_letter 6 = .ok (.if_icmp .gt 42, 3) := by decide +kernel
theorem dX0_letter_9 : decode cX0_letter 9 = .ok (.iload_n 2, 1) := by decide +kernel
theorem dX0_letter_10 : decode cX0_letter 10 = .ok (.ifCond .lt 38, 3) := by decide +kernel
theorem dX0_letter_13 : decode cX0_letter 13 = .ok (.iload_n 2, 1) := by decide +kernel
theorem dX0_letter_14 : decode cX0_letter 14 = .ok (.aload_n 0, 1) := by decide +kernel
theorem dX0_letter_15 : decode cX0_letter 15 = .ok (.getfield 35, 3) := by decide +kernel
theorem dX0_letter_18 : decode cX0_letter 18 = .ok (.iload_n 1, 1) := by decide +kernel
theorem dX0_letter_19 : decode cX0_letter 19 = .ok (.aaload, 1) := by decide +kernel
theorem dX0_letter_20 : decode cX0_letter 20 = .ok (.getfield 116, 3) := by decide +kernel
theorem dX0_letter_23 : decode cX0_letter 23 = .ok (.if_icmp .ge 25, 3) := by decide +kernel
theorem dX0_letter_26 : decode cX0_letter 26 = .ok (.iload_n 3, 1) := by decide +kernel
theorem dX0_letter_27 : decode cX0_letter 27 = .ok (.ifCond .lt 21, 3) := by decide +kernel
theorem dX0_letter_30 : decode cX0_letter 30 = .ok (.iload_n 3, 1) := by decide +kernel
theorem dX0_letter_31 : decode cX0_letter 31 = .ok (.aload_n 0, 1) := by decide +kernel
theorem dX0_letter_32 : decode cX0_letter 32 = .ok (.getfield 35, 3) := by decide +kernel
theorem dX0_letter_35 : decode cX0_letter 35 = .ok (.iload_n 1, 1) := by decide +kernel
theorem dX0_letter_36 : decode cX0_letter 36 = .ok (.aaload, 1) := by decide +kernel
theorem dX0_letter_37 : decode cX0_letter 37 = .ok (.getfield 290, 3) := by decide +kernel
theorem dX0_letter_40 : decode cX0_letter 40 = .ok (.iload_n 2, 1) := by decide +kernel
theorem dX0_letter_41 : decode cX0_letter 41 = .ok (.aaload, 1) := by decide +kernel
theorem dX0_letter_42 : decode cX0_letter 42 = .ok (.getfield 265, 3) := by decide +kernel
theorem dX0_letter_45 : decode cX0_letter 45 = .ok (.if_icmp .le 5, 3) := by decide +kernel
theorem dX0_letter_48 : decode cX0_letter 48 = .ok (.iconst (-1), 1) := by decide +kernel
theorem dX0_letter_49 : decode cX0_letter 49 = .ok (.ireturn, 1) := by decide +kernel
theorem dX0_letter_50 : decode cX0_letter 50 = .ok (.iload_n 3, 1) := by decide +kernel
theorem dX0_letter_51 : decode cX0_letter 51 = .ok (.ifCond .ne 20, 3) := by decide +kernel
theorem dX0_letter_54 : decode cX0_letter 54 = .ok (.aload_n 0, 1) := by decide +kernel
theorem dX0_letter_55 : decode cX0_letter 55 = .ok (.getfield 35, 3) := by decide +kernel
theorem dX0_letter_58 : decode cX0_letter 58 = .ok (.iload_n 1, 1) := by decide +kernel
theorem dX0_letter_59 : decode cX0_letter 59 = .ok (.aaload, 1) := by decide +kernel
theorem dX0_letter_60 : decode cX0_letter 60 = .ok (.getfield 290, 3) := by decide +kernel
theorem dX0_letter_63 : decode cX0_letter 63 = .ok (.iload_n 2, 1) := by decide +kernel
theorem dX0_letter_64 : decode cX0_letter 64 = .ok (.aaload, 1) := by decide +kernel
theorem dX0_letter_65 : decode cX0_letter 65 = .ok (.getfield 265, 3) := by decide +kernel
theorem dX0_letter_68 : decode cX0_letter 68 = .ok (.goto 20, 3) := by decide +kernel
theorem dX0_letter_71 : decode cX0_letter 71 = .ok (.aload_n 0, 1) := by decide +kernel
theorem dX0_letter_72 : decode cX0_letter 72 = .ok (.getfield 35, 3) := by decide +kernel
theorem dX0_letter_75 : decode cX0_letter 75 = .ok (.iload_n 1, 1) := by decide +kernel
theorem dX0_letter_76 : decode cX0_letter 76 = .ok (.aaload, 1) := by decide +kernel
theorem dX0_letter_77 : decode cX0_letter 77 = .ok (.getfield 290, 3) := by decide +kernel
theorem dX0_letter_80 : decode cX0_letter 80 = .ok (.iload_n 2, 1) := by decide +kernel
theorem dX0_letter_81 : decode cX0_letter 81 = .ok (.aaload, 1) := by decide +kernel
theorem dX0_letter_82 : decode cX0_letter 82 = .ok (.iload_n 3, 1) := by decide +kernel
theorem dX0_letter_83 : decode cX0_letter 83 = .ok (.iconst 1, 1) := by decide +kernel
theorem dX0_letter_84 : decode cX0_letter 84 = .ok (.isub, 1) := by decide +kernel
theorem dX0_letter_85 : decode cX0_letter 85 = .ok (.invokevirtual 315, 3) := by decide +kernel
theorem dX0_letter_88 : decode cX0_letter 88 = .ok (.ireturn, 1) := by decide +kernel
abbrev cX0_count : ByteArray := prog_1_method_37_code
def yX0_count : MethodName := ⟨RX0, "count", "(I)I"⟩
theorem dX0_count_0 : decode cX0_count 0 = .ok (.iload_n 1, 1) := by decide +kernel
theorem dX0_count_1 : decode cX0_count 1 = .ok (.ifCond .lt 19, 3) := by decide +kernel
theorem dX0_count_4 : decode cX0_count 4 = .ok (.iload_n 1, 1) := by decide +kernel
theorem dX0_count_5 : decode cX0_count 5 = .ok (.aload_n 0, 1) := by decide +kernel
theorem dX0_count_6 : decode cX0_count 6 = .ok (.getfield 28, 3) := by decide +kernel
theorem dX0_count_9 : decode cX0_count 9 = .ok (.arraylength, 1) := by decide +kernel
theorem dX0_count_10 : decode cX0_count 10 = .ok (.if_icmp .ge 10, 3) := by decide +kernel
theorem dX0_count_13 : decode cX0_count 13 = .ok (.aload_n 0, 1) := by decide +kernel
theorem dX0_count_14 : decode cX0_count 14 = .ok (.getfield 28, 3) := by decide +kernel
theorem dX0_count_17 : decode cX0_count 17 = .ok (.iload_n 1, 1) := by decide +kernel
theorem dX0_count_18 : decode cX0_count 18 = .ok (.iaload, 1) := by decide +kernel
theorem dX0_count_19 : decode cX0_count 19 = .ok (.ireturn, 1) := by decide +kernel
theorem dX0_count_20 : decode cX0_count 20 = .ok (.iload_n 1, 1) := by decide +kernel
theorem dX0_count_21 : decode cX0_count 21 = .ok (.tableswitch 72 10 15 #[39, 44, 49, 54, 59, 59], 39) := by decide +kernel
theorem dX0_count_60 : decode cX0_count 60 = .ok (.aload_n 0, 1) := by decide +kernel
theorem dX0_count_61 : decode cX0_count 61 = .ok (.getfield 117, 3) := by decide +kernel
theorem dX0_count_64 : decode cX0_count 64 = .ok (.ireturn, 1) := by decide +kernel
theorem dX0_count_65 : decode cX0_count 65 = .ok (.aload_n 0, 1) := by decide +kernel
theorem dX0_count_66 : decode cX0_count 66 = .ok (.getfield 158, 3) := by decide +kernel
theorem dX0_count_69 : decode cX0_count 69 = .ok (.ireturn, 1) := by decide +kernel
theorem dX0_count_70 : decode cX0_count 70 = .ok (.aload_n 0, 1) := by decide +kernel
theorem dX0_count_71 : decode cX0_count 71 = .ok (.getfield 161, 3) := by decide +kernel
theorem dX0_count_74 : decode cX0_count 74 = .ok (.ireturn, 1) := by decide +kernel
theorem dX0_count_75 : decode cX0_count 75 = .ok (.aload_n 0, 1) := by decide +kernel
theorem dX0_count_76 : decode cX0_count 76 = .ok (.getfield 83, 3) := by decide +kernel
theorem dX0_count_79 : decode cX0_count 79 = .ok (.ireturn, 1) := by decide +kernel
theorem dX0_count_80 : decode cX0_count 80 = .ok (.aload_n 0, 1) := by decide +kernel
theorem dX0_count_81 : decode cX0_count 81 = .ok (.getfield 35, 3) := by decide +kernel
theorem dX0_count_84 : decode cX0_count 84 = .ok (.iload_n 1, 1) := by decide +kernel
theorem dX0_count_85 : decode cX0_count 85 = .ok (.bipush 14, 2) := by decide +kernel
theorem dX0_count_87 : decode cX0_count 87 = .ok (.isub, 1) := by decide +kernel
theorem dX0_count_88 : decode cX0_count 88 = .ok (.aaload, 1) := by decide +kernel
theorem dX0_count_89 : decode cX0_count 89 = .ok (.getfield 116, 3) := by decide +kernel
theorem dX0_count_92 : decode cX0_count 92 = .ok (.ireturn, 1) := by decide +kernel
theorem dX0_count_93 : decode cX0_count 93 = .ok (.iconst (-1), 1) := by decide +kernel
theorem dX0_count_94 : decode cX0_count 94 = .ok (.ireturn, 1) := by decide +kernel
theorem q54 : (Jvm.Cond.initialized "FarTypewriter") ∈ lw_all := lw_g (lw_at lw_m1 1 rfl) rfl
theorem q76 : (Jvm.Cond.instantiable "FarTypewriter" (33 : Nat)) ∈ lw_all := lw_g (lw_at lw_m1 23 rfl) rfl
theorem q78 : (Jvm.Cond.instanceMethod ({ cls := "FarTypewriter", name := "<init>", desc := "()V" } : Jvm.MethodName)) ∈ lw_all := lw_g (lw_at lw_m1 25 rfl) rfl
theorem q79 : (Jvm.Cond.code ({ cls := "FarTypewriter", name := "<init>", desc := "()V" } : Jvm.MethodName) prog_1_method_3_code (2 : Nat) (Option.none : Option Jvm.ClassFile.FieldType)) ∈ lw_all := lw_g (lw_at lw_m1 26 rfl) rfl
theorem q80 : (Jvm.Cond.methodLink "FarTypewriter" (18 : Nat) ({ cls := "java/lang/Object", name := "<init>", desc := "()V" } : Jvm.MethodName)) ∈ lw_all := lw_g (lw_at lw_m1 27 rfl) rfl
theorem q83 : (Jvm.Cond.classLink "FarTypewriter" (32 : Nat) "FarTypewriter$Line") ∈ lw_all := lw_g (lw_at lw_m1 30 rfl) rfl
theorem q86 : (Jvm.Cond.methodLink "FarTypewriter" (34 : Nat) ({ cls := "FarTypewriter$Line", name := "<init>", desc := "()V" } : Jvm.MethodName)) ∈ lw_all := lw_g (lw_at lw_m1 33 rfl) rfl
theorem q98 : (Jvm.Cond.fieldLinkNest "FarTypewriter" (356 : Nat) "FarTypewriter$Letter" "bytes" "[B" "FarTypewriter") ∈ lw_tbl := lw_at lw_m1 45 rfl
theorem q100 : (Jvm.Cond.fieldLinkNest "FarTypewriter" (265 : Nat) "FarTypewriter$Letter" "size" "I" "FarTypewriter") ∈ lw_tbl := lw_at lw_m1 47 rfl
theorem q109 : (Jvm.Cond.fieldLinkNest "FarTypewriter" (290 : Nat) "FarTypewriter$Line" "letters" "[LFarTypewriter$Letter;" "FarTypewriter") ∈ lw_tbl := lw_at lw_m1 56 rfl
theorem q111 : (Jvm.Cond.fieldLinkNest "FarTypewriter" (116 : Nat) "FarTypewriter$Line" "size" "I" "FarTypewriter") ∈ lw_tbl := lw_at lw_m1 58 rfl
theorem q117 : (Jvm.Cond.classLink "FarTypewriter" (39 : Nat) "FarTypewriter$Letter") ∈ lw_all := lw_g (lw_at lw_m1 64 rfl) rfl
theorem q118 : (Jvm.Cond.methodLinkNest "FarTypewriter" (41 : Nat) ({ cls := "FarTypewriter$Letter", name := "<init>", desc := "()V" } : Jvm.MethodName) "FarTypewriter") ∈ lw_tbl := lw_at lw_m1 65 rfl
theorem q119 : (Jvm.Cond.classLink "FarTypewriter" (53 : Nat) "FarTypewriter$Shelf") ∈ lw_all := lw_g (lw_at lw_m1 66 rfl) rfl
theorem q121 : (Jvm.Cond.methodLink "FarTypewriter" (55 : Nat) ({ cls := "FarTypewriter$Shelf", name := "<init>", desc := "()V" } : Jvm.MethodName)) ∈ lw_all := lw_g (lw_at lw_m1 68 rfl) rfl
theorem q150 : (Jvm.Cond.fieldLinkNest "FarTypewriter" (308 : Nat) "FarTypewriter$Screen" "signs" "[[B" "FarTypewriter") ∈ lw_tbl := lw_at lw_m1 97 rfl
theorem q152 : (Jvm.Cond.fieldLinkNest "FarTypewriter" (312 : Nat) "FarTypewriter$Screen" "marks" "[[B" "FarTypewriter") ∈ lw_tbl := lw_at lw_m1 99 rfl
theorem q156 : (Jvm.Cond.fieldLinkNest "FarTypewriter" (189 : Nat) "FarTypewriter$Screen" "row" "I" "FarTypewriter") ∈ lw_tbl := lw_at lw_m1 103 rfl
theorem q161 : (Jvm.Cond.fieldLinkNest "FarTypewriter" (192 : Nat) "FarTypewriter$Screen" "column" "I" "FarTypewriter") ∈ lw_tbl := lw_at lw_m1 108 rfl
theorem q172 : (Jvm.Cond.fieldLinkNest "FarTypewriter" (107 : Nat) "FarTypewriter$State" "screen" "LFarTypewriter$Screen;" "FarTypewriter") ∈ lw_tbl := lw_at lw_m1 119 rfl
theorem q175 : (Jvm.Cond.fieldLinkNest "FarTypewriter" (110 : Nat) "FarTypewriter$State" "number" "I" "FarTypewriter") ∈ lw_tbl := lw_at lw_m1 122 rfl
theorem q176 : (Jvm.Cond.fieldLinkNest "FarTypewriter" (113 : Nat) "FarTypewriter$State" "took" "I" "FarTypewriter") ∈ lw_tbl := lw_at lw_m1 123 rfl
theorem q186 : (Jvm.Cond.fieldLinkNest "FarTypewriter" (275 : Nat) "FarTypewriter$Shelf" "states" "[LFarTypewriter$State;" "FarTypewriter") ∈ lw_tbl := lw_at lw_m1 133 rfl
theorem q188 : (Jvm.Cond.fieldLinkNest "FarTypewriter" (100 : Nat) "FarTypewriter$Shelf" "size" "I" "FarTypewriter") ∈ lw_tbl := lw_at lw_m1 135 rfl
theorem q194 : (Jvm.Cond.classLink "FarTypewriter" (1 : Nat) "FarTypewriter$Echo") ∈ lw_all := lw_g (lw_at lw_m1 141 rfl) rfl
theorem q196 : (Jvm.Cond.methodLinkNest "FarTypewriter" (3 : Nat) ({ cls := "FarTypewriter$Echo", name := "<init>", desc := "()V" } : Jvm.MethodName) "FarTypewriter") ∈ lw_tbl := lw_at lw_m1 143 rfl
theorem q204 : (Jvm.Cond.classLink "FarTypewriter" (70 : Nat) "FarTypewriter$Screen") ∈ lw_all := lw_g (lw_at lw_m1 151 rfl) rfl
theorem q205 : (Jvm.Cond.methodLink "FarTypewriter" (72 : Nat) ({ cls := "FarTypewriter$Screen", name := "<init>", desc := "()V" } : Jvm.MethodName)) ∈ lw_all := lw_g (lw_at lw_m1 152 rfl) rfl
theorem q206 : (Jvm.Cond.classLink "FarTypewriter" (77 : Nat) "FarTypewriter$Guess") ∈ lw_all := lw_g (lw_at lw_m1 153 rfl) rfl
theorem q209 : (Jvm.Cond.methodLinkNest "FarTypewriter" (92 : Nat) ({ cls := "FarTypewriter$Guess", name := "<init>", desc := "()V" } : Jvm.MethodName) "FarTypewriter") ∈ lw_tbl := lw_at lw_m1 156 rfl
theorem q214 : (Jvm.Cond.fieldLinkNest "FarTypewriter" (224 : Nat) "FarTypewriter$Guess" "key" "I" "FarTypewriter") ∈ lw_tbl := lw_at lw_m1 161 rfl
theorem q216 : (Jvm.Cond.fieldLinkNest "FarTypewriter" (210 : Nat) "FarTypewriter$Guess" "age" "I" "FarTypewriter") ∈ lw_tbl := lw_at lw_m1 163 rfl
theorem q218 : (Jvm.Cond.fieldLinkNest "FarTypewriter" (227 : Nat) "FarTypewriter$Guess" "row" "I" "FarTypewriter") ∈ lw_tbl := lw_at lw_m1 165 rfl
theorem q220 : (Jvm.Cond.fieldLinkNest "FarTypewriter" (228 : Nat) "FarTypewriter$Guess" "column" "I" "FarTypewriter") ∈ lw_tbl := lw_at lw_m1 167 rfl
theorem q222 : (Jvm.Cond.fieldLinkNest "FarTypewriter" (229 : Nat) "FarTypewriter$Guess" "sign" "I" "FarTypewriter") ∈ lw_tbl := lw_at lw_m1 169 rfl
theorem q224 : (Jvm.Cond.fieldLinkNest "FarTypewriter" (232 : Nat) "FarTypewriter$Guess" "cursorRow" "I" "FarTypewriter") ∈ lw_tbl := lw_at lw_m1 171 rfl
theorem q226 : (Jvm.Cond.fieldLinkNest "FarTypewriter" (241 : Nat) "FarTypewriter$Guess" "cursorColumn" "I" "FarTypewriter") ∈ lw_tbl := lw_at lw_m1 173 rfl
theorem q242 : (Jvm.Cond.methodLink "FarTypewriter" (93 : Nat) ({ cls := "FarTypewriter", name := "begin", desc := "()V" } : Jvm.MethodName)) ∈ lw_all := lw_g (lw_at lw_m1 189 rfl) rfl
theorem q243 : (Jvm.Cond.privateMethod ({ cls := "FarTypewriter", name := "begin", desc := "()V" } : Jvm.MethodName)) ∈ lw_tbl := lw_at lw_m1 190 rfl
theorem q244 : (Jvm.Cond.instanceMethod ({ cls := "FarTypewriter", name := "begin", desc := "()V" } : Jvm.MethodName)) ∈ lw_all := lw_g (lw_at lw_m1 191 rfl) rfl
theorem q245 : (Jvm.Cond.code ({ cls := "FarTypewriter", name := "begin", desc := "()V" } : Jvm.MethodName) prog_1_method_4_code (3 : Nat) (Option.none : Option Jvm.ClassFile.FieldType)) ∈ lw_all := lw_g (lw_at lw_m1 192 rfl) rfl
theorem q246 : (Jvm.Cond.methodLink "FarTypewriter" (96 : Nat) ({ cls := "FarTypewriter$Screen", name := "copies", desc := "(LFarTypewriter$Screen;)V" } : Jvm.MethodName)) ∈ lw_all := lw_g (lw_at lw_m1 193 rfl) rfl
theorem q253 : (Jvm.Cond.methodLink "FarTypewriter" (103 : Nat) ({ cls := "FarTypewriter$Shelf", name := "next", desc := "()LFarTypewriter$State;" } : Jvm.MethodName)) ∈ lw_all := lw_g (lw_at lw_m1 200 rfl) rfl
theorem q261 : (Jvm.Cond.fieldLink "FarTypewriter" (21 : Nat) "FarTypewriter" "frame" "I") ∈ lw_all := lw_g (lw_at lw_m1 208 rfl) rfl
theorem q262 : (Jvm.Cond.fieldLink "FarTypewriter" (25 : Nat) "FarTypewriter" "again" "I") ∈ lw_all := lw_g (lw_at lw_m1 209 rfl) rfl
theorem q263 : (Jvm.Cond.fieldLink "FarTypewriter" (117 : Nat) "FarTypewriter" "clock" "I") ∈ lw_all := lw_g (lw_at lw_m1 210 rfl) rfl
theorem q264 : (Jvm.Cond.fieldLink "FarTypewriter" (28 : Nat) "FarTypewriter" "counts" "[I") ∈ lw_all := lw_g (lw_at lw_m1 211 rfl) rfl
theorem q265 : (Jvm.Cond.fieldLink "FarTypewriter" (35 : Nat) "FarTypewriter" "lines" "[LFarTypewriter$Line;") ∈ lw_all := lw_g (lw_at lw_m1 212 rfl) rfl
theorem q266 : (Jvm.Cond.fieldLink "FarTypewriter" (42 : Nat) "FarTypewriter" "moving" "LFarTypewriter$Letter;") ∈ lw_all := lw_g (lw_at lw_m1 213 rfl) rfl
theorem q267 : (Jvm.Cond.fieldLink "FarTypewriter" (46 : Nat) "FarTypewriter" "keys" "[B") ∈ lw_all := lw_g (lw_at lw_m1 214 rfl) rfl
theorem q268 : (Jvm.Cond.fieldLink "FarTypewriter" (120 : Nat) "FarTypewriter" "typed" "I") ∈ lw_all := lw_g (lw_at lw_m1 215 rfl) rfl
theorem q269 : (Jvm.Cond.fieldLink "FarTypewriter" (123 : Nat) "FarTypewriter" "known" "I") ∈ lw_all := lw_g (lw_at lw_m1 216 rfl) rfl
theorem q270 : (Jvm.Cond.fieldLink "FarTypewriter" (126 : Nat) "FarTypewriter" "nearSent" "I") ∈ lw_all := lw_g (lw_at lw_m1 217 rfl) rfl
theorem q271 : (Jvm.Cond.fieldLink "FarTypewriter" (129 : Nat) "FarTypewriter" "nearLast" "I") ∈ lw_all := lw_g (lw_at lw_m1 218 rfl) rfl
theorem q272 : (Jvm.Cond.fieldLink "FarTypewriter" (50 : Nat) "FarTypewriter" "address" "I") ∈ lw_all := lw_g (lw_at lw_m1 219 rfl) rfl
theorem q273 : (Jvm.Cond.fieldLink "FarTypewriter" (132 : Nat) "FarTypewriter" "sureTold" "I") ∈ lw_all := lw_g (lw_at lw_m1 220 rfl) rfl
theorem q274 : (Jvm.Cond.fieldLink "FarTypewriter" (135 : Nat) "FarTypewriter" "nearOwes" "Z") ∈ lw_all := lw_g (lw_at lw_m1 221 rfl) rfl
theorem q275 : (Jvm.Cond.fieldLink "FarTypewriter" (56 : Nat) "FarTypewriter" "near" "LFarTypewriter$Shelf;") ∈ lw_all := lw_g (lw_at lw_m1 222 rfl) rfl
theorem q276 : (Jvm.Cond.fieldLink "FarTypewriter" (60 : Nat) "FarTypewriter" "program" "LFarTypewriter$Program;") ∈ lw_all := lw_g (lw_at lw_m1 223 rfl) rfl
theorem q277 : (Jvm.Cond.fieldLink "FarTypewriter" (164 : Nat) "FarTypewriter" "kind" "I") ∈ lw_all := lw_g (lw_at lw_m1 224 rfl) rfl
theorem q278 : (Jvm.Cond.fieldLink "FarTypewriter" (139 : Nat) "FarTypewriter" "pen" "I") ∈ lw_all := lw_g (lw_at lw_m1 225 rfl) rfl
theorem q279 : (Jvm.Cond.fieldLink "FarTypewriter" (142 : Nat) "FarTypewriter" "took" "I") ∈ lw_all := lw_g (lw_at lw_m1 226 rfl) rfl
theorem q280 : (Jvm.Cond.fieldLink "FarTypewriter" (143 : Nat) "FarTypewriter" "sure" "I") ∈ lw_all := lw_g (lw_at lw_m1 227 rfl) rfl
theorem q281 : (Jvm.Cond.fieldLink "FarTypewriter" (146 : Nat) "FarTypewriter" "farSent" "I") ∈ lw_all := lw_g (lw_at lw_m1 228 rfl) rfl
theorem q282 : (Jvm.Cond.fieldLink "FarTypewriter" (149 : Nat) "FarTypewriter" "farLast" "I") ∈ lw_all := lw_g (lw_at lw_m1 229 rfl) rfl
theorem q283 : (Jvm.Cond.fieldLink "FarTypewriter" (64 : Nat) "FarTypewriter" "answers" "I") ∈ lw_all := lw_g (lw_at lw_m1 230 rfl) rfl
theorem q284 : (Jvm.Cond.fieldLink "FarTypewriter" (152 : Nat) "FarTypewriter" "keysHeard" "I") ∈ lw_all := lw_g (lw_at lw_m1 231 rfl) rfl
theorem q285 : (Jvm.Cond.fieldLink "FarTypewriter" (155 : Nat) "FarTypewriter" "farOwes" "Z") ∈ lw_all := lw_g (lw_at lw_m1 232 rfl) rfl
theorem q286 : (Jvm.Cond.fieldLink "FarTypewriter" (67 : Nat) "FarTypewriter" "far" "LFarTypewriter$Shelf;") ∈ lw_all := lw_g (lw_at lw_m1 233 rfl) rfl
theorem q287 : (Jvm.Cond.fieldLink "FarTypewriter" (73 : Nat) "FarTypewriter" "screen" "LFarTypewriter$Screen;") ∈ lw_all := lw_g (lw_at lw_m1 234 rfl) rfl
theorem q288 : (Jvm.Cond.fieldLink "FarTypewriter" (79 : Nat) "FarTypewriter" "guesses" "[LFarTypewriter$Guess;") ∈ lw_all := lw_g (lw_at lw_m1 235 rfl) rfl
theorem q289 : (Jvm.Cond.fieldLink "FarTypewriter" (158 : Nat) "FarTypewriter" "guessed" "I") ∈ lw_all := lw_g (lw_at lw_m1 236 rfl) rfl
theorem q290 : (Jvm.Cond.fieldLink "FarTypewriter" (83 : Nat) "FarTypewriter" "age" "I") ∈ lw_all := lw_g (lw_at lw_m1 237 rfl) rfl
theorem q291 : (Jvm.Cond.fieldLink "FarTypewriter" (161 : Nat) "FarTypewriter" "confirmed" "I") ∈ lw_all := lw_g (lw_at lw_m1 238 rfl) rfl
theorem q292 : (Jvm.Cond.fieldLink "FarTypewriter" (86 : Nat) "FarTypewriter" "aside" "LFarTypewriter$Screen;") ∈ lw_all := lw_g (lw_at lw_m1 239 rfl) rfl
theorem q293 : (Jvm.Cond.fieldLink "FarTypewriter" (89 : Nat) "FarTypewriter" "scrolled" "LFarTypewriter$Screen;") ∈ lw_all := lw_g (lw_at lw_m2 0 rfl) rfl
theorem q294 : (Jvm.Cond.lays "FarTypewriter" "FarTypewriter" "frame" "I") ∈ lw_all := lw_g (lw_at lw_m2 1 rfl) rfl
theorem q295 : (Jvm.Cond.soleField "FarTypewriter" "frame") ∈ lw_all := lw_g (lw_at lw_m2 2 rfl) rfl
theorem q296 : (Jvm.Cond.lays "FarTypewriter" "FarTypewriter" "again" "I") ∈ lw_all := lw_g (lw_at lw_m2 3 rfl) rfl
theorem q297 : (Jvm.Cond.soleField "FarTypewriter" "again") ∈ lw_all := lw_g (lw_at lw_m2 4 rfl) rfl
theorem q298 : (Jvm.Cond.lays "FarTypewriter" "FarTypewriter" "clock" "I") ∈ lw_all := lw_g (lw_at lw_m2 5 rfl) rfl
theorem q299 : (Jvm.Cond.soleField "FarTypewriter" "clock") ∈ lw_all := lw_g (lw_at lw_m2 6 rfl) rfl
theorem q300 : (Jvm.Cond.laysFinal "FarTypewriter" "FarTypewriter" "counts" "[I") ∈ lw_all := lw_g (lw_at lw_m2 7 rfl) rfl
theorem q301 : (Jvm.Cond.soleField "FarTypewriter" "counts") ∈ lw_all := lw_g (lw_at lw_m2 8 rfl) rfl
theorem q302 : (Jvm.Cond.laysFinal "FarTypewriter" "FarTypewriter" "lines" "[LFarTypewriter$Line;") ∈ lw_all := lw_g (lw_at lw_m2 9 rfl) rfl
theorem q303 : (Jvm.Cond.soleField "FarTypewriter" "lines") ∈ lw_all := lw_g (lw_at lw_m2 10 rfl) rfl
theorem q304 : (Jvm.Cond.laysFinal "FarTypewriter" "FarTypewriter" "moving" "LFarTypewriter$Letter;") ∈ lw_all := lw_g (lw_at lw_m2 11 rfl) rfl
theorem q305 : (Jvm.Cond.soleField "FarTypewriter" "moving") ∈ lw_all := lw_g (lw_at lw_m2 12 rfl) rfl
theorem q306 : (Jvm.Cond.laysFinal "FarTypewriter" "FarTypewriter" "keys" "[B") ∈ lw_all := lw_g (lw_at lw_m2 13 rfl) rfl
theorem q307 : (Jvm.Cond.soleField "FarTypewriter" "keys") ∈ lw_all := lw_g (lw_at lw_m2 14 rfl) rfl
theorem q308 : (Jvm.Cond.lays "FarTypewriter" "FarTypewriter" "typed" "I") ∈ lw_all := lw_g (lw_at lw_m2 15 rfl) rfl
theorem q309 : (Jvm.Cond.soleField "FarTypewriter" "typed") ∈ lw_all := lw_g (lw_at lw_m2 16 rfl) rfl
theorem q310 : (Jvm.Cond.lays "FarTypewriter" "FarTypewriter" "known" "I") ∈ lw_all := lw_g (lw_at lw_m2 17 rfl) rfl
theorem q311 : (Jvm.Cond.soleField "FarTypewriter" "known") ∈ lw_all := lw_g (lw_at lw_m2 18 rfl) rfl
theorem q312 : (Jvm.Cond.lays "FarTypewriter" "FarTypewriter" "nearSent" "I") ∈ lw_all := lw_g (lw_at lw_m2 19 rfl) rfl
theorem q313 : (Jvm.Cond.soleField "FarTypewriter" "nearSent") ∈ lw_all := lw_g (lw_at lw_m2 20 rfl) rfl
theorem q314 : (Jvm.Cond.lays "FarTypewriter" "FarTypewriter" "nearLast" "I") ∈ lw_all := lw_g (lw_at lw_m2 21 rfl) rfl
theorem q315 : (Jvm.Cond.soleField "FarTypewriter" "nearLast") ∈ lw_all := lw_g (lw_at lw_m2 22 rfl) rfl
theorem q316 : (Jvm.Cond.lays "FarTypewriter" "FarTypewriter" "address" "I") ∈ lw_all := lw_g (lw_at lw_m2 23 rfl) rfl
theorem q317 : (Jvm.Cond.soleField "FarTypewriter" "address") ∈ lw_all := lw_g (lw_at lw_m2 24 rfl) rfl
theorem q318 : (Jvm.Cond.lays "FarTypewriter" "FarTypewriter" "sureTold" "I") ∈ lw_all := lw_g (lw_at lw_m2 25 rfl) rfl
theorem q319 : (Jvm.Cond.soleField "FarTypewriter" "sureTold") ∈ lw_all := lw_g (lw_at lw_m2 26 rfl) rfl
theorem q320 : (Jvm.Cond.lays "FarTypewriter" "FarTypewriter" "nearOwes" "Z") ∈ lw_all := lw_g (lw_at lw_m2 27 rfl) rfl
theorem q321 : (Jvm.Cond.soleField "FarTypewriter" "nearOwes") ∈ lw_all := lw_g (lw_at lw_m2 28 rfl) rfl
theorem q322 : (Jvm.Cond.laysFinal "FarTypewriter" "FarTypewriter" "near" "LFarTypewriter$Shelf;") ∈ lw_all := lw_g (lw_at lw_m2 29 rfl) rfl
theorem q323 : (Jvm.Cond.soleField "FarTypewriter" "near") ∈ lw_all := lw_g (lw_at lw_m2 30 rfl) rfl
theorem q324 : (Jvm.Cond.lays "FarTypewriter" "FarTypewriter" "program" "LFarTypewriter$Program;") ∈ lw_all := lw_g (lw_at lw_m2 31 rfl) rfl
theorem q325 : (Jvm.Cond.soleField "FarTypewriter" "program") ∈ lw_all := lw_g (lw_at lw_m2 32 rfl) rfl
theorem q326 : (Jvm.Cond.lays "FarTypewriter" "FarTypewriter" "kind" "I") ∈ lw_all := lw_g (lw_at lw_m2 33 rfl) rfl
theorem q327 : (Jvm.Cond.soleField "FarTypewriter" "kind") ∈ lw_all := lw_g (lw_at lw_m2 34 rfl) rfl
theorem q328 : (Jvm.Cond.lays "FarTypewriter" "FarTypewriter" "pen" "I") ∈ lw_all := lw_g (lw_at lw_m2 35 rfl) rfl
theorem q329 : (Jvm.Cond.soleField "FarTypewriter" "pen") ∈ lw_all := lw_g (lw_at lw_m2 36 rfl) rfl
theorem q330 : (Jvm.Cond.lays "FarTypewriter" "FarTypewriter" "took" "I") ∈ lw_all := lw_g (lw_at lw_m2 37 rfl) rfl
theorem q331 : (Jvm.Cond.soleField "FarTypewriter" "took") ∈ lw_all := lw_g (lw_at lw_m2 38 rfl) rfl
theorem q332 : (Jvm.Cond.lays "FarTypewriter" "FarTypewriter" "sure" "I") ∈ lw_all := lw_g (lw_at lw_m2 39 rfl) rfl
theorem q333 : (Jvm.Cond.soleField "FarTypewriter" "sure") ∈ lw_all := lw_g (lw_at lw_m2 40 rfl) rfl
theorem q334 : (Jvm.Cond.lays "FarTypewriter" "FarTypewriter" "farSent" "I") ∈ lw_all := lw_g (lw_at lw_m2 41 rfl) rfl
theorem q335 : (Jvm.Cond.soleField "FarTypewriter" "farSent") ∈ lw_all := lw_g (lw_at lw_m2 42 rfl) rfl
theorem q336 : (Jvm.Cond.lays "FarTypewriter" "FarTypewriter" "farLast" "I") ∈ lw_all := lw_g (lw_at lw_m2 43 rfl) rfl
theorem q337 : (Jvm.Cond.soleField "FarTypewriter" "farLast") ∈ lw_all := lw_g (lw_at lw_m2 44 rfl) rfl
theorem q338 : (Jvm.Cond.lays "FarTypewriter" "FarTypewriter" "answers" "I") ∈ lw_all := lw_g (lw_at lw_m2 45 rfl) rfl
theorem q339 : (Jvm.Cond.soleField "FarTypewriter" "answers") ∈ lw_all := lw_g (lw_at lw_m2 46 rfl) rfl
theorem q340 : (Jvm.Cond.lays "FarTypewriter" "FarTypewriter" "keysHeard" "I") ∈ lw_all := lw_g (lw_at lw_m2 47 rfl) rfl
theorem q341 : (Jvm.Cond.soleField "FarTypewriter" "keysHeard") ∈ lw_all := lw_g (lw_at lw_m2 48 rfl) rfl
theorem q342 : (Jvm.Cond.lays "FarTypewriter" "FarTypewriter" "farOwes" "Z") ∈ lw_all := lw_g (lw_at lw_m2 49 rfl) rfl
theorem q343 : (Jvm.Cond.soleField "FarTypewriter" "farOwes") ∈ lw_all := lw_g (lw_at lw_m2 50 rfl) rfl
theorem q344 : (Jvm.Cond.laysFinal "FarTypewriter" "FarTypewriter" "far" "LFarTypewriter$Shelf;") ∈ lw_all := lw_g (lw_at lw_m2 51 rfl) rfl
theorem q345 : (Jvm.Cond.soleField "FarTypewriter" "far") ∈ lw_all := lw_g (lw_at lw_m2 52 rfl) rfl
theorem q346 : (Jvm.Cond.laysFinal "FarTypewriter" "FarTypewriter" "screen" "LFarTypewriter$Screen;") ∈ lw_all := lw_g (lw_at lw_m2 53 rfl) rfl
theorem q347 : (Jvm.Cond.soleField "FarTypewriter" "screen") ∈ lw_all := lw_g (lw_at lw_m2 54 rfl) rfl
theorem q348 : (Jvm.Cond.laysFinal "FarTypewriter" "FarTypewriter" "guesses" "[LFarTypewriter$Guess;") ∈ lw_all := lw_g (lw_at lw_m2 55 rfl) rfl
theorem q349 : (Jvm.Cond.soleField "FarTypewriter" "guesses") ∈ lw_all := lw_g (lw_at lw_m2 56 rfl) rfl
theorem q350 : (Jvm.Cond.lays "FarTypewriter" "FarTypewriter" "guessed" "I") ∈ lw_all := lw_g (lw_at lw_m2 57 rfl) rfl
theorem q351 : (Jvm.Cond.soleField "FarTypewriter" "guessed") ∈ lw_all := lw_g (lw_at lw_m2 58 rfl) rfl
theorem q352 : (Jvm.Cond.lays "FarTypewriter" "FarTypewriter" "age" "I") ∈ lw_all := lw_g (lw_at lw_m2 59 rfl) rfl
theorem q353 : (Jvm.Cond.soleField "FarTypewriter" "age") ∈ lw_all := lw_g (lw_at lw_m2 60 rfl) rfl
theorem q354 : (Jvm.Cond.lays "FarTypewriter" "FarTypewriter" "confirmed" "I") ∈ lw_all := lw_g (lw_at lw_m2 61 rfl) rfl
theorem q355 : (Jvm.Cond.soleField "FarTypewriter" "confirmed") ∈ lw_all := lw_g (lw_at lw_m2 62 rfl) rfl
theorem q356 : (Jvm.Cond.laysFinal "FarTypewriter" "FarTypewriter" "aside" "LFarTypewriter$Screen;") ∈ lw_all := lw_g (lw_at lw_m2 63 rfl) rfl
theorem q357 : (Jvm.Cond.soleField "FarTypewriter" "aside") ∈ lw_all := lw_g (lw_at lw_m2 64 rfl) rfl
theorem q358 : (Jvm.Cond.laysFinal "FarTypewriter" "FarTypewriter" "scrolled" "LFarTypewriter$Screen;") ∈ lw_all := lw_g (lw_at lw_m2 65 rfl) rfl
theorem q359 : (Jvm.Cond.soleField "FarTypewriter" "scrolled") ∈ lw_all := lw_g (lw_at lw_m2 66 rfl) rfl
theorem q360 : (Jvm.Cond.superclass "FarTypewriter" "java/lang/Object") ∈ lw_all := lw_g (lw_at lw_m2 67 rfl) rfl
theorem q362 : (Jvm.Cond.instanceMethod ({ cls := "FarTypewriter", name := "open", desc := "(III)Z" } : Jvm.MethodName)) ∈ lw_all := lw_g (lw_at lw_m2 69 rfl) rfl
theorem q363 : (Jvm.Cond.selects "FarTypewriter" ({ cls := "FarTypewriter", name := "open", desc := "(III)Z" } : Jvm.MethodName) ({ cls := "FarTypewriter", name := "open", desc := "(III)Z" } : Jvm.MethodName)) ∈ lw_all := lw_g (lw_at lw_m2 70 rfl) rfl
theorem q364 : (Jvm.Cond.code ({ cls := "FarTypewriter", name := "open", desc := "(III)Z" } : Jvm.MethodName) prog_1_method_5_code (4 : Nat) (Option.some Jvm.ClassFile.FieldType.boolean)) ∈ lw_all := lw_g (lw_at lw_m2 71 rfl) rfl
theorem q365 : (Jvm.Cond.methodLink "FarTypewriter" (167 : Nat) ({ cls := "FarTypewriter", name := "made", desc := "(I)LFarTypewriter$Program;" } : Jvm.MethodName)) ∈ lw_all := lw_g (lw_at lw_m2 72 rfl) rfl
theorem q366 : (Jvm.Cond.static ({ cls := "FarTypewriter", name := "made", desc := "(I)LFarTypewriter$Program;" } : Jvm.MethodName)) ∈ lw_all := lw_g (lw_at lw_m2 73 rfl) rfl
theorem q367 : (Jvm.Cond.code ({ cls := "FarTypewriter", name := "made", desc := "(I)LFarTypewriter$Program;" } : Jvm.MethodName) prog_1_method_2_code (1 : Nat) (Option.some (Jvm.ClassFile.FieldType.object "FarTypewriter$Program"))) ∈ lw_all := lw_g (lw_at lw_m2 74 rfl) rfl
theorem q368 : (Jvm.Cond.classLink "FarTypewriter" (9 : Nat) "FarTypewriter$Lines") ∈ lw_all := lw_g (lw_at lw_m2 75 rfl) rfl
theorem q370 : (Jvm.Cond.methodLinkNest "FarTypewriter" (11 : Nat) ({ cls := "FarTypewriter$Lines", name := "<init>", desc := "()V" } : Jvm.MethodName) "FarTypewriter") ∈ lw_tbl := lw_at lw_m2 77 rfl
theorem q375 : (Jvm.Cond.classLink "FarTypewriter" (12 : Nat) "FarTypewriter$Pass") ∈ lw_all := lw_g (lw_at lw_m2 82 rfl) rfl
theorem q377 : (Jvm.Cond.methodLinkNest "FarTypewriter" (14 : Nat) ({ cls := "FarTypewriter$Pass", name := "<init>", desc := "()V" } : Jvm.MethodName) "FarTypewriter") ∈ lw_tbl := lw_at lw_m2 84 rfl
theorem q385 : (Jvm.Cond.classLink "FarTypewriter" (15 : Nat) "FarTypewriter$Pager") ∈ lw_all := lw_g (lw_at lw_m2 92 rfl) rfl
theorem q387 : (Jvm.Cond.methodLinkNest "FarTypewriter" (17 : Nat) ({ cls := "FarTypewriter$Pager", name := "<init>", desc := "()V" } : Jvm.MethodName) "FarTypewriter") ∈ lw_tbl := lw_at lw_m2 94 rfl
theorem q393 : (Jvm.Cond.instanceMethod ({ cls := "FarTypewriter", name := "program", desc := "(I)I" } : Jvm.MethodName)) ∈ lw_all := lw_g (lw_at lw_m2 100 rfl) rfl
theorem q394 : (Jvm.Cond.selects "FarTypewriter" ({ cls := "FarTypewriter", name := "program", desc := "(I)I" } : Jvm.MethodName) ({ cls := "FarTypewriter", name := "program", desc := "(I)I" } : Jvm.MethodName)) ∈ lw_all := lw_g (lw_at lw_m2 101 rfl) rfl
theorem q395 : (Jvm.Cond.code ({ cls := "FarTypewriter", name := "program", desc := "(I)I" } : Jvm.MethodName) prog_1_method_6_code (3 : Nat) (Option.some Jvm.ClassFile.FieldType.int)) ∈ lw_all := lw_g (lw_at lw_m2 102 rfl) rfl
theorem q397 : (Jvm.Cond.instanceMethod ({ cls := "FarTypewriter", name := "write", desc := "(I)Z" } : Jvm.MethodName)) ∈ lw_all := lw_g (lw_at lw_m2 104 rfl) rfl
theorem q398 : (Jvm.Cond.selects "FarTypewriter" ({ cls := "FarTypewriter", name := "write", desc := "(I)Z" } : Jvm.MethodName) ({ cls := "FarTypewriter", name := "write", desc := "(I)Z" } : Jvm.MethodName)) ∈ lw_all := lw_g (lw_at lw_m2 105 rfl) rfl
theorem q399 : (Jvm.Cond.code ({ cls := "FarTypewriter", name := "write", desc := "(I)Z" } : Jvm.MethodName) prog_1_method_7_code (2 : Nat) (Option.some Jvm.ClassFile.FieldType.boolean)) ∈ lw_all := lw_g (lw_at lw_m2 106 rfl) rfl
theorem q400 : (Jvm.Cond.methodLink "FarTypewriter" (171 : Nat) ({ cls := "FarTypewriter", name := "isLetter", desc := "(I)Z" } : Jvm.MethodName)) ∈ lw_all := lw_g (lw_at lw_m2 107 rfl) rfl
theorem q401 : (Jvm.Cond.static ({ cls := "FarTypewriter", name := "isLetter", desc := "(I)Z" } : Jvm.MethodName)) ∈ lw_all := lw_g (lw_at lw_m2 108 rfl) rfl
theorem q402 : (Jvm.Cond.code ({ cls := "FarTypewriter", name := "isLetter", desc := "(I)Z" } : Jvm.MethodName) prog_1_method_1_code (1 : Nat) (Option.some Jvm.ClassFile.FieldType.boolean)) ∈ lw_all := lw_g (lw_at lw_m2 109 rfl) rfl
theorem q403 : (Jvm.Cond.methodLink "FarTypewriter" (175 : Nat) ({ cls := "FarTypewriter$Screen", name := "letter", desc := "(II)V" } : Jvm.MethodName)) ∈ lw_all := lw_g (lw_at lw_m2 110 rfl) rfl
theorem q415 : (Jvm.Cond.methodLink "FarTypewriter" (179 : Nat) ({ cls := "FarTypewriter$Screen", name := "newLine", desc := "()V" } : Jvm.MethodName)) ∈ lw_all := lw_g (lw_at lw_m2 122 rfl) rfl
theorem q416 : (Jvm.Cond.methodLink "FarTypewriter" (182 : Nat) ({ cls := "FarTypewriter$Screen", name := "back", desc := "()V" } : Jvm.MethodName)) ∈ lw_all := lw_g (lw_at lw_m2 123 rfl) rfl
theorem q421 : (Jvm.Cond.instanceMethod ({ cls := "FarTypewriter", name := "move", desc := "(II)Z" } : Jvm.MethodName)) ∈ lw_all := lw_g (lw_at lw_m2 128 rfl) rfl
theorem q422 : (Jvm.Cond.selects "FarTypewriter" ({ cls := "FarTypewriter", name := "move", desc := "(II)Z" } : Jvm.MethodName) ({ cls := "FarTypewriter", name := "move", desc := "(II)Z" } : Jvm.MethodName)) ∈ lw_all := lw_g (lw_at lw_m2 129 rfl) rfl
theorem q423 : (Jvm.Cond.code ({ cls := "FarTypewriter", name := "move", desc := "(II)Z" } : Jvm.MethodName) prog_1_method_8_code (3 : Nat) (Option.some Jvm.ClassFile.FieldType.boolean)) ∈ lw_all := lw_g (lw_at lw_m2 130 rfl) rfl
theorem q424 : (Jvm.Cond.methodLink "FarTypewriter" (185 : Nat) ({ cls := "FarTypewriter$Screen", name := "isCell", desc := "(II)Z" } : Jvm.MethodName)) ∈ lw_all := lw_g (lw_at lw_m2 131 rfl) rfl
theorem q428 : (Jvm.Cond.instanceMethod ({ cls := "FarTypewriter", name := "wipe", desc := "(I)Z" } : Jvm.MethodName)) ∈ lw_all := lw_g (lw_at lw_m2 135 rfl) rfl
theorem q429 : (Jvm.Cond.selects "FarTypewriter" ({ cls := "FarTypewriter", name := "wipe", desc := "(I)Z" } : Jvm.MethodName) ({ cls := "FarTypewriter", name := "wipe", desc := "(I)Z" } : Jvm.MethodName)) ∈ lw_all := lw_g (lw_at lw_m2 136 rfl) rfl
theorem q430 : (Jvm.Cond.codeWith ({ cls := "FarTypewriter", name := "wipe", desc := "(I)Z" } : Jvm.MethodName) prog_1_method_9_code (3 : Nat) (Option.some Jvm.ClassFile.FieldType.boolean) [((0 : Nat), (9 : Nat), (10 : Nat), (199 : Nat))]) ∈ lw_all := lw_g (lw_at lw_m2 137 rfl) rfl
theorem q431 : (Jvm.Cond.classLink "FarTypewriter" (199 : Nat) "java/lang/ArrayIndexOutOfBoundsException") ∈ lw_all := lw_g (lw_at lw_m2 138 rfl) rfl
theorem q504 : (Jvm.Cond.methodLink "FarTypewriter" (195 : Nat) ({ cls := "FarTypewriter$Screen", name := "wipe", desc := "(I)V" } : Jvm.MethodName)) ∈ lw_all := lw_g (lw_at lw_m2 211 rfl) rfl
theorem q506 : (Jvm.Cond.instanceMethod ({ cls := "FarTypewriter", name := "scroll", desc := "(I)Z" } : Jvm.MethodName)) ∈ lw_all := lw_g (lw_at lw_m2 213 rfl) rfl
theorem q507 : (Jvm.Cond.selects "FarTypewriter" ({ cls := "FarTypewriter", name := "scroll", desc := "(I)Z" } : Jvm.MethodName) ({ cls := "FarTypewriter", name := "scroll", desc := "(I)Z" } : Jvm.MethodName)) ∈ lw_all := lw_g (lw_at lw_m2 214 rfl) rfl
theorem q508 : (Jvm.Cond.code ({ cls := "FarTypewriter", name := "scroll", desc := "(I)Z" } : Jvm.MethodName) prog_1_method_10_code (2 : Nat) (Option.some Jvm.ClassFile.FieldType.boolean)) ∈ lw_all := lw_g (lw_at lw_m2 215 rfl) rfl
theorem q509 : (Jvm.Cond.methodLink "FarTypewriter" (201 : Nat) ({ cls := "FarTypewriter$Screen", name := "scroll", desc := "(I)V" } : Jvm.MethodName)) ∈ lw_all := lw_g (lw_at lw_m2 216 rfl) rfl
theorem q511 : (Jvm.Cond.instanceMethod ({ cls := "FarTypewriter", name := "pen", desc := "(I)I" } : Jvm.MethodName)) ∈ lw_all := lw_g (lw_at lw_m2 218 rfl) rfl
theorem q512 : (Jvm.Cond.selects "FarTypewriter" ({ cls := "FarTypewriter", name := "pen", desc := "(I)I" } : Jvm.MethodName) ({ cls := "FarTypewriter", name := "pen", desc := "(I)I" } : Jvm.MethodName)) ∈ lw_all := lw_g (lw_at lw_m2 219 rfl) rfl
theorem q513 : (Jvm.Cond.code ({ cls := "FarTypewriter", name := "pen", desc := "(I)I" } : Jvm.MethodName) prog_1_method_11_code (3 : Nat) (Option.some Jvm.ClassFile.FieldType.int)) ∈ lw_all := lw_g (lw_at lw_m2 220 rfl) rfl
theorem q515 : (Jvm.Cond.instanceMethod ({ cls := "FarTypewriter", name := "key", desc := "(I)I" } : Jvm.MethodName)) ∈ lw_all := lw_g (lw_at lw_m2 222 rfl) rfl
theorem q516 : (Jvm.Cond.selects "FarTypewriter" ({ cls := "FarTypewriter", name := "key", desc := "(I)I" } : Jvm.MethodName) ({ cls := "FarTypewriter", name := "key", desc := "(I)I" } : Jvm.MethodName)) ∈ lw_all := lw_g (lw_at lw_m2 223 rfl) rfl
theorem q517 : (Jvm.Cond.code ({ cls := "FarTypewriter", name := "key", desc := "(I)I" } : Jvm.MethodName) prog_1_method_12_code (3 : Nat) (Option.some Jvm.ClassFile.FieldType.int)) ∈ lw_all := lw_g (lw_at lw_m2 224 rfl) rfl
theorem q518 : (Jvm.Cond.methodLink "FarTypewriter" (204 : Nat) ({ cls := "FarTypewriter", name := "guess", desc := "(I)V" } : Jvm.MethodName)) ∈ lw_all := lw_g (lw_at lw_m2 225 rfl) rfl
theorem q519 : (Jvm.Cond.privateMethod ({ cls := "FarTypewriter", name := "guess", desc := "(I)V" } : Jvm.MethodName)) ∈ lw_tbl := lw_at lw_m2 226 rfl
theorem q520 : (Jvm.Cond.instanceMethod ({ cls := "FarTypewriter", name := "guess", desc := "(I)V" } : Jvm.MethodName)) ∈ lw_all := lw_g (lw_at lw_m2 227 rfl) rfl
theorem q521 : (Jvm.Cond.code ({ cls := "FarTypewriter", name := "guess", desc := "(I)V" } : Jvm.MethodName) prog_1_method_14_code (6 : Nat) (Option.none : Option Jvm.ClassFile.FieldType)) ∈ lw_all := lw_g (lw_at lw_m2 228 rfl) rfl
theorem q522 : (Jvm.Cond.methodLink "FarTypewriter" (214 : Nat) ({ cls := "FarTypewriter$Program", name := "isPlain", desc := "()Z" } : Jvm.MethodName)) ∈ lw_all := lw_g (lw_at lw_m2 229 rfl) rfl
theorem q532 : (Jvm.Cond.methodLink "FarTypewriter" (220 : Nat) ({ cls := "FarTypewriter", name := "laid", desc := "(I)LFarTypewriter$Screen;" } : Jvm.MethodName)) ∈ lw_all := lw_g (lw_at lw_m2 239 rfl) rfl
theorem q533 : (Jvm.Cond.privateMethod ({ cls := "FarTypewriter", name := "laid", desc := "(I)LFarTypewriter$Screen;" } : Jvm.MethodName)) ∈ lw_tbl := lw_at lw_m3 0 rfl
theorem q534 : (Jvm.Cond.instanceMethod ({ cls := "FarTypewriter", name := "laid", desc := "(I)LFarTypewriter$Screen;" } : Jvm.MethodName)) ∈ lw_all := lw_g (lw_at lw_m3 1 rfl) rfl
theorem q535 : (Jvm.Cond.code ({ cls := "FarTypewriter", name := "laid", desc := "(I)LFarTypewriter$Screen;" } : Jvm.MethodName) prog_1_method_13_code (3 : Nat) (Option.some (Jvm.ClassFile.FieldType.object "FarTypewriter$Screen"))) ∈ lw_all := lw_g (lw_at lw_m3 2 rfl) rfl
theorem q536 : (Jvm.Cond.methodLink "FarTypewriter" (207 : Nat) ({ cls := "FarTypewriter$Shelf", name := "newest", desc := "()LFarTypewriter$State;" } : Jvm.MethodName)) ∈ lw_all := lw_g (lw_at lw_m3 3 rfl) rfl
theorem q537 : (Jvm.Cond.methodLink "FarTypewriter" (211 : Nat) ({ cls := "FarTypewriter$Guess", name := "lays", desc := "(LFarTypewriter$Screen;)V" } : Jvm.MethodName)) ∈ lw_all := lw_g (lw_at lw_m3 4 rfl) rfl
theorem q546 : (Jvm.Cond.methodLink "FarTypewriter" (235 : Nat) ({ cls := "java/lang/Math", name := "min", desc := "(II)I" } : Jvm.MethodName)) ∈ lw_all := lw_g (lw_at lw_m3 13 rfl) rfl
theorem q550 : (Jvm.Cond.instanceMethod ({ cls := "FarTypewriter", name := "tick", desc := "()I" } : Jvm.MethodName)) ∈ lw_all := lw_g (lw_at lw_m3 17 rfl) rfl
theorem q551 : (Jvm.Cond.selects "FarTypewriter" ({ cls := "FarTypewriter", name := "tick", desc := "()I" } : Jvm.MethodName) ({ cls := "FarTypewriter", name := "tick", desc := "()I" } : Jvm.MethodName)) ∈ lw_all := lw_g (lw_at lw_m3 18 rfl) rfl
theorem q552 : (Jvm.Cond.code ({ cls := "FarTypewriter", name := "tick", desc := "()I" } : Jvm.MethodName) prog_1_method_16_code (4 : Nat) (Option.some Jvm.ClassFile.FieldType.int)) ∈ lw_all := lw_g (lw_at lw_m3 19 rfl) rfl
theorem q553 : (Jvm.Cond.methodLink "FarTypewriter" (254 : Nat) ({ cls := "FarTypewriter$Screen", name := "isSame", desc := "(LFarTypewriter$Screen;)Z" } : Jvm.MethodName)) ∈ lw_all := lw_g (lw_at lw_m3 20 rfl) rfl
theorem q561 : (Jvm.Cond.methodLink "FarTypewriter" (258 : Nat) ({ cls := "FarTypewriter", name := "sendsFar", desc := "(LFarTypewriter$State;)V" } : Jvm.MethodName)) ∈ lw_all := lw_g (lw_at lw_m3 28 rfl) rfl
theorem q562 : (Jvm.Cond.privateMethod ({ cls := "FarTypewriter", name := "sendsFar", desc := "(LFarTypewriter$State;)V" } : Jvm.MethodName)) ∈ lw_tbl := lw_at lw_m3 29 rfl
theorem q563 : (Jvm.Cond.instanceMethod ({ cls := "FarTypewriter", name := "sendsFar", desc := "(LFarTypewriter$State;)V" } : Jvm.MethodName)) ∈ lw_all := lw_g (lw_at lw_m3 30 rfl) rfl
theorem q564 : (Jvm.Cond.code ({ cls := "FarTypewriter", name := "sendsFar", desc := "(LFarTypewriter$State;)V" } : Jvm.MethodName) prog_1_method_18_code (3 : Nat) (Option.none : Option Jvm.ClassFile.FieldType)) ∈ lw_all := lw_g (lw_at lw_m3 31 rfl) rfl
theorem q565 : (Jvm.Cond.methodLink "FarTypewriter" (279 : Nat) ({ cls := "FarTypewriter$Shelf", name := "find", desc := "(I)I" } : Jvm.MethodName)) ∈ lw_all := lw_g (lw_at lw_m3 32 rfl) rfl
theorem q569 : (Jvm.Cond.methodLink "FarTypewriter" (266 : Nat) ({ cls := "FarTypewriter$Letter", name := "put", desc := "(I)V" } : Jvm.MethodName)) ∈ lw_all := lw_g (lw_at lw_m3 36 rfl) rfl
theorem q573 : (Jvm.Cond.methodLink "FarTypewriter" (269 : Nat) ({ cls := "FarTypewriter$Letter", name := "two", desc := "(I)V" } : Jvm.MethodName)) ∈ lw_all := lw_g (lw_at lw_m3 40 rfl) rfl
theorem q578 : (Jvm.Cond.methodLink "FarTypewriter" (283 : Nat) ({ cls := "FarTypewriter", name := "differs", desc := "(LFarTypewriter$Screen;LFarTypewriter$Screen;)V" } : Jvm.MethodName)) ∈ lw_all := lw_g (lw_at lw_m3 45 rfl) rfl
theorem q579 : (Jvm.Cond.privateMethod ({ cls := "FarTypewriter", name := "differs", desc := "(LFarTypewriter$Screen;LFarTypewriter$Screen;)V" } : Jvm.MethodName)) ∈ lw_tbl := lw_at lw_m3 46 rfl
theorem q580 : (Jvm.Cond.instanceMethod ({ cls := "FarTypewriter", name := "differs", desc := "(LFarTypewriter$Screen;LFarTypewriter$Screen;)V" } : Jvm.MethodName)) ∈ lw_all := lw_g (lw_at lw_m3 47 rfl) rfl
theorem q581 : (Jvm.Cond.code ({ cls := "FarTypewriter", name := "differs", desc := "(LFarTypewriter$Screen;LFarTypewriter$Screen;)V" } : Jvm.MethodName) prog_1_method_20_code (7 : Nat) (Option.none : Option Jvm.ClassFile.FieldType)) ∈ lw_all := lw_g (lw_at lw_m3 48 rfl) rfl
theorem q582 : (Jvm.Cond.methodLink "FarTypewriter" (297 : Nat) ({ cls := "FarTypewriter", name := "bytes", desc := "(LFarTypewriter$Screen;LFarTypewriter$Screen;IZ)I" } : Jvm.MethodName)) ∈ lw_all := lw_g (lw_at lw_m3 49 rfl) rfl
theorem q583 : (Jvm.Cond.privateMethod ({ cls := "FarTypewriter", name := "bytes", desc := "(LFarTypewriter$Screen;LFarTypewriter$Screen;IZ)I" } : Jvm.MethodName)) ∈ lw_tbl := lw_at lw_m3 50 rfl
theorem q584 : (Jvm.Cond.instanceMethod ({ cls := "FarTypewriter", name := "bytes", desc := "(LFarTypewriter$Screen;LFarTypewriter$Screen;IZ)I" } : Jvm.MethodName)) ∈ lw_all := lw_g (lw_at lw_m3 51 rfl) rfl
theorem q585 : (Jvm.Cond.code ({ cls := "FarTypewriter", name := "bytes", desc := "(LFarTypewriter$Screen;LFarTypewriter$Screen;IZ)I" } : Jvm.MethodName) prog_1_method_21_code (11 : Nat) (Option.some Jvm.ClassFile.FieldType.int)) ∈ lw_all := lw_g (lw_at lw_m3 52 rfl) rfl
theorem q586 : (Jvm.Cond.methodLink "FarTypewriter" (301 : Nat) ({ cls := "FarTypewriter$Screen", name := "differs", desc := "(LFarTypewriter$Screen;IZ)I" } : Jvm.MethodName)) ∈ lw_all := lw_g (lw_at lw_m3 53 rfl) rfl
theorem q590 : (Jvm.Cond.methodLink "FarTypewriter" (304 : Nat) ({ cls := "FarTypewriter$Screen", name := "isRun", desc := "(III)Z" } : Jvm.MethodName)) ∈ lw_all := lw_g (lw_at lw_m3 57 rfl) rfl
theorem q594 : (Jvm.Cond.methodLink "FarTypewriter" (272 : Nat) ({ cls := "FarTypewriter", name := "sends", desc := "(I)V" } : Jvm.MethodName)) ∈ lw_all := lw_g (lw_at lw_m3 61 rfl) rfl
theorem q595 : (Jvm.Cond.privateMethod ({ cls := "FarTypewriter", name := "sends", desc := "(I)V" } : Jvm.MethodName)) ∈ lw_tbl := lw_at lw_m3 62 rfl
theorem q596 : (Jvm.Cond.instanceMethod ({ cls := "FarTypewriter", name := "sends", desc := "(I)V" } : Jvm.MethodName)) ∈ lw_all := lw_g (lw_at lw_m3 63 rfl) rfl
theorem q597 : (Jvm.Cond.code ({ cls := "FarTypewriter", name := "sends", desc := "(I)V" } : Jvm.MethodName) prog_1_method_19_code (3 : Nat) (Option.none : Option Jvm.ClassFile.FieldType)) ∈ lw_all := lw_g (lw_at lw_m3 64 rfl) rfl
theorem q598 : (Jvm.Cond.methodLink "FarTypewriter" (287 : Nat) ({ cls := "FarTypewriter$Letter", name := "sum", desc := "(I)I" } : Jvm.MethodName)) ∈ lw_all := lw_g (lw_at lw_m3 65 rfl) rfl
theorem q607 : (Jvm.Cond.methodLink "FarTypewriter" (294 : Nat) ({ cls := "FarTypewriter$Letter", name := "copies", desc := "(LFarTypewriter$Letter;)V" } : Jvm.MethodName)) ∈ lw_all := lw_g (lw_at lw_m3 74 rfl) rfl
theorem q612 : (Jvm.Cond.methodLink "FarTypewriter" (262 : Nat) ({ cls := "FarTypewriter", name := "sendsNear", desc := "()V" } : Jvm.MethodName)) ∈ lw_all := lw_g (lw_at lw_m3 79 rfl) rfl
theorem q613 : (Jvm.Cond.privateMethod ({ cls := "FarTypewriter", name := "sendsNear", desc := "()V" } : Jvm.MethodName)) ∈ lw_tbl := lw_at lw_m3 80 rfl
theorem q614 : (Jvm.Cond.instanceMethod ({ cls := "FarTypewriter", name := "sendsNear", desc := "()V" } : Jvm.MethodName)) ∈ lw_all := lw_g (lw_at lw_m3 81 rfl) rfl
theorem q615 : (Jvm.Cond.code ({ cls := "FarTypewriter", name := "sendsNear", desc := "()V" } : Jvm.MethodName) prog_1_method_17_code (2 : Nat) (Option.none : Option Jvm.ClassFile.FieldType)) ∈ lw_all := lw_g (lw_at lw_m3 82 rfl) rfl
theorem q617 : (Jvm.Cond.instanceMethod ({ cls := "FarTypewriter", name := "round", desc := "()I" } : Jvm.MethodName)) ∈ lw_all := lw_g (lw_at lw_m3 84 rfl) rfl
theorem q618 : (Jvm.Cond.selects "FarTypewriter" ({ cls := "FarTypewriter", name := "round", desc := "()I" } : Jvm.MethodName) ({ cls := "FarTypewriter", name := "round", desc := "()I" } : Jvm.MethodName)) ∈ lw_all := lw_g (lw_at lw_m3 85 rfl) rfl
theorem q619 : (Jvm.Cond.code ({ cls := "FarTypewriter", name := "round", desc := "()I" } : Jvm.MethodName) prog_1_method_26_code (3 : Nat) (Option.some Jvm.ClassFile.FieldType.int)) ∈ lw_all := lw_g (lw_at lw_m3 86 rfl) rfl
theorem q620 : (Jvm.Cond.methodLink "FarTypewriter" (346 : Nat) ({ cls := "FarTypewriter", name := "tick", desc := "()I" } : Jvm.MethodName)) ∈ lw_all := lw_g (lw_at lw_m3 87 rfl) rfl
theorem q621 : (Jvm.Cond.methodLink "FarTypewriter" (350 : Nat) ({ cls := "FarTypewriter$Line", name := "goes", desc := "(I)V" } : Jvm.MethodName)) ∈ lw_all := lw_g (lw_at lw_m3 88 rfl) rfl
theorem q626 : (Jvm.Cond.methodLink "FarTypewriter" (353 : Nat) ({ cls := "FarTypewriter", name := "takes", desc := "(IZ)V" } : Jvm.MethodName)) ∈ lw_all := lw_g (lw_at lw_m3 93 rfl) rfl
theorem q627 : (Jvm.Cond.privateMethod ({ cls := "FarTypewriter", name := "takes", desc := "(IZ)V" } : Jvm.MethodName)) ∈ lw_tbl := lw_at lw_m3 94 rfl
theorem q628 : (Jvm.Cond.instanceMethod ({ cls := "FarTypewriter", name := "takes", desc := "(IZ)V" } : Jvm.MethodName)) ∈ lw_all := lw_g (lw_at lw_m3 95 rfl) rfl
theorem q629 : (Jvm.Cond.code ({ cls := "FarTypewriter", name := "takes", desc := "(IZ)V" } : Jvm.MethodName) prog_1_method_23_code (5 : Nat) (Option.none : Option Jvm.ClassFile.FieldType)) ∈ lw_all := lw_g (lw_at lw_m3 96 rfl) rfl
theorem q630 : (Jvm.Cond.methodLink "FarTypewriter" (321 : Nat) ({ cls := "FarTypewriter$Letter", name := "isWhole", desc := "(I)Z" } : Jvm.MethodName)) ∈ lw_all := lw_g (lw_at lw_m3 97 rfl) rfl
theorem q639 : (Jvm.Cond.methodLink "FarTypewriter" (324 : Nat) ({ cls := "FarTypewriter", name := "takesFar", desc := "()Z" } : Jvm.MethodName)) ∈ lw_all := lw_g (lw_at lw_m3 106 rfl) rfl
theorem q640 : (Jvm.Cond.privateMethod ({ cls := "FarTypewriter", name := "takesFar", desc := "()Z" } : Jvm.MethodName)) ∈ lw_tbl := lw_at lw_m3 107 rfl
theorem q641 : (Jvm.Cond.instanceMethod ({ cls := "FarTypewriter", name := "takesFar", desc := "()Z" } : Jvm.MethodName)) ∈ lw_all := lw_g (lw_at lw_m3 108 rfl) rfl
theorem q642 : (Jvm.Cond.code ({ cls := "FarTypewriter", name := "takesFar", desc := "()Z" } : Jvm.MethodName) prog_1_method_24_code (5 : Nat) (Option.some Jvm.ClassFile.FieldType.boolean)) ∈ lw_all := lw_g (lw_at lw_m3 109 rfl) rfl
theorem q643 : (Jvm.Cond.methodLink "FarTypewriter" (330 : Nat) ({ cls := "FarTypewriter$Letter", name := "twoAt", desc := "(I)I" } : Jvm.MethodName)) ∈ lw_all := lw_g (lw_at lw_m3 110 rfl) rfl
theorem q644 : (Jvm.Cond.methodLink "FarTypewriter" (315 : Nat) ({ cls := "FarTypewriter$Letter", name := "at", desc := "(I)I" } : Jvm.MethodName)) ∈ lw_all := lw_g (lw_at lw_m3 111 rfl) rfl
theorem q645 : (Jvm.Cond.methodLink "FarTypewriter" (333 : Nat) ({ cls := "FarTypewriter$Program", name := "takes", desc := "(ILFarTypewriter$Screen;I)V" } : Jvm.MethodName)) ∈ lw_all := lw_g (lw_at lw_m3 112 rfl) rfl
theorem q680 : (Jvm.Cond.methodLink "FarTypewriter" (337 : Nat) ({ cls := "FarTypewriter$Shelf", name := "givesUp", desc := "(I)V" } : Jvm.MethodName)) ∈ lw_all := lw_g (lw_at lw_m3 147 rfl) rfl
theorem q689 : (Jvm.Cond.methodLink "FarTypewriter" (327 : Nat) ({ cls := "FarTypewriter", name := "takesNear", desc := "()Z" } : Jvm.MethodName)) ∈ lw_all := lw_g (lw_at lw_m3 156 rfl) rfl
theorem q690 : (Jvm.Cond.privateMethod ({ cls := "FarTypewriter", name := "takesNear", desc := "()Z" } : Jvm.MethodName)) ∈ lw_tbl := lw_at lw_m3 157 rfl
theorem q691 : (Jvm.Cond.instanceMethod ({ cls := "FarTypewriter", name := "takesNear", desc := "()Z" } : Jvm.MethodName)) ∈ lw_all := lw_g (lw_at lw_m3 158 rfl) rfl
theorem q692 : (Jvm.Cond.code ({ cls := "FarTypewriter", name := "takesNear", desc := "()Z" } : Jvm.MethodName) prog_1_method_25_code (5 : Nat) (Option.some Jvm.ClassFile.FieldType.boolean)) ∈ lw_all := lw_g (lw_at lw_m3 159 rfl) rfl
theorem q693 : (Jvm.Cond.methodLink "FarTypewriter" (248 : Nat) ({ cls := "java/lang/Math", name := "max", desc := "(II)I" } : Jvm.MethodName)) ∈ lw_all := lw_g (lw_at lw_m3 160 rfl) rfl
theorem q694 : (Jvm.Cond.methodLink "FarTypewriter" (340 : Nat) ({ cls := "FarTypewriter", name := "lays", desc := "(LFarTypewriter$Letter;LFarTypewriter$Screen;)Z" } : Jvm.MethodName)) ∈ lw_all := lw_g (lw_at lw_m3 161 rfl) rfl
theorem q695 : (Jvm.Cond.static ({ cls := "FarTypewriter", name := "lays", desc := "(LFarTypewriter$Letter;LFarTypewriter$Screen;)Z" } : Jvm.MethodName)) ∈ lw_all := lw_g (lw_at lw_m3 162 rfl) rfl
theorem q696 : (Jvm.Cond.code ({ cls := "FarTypewriter", name := "lays", desc := "(LFarTypewriter$Letter;LFarTypewriter$Screen;)Z" } : Jvm.MethodName) prog_1_method_22_code (9 : Nat) (Option.some Jvm.ClassFile.FieldType.boolean)) ∈ lw_all := lw_g (lw_at lw_m3 163 rfl) rfl
theorem q697 : (Jvm.Cond.methodLink "FarTypewriter" (318 : Nat) ({ cls := "FarTypewriter$Screen", name := "put", desc := "(IIII)V" } : Jvm.MethodName)) ∈ lw_all := lw_g (lw_at lw_m3 164 rfl) rfl
theorem q698 : (Jvm.Cond.methodLink "FarTypewriter" (343 : Nat) ({ cls := "FarTypewriter", name := "settles", desc := "(LFarTypewriter$State;)V" } : Jvm.MethodName)) ∈ lw_all := lw_g (lw_at lw_m3 165 rfl) rfl
theorem q699 : (Jvm.Cond.privateMethod ({ cls := "FarTypewriter", name := "settles", desc := "(LFarTypewriter$State;)V" } : Jvm.MethodName)) ∈ lw_tbl := lw_at lw_m3 166 rfl
theorem q700 : (Jvm.Cond.instanceMethod ({ cls := "FarTypewriter", name := "settles", desc := "(LFarTypewriter$State;)V" } : Jvm.MethodName)) ∈ lw_all := lw_g (lw_at lw_m3 167 rfl) rfl
theorem q701 : (Jvm.Cond.code ({ cls := "FarTypewriter", name := "settles", desc := "(LFarTypewriter$State;)V" } : Jvm.MethodName) prog_1_method_15_code (4 : Nat) (Option.none : Option Jvm.ClassFile.FieldType)) ∈ lw_all := lw_g (lw_at lw_m3 168 rfl) rfl
theorem q702 : (Jvm.Cond.methodLink "FarTypewriter" (244 : Nat) ({ cls := "FarTypewriter$Guess", name := "isRight", desc := "(LFarTypewriter$State;)Z" } : Jvm.MethodName)) ∈ lw_all := lw_g (lw_at lw_m3 169 rfl) rfl
theorem q706 : (Jvm.Cond.methodLink "FarTypewriter" (251 : Nat) ({ cls := "FarTypewriter$Guess", name := "copies", desc := "(LFarTypewriter$Guess;)V" } : Jvm.MethodName)) ∈ lw_all := lw_g (lw_at lw_m3 173 rfl) rfl
theorem q711 : (Jvm.Cond.instanceMethod ({ cls := "FarTypewriter", name := "carry", desc := "(IIII)I" } : Jvm.MethodName)) ∈ lw_all := lw_g (lw_at lw_m3 178 rfl) rfl
theorem q712 : (Jvm.Cond.selects "FarTypewriter" ({ cls := "FarTypewriter", name := "carry", desc := "(IIII)I" } : Jvm.MethodName) ({ cls := "FarTypewriter", name := "carry", desc := "(IIII)I" } : Jvm.MethodName)) ∈ lw_all := lw_g (lw_at lw_m3 179 rfl) rfl
theorem q713 : (Jvm.Cond.code ({ cls := "FarTypewriter", name := "carry", desc := "(IIII)I" } : Jvm.MethodName) prog_1_method_27_code (6 : Nat) (Option.some Jvm.ClassFile.FieldType.int)) ∈ lw_all := lw_g (lw_at lw_m3 180 rfl) rfl
theorem q715 : (Jvm.Cond.instanceMethod ({ cls := "FarTypewriter", name := "roam", desc := "()I" } : Jvm.MethodName)) ∈ lw_all := lw_g (lw_at lw_m3 182 rfl) rfl
theorem q716 : (Jvm.Cond.selects "FarTypewriter" ({ cls := "FarTypewriter", name := "roam", desc := "()I" } : Jvm.MethodName) ({ cls := "FarTypewriter", name := "roam", desc := "()I" } : Jvm.MethodName)) ∈ lw_all := lw_g (lw_at lw_m3 183 rfl) rfl
theorem q717 : (Jvm.Cond.code ({ cls := "FarTypewriter", name := "roam", desc := "()I" } : Jvm.MethodName) prog_1_method_28_code (1 : Nat) (Option.some Jvm.ClassFile.FieldType.int)) ∈ lw_all := lw_g (lw_at lw_m3 184 rfl) rfl
theorem q719 : (Jvm.Cond.instanceMethod ({ cls := "FarTypewriter", name := "cell", desc := "(IIII)I" } : Jvm.MethodName)) ∈ lw_all := lw_g (lw_at lw_m3 186 rfl) rfl
theorem q720 : (Jvm.Cond.selects "FarTypewriter" ({ cls := "FarTypewriter", name := "cell", desc := "(IIII)I" } : Jvm.MethodName) ({ cls := "FarTypewriter", name := "cell", desc := "(IIII)I" } : Jvm.MethodName)) ∈ lw_all := lw_g (lw_at lw_m3 187 rfl) rfl
theorem q721 : (Jvm.Cond.codeWith ({ cls := "FarTypewriter", name := "cell", desc := "(IIII)I" } : Jvm.MethodName) prog_1_method_30_code (6 : Nat) (Option.some Jvm.ClassFile.FieldType.int) [((22 : Nat), (55 : Nat), (56 : Nat), (199 : Nat))]) ∈ lw_all := lw_g (lw_at lw_m3 188 rfl) rfl
theorem q722 : (Jvm.Cond.methodLink "FarTypewriter" (358 : Nat) ({ cls := "FarTypewriter", name := "seen", desc := "(I)LFarTypewriter$Screen;" } : Jvm.MethodName)) ∈ lw_all := lw_g (lw_at lw_m3 189 rfl) rfl
theorem q723 : (Jvm.Cond.privateMethod ({ cls := "FarTypewriter", name := "seen", desc := "(I)LFarTypewriter$Screen;" } : Jvm.MethodName)) ∈ lw_tbl := lw_at lw_m3 190 rfl
theorem q724 : (Jvm.Cond.instanceMethod ({ cls := "FarTypewriter", name := "seen", desc := "(I)LFarTypewriter$Screen;" } : Jvm.MethodName)) ∈ lw_all := lw_g (lw_at lw_m3 191 rfl) rfl
theorem q725 : (Jvm.Cond.code ({ cls := "FarTypewriter", name := "seen", desc := "(I)LFarTypewriter$Screen;" } : Jvm.MethodName) prog_1_method_29_code (2 : Nat) (Option.some (Jvm.ClassFile.FieldType.object "FarTypewriter$Screen"))) ∈ lw_all := lw_g (lw_at lw_m3 192 rfl) rfl
theorem q727 : (Jvm.Cond.instanceMethod ({ cls := "FarTypewriter", name := "cursor", desc := "(II)I" } : Jvm.MethodName)) ∈ lw_all := lw_g (lw_at lw_m3 194 rfl) rfl
theorem q728 : (Jvm.Cond.selects "FarTypewriter" ({ cls := "FarTypewriter", name := "cursor", desc := "(II)I" } : Jvm.MethodName) ({ cls := "FarTypewriter", name := "cursor", desc := "(II)I" } : Jvm.MethodName)) ∈ lw_all := lw_g (lw_at lw_m3 195 rfl) rfl
theorem q729 : (Jvm.Cond.code ({ cls := "FarTypewriter", name := "cursor", desc := "(II)I" } : Jvm.MethodName) prog_1_method_31_code (3 : Nat) (Option.some Jvm.ClassFile.FieldType.int)) ∈ lw_all := lw_g (lw_at lw_m3 196 rfl) rfl
theorem q731 : (Jvm.Cond.instanceMethod ({ cls := "FarTypewriter", name := "alike", desc := "()Z" } : Jvm.MethodName)) ∈ lw_all := lw_g (lw_at lw_m3 198 rfl) rfl
theorem q732 : (Jvm.Cond.selects "FarTypewriter" ({ cls := "FarTypewriter", name := "alike", desc := "()Z" } : Jvm.MethodName) ({ cls := "FarTypewriter", name := "alike", desc := "()Z" } : Jvm.MethodName)) ∈ lw_all := lw_g (lw_at lw_m3 199 rfl) rfl
theorem q733 : (Jvm.Cond.code ({ cls := "FarTypewriter", name := "alike", desc := "()Z" } : Jvm.MethodName) prog_1_method_32_code (1 : Nat) (Option.some Jvm.ClassFile.FieldType.boolean)) ∈ lw_all := lw_g (lw_at lw_m3 200 rfl) rfl
theorem q735 : (Jvm.Cond.instanceMethod ({ cls := "FarTypewriter", name := "state", desc := "(II)I" } : Jvm.MethodName)) ∈ lw_all := lw_g (lw_at lw_m3 202 rfl) rfl
theorem q736 : (Jvm.Cond.selects "FarTypewriter" ({ cls := "FarTypewriter", name := "state", desc := "(II)I" } : Jvm.MethodName) ({ cls := "FarTypewriter", name := "state", desc := "(II)I" } : Jvm.MethodName)) ∈ lw_all := lw_g (lw_at lw_m3 203 rfl) rfl
theorem q737 : (Jvm.Cond.code ({ cls := "FarTypewriter", name := "state", desc := "(II)I" } : Jvm.MethodName) prog_1_method_33_code (4 : Nat) (Option.some Jvm.ClassFile.FieldType.int)) ∈ lw_all := lw_g (lw_at lw_m3 204 rfl) rfl
theorem q738 : (Jvm.Cond.methodLink "FarTypewriter" (361 : Nat) ({ cls := "FarTypewriter$Program", name := "counted", desc := "()I" } : Jvm.MethodName)) ∈ lw_all := lw_g (lw_at lw_m3 205 rfl) rfl
theorem q749 : (Jvm.Cond.instanceMethod ({ cls := "FarTypewriter", name := "kept", desc := "(II)I" } : Jvm.MethodName)) ∈ lw_all := lw_g (lw_at lw_m3 216 rfl) rfl
theorem q750 : (Jvm.Cond.selects "FarTypewriter" ({ cls := "FarTypewriter", name := "kept", desc := "(II)I" } : Jvm.MethodName) ({ cls := "FarTypewriter", name := "kept", desc := "(II)I" } : Jvm.MethodName)) ∈ lw_all := lw_g (lw_at lw_m3 217 rfl) rfl
theorem q751 : (Jvm.Cond.code ({ cls := "FarTypewriter", name := "kept", desc := "(II)I" } : Jvm.MethodName) prog_1_method_34_code (4 : Nat) (Option.some Jvm.ClassFile.FieldType.int)) ∈ lw_all := lw_g (lw_at lw_m3 218 rfl) rfl
theorem q753 : (Jvm.Cond.instanceMethod ({ cls := "FarTypewriter", name := "guess", desc := "(II)I" } : Jvm.MethodName)) ∈ lw_all := lw_g (lw_at lw_m3 220 rfl) rfl
theorem q754 : (Jvm.Cond.selects "FarTypewriter" ({ cls := "FarTypewriter", name := "guess", desc := "(II)I" } : Jvm.MethodName) ({ cls := "FarTypewriter", name := "guess", desc := "(II)I" } : Jvm.MethodName)) ∈ lw_all := lw_g (lw_at lw_m3 221 rfl) rfl
theorem q755 : (Jvm.Cond.code ({ cls := "FarTypewriter", name := "guess", desc := "(II)I" } : Jvm.MethodName) prog_1_method_35_code (4 : Nat) (Option.some Jvm.ClassFile.FieldType.int)) ∈ lw_all := lw_g (lw_at lw_m3 222 rfl) rfl
theorem q757 : (Jvm.Cond.instanceMethod ({ cls := "FarTypewriter", name := "letter", desc := "(III)I" } : Jvm.MethodName)) ∈ lw_all := lw_g (lw_at lw_m3 224 rfl) rfl
theorem q758 : (Jvm.Cond.selects "FarTypewriter" ({ cls := "FarTypewriter", name := "letter", desc := "(III)I" } : Jvm.MethodName) ({ cls := "FarTypewriter", name := "letter", desc := "(III)I" } : Jvm.MethodName)) ∈ lw_all := lw_g (lw_at lw_m3 225 rfl) rfl
theorem q759 : (Jvm.Cond.code ({ cls := "FarTypewriter", name := "letter", desc := "(III)I" } : Jvm.MethodName) prog_1_method_36_code (4 : Nat) (Option.some Jvm.ClassFile.FieldType.int)) ∈ lw_all := lw_g (lw_at lw_m3 226 rfl) rfl
theorem q761 : (Jvm.Cond.instanceMethod ({ cls := "FarTypewriter", name := "count", desc := "(I)I" } : Jvm.MethodName)) ∈ lw_all := lw_g (lw_at lw_m3 228 rfl) rfl
theorem q762 : (Jvm.Cond.selects "FarTypewriter" ({ cls := "FarTypewriter", name := "count", desc := "(I)I" } : Jvm.MethodName) ({ cls := "FarTypewriter", name := "count", desc := "(I)I" } : Jvm.MethodName)) ∈ lw_all := lw_g (lw_at lw_m3 229 rfl) rfl
theorem q763 : (Jvm.Cond.code ({ cls := "FarTypewriter", name := "count", desc := "(I)I" } : Jvm.MethodName) prog_1_method_37_code (2 : Nat) (Option.some Jvm.ClassFile.FieldType.int)) ∈ lw_all := lw_g (lw_at lw_m3 230 rfl) rfl
theorem in_X0 : ∀ w ∈ wsX00, w ∈ lw_all := lw_in wsX00 [294, 296, 298, 300, 302, 304, 306, 308, 310, 312, 314, 316, 318, 320, 322, 324, 326, 328, 330, 332, 334, 336, 338, 340, 342, 344, 346, 348, 350, 352, 354, 356, 358] (by decide +kernel) (by decide +kernel)
