/-! TinFenModel -/
set_option maxRecDepth 100000
def RX8 : String := "TinFenModel"
def TX8 : u_T := fun k => match k with
  | 0 => ("TinFenModel", "status", "I", false)
  | 1 => ("TinFenModel", "thrown", "I", false)
  | 2 => ("TinFenModel", "above", "J", false)
  | 3 => ("TinFenModel", "under", "J", false)
  | 4 => ("TinFenModel", "traySort", "[I", true)
  | 5 => ("TinFenModel", "trayMany", "[I", true)
  | 6 => ("TinFenModel", "numbers", "[J", true)
  | 7 => ("TinFenModel", "tape", "[B", true)
  | 8 => ("TinFenModel", "taped", "I", false)
  | 9 => ("TinFenModel", "textEnd", "I", false)
  | 10 => ("TinFenModel", "faultKind", "I", false)
  | 11 => ("TinFenModel", "faultAt", "I", false)
  | 12 => ("TinFenModel", "bad", "I", false)
  | 13 => ("TinFenModel", "badAt", "I", false)
  | 14 => ("TinFenModel", "token", "I", false)
  | 15 => ("TinFenModel", "at", "I", false)
  | 16 => ("TinFenModel", "behind", "I", false)
  | 17 => ("TinFenModel", "number", "I", false)
  | 18 => ("TinFenModel", "letters", "I", false)
  | 19 => ("TinFenModel", "word", "J", false)
  | 20 => ("TinFenModel", "c", "[I", true)
  | 21 => ("TinFenModel", "before", "[I", true)
  | 22 => ("TinFenModel", "words", "[J", true)
  | 23 => ("TinFenModel", "markMany", "I", false)
  | 24 => ("TinFenModel", "toldOdds", "Z", false)
  | 25 => ("TinFenModel", "newSteps", "I", false)
  | 26 => ("TinFenModel", "fars", "[I", true)
  | 27 => ("TinFenModel", "row", "[I", true)
  | 28 => ("TinFenModel", "bestRow", "[I", true)
  | 29 => ("TinFenModel", "bestLong", "I", false)
  | 30 => ("TinFenModel", "ways", "[I", true)
  | 31 => ("TinFenModel", "fitMany", "I", false)
  | 32 => ("TinFenModel", "fitAll", "I", false)
  | 33 => ("TinFenModel", "toldOf", "I", false)
  | 34 => ("TinFenModel", "isFit", "[Z", true)
  | 35 => ("TinFenModel", "firstMove", "I", false)
  | 36 => ("TinFenModel", "chances", "[J", true)
  | 37 => ("TinFenModel", "livedLast", "[I", true)
  | 38 => ("TinFenModel", "hasLived", "Z", false)
  | 39 => ("TinFenModel", "isOver", "Z", false)
  | 40 => ("TinFenModel", "random", "I", false)
  | 41 => ("TinFenModel", "done", "I", false)
  | 42 => ("TinFenModel", "missed", "I", false)
  | 43 => ("TinFenModel", "passesAhead", "I", false)
  | 44 => ("TinFenModel", "foundNow", "I", false)
  | 45 => ("TinFenModel", "gotAhead", "I", false)
  | _ => ("TinFenModel", "leftOver", "I", false)
def tyX8 : Nat → FieldType := fun k => match k with
  | 0 => .int
  | 1 => .int
  | 2 => .long
  | 3 => .long
  | 4 => .array .int
  | 5 => .array .int
  | 6 => .array .long
  | 7 => .array .byte
  | 8 => .int
  | 9 => .int
  | 10 => .int
  | 11 => .int
  | 12 => .int
  | 13 => .int
  | 14 => .int
  | 15 => .int
  | 16 => .int
  | 17 => .int
  | 18 => .int
  | 19 => .long
  | 20 => .array .int
  | 21 => .array .int
  | 22 => .array .long
  | 23 => .int
  | 24 => .boolean
  | 25 => .int
  | 26 => .array .int
  | 27 => .array .int
  | 28 => .array .int
  | 29 => .int
  | 30 => .array .int
  | 31 => .int
  | 32 => .int
  | 33 => .int
  | 34 => .array .boolean
  | 35 => .int
  | 36 => .array .long
  | 37 => .array .int
  | 38 => .boolean
  | 39 => .boolean
  | 40 => .int
  | 41 => .int
  | 42 => .int
  | 43 => .int
  | 44 => .int
  | 45 => .int
  | _ => .int
abbrev wsX80 : List Cond := u_ws RX8 TX8 47
set_option maxRecDepth 100000 in
theorem nmX8 : ∀ a, a < 47 → ∀ b, b < 47 → a ≠ b → (TX8 a).2.1 ≠ (TX8 b).2.1 := by decide +kernel
set_option maxRecDepth 100000 in
theorem tyX8_ok : ∀ k, k < 47 → parseFieldDescriptor (TX8 k).2.2.1 = some (tyX8 k) := by decide +kernel
abbrev cX8_init : ByteArray := prog_14_method_1_code
def yX8_init : MethodName := ⟨RX8, "<init>", "()V"⟩
def dkwX8_init_6 : List UInt8 := [180, 0, 17, 27, 2, 79, 132, 1, 1, 167, 255, 241, 42, 3, 182, 0, 66, 177]
abbrev dktX8_init_6 : List UInt8 := dkwX8_init_6 ++ []
def dkwX8_init_5 : List UInt8 := [16, 10, 188, 11, 181, 0, 60, 42, 8, 188, 10, 181, 0, 63, 3, 60, 27, 7, 162, 0, 16, 42]
abbrev dktX8_init_5 : List UInt8 := dkwX8_init_5 ++ dktX8_init_6
def dkwX8_init_4 : List UInt8 := [188, 10, 181, 0, 50, 42, 17, 0, 128, 188, 10, 181, 0, 53, 42, 16, 64, 188, 4, 181, 0, 56, 42]
abbrev dktX8_init_4 : List UInt8 := dkwX8_init_4 ++ dktX8_init_5
def dkwX8_init_3 : List UInt8 := [188, 11, 181, 0, 41, 42, 16, 7, 188, 10, 181, 0, 44, 42, 16, 7, 188, 10, 181, 0, 47, 42, 16, 7]
abbrev dktX8_init_3 : List UInt8 := dkwX8_init_3 ++ dktX8_init_4
def dkwX8_init_2 : List UInt8 := [181, 0, 32, 42, 17, 7, 3, 188, 10, 181, 0, 35, 42, 16, 87, 188, 10, 181, 0, 38, 42, 16, 110]
abbrev dktX8_init_2 : List UInt8 := dkwX8_init_2 ++ dktX8_init_3
def dkwX8_init_1 : List UInt8 := [17, 0, 240, 188, 11, 181, 0, 20, 42, 17, 3, 132, 188, 8, 181, 0, 24, 42, 2, 181, 0, 28, 42, 2]
abbrev dktX8_init_1 : List UInt8 := dkwX8_init_1 ++ dktX8_init_2
def dkwX8_init_0 : List UInt8 := [42, 183, 0, 1, 42, 10, 181, 0, 7, 42, 7, 188, 10, 181, 0, 13, 42, 7, 188, 10, 181, 0, 17, 42]
abbrev dktX8_init_0 : List UInt8 := dkwX8_init_0 ++ dktX8_init_1
theorem dksX8_init_0 : cX8_init.data.toList.drop 0 = dktX8_init_0 := by decide +kernel
theorem dksX8_init_1 : cX8_init.data.toList.drop 24 = dktX8_init_1 := dk_seg dksX8_init_0 24 rfl rfl
theorem dksX8_init_2 : cX8_init.data.toList.drop 48 = dktX8_init_2 := dk_seg dksX8_init_1 24 rfl rfl
theorem dksX8_init_3 : cX8_init.data.toList.drop 71 = dktX8_init_3 := dk_seg dksX8_init_2 23 rfl rfl
theorem dksX8_init_4 : cX8_init.data.toList.drop 95 = dktX8_init_4 := dk_seg dksX8_init_3 24 rfl rfl
theorem dksX8_init_5 : cX8_init.data.toList.drop 118 = dktX8_init_5 := dk_seg dksX8_init_4 23 rfl rfl
theorem dksX8_init_6 : cX8_init.data.toList.drop 140 = dktX8_init_6 := dk_seg dksX8_init_5 22 rfl rfl
theorem dX8_init_0 : decode cX8_init 0 = .ok (.aload_n 0, 1) := dk_42 (dk_at dksX8_init_0 0 rfl rfl)
theorem dX8_init_1 : decode cX8_init 1 = .ok (.invokespecial 1, 3) := dk_183 0 1 (dk_at dksX8_init_0 1 rfl rfl)
theorem dX8_init_4 : decode cX8_init 4 = .ok (.aload_n 0, 1) := dk_42 (dk_at dksX8_init_0 4 rfl rfl)
theorem dX8_init_5 : decode cX8_init 5 = .ok (.lconst 1, 1) := dk_10 (dk_at dksX8_init_0 5 rfl rfl)
theorem dX8_init_6 : decode cX8_init 6 = .ok (.putfield 7, 3) := dk_181 0 7 (dk_at dksX8_init_0 6 rfl rfl)
theorem dX8_init_9 : decode cX8_init 9 = .ok (.aload_n 0, 1) := dk_42 (dk_at dksX8_init_0 9 rfl rfl)
theorem dX8_init_10 : decode cX8_init 10 = .ok (.iconst 4, 1) := dk_7 (dk_at dksX8_init_0 10 rfl rfl)
theorem dX8_init_11 : decode cX8_init 11 = .ok (.newarray .int, 2) := dk_188_10 (dk_at dksX8_init_0 11 rfl rfl)
theorem dX8_init_13 : decode cX8_init 13 = .ok (.putfield 13, 3) := dk_181 0 13 (dk_at dksX8_init_0 13 rfl rfl)
theorem dX8_init_16 : decode cX8_init 16 = .ok (.aload_n 0, 1) := dk_42 (dk_at dksX8_init_0 16 rfl rfl)
theorem dX8_init_17 : decode cX8_init 17 = .ok (.iconst 4, 1) := dk_7 (dk_at dksX8_init_0 17 rfl rfl)
theorem dX8_init_18 : decode cX8_init 18 = .ok (.newarray .int, 2) := dk_188_10 (dk_at dksX8_init_0 18 rfl rfl)
theorem dX8_init_20 : decode cX8_init 20 = .ok (.putfield 17, 3) := dk_181 0 17 (dk_at dksX8_init_0 20 rfl rfl)
theorem dX8_init_23 : decode cX8_init 23 = .ok (.aload_n 0, 1) := dk_42 (dk_at dksX8_init_0 23 rfl rfl)
theorem dX8_init_24 : decode cX8_init 24 = .ok (.sipush 240, 3) := dk_17 0 240 (dk_at dksX8_init_1 0 rfl rfl)
theorem dX8_init_27 : decode cX8_init 27 = .ok (.newarray .long, 2) := dk_188_11 (dk_at dksX8_init_1 3 rfl rfl)
theorem dX8_init_29 : decode cX8_init 29 = .ok (.putfield 20, 3) := dk_181 0 20 (dk_at dksX8_init_1 5 rfl rfl)
theorem dX8_init_32 : decode cX8_init 32 = .ok (.aload_n 0, 1) := dk_42 (dk_at dksX8_init_1 8 rfl rfl)
theorem dX8_init_33 : decode cX8_init 33 = .ok (.sipush 900, 3) := dk_17 3 132 (dk_at dksX8_init_1 9 rfl rfl)
theorem dX8_init_36 : decode cX8_init 36 = .ok (.newarray .byte, 2) := dk_188_8 (dk_at dksX8_init_1 12 rfl rfl)
theorem dX8_init_38 : decode cX8_init 38 = .ok (.putfield 24, 3) := dk_181 0 24 (dk_at dksX8_init_1 14 rfl rfl)
theorem dX8_init_41 : decode cX8_init 41 = .ok (.aload_n 0, 1) := dk_42 (dk_at dksX8_init_1 17 rfl rfl)
theorem dX8_init_42 : decode cX8_init 42 = .ok (.iconst (-1), 1) := dk_2 (dk_at dksX8_init_1 18 rfl rfl)
theorem dX8_init_43 : decode cX8_init 43 = .ok (.putfield 28, 3) := dk_181 0 28 (dk_at dksX8_init_1 19 rfl rfl)
theorem dX8_init_46 : decode cX8_init 46 = .ok (.aload_n 0, 1) := dk_42 (dk_at dksX8_init_1 22 rfl rfl)
theorem dX8_init_47 : decode cX8_init 47 = .ok (.iconst (-1), 1) := dk_2 (dk_at dksX8_init_1 23 rfl rfl)
theorem dX8_init_48 : decode cX8_init 48 = .ok (.putfield 32, 3) := dk_181 0 32 (dk_at dksX8_init_2 0 rfl rfl)
theorem dX8_init_51 : decode cX8_init 51 = .ok (.aload_n 0, 1) := dk_42 (dk_at dksX8_init_2 3 rfl rfl)
theorem dX8_init_52 : decode cX8_init 52 = .ok (.sipush 1795, 3) := dk_17 7 3 (dk_at dksX8_init_2 4 rfl rfl)
theorem dX8_init_55 : decode cX8_init 55 = .ok (.newarray .int, 2) := dk_188_10 (dk_at dksX8_init_2 7 rfl rfl)
theorem dX8_init_57 : decode cX8_init 57 = .ok (.putfield 35, 3) := dk_181 0 35 (dk_at dksX8_init_2 9 rfl rfl)
theorem dX8_init_60 : decode cX8_init 60 = .ok (.aload_n 0, 1) := dk_42 (dk_at dksX8_init_2 12 rfl rfl)
theorem dX8_init_61 : decode cX8_init 61 = .ok (.bipush 87, 2) := dk_16 87 (dk_at dksX8_init_2 13 rfl rfl)
theorem dX8_init_63 : decode cX8_init 63 = .ok (.newarray .int, 2) := dk_188_10 (dk_at dksX8_init_2 15 rfl rfl)
theorem dX8_init_65 : decode cX8_init 65 = .ok (.putfield 38, 3) := dk_181 0 38 (dk_at dksX8_init_2 17 rfl rfl)
theorem dX8_init_68 : decode cX8_init 68 = .ok (.aload_n 0, 1) := dk_42 (dk_at dksX8_init_2 20 rfl rfl)
theorem dX8_init_69 : decode cX8_init 69 = .ok (.bipush 110, 2) := dk_16 110 (dk_at dksX8_init_2 21 rfl rfl)
theorem dX8_init_71 : decode cX8_init 71 = .ok (.newarray .long, 2) := dk_188_11 (dk_at dksX8_init_3 0 rfl rfl)
theorem dX8_init_73 : decode cX8_init 73 = .ok (.putfield 41, 3) := dk_181 0 41 (dk_at dksX8_init_3 2 rfl rfl)
theorem dX8_init_76 : decode cX8_init 76 = .ok (.aload_n 0, 1) := dk_42 (dk_at dksX8_init_3 5 rfl rfl)
theorem dX8_init_77 : decode cX8_init 77 = .ok (.bipush 7, 2) := dk_16 7 (dk_at dksX8_init_3 6 rfl rfl)
theorem dX8_init_79 : decode cX8_init 79 = .ok (.newarray .int, 2) := dk_188_10 (dk_at dksX8_init_3 8 rfl rfl)
theorem dX8_init_81 : decode cX8_init 81 = .ok (.putfield 44, 3) := dk_181 0 44 (dk_at dksX8_init_3 10 rfl rfl)
theorem dX8_init_84 : decode cX8_init 84 = .ok (.aload_n 0, 1) := dk_42 (dk_at dksX8_init_3 13 rfl rfl)
theorem dX8_init_85 : decode cX8_init 85 = .ok (.bipush 7, 2) := dk_16 7 (dk_at dksX8_init_3 14 rfl rfl)
theorem dX8_init_87 : decode cX8_init 87 = .ok (.newarray .int, 2) := dk_188_10 (dk_at dksX8_init_3 16 rfl rfl)
theorem dX8_init_89 : decode cX8_init 89 = .ok (.putfield 47, 3) := dk_181 0 47 (dk_at dksX8_init_3 18 rfl rfl)
theorem dX8_init_92 : decode cX8_init 92 = .ok (.aload_n 0, 1) := dk_42 (dk_at dksX8_init_3 21 rfl rfl)
theorem dX8_init_93 : decode cX8_init 93 = .ok (.bipush 7, 2) := dk_16 7 (dk_at dksX8_init_3 22 rfl rfl)
theorem dX8_init_95 : decode cX8_init 95 = .ok (.newarray .int, 2) := dk_188_10 (dk_at dksX8_init_4 0 rfl rfl)
theorem dX8_init_97 : decode cX8_init 97 = .ok (.putfield 50, 3) := dk_181 0 50 (dk_at dksX8_init_4 2 rfl rfl)
theorem dX8_init_100 : decode cX8_init 100 = .ok (.aload_n 0, 1) := dk_42 (dk_at dksX8_init_4 5 rfl rfl)
theorem dX8_init_101 : decode cX8_init 101 = .ok (.sipush 128, 3) := dk_17 0 128 (dk_at dksX8_init_4 6 rfl rfl)
theorem dX8_init_104 : decode cX8_init 104 = .ok (.newarray .int, 2) := dk_188_10 (dk_at dksX8_init_4 9 rfl rfl)
theorem dX8_init_106 : decode cX8_init 106 = .ok (.putfield 53, 3) := dk_181 0 53 (dk_at dksX8_init_4 11 rfl rfl)
theorem dX8_init_109 : decode cX8_init 109 = .ok (.aload_n 0, 1) := dk_42 (dk_at dksX8_init_4 14 rfl rfl)
theorem dX8_init_110 : decode cX8_init 110 = .ok (.bipush 64, 2) := dk_16 64 (dk_at dksX8_init_4 15 rfl rfl)
theorem dX8_init_112 : decode cX8_init 112 = .ok (.newarray .boolean, 2) := dk_188_4 (dk_at dksX8_init_4 17 rfl rfl)
theorem dX8_init_114 : decode cX8_init 114 = .ok (.putfield 56, 3) := dk_181 0 56 (dk_at dksX8_init_4 19 rfl rfl)
theorem dX8_init_117 : decode cX8_init 117 = .ok (.aload_n 0, 1) := dk_42 (dk_at dksX8_init_4 22 rfl rfl)
theorem dX8_init_118 : decode cX8_init 118 = .ok (.bipush 10, 2) := dk_16 10 (dk_at dksX8_init_5 0 rfl rfl)
theorem dX8_init_120 : decode cX8_init 120 = .ok (.newarray .long, 2) := dk_188_11 (dk_at dksX8_init_5 2 rfl rfl)
theorem dX8_init_122 : decode cX8_init 122 = .ok (.putfield 60, 3) := dk_181 0 60 (dk_at dksX8_init_5 4 rfl rfl)
theorem dX8_init_125 : decode cX8_init 125 = .ok (.aload_n 0, 1) := dk_42 (dk_at dksX8_init_5 7 rfl rfl)
theorem dX8_init_126 : decode cX8_init 126 = .ok (.iconst 5, 1) := dk_8 (dk_at dksX8_init_5 8 rfl rfl)
theorem dX8_init_127 : decode cX8_init 127 = .ok (.newarray .int, 2) := dk_188_10 (dk_at dksX8_init_5 9 rfl rfl)
theorem dX8_init_129 : decode cX8_init 129 = .ok (.putfield 63, 3) := dk_181 0 63 (dk_at dksX8_init_5 11 rfl rfl)
theorem dX8_init_132 : decode cX8_init 132 = .ok (.iconst 0, 1) := dk_3 (dk_at dksX8_init_5 14 rfl rfl)
theorem dX8_init_133 : decode cX8_init 133 = .ok (.istore_n 1, 1) := dk_60 (dk_at dksX8_init_5 15 rfl rfl)
theorem dX8_init_134 : decode cX8_init 134 = .ok (.iload_n 1, 1) := dk_27 (dk_at dksX8_init_5 16 rfl rfl)
theorem dX8_init_135 : decode cX8_init 135 = .ok (.iconst 4, 1) := dk_7 (dk_at dksX8_init_5 17 rfl rfl)
theorem dX8_init_136 : decode cX8_init 136 = .ok (.if_icmp .ge 16, 3) := dk_162 0 16 (dk_at dksX8_init_5 18 rfl rfl)
theorem dX8_init_139 : decode cX8_init 139 = .ok (.aload_n 0, 1) := dk_42 (dk_at dksX8_init_5 21 rfl rfl)
theorem dX8_init_140 : decode cX8_init 140 = .ok (.getfield 17, 3) := dk_180 0 17 (dk_at dksX8_init_6 0 rfl rfl)
theorem dX8_init_143 : decode cX8_init 143 = .ok (.iload_n 1, 1) := dk_27 (dk_at dksX8_init_6 3 rfl rfl)
theorem dX8_init_144 : decode cX8_init 144 = .ok (.iconst (-1), 1) := dk_2 (dk_at dksX8_init_6 4 rfl rfl)
theorem dX8_init_145 : decode cX8_init 145 = .ok (.iastore, 1) := dk_79 (dk_at dksX8_init_6 5 rfl rfl)
theorem dX8_init_146 : decode cX8_init 146 = .ok (.iinc 1 1, 3) := dk_132 1 1 (dk_at dksX8_init_6 6 rfl rfl)
theorem dX8_init_149 : decode cX8_init 149 = .ok (.goto (-15), 3) := dk_167 255 241 (dk_at dksX8_init_6 9 rfl rfl)
theorem dX8_init_152 : decode cX8_init 152 = .ok (.aload_n 0, 1) := dk_42 (dk_at dksX8_init_6 12 rfl rfl)
theorem dX8_init_153 : decode cX8_init 153 = .ok (.iconst 0, 1) := dk_3 (dk_at dksX8_init_6 13 rfl rfl)
theorem dX8_init_154 : decode cX8_init 154 = .ok (.invokevirtual 66, 3) := dk_182 0 66 (dk_at dksX8_init_6 14 rfl rfl)
theorem dX8_init_157 : decode cX8_init 157 = .ok (.return_, 1) := dk_177 (dk_at dksX8_init_6 17 rfl rfl)
abbrev cX8_empties : ByteArray := prog_14_method_54_code
def yX8_empties : MethodName := ⟨RX8, "empties", "(I)V"⟩
def dkwX8_empties_1 : List UInt8 := [132, 3, 1, 167, 255, 237, 42, 180, 0, 35, 28, 7, 96, 16, 8, 79, 177]
abbrev dktX8_empties_1 : List UInt8 := dkwX8_empties_1 ++ []
def dkwX8_empties_0 : List UInt8 := [17, 1, 103, 27, 104, 61, 3, 62, 29, 17, 1, 103, 162, 0, 18, 42, 180, 0, 35, 28, 29, 96, 3, 79]
abbrev dktX8_empties_0 : List UInt8 := dkwX8_empties_0 ++ dktX8_empties_1
theorem dksX8_empties_0 : cX8_empties.data.toList.drop 0 = dktX8_empties_0 := by decide +kernel
theorem dksX8_empties_1 : cX8_empties.data.toList.drop 24 = dktX8_empties_1 := dk_seg dksX8_empties_0 24 rfl rfl
theorem dX8_empties_0 : decode cX8_empties 0 = .ok (.sipush 359, 3) := dk_17 1 103 (dk_at dksX8_empties_0 0 rfl rfl)
theorem dX8_empties_3 : decode cX8_empties 3 = .ok (.iload_n 1, 1) := dk_27 (dk_at dksX8_empties_0 3 rfl rfl)
theorem dX8_empties_4 : decode cX8_empties 4 = .ok (.imul, 1) := dk_104 (dk_at dksX8_empties_0 4 rfl rfl)
theorem dX8_empties_5 : decode cX8_empties 5 = .ok (.istore_n 2, 1) := dk_61 (dk_at dksX8_empties_0 5 rfl rfl)
theorem dX8_empties_6 : decode cX8_empties 6 = .ok (.iconst 0, 1) := dk_3 (dk_at dksX8_empties_0 6 rfl rfl)
theorem dX8_empties_7 : decode cX8_empties 7 = .ok (.istore_n 3, 1) := dk_62 (dk_at dksX8_empties_0 7 rfl rfl)
theorem dX8_empties_8 : decode cX8_empties 8 = .ok (.iload_n 3, 1) := dk_29 (dk_at dksX8_empties_0 8 rfl rfl)
theorem dX8_empties_9 : decode cX8_empties 9 = .ok (.sipush 359, 3) := dk_17 1 103 (dk_at dksX8_empties_0 9 rfl rfl)
theorem dX8_empties_12 : decode cX8_empties 12 = .ok (.if_icmp .ge 18, 3) := dk_162 0 18 (dk_at dksX8_empties_0 12 rfl rfl)
theorem dX8_empties_15 : decode cX8_empties 15 = .ok (.aload_n 0, 1) := dk_42 (dk_at dksX8_empties_0 15 rfl rfl)
theorem dX8_empties_16 : decode cX8_empties 16 = .ok (.getfield 35, 3) := dk_180 0 35 (dk_at dksX8_empties_0 16 rfl rfl)
theorem dX8_empties_19 : decode cX8_empties 19 = .ok (.iload_n 2, 1) := dk_28 (dk_at dksX8_empties_0 19 rfl rfl)
theorem dX8_empties_20 : decode cX8_empties 20 = .ok (.iload_n 3, 1) := dk_29 (dk_at dksX8_empties_0 20 rfl rfl)
theorem dX8_empties_21 : decode cX8_empties 21 = .ok (.iadd, 1) := dk_96 (dk_at dksX8_empties_0 21 rfl rfl)
theorem dX8_empties_22 : decode cX8_empties 22 = .ok (.iconst 0, 1) := dk_3 (dk_at dksX8_empties_0 22 rfl rfl)
theorem dX8_empties_23 : decode cX8_empties 23 = .ok (.iastore, 1) := dk_79 (dk_at dksX8_empties_0 23 rfl rfl)
theorem dX8_empties_24 : decode cX8_empties 24 = .ok (.iinc 3 1, 3) := dk_132 3 1 (dk_at dksX8_empties_1 0 rfl rfl)
theorem dX8_empties_27 : decode cX8_empties 27 = .ok (.goto (-19), 3) := dk_167 255 237 (dk_at dksX8_empties_1 3 rfl rfl)
theorem dX8_empties_30 : decode cX8_empties 30 = .ok (.aload_n 0, 1) := dk_42 (dk_at dksX8_empties_1 6 rfl rfl)
theorem dX8_empties_31 : decode cX8_empties 31 = .ok (.getfield 35, 3) := dk_180 0 35 (dk_at dksX8_empties_1 7 rfl rfl)
theorem dX8_empties_34 : decode cX8_empties 34 = .ok (.iload_n 2, 1) := dk_28 (dk_at dksX8_empties_1 10 rfl rfl)
theorem dX8_empties_35 : decode cX8_empties 35 = .ok (.iconst 4, 1) := dk_7 (dk_at dksX8_empties_1 11 rfl rfl)
theorem dX8_empties_36 : decode cX8_empties 36 = .ok (.iadd, 1) := dk_96 (dk_at dksX8_empties_1 12 rfl rfl)
theorem dX8_empties_37 : decode cX8_empties 37 = .ok (.bipush 8, 2) := dk_16 8 (dk_at dksX8_empties_1 13 rfl rfl)
theorem dX8_empties_39 : decode cX8_empties 39 = .ok (.iastore, 1) := dk_79 (dk_at dksX8_empties_1 15 rfl rfl)
theorem dX8_empties_40 : decode cX8_empties 40 = .ok (.return_, 1) := dk_177 (dk_at dksX8_empties_1 16 rfl rfl)
abbrev cX8_status : ByteArray := prog_14_method_3_code
def yX8_status : MethodName := ⟨RX8, "status", "()I"⟩
def dkwX8_status_0 : List UInt8 := [42, 3, 181, 0, 70, 42, 180, 0, 73, 172]
abbrev dktX8_status_0 : List UInt8 := dkwX8_status_0 ++ []
theorem dksX8_status_0 : cX8_status.data.toList.drop 0 = dktX8_status_0 := by decide +kernel
theorem dX8_status_0 : decode cX8_status 0 = .ok (.aload_n 0, 1) := dk_42 (dk_at dksX8_status_0 0 rfl rfl)
theorem dX8_status_1 : decode cX8_status 1 = .ok (.iconst 0, 1) := dk_3 (dk_at dksX8_status_0 1 rfl rfl)
theorem dX8_status_2 : decode cX8_status 2 = .ok (.putfield 70, 3) := dk_181 0 70 (dk_at dksX8_status_0 2 rfl rfl)
theorem dX8_status_5 : decode cX8_status 5 = .ok (.aload_n 0, 1) := dk_42 (dk_at dksX8_status_0 5 rfl rfl)
theorem dX8_status_6 : decode cX8_status 6 = .ok (.getfield 73, 3) := dk_180 0 73 (dk_at dksX8_status_0 6 rfl rfl)
theorem dX8_status_9 : decode cX8_status 9 = .ok (.ireturn, 1) := dk_172 (dk_at dksX8_status_0 9 rfl rfl)
abbrev cX8_top : ByteArray := prog_14_method_4_code
def yX8_top : MethodName := ⟨RX8, "top", "()J"⟩
def dkwX8_top_0 : List UInt8 := [42, 3, 181, 0, 70, 42, 180, 0, 76, 173]
abbrev dktX8_top_0 : List UInt8 := dkwX8_top_0 ++ []
theorem dksX8_top_0 : cX8_top.data.toList.drop 0 = dktX8_top_0 := by decide +kernel
theorem dX8_top_0 : decode cX8_top 0 = .ok (.aload_n 0, 1) := dk_42 (dk_at dksX8_top_0 0 rfl rfl)
theorem dX8_top_1 : decode cX8_top 1 = .ok (.iconst 0, 1) := dk_3 (dk_at dksX8_top_0 1 rfl rfl)
theorem dX8_top_2 : decode cX8_top 2 = .ok (.putfield 70, 3) := dk_181 0 70 (dk_at dksX8_top_0 2 rfl rfl)
theorem dX8_top_5 : decode cX8_top 5 = .ok (.aload_n 0, 1) := dk_42 (dk_at dksX8_top_0 5 rfl rfl)
theorem dX8_top_6 : decode cX8_top 6 = .ok (.getfield 76, 3) := dk_180 0 76 (dk_at dksX8_top_0 6 rfl rfl)
theorem dX8_top_9 : decode cX8_top 9 = .ok (.lreturn, 1) := dk_173 (dk_at dksX8_top_0 9 rfl rfl)
abbrev cX8_bottom : ByteArray := prog_14_method_5_code
def yX8_bottom : MethodName := ⟨RX8, "bottom", "()J"⟩
def dkwX8_bottom_0 : List UInt8 := [42, 3, 181, 0, 70, 42, 180, 0, 7, 173]
abbrev dktX8_bottom_0 : List UInt8 := dkwX8_bottom_0 ++ []
theorem dksX8_bottom_0 : cX8_bottom.data.toList.drop 0 = dktX8_bottom_0 := by decide +kernel
theorem dX8_bottom_0 : decode cX8_bottom 0 = .ok (.aload_n 0, 1) := dk_42 (dk_at dksX8_bottom_0 0 rfl rfl)
theorem dX8_bottom_1 : decode cX8_bottom 1 = .ok (.iconst 0, 1) := dk_3 (dk_at dksX8_bottom_0 1 rfl rfl)
theorem dX8_bottom_2 : decode cX8_bottom 2 = .ok (.putfield 70, 3) := dk_181 0 70 (dk_at dksX8_bottom_0 2 rfl rfl)
theorem dX8_bottom_5 : decode cX8_bottom 5 = .ok (.aload_n 0, 1) := dk_42 (dk_at dksX8_bottom_0 5 rfl rfl)
theorem dX8_bottom_6 : decode cX8_bottom 6 = .ok (.getfield 7, 3) := dk_180 0 7 (dk_at dksX8_bottom_0 6 rfl rfl)
theorem dX8_bottom_9 : decode cX8_bottom 9 = .ok (.lreturn, 1) := dk_173 (dk_at dksX8_bottom_0 9 rfl rfl)
abbrev cX8_tray : ByteArray := prog_14_method_11_code
def yX8_tray : MethodName := ⟨RX8, "tray", "(III)Z"⟩
def dkwX8_tray_4 : List UInt8 := [132, 4, 1, 167, 255, 234, 4, 172]
abbrev dktX8_tray_4 : List UInt8 := dkwX8_tray_4 ++ []
def dkwX8_tray_3 : List UInt8 := [3, 54, 4, 21, 4, 29, 162, 0, 22, 42, 180, 0, 20, 16, 60, 27, 104, 21, 4, 96, 9, 80]
abbrev dktX8_tray_3 : List UInt8 := dkwX8_tray_3 ++ dktX8_tray_4
def dkwX8_tray_2 : List UInt8 := [156, 0, 10, 42, 16, 6, 182, 0, 85, 172, 42, 180, 0, 13, 27, 28, 79, 42, 180, 0, 17, 27, 29, 79]
abbrev dktX8_tray_2 : List UInt8 := dkwX8_tray_2 ++ dktX8_tray_3
def dkwX8_tray_1 : List UInt8 := [6, 164, 0, 9, 42, 4, 182, 0, 85, 172, 29, 16, 60, 164, 0, 9, 42, 8, 182, 0, 85, 172, 29]
abbrev dktX8_tray_1 : List UInt8 := dkwX8_tray_1 ++ dktX8_tray_2
def dkwX8_tray_0 : List UInt8 := [42, 3, 181, 0, 70, 42, 3, 181, 0, 73, 27, 155, 0, 17, 27, 7, 162, 0, 12, 28, 155, 0, 8, 28]
abbrev dktX8_tray_0 : List UInt8 := dkwX8_tray_0 ++ dktX8_tray_1
theorem dksX8_tray_0 : cX8_tray.data.toList.drop 0 = dktX8_tray_0 := by decide +kernel
theorem dksX8_tray_1 : cX8_tray.data.toList.drop 24 = dktX8_tray_1 := dk_seg dksX8_tray_0 24 rfl rfl
theorem dksX8_tray_2 : cX8_tray.data.toList.drop 47 = dktX8_tray_2 := dk_seg dksX8_tray_1 23 rfl rfl
theorem dksX8_tray_3 : cX8_tray.data.toList.drop 71 = dktX8_tray_3 := dk_seg dksX8_tray_2 24 rfl rfl
theorem dksX8_tray_4 : cX8_tray.data.toList.drop 93 = dktX8_tray_4 := dk_seg dksX8_tray_3 22 rfl rfl
theorem dX8_tray_0 : decode cX8_tray 0 = .ok (.aload_n 0, 1) := dk_42 (dk_at dksX8_tray_0 0 rfl rfl)
theorem dX8_tray_1 : decode cX8_tray 1 = .ok (.iconst 0, 1) := dk_3 (dk_at dksX8_tray_0 1 rfl rfl)
theorem dX8_tray_2 : decode cX8_tray 2 = .ok (.putfield 70, 3) := dk_181 0 70 (dk_at dksX8_tray_0 2 rfl rfl)
theorem dX8_tray_5 : decode cX8_tray 5 = .ok (.aload_n 0, 1) := dk_42 (dk_at dksX8_tray_0 5 rfl rfl)
theorem dX8_tray_6 : decode cX8_tray 6 = .ok (.iconst 0, 1) := dk_3 (dk_at dksX8_tray_0 6 rfl rfl)
theorem dX8_tray_7 : decode cX8_tray 7 = .ok (.putfield 73, 3) := dk_181 0 73 (dk_at dksX8_tray_0 7 rfl rfl)
theorem dX8_tray_10 : decode cX8_tray 10 = .ok (.iload_n 1, 1) := dk_27 (dk_at dksX8_tray_0 10 rfl rfl)
theorem dX8_tray_11 : decode cX8_tray 11 = .ok (.ifCond .lt 17, 3) := dk_155 0 17 (dk_at dksX8_tray_0 11 rfl rfl)
theorem dX8_tray_14 : decode cX8_tray 14 = .ok (.iload_n 1, 1) := dk_27 (dk_at dksX8_tray_0 14 rfl rfl)
theorem dX8_tray_15 : decode cX8_tray 15 = .ok (.iconst 4, 1) := dk_7 (dk_at dksX8_tray_0 15 rfl rfl)
theorem dX8_tray_16 : decode cX8_tray 16 = .ok (.if_icmp .ge 12, 3) := dk_162 0 12 (dk_at dksX8_tray_0 16 rfl rfl)
theorem dX8_tray_19 : decode cX8_tray 19 = .ok (.iload_n 2, 1) := dk_28 (dk_at dksX8_tray_0 19 rfl rfl)
theorem dX8_tray_20 : decode cX8_tray 20 = .ok (.ifCond .lt 8, 3) := dk_155 0 8 (dk_at dksX8_tray_0 20 rfl rfl)
theorem dX8_tray_23 : decode cX8_tray 23 = .ok (.iload_n 2, 1) := dk_28 (dk_at dksX8_tray_0 23 rfl rfl)
theorem dX8_tray_24 : decode cX8_tray 24 = .ok (.iconst 3, 1) := dk_6 (dk_at dksX8_tray_1 0 rfl rfl)
theorem dX8_tray_25 : decode cX8_tray 25 = .ok (.if_icmp .le 9, 3) := dk_164 0 9 (dk_at dksX8_tray_1 1 rfl rfl)
theorem dX8_tray_28 : decode cX8_tray 28 = .ok (.aload_n 0, 1) := dk_42 (dk_at dksX8_tray_1 4 rfl rfl)
theorem dX8_tray_29 : decode cX8_tray 29 = .ok (.iconst 1, 1) := dk_4 (dk_at dksX8_tray_1 5 rfl rfl)
theorem dX8_tray_30 : decode cX8_tray 30 = .ok (.invokevirtual 85, 3) := dk_182 0 85 (dk_at dksX8_tray_1 6 rfl rfl)
theorem dX8_tray_33 : decode cX8_tray 33 = .ok (.ireturn, 1) := dk_172 (dk_at dksX8_tray_1 9 rfl rfl)
theorem dX8_tray_34 : decode cX8_tray 34 = .ok (.iload_n 3, 1) := dk_29 (dk_at dksX8_tray_1 10 rfl rfl)
theorem dX8_tray_35 : decode cX8_tray 35 = .ok (.bipush 60, 2) := dk_16 60 (dk_at dksX8_tray_1 11 rfl rfl)
theorem dX8_tray_37 : decode cX8_tray 37 = .ok (.if_icmp .le 9, 3) := dk_164 0 9 (dk_at dksX8_tray_1 13 rfl rfl)
theorem dX8_tray_40 : decode cX8_tray 40 = .ok (.aload_n 0, 1) := dk_42 (dk_at dksX8_tray_1 16 rfl rfl)
theorem dX8_tray_41 : decode cX8_tray 41 = .ok (.iconst 5, 1) := dk_8 (dk_at dksX8_tray_1 17 rfl rfl)
theorem dX8_tray_42 : decode cX8_tray 42 = .ok (.invokevirtual 85, 3) := dk_182 0 85 (dk_at dksX8_tray_1 18 rfl rfl)
theorem dX8_tray_45 : decode cX8_tray 45 = .ok (.ireturn, 1) := dk_172 (dk_at dksX8_tray_1 21 rfl rfl)
theorem dX8_tray_46 : decode cX8_tray 46 = .ok (.iload_n 3, 1) := dk_29 (dk_at dksX8_tray_1 22 rfl rfl)
theorem dX8_tray_47 : decode cX8_tray 47 = .ok (.ifCond .ge 10, 3) := dk_156 0 10 (dk_at dksX8_tray_2 0 rfl rfl)
theorem dX8_tray_50 : decode cX8_tray 50 = .ok (.aload_n 0, 1) := dk_42 (dk_at dksX8_tray_2 3 rfl rfl)
theorem dX8_tray_51 : decode cX8_tray 51 = .ok (.bipush 6, 2) := dk_16 6 (dk_at dksX8_tray_2 4 rfl rfl)
theorem dX8_tray_53 : decode cX8_tray 53 = .ok (.invokevirtual 85, 3) := dk_182 0 85 (dk_at dksX8_tray_2 6 rfl rfl)
theorem dX8_tray_56 : decode cX8_tray 56 = .ok (.ireturn, 1) := dk_172 (dk_at dksX8_tray_2 9 rfl rfl)
theorem dX8_tray_57 : decode cX8_tray 57 = .ok (.aload_n 0, 1) := dk_42 (dk_at dksX8_tray_2 10 rfl rfl)
theorem dX8_tray_58 : decode cX8_tray 58 = .ok (.getfield 13, 3) := dk_180 0 13 (dk_at dksX8_tray_2 11 rfl rfl)
theorem dX8_tray_61 : decode cX8_tray 61 = .ok (.iload_n 1, 1) := dk_27 (dk_at dksX8_tray_2 14 rfl rfl)
theorem dX8_tray_62 : decode cX8_tray 62 = .ok (.iload_n 2, 1) := dk_28 (dk_at dksX8_tray_2 15 rfl rfl)
theorem dX8_tray_63 : decode cX8_tray 63 = .ok (.iastore, 1) := dk_79 (dk_at dksX8_tray_2 16 rfl rfl)
theorem dX8_tray_64 : decode cX8_tray 64 = .ok (.aload_n 0, 1) := dk_42 (dk_at dksX8_tray_2 17 rfl rfl)
theorem dX8_tray_65 : decode cX8_tray 65 = .ok (.getfield 17, 3) := dk_180 0 17 (dk_at dksX8_tray_2 18 rfl rfl)
theorem dX8_tray_68 : decode cX8_tray 68 = .ok (.iload_n 1, 1) := dk_27 (dk_at dksX8_tray_2 21 rfl rfl)
theorem dX8_tray_69 : decode cX8_tray 69 = .ok (.iload_n 3, 1) := dk_29 (dk_at dksX8_tray_2 22 rfl rfl)
theorem dX8_tray_70 : decode cX8_tray 70 = .ok (.iastore, 1) := dk_79 (dk_at dksX8_tray_2 23 rfl rfl)
theorem dX8_tray_71 : decode cX8_tray 71 = .ok (.iconst 0, 1) := dk_3 (dk_at dksX8_tray_3 0 rfl rfl)
theorem dX8_tray_72 : decode cX8_tray 72 = .ok (.istore 4, 2) := dk_54 4 (dk_at dksX8_tray_3 1 rfl rfl)
theorem dX8_tray_74 : decode cX8_tray 74 = .ok (.iload 4, 2) := dk_21 4 (dk_at dksX8_tray_3 3 rfl rfl)
theorem dX8_tray_76 : decode cX8_tray 76 = .ok (.iload_n 3, 1) := dk_29 (dk_at dksX8_tray_3 5 rfl rfl)
theorem dX8_tray_77 : decode cX8_tray 77 = .ok (.if_icmp .ge 22, 3) := dk_162 0 22 (dk_at dksX8_tray_3 6 rfl rfl)
theorem dX8_tray_80 : decode cX8_tray 80 = .ok (.aload_n 0, 1) := dk_42 (dk_at dksX8_tray_3 9 rfl rfl)
theorem dX8_tray_81 : decode cX8_tray 81 = .ok (.getfield 20, 3) := dk_180 0 20 (dk_at dksX8_tray_3 10 rfl rfl)
theorem dX8_tray_84 : decode cX8_tray 84 = .ok (.bipush 60, 2) := dk_16 60 (dk_at dksX8_tray_3 13 rfl rfl)
theorem dX8_tray_86 : decode cX8_tray 86 = .ok (.iload_n 1, 1) := dk_27 (dk_at dksX8_tray_3 15 rfl rfl)
theorem dX8_tray_87 : decode cX8_tray 87 = .ok (.imul, 1) := dk_104 (dk_at dksX8_tray_3 16 rfl rfl)
theorem dX8_tray_88 : decode cX8_tray 88 = .ok (.iload 4, 2) := dk_21 4 (dk_at dksX8_tray_3 17 rfl rfl)
theorem dX8_tray_90 : decode cX8_tray 90 = .ok (.iadd, 1) := dk_96 (dk_at dksX8_tray_3 19 rfl rfl)
theorem dX8_tray_91 : decode cX8_tray 91 = .ok (.lconst 0, 1) := dk_9 (dk_at dksX8_tray_3 20 rfl rfl)
theorem dX8_tray_92 : decode cX8_tray 92 = .ok (.lastore, 1) := dk_80 (dk_at dksX8_tray_3 21 rfl rfl)
theorem dX8_tray_93 : decode cX8_tray 93 = .ok (.iinc 4 1, 3) := dk_132 4 1 (dk_at dksX8_tray_4 0 rfl rfl)
theorem dX8_tray_96 : decode cX8_tray 96 = .ok (.goto (-22), 3) := dk_167 255 234 (dk_at dksX8_tray_4 3 rfl rfl)
theorem dX8_tray_99 : decode cX8_tray 99 = .ok (.iconst 1, 1) := dk_4 (dk_at dksX8_tray_4 6 rfl rfl)
theorem dX8_tray_100 : decode cX8_tray 100 = .ok (.ireturn, 1) := dk_172 (dk_at dksX8_tray_4 7 rfl rfl)
abbrev cX8_no : ByteArray := prog_14_method_7_code
def yX8_no : MethodName := ⟨RX8, "no", "(I)Z"⟩
def dkwX8_no_0 : List UInt8 := [42, 27, 181, 0, 73, 3, 172]
abbrev dktX8_no_0 : List UInt8 := dkwX8_no_0 ++ []
theorem dksX8_no_0 : cX8_no.data.toList.drop 0 = dktX8_no_0 := by decide +kernel
theorem dX8_no_0 : decode cX8_no 0 = .ok (.aload_n 0, 1) := dk_42 (dk_at dksX8_no_0 0 rfl rfl)
theorem dX8_no_1 : decode cX8_no 1 = .ok (.iload_n 1, 1) := dk_27 (dk_at dksX8_no_0 1 rfl rfl)
theorem dX8_no_2 : decode cX8_no 2 = .ok (.putfield 73, 3) := dk_181 0 73 (dk_at dksX8_no_0 2 rfl rfl)
theorem dX8_no_5 : decode cX8_no 5 = .ok (.iconst 0, 1) := dk_3 (dk_at dksX8_no_0 5 rfl rfl)
theorem dX8_no_6 : decode cX8_no 6 = .ok (.ireturn, 1) := dk_172 (dk_at dksX8_no_0 6 rfl rfl)
abbrev cX8_write : ByteArray := prog_14_method_14_code
def yX8_write : MethodName := ⟨RX8, "write", "(IIJ)Z"⟩
def dkwX8_write_1 : List UInt8 := [42, 180, 0, 20, 16, 60, 27, 104, 28, 96, 42, 180, 0, 13, 27, 46, 33, 184, 0, 97, 80, 4, 172]
abbrev dktX8_write_1 : List UInt8 := dkwX8_write_1 ++ []
def dkwX8_write_0 : List UInt8 := [42, 3, 181, 0, 70, 42, 42, 27, 28, 182, 0, 93, 181, 0, 73, 42, 180, 0, 73, 158, 0, 5, 3, 172]
abbrev dktX8_write_0 : List UInt8 := dkwX8_write_0 ++ dktX8_write_1
theorem dksX8_write_0 : cX8_write.data.toList.drop 0 = dktX8_write_0 := by decide +kernel
theorem dksX8_write_1 : cX8_write.data.toList.drop 24 = dktX8_write_1 := dk_seg dksX8_write_0 24 rfl rfl
theorem dX8_write_0 : decode cX8_write 0 = .ok (.aload_n 0, 1) := dk_42 (dk_at dksX8_write_0 0 rfl rfl)
theorem dX8_write_1 : decode cX8_write 1 = .ok (.iconst 0, 1) := dk_3 (dk_at dksX8_write_0 1 rfl rfl)
theorem dX8_write_2 : decode cX8_write 2 = .ok (.putfield 70, 3) := dk_181 0 70 (dk_at dksX8_write_0 2 rfl rfl)
theorem dX8_write_5 : decode cX8_write 5 = .ok (.aload_n 0, 1) := dk_42 (dk_at dksX8_write_0 5 rfl rfl)
theorem dX8_write_6 : decode cX8_write 6 = .ok (.aload_n 0, 1) := dk_42 (dk_at dksX8_write_0 6 rfl rfl)
theorem dX8_write_7 : decode cX8_write 7 = .ok (.iload_n 1, 1) := dk_27 (dk_at dksX8_write_0 7 rfl rfl)
theorem dX8_write_8 : decode cX8_write 8 = .ok (.iload_n 2, 1) := dk_28 (dk_at dksX8_write_0 8 rfl rfl)
theorem dX8_write_9 : decode cX8_write 9 = .ok (.invokevirtual 93, 3) := dk_182 0 93 (dk_at dksX8_write_0 9 rfl rfl)
theorem dX8_write_12 : decode cX8_write 12 = .ok (.putfield 73, 3) := dk_181 0 73 (dk_at dksX8_write_0 12 rfl rfl)
theorem dX8_write_15 : decode cX8_write 15 = .ok (.aload_n 0, 1) := dk_42 (dk_at dksX8_write_0 15 rfl rfl)
theorem dX8_write_16 : decode cX8_write 16 = .ok (.getfield 73, 3) := dk_180 0 73 (dk_at dksX8_write_0 16 rfl rfl)
theorem dX8_write_19 : decode cX8_write 19 = .ok (.ifCond .le 5, 3) := dk_158 0 5 (dk_at dksX8_write_0 19 rfl rfl)
theorem dX8_write_22 : decode cX8_write 22 = .ok (.iconst 0, 1) := dk_3 (dk_at dksX8_write_0 22 rfl rfl)
theorem dX8_write_23 : decode cX8_write 23 = .ok (.ireturn, 1) := dk_172 (dk_at dksX8_write_0 23 rfl rfl)
theorem dX8_write_24 : decode cX8_write 24 = .ok (.aload_n 0, 1) := dk_42 (dk_at dksX8_write_1 0 rfl rfl)
theorem dX8_write_25 : decode cX8_write 25 = .ok (.getfield 20, 3) := dk_180 0 20 (dk_at dksX8_write_1 1 rfl rfl)
theorem dX8_write_28 : decode cX8_write 28 = .ok (.bipush 60, 2) := dk_16 60 (dk_at dksX8_write_1 4 rfl rfl)
theorem dX8_write_30 : decode cX8_write 30 = .ok (.iload_n 1, 1) := dk_27 (dk_at dksX8_write_1 6 rfl rfl)
theorem dX8_write_31 : decode cX8_write 31 = .ok (.imul, 1) := dk_104 (dk_at dksX8_write_1 7 rfl rfl)
theorem dX8_write_32 : decode cX8_write 32 = .ok (.iload_n 2, 1) := dk_28 (dk_at dksX8_write_1 8 rfl rfl)
theorem dX8_write_33 : decode cX8_write 33 = .ok (.iadd, 1) := dk_96 (dk_at dksX8_write_1 9 rfl rfl)
theorem dX8_write_34 : decode cX8_write 34 = .ok (.aload_n 0, 1) := dk_42 (dk_at dksX8_write_1 10 rfl rfl)
theorem dX8_write_35 : decode cX8_write 35 = .ok (.getfield 13, 3) := dk_180 0 13 (dk_at dksX8_write_1 11 rfl rfl)
theorem dX8_write_38 : decode cX8_write 38 = .ok (.iload_n 1, 1) := dk_27 (dk_at dksX8_write_1 14 rfl rfl)
theorem dX8_write_39 : decode cX8_write 39 = .ok (.iaload, 1) := dk_46 (dk_at dksX8_write_1 15 rfl rfl)
theorem dX8_write_40 : decode cX8_write 40 = .ok (.lload_n 3, 1) := dk_33 (dk_at dksX8_write_1 16 rfl rfl)
theorem dX8_write_41 : decode cX8_write 41 = .ok (.invokestatic 97, 3) := dk_184 0 97 (dk_at dksX8_write_1 17 rfl rfl)
theorem dX8_write_44 : decode cX8_write 44 = .ok (.lastore, 1) := dk_80 (dk_at dksX8_write_1 20 rfl rfl)
theorem dX8_write_45 : decode cX8_write 45 = .ok (.iconst 1, 1) := dk_4 (dk_at dksX8_write_1 21 rfl rfl)
theorem dX8_write_46 : decode cX8_write 46 = .ok (.ireturn, 1) := dk_172 (dk_at dksX8_write_1 22 rfl rfl)
abbrev cX8_placed : ByteArray := prog_14_method_13_code
def yX8_placed : MethodName := ⟨RX8, "placed", "(II)I"⟩
def dkwX8_placed_1 : List UInt8 := [46, 161, 0, 7, 7, 167, 0, 4, 3, 172]
abbrev dktX8_placed_1 : List UInt8 := dkwX8_placed_1 ++ []
def dkwX8_placed_0 : List UInt8 := [42, 27, 182, 0, 89, 62, 29, 158, 0, 7, 29, 167, 0, 22, 28, 155, 0, 13, 28, 42, 180, 0, 17, 27]
abbrev dktX8_placed_0 : List UInt8 := dkwX8_placed_0 ++ dktX8_placed_1
theorem dksX8_placed_0 : cX8_placed.data.toList.drop 0 = dktX8_placed_0 := by decide +kernel
theorem dksX8_placed_1 : cX8_placed.data.toList.drop 24 = dktX8_placed_1 := dk_seg dksX8_placed_0 24 rfl rfl
theorem dX8_placed_0 : decode cX8_placed 0 = .ok (.aload_n 0, 1) := dk_42 (dk_at dksX8_placed_0 0 rfl rfl)
theorem dX8_placed_1 : decode cX8_placed 1 = .ok (.iload_n 1, 1) := dk_27 (dk_at dksX8_placed_0 1 rfl rfl)
theorem dX8_placed_2 : decode cX8_placed 2 = .ok (.invokevirtual 89, 3) := dk_182 0 89 (dk_at dksX8_placed_0 2 rfl rfl)
theorem dX8_placed_5 : decode cX8_placed 5 = .ok (.istore_n 3, 1) := dk_62 (dk_at dksX8_placed_0 5 rfl rfl)
theorem dX8_placed_6 : decode cX8_placed 6 = .ok (.iload_n 3, 1) := dk_29 (dk_at dksX8_placed_0 6 rfl rfl)
theorem dX8_placed_7 : decode cX8_placed 7 = .ok (.ifCond .le 7, 3) := dk_158 0 7 (dk_at dksX8_placed_0 7 rfl rfl)
theorem dX8_placed_10 : decode cX8_placed 10 = .ok (.iload_n 3, 1) := dk_29 (dk_at dksX8_placed_0 10 rfl rfl)
theorem dX8_placed_11 : decode cX8_placed 11 = .ok (.goto 22, 3) := dk_167 0 22 (dk_at dksX8_placed_0 11 rfl rfl)
theorem dX8_placed_14 : decode cX8_placed 14 = .ok (.iload_n 2, 1) := dk_28 (dk_at dksX8_placed_0 14 rfl rfl)
theorem dX8_placed_15 : decode cX8_placed 15 = .ok (.ifCond .lt 13, 3) := dk_155 0 13 (dk_at dksX8_placed_0 15 rfl rfl)
theorem dX8_placed_18 : decode cX8_placed 18 = .ok (.iload_n 2, 1) := dk_28 (dk_at dksX8_placed_0 18 rfl rfl)
theorem dX8_placed_19 : decode cX8_placed 19 = .ok (.aload_n 0, 1) := dk_42 (dk_at dksX8_placed_0 19 rfl rfl)
theorem dX8_placed_20 : decode cX8_placed 20 = .ok (.getfield 17, 3) := dk_180 0 17 (dk_at dksX8_placed_0 20 rfl rfl)
theorem dX8_placed_23 : decode cX8_placed 23 = .ok (.iload_n 1, 1) := dk_27 (dk_at dksX8_placed_0 23 rfl rfl)
theorem dX8_placed_24 : decode cX8_placed 24 = .ok (.iaload, 1) := dk_46 (dk_at dksX8_placed_1 0 rfl rfl)
theorem dX8_placed_25 : decode cX8_placed 25 = .ok (.if_icmp .lt 7, 3) := dk_161 0 7 (dk_at dksX8_placed_1 1 rfl rfl)
theorem dX8_placed_28 : decode cX8_placed 28 = .ok (.iconst 4, 1) := dk_7 (dk_at dksX8_placed_1 4 rfl rfl)
theorem dX8_placed_29 : decode cX8_placed 29 = .ok (.goto 4, 3) := dk_167 0 4 (dk_at dksX8_placed_1 5 rfl rfl)
theorem dX8_placed_32 : decode cX8_placed 32 = .ok (.iconst 0, 1) := dk_3 (dk_at dksX8_placed_1 8 rfl rfl)
theorem dX8_placed_33 : decode cX8_placed 33 = .ok (.ireturn, 1) := dk_172 (dk_at dksX8_placed_1 9 rfl rfl)
abbrev cX8_trayed : ByteArray := prog_14_method_12_code
def yX8_trayed : MethodName := ⟨RX8, "trayed", "(I)I"⟩
def dkwX8_trayed_1 : List UInt8 := [167, 0, 4, 3, 172]
abbrev dktX8_trayed_1 : List UInt8 := dkwX8_trayed_1 ++ []
def dkwX8_trayed_0 : List UInt8 := [27, 155, 0, 8, 27, 7, 161, 0, 7, 4, 167, 0, 17, 42, 180, 0, 17, 27, 46, 156, 0, 7, 6]
abbrev dktX8_trayed_0 : List UInt8 := dkwX8_trayed_0 ++ dktX8_trayed_1
theorem dksX8_trayed_0 : cX8_trayed.data.toList.drop 0 = dktX8_trayed_0 := by decide +kernel
theorem dksX8_trayed_1 : cX8_trayed.data.toList.drop 23 = dktX8_trayed_1 := dk_seg dksX8_trayed_0 23 rfl rfl
theorem dX8_trayed_0 : decode cX8_trayed 0 = .ok (.iload_n 1, 1) := dk_27 (dk_at dksX8_trayed_0 0 rfl rfl)
theorem dX8_trayed_1 : decode cX8_trayed 1 = .ok (.ifCond .lt 8, 3) := dk_155 0 8 (dk_at dksX8_trayed_0 1 rfl rfl)
theorem dX8_trayed_4 : decode cX8_trayed 4 = .ok (.iload_n 1, 1) := dk_27 (dk_at dksX8_trayed_0 4 rfl rfl)
theorem dX8_trayed_5 : decode cX8_trayed 5 = .ok (.iconst 4, 1) := dk_7 (dk_at dksX8_trayed_0 5 rfl rfl)
theorem dX8_trayed_6 : decode cX8_trayed 6 = .ok (.if_icmp .lt 7, 3) := dk_161 0 7 (dk_at dksX8_trayed_0 6 rfl rfl)
theorem dX8_trayed_9 : decode cX8_trayed 9 = .ok (.iconst 1, 1) := dk_4 (dk_at dksX8_trayed_0 9 rfl rfl)
theorem dX8_trayed_10 : decode cX8_trayed 10 = .ok (.goto 17, 3) := dk_167 0 17 (dk_at dksX8_trayed_0 10 rfl rfl)
theorem dX8_trayed_13 : decode cX8_trayed 13 = .ok (.aload_n 0, 1) := dk_42 (dk_at dksX8_trayed_0 13 rfl rfl)
theorem dX8_trayed_14 : decode cX8_trayed 14 = .ok (.getfield 17, 3) := dk_180 0 17 (dk_at dksX8_trayed_0 14 rfl rfl)
theorem dX8_trayed_17 : decode cX8_trayed 17 = .ok (.iload_n 1, 1) := dk_27 (dk_at dksX8_trayed_0 17 rfl rfl)
theorem dX8_trayed_18 : decode cX8_trayed 18 = .ok (.iaload, 1) := dk_46 (dk_at dksX8_trayed_0 18 rfl rfl)
theorem dX8_trayed_19 : decode cX8_trayed 19 = .ok (.ifCond .ge 7, 3) := dk_156 0 7 (dk_at dksX8_trayed_0 19 rfl rfl)
theorem dX8_trayed_22 : decode cX8_trayed 22 = .ok (.iconst 3, 1) := dk_6 (dk_at dksX8_trayed_0 22 rfl rfl)
theorem dX8_trayed_23 : decode cX8_trayed 23 = .ok (.goto 4, 3) := dk_167 0 4 (dk_at dksX8_trayed_1 0 rfl rfl)
theorem dX8_trayed_26 : decode cX8_trayed 26 = .ok (.iconst 0, 1) := dk_3 (dk_at dksX8_trayed_1 3 rfl rfl)
theorem dX8_trayed_27 : decode cX8_trayed 27 = .ok (.ireturn, 1) := dk_172 (dk_at dksX8_trayed_1 4 rfl rfl)
abbrev cX8_cut : ByteArray := prog_14_method_10_code
def yX8_cut : MethodName := ⟨RX8, "cut", "(IJ)J"⟩
def dkwX8_cut_1 : List UInt8 := [5, 160, 0, 9, 31, 136, 133, 167, 0, 4, 31, 173]
abbrev dktX8_cut_1 : List UInt8 := dkwX8_cut_1 ++ []
def dkwX8_cut_0 : List UInt8 := [26, 154, 0, 10, 31, 136, 145, 133, 167, 0, 27, 26, 4, 160, 0, 10, 31, 136, 147, 133, 167, 0, 15, 26]
abbrev dktX8_cut_0 : List UInt8 := dkwX8_cut_0 ++ dktX8_cut_1
theorem dksX8_cut_0 : cX8_cut.data.toList.drop 0 = dktX8_cut_0 := by decide +kernel
theorem dksX8_cut_1 : cX8_cut.data.toList.drop 24 = dktX8_cut_1 := dk_seg dksX8_cut_0 24 rfl rfl
theorem dX8_cut_0 : decode cX8_cut 0 = .ok (.iload_n 0, 1) := dk_26 (dk_at dksX8_cut_0 0 rfl rfl)
theorem dX8_cut_1 : decode cX8_cut 1 = .ok (.ifCond .ne 10, 3) := dk_154 0 10 (dk_at dksX8_cut_0 1 rfl rfl)
theorem dX8_cut_4 : decode cX8_cut 4 = .ok (.lload_n 1, 1) := dk_31 (dk_at dksX8_cut_0 4 rfl rfl)
theorem dX8_cut_5 : decode cX8_cut 5 = .ok (.l2i, 1) := dk_136 (dk_at dksX8_cut_0 5 rfl rfl)
theorem dX8_cut_6 : decode cX8_cut 6 = .ok (.i2b, 1) := dk_145 (dk_at dksX8_cut_0 6 rfl rfl)
theorem dX8_cut_7 : decode cX8_cut 7 = .ok (.i2l, 1) := dk_133 (dk_at dksX8_cut_0 7 rfl rfl)
theorem dX8_cut_8 : decode cX8_cut 8 = .ok (.goto 27, 3) := dk_167 0 27 (dk_at dksX8_cut_0 8 rfl rfl)
theorem dX8_cut_11 : decode cX8_cut 11 = .ok (.iload_n 0, 1) := dk_26 (dk_at dksX8_cut_0 11 rfl rfl)
theorem dX8_cut_12 : decode cX8_cut 12 = .ok (.iconst 1, 1) := dk_4 (dk_at dksX8_cut_0 12 rfl rfl)
theorem dX8_cut_13 : decode cX8_cut 13 = .ok (.if_icmp .ne 10, 3) := dk_160 0 10 (dk_at dksX8_cut_0 13 rfl rfl)
theorem dX8_cut_16 : decode cX8_cut 16 = .ok (.lload_n 1, 1) := dk_31 (dk_at dksX8_cut_0 16 rfl rfl)
theorem dX8_cut_17 : decode cX8_cut 17 = .ok (.l2i, 1) := dk_136 (dk_at dksX8_cut_0 17 rfl rfl)
theorem dX8_cut_18 : decode cX8_cut 18 = .ok (.i2s, 1) := dk_147 (dk_at dksX8_cut_0 18 rfl rfl)
theorem dX8_cut_19 : decode cX8_cut 19 = .ok (.i2l, 1) := dk_133 (dk_at dksX8_cut_0 19 rfl rfl)
theorem dX8_cut_20 : decode cX8_cut 20 = .ok (.goto 15, 3) := dk_167 0 15 (dk_at dksX8_cut_0 20 rfl rfl)
theorem dX8_cut_23 : decode cX8_cut 23 = .ok (.iload_n 0, 1) := dk_26 (dk_at dksX8_cut_0 23 rfl rfl)
theorem dX8_cut_24 : decode cX8_cut 24 = .ok (.iconst 2, 1) := dk_5 (dk_at dksX8_cut_1 0 rfl rfl)
theorem dX8_cut_25 : decode cX8_cut 25 = .ok (.if_icmp .ne 9, 3) := dk_160 0 9 (dk_at dksX8_cut_1 1 rfl rfl)
theorem dX8_cut_28 : decode cX8_cut 28 = .ok (.lload_n 1, 1) := dk_31 (dk_at dksX8_cut_1 4 rfl rfl)
theorem dX8_cut_29 : decode cX8_cut 29 = .ok (.l2i, 1) := dk_136 (dk_at dksX8_cut_1 5 rfl rfl)
theorem dX8_cut_30 : decode cX8_cut 30 = .ok (.i2l, 1) := dk_133 (dk_at dksX8_cut_1 6 rfl rfl)
theorem dX8_cut_31 : decode cX8_cut 31 = .ok (.goto 4, 3) := dk_167 0 4 (dk_at dksX8_cut_1 7 rfl rfl)
theorem dX8_cut_34 : decode cX8_cut 34 = .ok (.lload_n 1, 1) := dk_31 (dk_at dksX8_cut_1 10 rfl rfl)
theorem dX8_cut_35 : decode cX8_cut 35 = .ok (.lreturn, 1) := dk_173 (dk_at dksX8_cut_1 11 rfl rfl)
abbrev cX8_read : ByteArray := prog_14_method_15_code
def yX8_read : MethodName := ⟨RX8, "read", "(II)J"⟩
def dkwX8_read_1 : List UInt8 := [20, 0, 101, 167, 0, 14, 42, 180, 0, 20, 16, 60, 27, 104, 28, 96, 47, 173]
abbrev dktX8_read_1 : List UInt8 := dkwX8_read_1 ++ []
def dkwX8_read_0 : List UInt8 := [42, 3, 181, 0, 70, 42, 42, 27, 28, 182, 0, 93, 181, 0, 73, 42, 180, 0, 73, 158, 0, 9]
abbrev dktX8_read_0 : List UInt8 := dkwX8_read_0 ++ dktX8_read_1
theorem dksX8_read_0 : cX8_read.data.toList.drop 0 = dktX8_read_0 := by decide +kernel
theorem dksX8_read_1 : cX8_read.data.toList.drop 22 = dktX8_read_1 := dk_seg dksX8_read_0 22 rfl rfl
theorem dX8_read_0 : decode cX8_read 0 = .ok (.aload_n 0, 1) := dk_42 (dk_at dksX8_read_0 0 rfl rfl)
theorem dX8_read_1 : decode cX8_read 1 = .ok (.iconst 0, 1) := dk_3 (dk_at dksX8_read_0 1 rfl rfl)
theorem dX8_read_2 : decode cX8_read 2 = .ok (.putfield 70, 3) := dk_181 0 70 (dk_at dksX8_read_0 2 rfl rfl)
theorem dX8_read_5 : decode cX8_read 5 = .ok (.aload_n 0, 1) := dk_42 (dk_at dksX8_read_0 5 rfl rfl)
theorem dX8_read_6 : decode cX8_read 6 = .ok (.aload_n 0, 1) := dk_42 (dk_at dksX8_read_0 6 rfl rfl)
theorem dX8_read_7 : decode cX8_read 7 = .ok (.iload_n 1, 1) := dk_27 (dk_at dksX8_read_0 7 rfl rfl)
theorem dX8_read_8 : decode cX8_read 8 = .ok (.iload_n 2, 1) := dk_28 (dk_at dksX8_read_0 8 rfl rfl)
theorem dX8_read_9 : decode cX8_read 9 = .ok (.invokevirtual 93, 3) := dk_182 0 93 (dk_at dksX8_read_0 9 rfl rfl)
theorem dX8_read_12 : decode cX8_read 12 = .ok (.putfield 73, 3) := dk_181 0 73 (dk_at dksX8_read_0 12 rfl rfl)
theorem dX8_read_15 : decode cX8_read 15 = .ok (.aload_n 0, 1) := dk_42 (dk_at dksX8_read_0 15 rfl rfl)
theorem dX8_read_16 : decode cX8_read 16 = .ok (.getfield 73, 3) := dk_180 0 73 (dk_at dksX8_read_0 16 rfl rfl)
theorem dX8_read_19 : decode cX8_read 19 = .ok (.ifCond .le 9, 3) := dk_158 0 9 (dk_at dksX8_read_0 19 rfl rfl)
theorem dX8_read_22 : decode cX8_read 22 = .ok (.ldc2_w 101, 3) := dk_20 0 101 (dk_at dksX8_read_1 0 rfl rfl)
theorem dX8_read_25 : decode cX8_read 25 = .ok (.goto 14, 3) := dk_167 0 14 (dk_at dksX8_read_1 3 rfl rfl)
theorem dX8_read_28 : decode cX8_read 28 = .ok (.aload_n 0, 1) := dk_42 (dk_at dksX8_read_1 6 rfl rfl)
theorem dX8_read_29 : decode cX8_read 29 = .ok (.getfield 20, 3) := dk_180 0 20 (dk_at dksX8_read_1 7 rfl rfl)
theorem dX8_read_32 : decode cX8_read 32 = .ok (.bipush 60, 2) := dk_16 60 (dk_at dksX8_read_1 10 rfl rfl)
theorem dX8_read_34 : decode cX8_read 34 = .ok (.iload_n 1, 1) := dk_27 (dk_at dksX8_read_1 12 rfl rfl)
theorem dX8_read_35 : decode cX8_read 35 = .ok (.imul, 1) := dk_104 (dk_at dksX8_read_1 13 rfl rfl)
theorem dX8_read_36 : decode cX8_read 36 = .ok (.iload_n 2, 1) := dk_28 (dk_at dksX8_read_1 14 rfl rfl)
theorem dX8_read_37 : decode cX8_read 37 = .ok (.iadd, 1) := dk_96 (dk_at dksX8_read_1 15 rfl rfl)
theorem dX8_read_38 : decode cX8_read 38 = .ok (.laload, 1) := dk_47 (dk_at dksX8_read_1 16 rfl rfl)
theorem dX8_read_39 : decode cX8_read 39 = .ok (.lreturn, 1) := dk_173 (dk_at dksX8_read_1 17 rfl rfl)
abbrev cX8_pour : ByteArray := prog_14_method_16_code
def yX8_pour : MethodName := ⟨RX8, "pour", "(IIIII)Z"⟩
def dkwX8_pour_9 : List UInt8 := [21, 8, 96, 47, 80, 132, 7, 1, 167, 255, 198, 4, 172]
abbrev dktX8_pour_9 : List UInt8 := dkwX8_pour_9 ++ []
def dkwX8_pour_8 : List UInt8 := [180, 0, 20, 16, 60, 29, 104, 21, 4, 96, 21, 8, 96, 42, 180, 0, 20, 16, 60, 27, 104, 28, 96]
abbrev dktX8_pour_8 : List UInt8 := dkwX8_pour_8 ++ dktX8_pour_9
def dkwX8_pour_7 : List UInt8 := [162, 0, 57, 21, 6, 153, 0, 13, 21, 5, 4, 100, 21, 7, 100, 167, 0, 5, 21, 7, 54, 8, 42]
abbrev dktX8_pour_7 : List UInt8 := dkwX8_pour_7 ++ dktX8_pour_8
def dkwX8_pour_6 : List UInt8 := [182, 0, 85, 172, 28, 21, 4, 162, 0, 7, 4, 167, 0, 4, 3, 54, 6, 3, 54, 7, 21, 7, 21, 5]
abbrev dktX8_pour_6 : List UInt8 := dkwX8_pour_6 ++ dktX8_pour_7
def dkwX8_pour_5 : List UInt8 := [157, 0, 21, 21, 4, 133, 21, 5, 133, 97, 42, 180, 0, 17, 29, 46, 133, 148, 158, 0, 9, 42, 7]
abbrev dktX8_pour_5 : List UInt8 := dkwX8_pour_5 ++ dktX8_pour_6
def dkwX8_pour_4 : List UInt8 := [155, 0, 43, 21, 4, 155, 0, 38, 28, 133, 21, 5, 133, 97, 42, 180, 0, 17, 27, 46, 133, 148]
abbrev dktX8_pour_4 : List UInt8 := dkwX8_pour_4 ++ dktX8_pour_5
def dkwX8_pour_3 : List UInt8 := [159, 0, 10, 42, 16, 11, 182, 0, 85, 172, 21, 5, 156, 0, 10, 42, 16, 6, 182, 0, 85, 172, 28]
abbrev dktX8_pour_3 : List UInt8 := dkwX8_pour_3 ++ dktX8_pour_4
def dkwX8_pour_2 : List UInt8 := [46, 156, 0, 9, 42, 6, 182, 0, 85, 172, 42, 180, 0, 13, 27, 46, 42, 180, 0, 13, 29, 46]
abbrev dktX8_pour_2 : List UInt8 := dkwX8_pour_2 ++ dktX8_pour_3
def dkwX8_pour_1 : List UInt8 := [7, 161, 0, 9, 42, 4, 182, 0, 85, 172, 42, 180, 0, 17, 27, 46, 155, 0, 12, 42, 180, 0, 17, 29]
abbrev dktX8_pour_1 : List UInt8 := dkwX8_pour_1 ++ dktX8_pour_2
def dkwX8_pour_0 : List UInt8 := [42, 3, 181, 0, 70, 42, 3, 181, 0, 73, 27, 155, 0, 17, 27, 7, 162, 0, 12, 29, 155, 0, 8, 29]
abbrev dktX8_pour_0 : List UInt8 := dkwX8_pour_0 ++ dktX8_pour_1
theorem dksX8_pour_0 : cX8_pour.data.toList.drop 0 = dktX8_pour_0 := by decide +kernel
theorem dksX8_pour_1 : cX8_pour.data.toList.drop 24 = dktX8_pour_1 := dk_seg dksX8_pour_0 24 rfl rfl
theorem dksX8_pour_2 : cX8_pour.data.toList.drop 48 = dktX8_pour_2 := dk_seg dksX8_pour_1 24 rfl rfl
theorem dksX8_pour_3 : cX8_pour.data.toList.drop 70 = dktX8_pour_3 := dk_seg dksX8_pour_2 22 rfl rfl
theorem dksX8_pour_4 : cX8_pour.data.toList.drop 93 = dktX8_pour_4 := dk_seg dksX8_pour_3 23 rfl rfl
theorem dksX8_pour_5 : cX8_pour.data.toList.drop 115 = dktX8_pour_5 := dk_seg dksX8_pour_4 22 rfl rfl
theorem dksX8_pour_6 : cX8_pour.data.toList.drop 138 = dktX8_pour_6 := dk_seg dksX8_pour_5 23 rfl rfl
theorem dksX8_pour_7 : cX8_pour.data.toList.drop 162 = dktX8_pour_7 := dk_seg dksX8_pour_6 24 rfl rfl
theorem dksX8_pour_8 : cX8_pour.data.toList.drop 185 = dktX8_pour_8 := dk_seg dksX8_pour_7 23 rfl rfl
theorem dksX8_pour_9 : cX8_pour.data.toList.drop 208 = dktX8_pour_9 := dk_seg dksX8_pour_8 23 rfl rfl
theorem dX8_pour_0 : decode cX8_pour 0 = .ok (.aload_n 0, 1) := dk_42 (dk_at dksX8_pour_0 0 rfl rfl)
theorem dX8_pour_1 : decode cX8_pour 1 = .ok (.iconst 0, 1) := dk_3 (dk_at dksX8_pour_0 1 rfl rfl)
theorem dX8_pour_2 : decode cX8_pour 2 = .ok (.putfield 70, 3) := dk_181 0 70 (dk_at dksX8_pour_0 2 rfl rfl)
theorem dX8_pour_5 : decode cX8_pour 5 = .ok (.aload_n 0, 1) := dk_42 (dk_at dksX8_pour_0 5 rfl rfl)
theorem dX8_pour_6 : decode cX8_pour 6 = .ok (.iconst 0, 1) := dk_3 (dk_at dksX8_pour_0 6 rfl rfl)
theorem dX8_pour_7 : decode cX8_pour 7 = .ok (.putfield 73, 3) := dk_181 0 73 (dk_at dksX8_pour_0 7 rfl rfl)
theorem dX8_pour_10 : decode cX8_pour 10 = .ok (.iload_n 1, 1) := dk_27 (dk_at dksX8_pour_0 10 rfl rfl)
theorem dX8_pour_11 : decode cX8_pour 11 = .ok (.ifCond .lt 17, 3) := dk_155 0 17 (dk_at dksX8_pour_0 11 rfl rfl)
theorem dX8_pour_14 : decode cX8_pour 14 = .ok (.iload_n 1, 1) := dk_27 (dk_at dksX8_pour_0 14 rfl rfl)
theorem dX8_pour_15 : decode cX8_pour 15 = .ok (.iconst 4, 1) := dk_7 (dk_at dksX8_pour_0 15 rfl rfl)
theorem dX8_pour_16 : decode cX8_pour 16 = .ok (.if_icmp .ge 12, 3) := dk_162 0 12 (dk_at dksX8_pour_0 16 rfl rfl)
theorem dX8_pour_19 : decode cX8_pour 19 = .ok (.iload_n 3, 1) := dk_29 (dk_at dksX8_pour_0 19 rfl rfl)
theorem dX8_pour_20 : decode cX8_pour 20 = .ok (.ifCond .lt 8, 3) := dk_155 0 8 (dk_at dksX8_pour_0 20 rfl rfl)
theorem dX8_pour_23 : decode cX8_pour 23 = .ok (.iload_n 3, 1) := dk_29 (dk_at dksX8_pour_0 23 rfl rfl)
theorem dX8_pour_24 : decode cX8_pour 24 = .ok (.iconst 4, 1) := dk_7 (dk_at dksX8_pour_1 0 rfl rfl)
theorem dX8_pour_25 : decode cX8_pour 25 = .ok (.if_icmp .lt 9, 3) := dk_161 0 9 (dk_at dksX8_pour_1 1 rfl rfl)
theorem dX8_pour_28 : decode cX8_pour 28 = .ok (.aload_n 0, 1) := dk_42 (dk_at dksX8_pour_1 4 rfl rfl)
theorem dX8_pour_29 : decode cX8_pour 29 = .ok (.iconst 1, 1) := dk_4 (dk_at dksX8_pour_1 5 rfl rfl)
theorem dX8_pour_30 : decode cX8_pour 30 = .ok (.invokevirtual 85, 3) := dk_182 0 85 (dk_at dksX8_pour_1 6 rfl rfl)
theorem dX8_pour_33 : decode cX8_pour 33 = .ok (.ireturn, 1) := dk_172 (dk_at dksX8_pour_1 9 rfl rfl)
theorem dX8_pour_34 : decode cX8_pour 34 = .ok (.aload_n 0, 1) := dk_42 (dk_at dksX8_pour_1 10 rfl rfl)
theorem dX8_pour_35 : decode cX8_pour 35 = .ok (.getfield 17, 3) := dk_180 0 17 (dk_at dksX8_pour_1 11 rfl rfl)
theorem dX8_pour_38 : decode cX8_pour 38 = .ok (.iload_n 1, 1) := dk_27 (dk_at dksX8_pour_1 14 rfl rfl)
theorem dX8_pour_39 : decode cX8_pour 39 = .ok (.iaload, 1) := dk_46 (dk_at dksX8_pour_1 15 rfl rfl)
theorem dX8_pour_40 : decode cX8_pour 40 = .ok (.ifCond .lt 12, 3) := dk_155 0 12 (dk_at dksX8_pour_1 16 rfl rfl)
theorem dX8_pour_43 : decode cX8_pour 43 = .ok (.aload_n 0, 1) := dk_42 (dk_at dksX8_pour_1 19 rfl rfl)
theorem dX8_pour_44 : decode cX8_pour 44 = .ok (.getfield 17, 3) := dk_180 0 17 (dk_at dksX8_pour_1 20 rfl rfl)
theorem dX8_pour_47 : decode cX8_pour 47 = .ok (.iload_n 3, 1) := dk_29 (dk_at dksX8_pour_1 23 rfl rfl)
theorem dX8_pour_48 : decode cX8_pour 48 = .ok (.iaload, 1) := dk_46 (dk_at dksX8_pour_2 0 rfl rfl)
theorem dX8_pour_49 : decode cX8_pour 49 = .ok (.ifCond .ge 9, 3) := dk_156 0 9 (dk_at dksX8_pour_2 1 rfl rfl)
theorem dX8_pour_52 : decode cX8_pour 52 = .ok (.aload_n 0, 1) := dk_42 (dk_at dksX8_pour_2 4 rfl rfl)
theorem dX8_pour_53 : decode cX8_pour 53 = .ok (.iconst 3, 1) := dk_6 (dk_at dksX8_pour_2 5 rfl rfl)
theorem dX8_pour_54 : decode cX8_pour 54 = .ok (.invokevirtual 85, 3) := dk_182 0 85 (dk_at dksX8_pour_2 6 rfl rfl)
theorem dX8_pour_57 : decode cX8_pour 57 = .ok (.ireturn, 1) := dk_172 (dk_at dksX8_pour_2 9 rfl rfl)
theorem dX8_pour_58 : decode cX8_pour 58 = .ok (.aload_n 0, 1) := dk_42 (dk_at dksX8_pour_2 10 rfl rfl)
theorem dX8_pour_59 : decode cX8_pour 59 = .ok (.getfield 13, 3) := dk_180 0 13 (dk_at dksX8_pour_2 11 rfl rfl)
theorem dX8_pour_62 : decode cX8_pour 62 = .ok (.iload_n 1, 1) := dk_27 (dk_at dksX8_pour_2 14 rfl rfl)
theorem dX8_pour_63 : decode cX8_pour 63 = .ok (.iaload, 1) := dk_46 (dk_at dksX8_pour_2 15 rfl rfl)
theorem dX8_pour_64 : decode cX8_pour 64 = .ok (.aload_n 0, 1) := dk_42 (dk_at dksX8_pour_2 16 rfl rfl)
theorem dX8_pour_65 : decode cX8_pour 65 = .ok (.getfield 13, 3) := dk_180 0 13 (dk_at dksX8_pour_2 17 rfl rfl)
theorem dX8_pour_68 : decode cX8_pour 68 = .ok (.iload_n 3, 1) := dk_29 (dk_at dksX8_pour_2 20 rfl rfl)
theorem dX8_pour_69 : decode cX8_pour 69 = .ok (.iaload, 1) := dk_46 (dk_at dksX8_pour_2 21 rfl rfl)
theorem dX8_pour_70 : decode cX8_pour 70 = .ok (.if_icmp .eq 10, 3) := dk_159 0 10 (dk_at dksX8_pour_3 0 rfl rfl)
theorem dX8_pour_73 : decode cX8_pour 73 = .ok (.aload_n 0, 1) := dk_42 (dk_at dksX8_pour_3 3 rfl rfl)
theorem dX8_pour_74 : decode cX8_pour 74 = .ok (.bipush 11, 2) := dk_16 11 (dk_at dksX8_pour_3 4 rfl rfl)
theorem dX8_pour_76 : decode cX8_pour 76 = .ok (.invokevirtual 85, 3) := dk_182 0 85 (dk_at dksX8_pour_3 6 rfl rfl)
theorem dX8_pour_79 : decode cX8_pour 79 = .ok (.ireturn, 1) := dk_172 (dk_at dksX8_pour_3 9 rfl rfl)
theorem dX8_pour_80 : decode cX8_pour 80 = .ok (.iload 5, 2) := dk_21 5 (dk_at dksX8_pour_3 10 rfl rfl)
theorem dX8_pour_82 : decode cX8_pour 82 = .ok (.ifCond .ge 10, 3) := dk_156 0 10 (dk_at dksX8_pour_3 12 rfl rfl)
theorem dX8_pour_85 : decode cX8_pour 85 = .ok (.aload_n 0, 1) := dk_42 (dk_at dksX8_pour_3 15 rfl rfl)
theorem dX8_pour_86 : decode cX8_pour 86 = .ok (.bipush 6, 2) := dk_16 6 (dk_at dksX8_pour_3 16 rfl rfl)
theorem dX8_pour_88 : decode cX8_pour 88 = .ok (.invokevirtual 85, 3) := dk_182 0 85 (dk_at dksX8_pour_3 18 rfl rfl)
theorem dX8_pour_91 : decode cX8_pour 91 = .ok (.ireturn, 1) := dk_172 (dk_at dksX8_pour_3 21 rfl rfl)
theorem dX8_pour_92 : decode cX8_pour 92 = .ok (.iload_n 2, 1) := dk_28 (dk_at dksX8_pour_3 22 rfl rfl)
theorem dX8_pour_93 : decode cX8_pour 93 = .ok (.ifCond .lt 43, 3) := dk_155 0 43 (dk_at dksX8_pour_4 0 rfl rfl)
theorem dX8_pour_96 : decode cX8_pour 96 = .ok (.iload 4, 2) := dk_21 4 (dk_at dksX8_pour_4 3 rfl rfl)
theorem dX8_pour_98 : decode cX8_pour 98 = .ok (.ifCond .lt 38, 3) := dk_155 0 38 (dk_at dksX8_pour_4 5 rfl rfl)
theorem dX8_pour_101 : decode cX8_pour 101 = .ok (.iload_n 2, 1) := dk_28 (dk_at dksX8_pour_4 8 rfl rfl)
theorem dX8_pour_102 : decode cX8_pour 102 = .ok (.i2l, 1) := dk_133 (dk_at dksX8_pour_4 9 rfl rfl)
theorem dX8_pour_103 : decode cX8_pour 103 = .ok (.iload 5, 2) := dk_21 5 (dk_at dksX8_pour_4 10 rfl rfl)
theorem dX8_pour_105 : decode cX8_pour 105 = .ok (.i2l, 1) := dk_133 (dk_at dksX8_pour_4 12 rfl rfl)
theorem dX8_pour_106 : decode cX8_pour 106 = .ok (.ladd, 1) := dk_97 (dk_at dksX8_pour_4 13 rfl rfl)
theorem dX8_pour_107 : decode cX8_pour 107 = .ok (.aload_n 0, 1) := dk_42 (dk_at dksX8_pour_4 14 rfl rfl)
theorem dX8_pour_108 : decode cX8_pour 108 = .ok (.getfield 17, 3) := dk_180 0 17 (dk_at dksX8_pour_4 15 rfl rfl)
theorem dX8_pour_111 : decode cX8_pour 111 = .ok (.iload_n 1, 1) := dk_27 (dk_at dksX8_pour_4 18 rfl rfl)
theorem dX8_pour_112 : decode cX8_pour 112 = .ok (.iaload, 1) := dk_46 (dk_at dksX8_pour_4 19 rfl rfl)
theorem dX8_pour_113 : decode cX8_pour 113 = .ok (.i2l, 1) := dk_133 (dk_at dksX8_pour_4 20 rfl rfl)
theorem dX8_pour_114 : decode cX8_pour 114 = .ok (.lcmp, 1) := dk_148 (dk_at dksX8_pour_4 21 rfl rfl)
theorem dX8_pour_115 : decode cX8_pour 115 = .ok (.ifCond .gt 21, 3) := dk_157 0 21 (dk_at dksX8_pour_5 0 rfl rfl)
theorem dX8_pour_118 : decode cX8_pour 118 = .ok (.iload 4, 2) := dk_21 4 (dk_at dksX8_pour_5 3 rfl rfl)
theorem dX8_pour_120 : decode cX8_pour 120 = .ok (.i2l, 1) := dk_133 (dk_at dksX8_pour_5 5 rfl rfl)
theorem dX8_pour_121 : decode cX8_pour 121 = .ok (.iload 5, 2) := dk_21 5 (dk_at dksX8_pour_5 6 rfl rfl)
theorem dX8_pour_123 : decode cX8_pour 123 = .ok (.i2l, 1) := dk_133 (dk_at dksX8_pour_5 8 rfl rfl)
theorem dX8_pour_124 : decode cX8_pour 124 = .ok (.ladd, 1) := dk_97 (dk_at dksX8_pour_5 9 rfl rfl)
theorem dX8_pour_125 : decode cX8_pour 125 = .ok (.aload_n 0, 1) := dk_42 (dk_at dksX8_pour_5 10 rfl rfl)
theorem dX8_pour_126 : decode cX8_pour 126 = .ok (.getfield 17, 3) := dk_180 0 17 (dk_at dksX8_pour_5 11 rfl rfl)
theorem dX8_pour_129 : decode cX8_pour 129 = .ok (.iload_n 3, 1) := dk_29 (dk_at dksX8_pour_5 14 rfl rfl)
theorem dX8_pour_130 : decode cX8_pour 130 = .ok (.iaload, 1) := dk_46 (dk_at dksX8_pour_5 15 rfl rfl)
theorem dX8_pour_131 : decode cX8_pour 131 = .ok (.i2l, 1) := dk_133 (dk_at dksX8_pour_5 16 rfl rfl)
theorem dX8_pour_132 : decode cX8_pour 132 = .ok (.lcmp, 1) := dk_148 (dk_at dksX8_pour_5 17 rfl rfl)
theorem dX8_pour_133 : decode cX8_pour 133 = .ok (.ifCond .le 9, 3) := dk_158 0 9 (dk_at dksX8_pour_5 18 rfl rfl)
theorem dX8_pour_136 : decode cX8_pour 136 = .ok (.aload_n 0, 1) := dk_42 (dk_at dksX8_pour_5 21 rfl rfl)
theorem dX8_pour_137 : decode cX8_pour 137 = .ok (.iconst 4, 1) := dk_7 (dk_at dksX8_pour_5 22 rfl rfl)
theorem dX8_pour_138 : decode cX8_pour 138 = .ok (.invokevirtual 85, 3) := dk_182 0 85 (dk_at dksX8_pour_6 0 rfl rfl)
theorem dX8_pour_141 : decode cX8_pour 141 = .ok (.ireturn, 1) := dk_172 (dk_at dksX8_pour_6 3 rfl rfl)
theorem dX8_pour_142 : decode cX8_pour 142 = .ok (.iload_n 2, 1) := dk_28 (dk_at dksX8_pour_6 4 rfl rfl)
theorem dX8_pour_143 : decode cX8_pour 143 = .ok (.iload 4, 2) := dk_21 4 (dk_at dksX8_pour_6 5 rfl rfl)
theorem dX8_pour_145 : decode cX8_pour 145 = .ok (.if_icmp .ge 7, 3) := dk_162 0 7 (dk_at dksX8_pour_6 7 rfl rfl)
theorem dX8_pour_148 : decode cX8_pour 148 = .ok (.iconst 1, 1) := dk_4 (dk_at dksX8_pour_6 10 rfl rfl)
theorem dX8_pour_149 : decode cX8_pour 149 = .ok (.goto 4, 3) := dk_167 0 4 (dk_at dksX8_pour_6 11 rfl rfl)
theorem dX8_pour_152 : decode cX8_pour 152 = .ok (.iconst 0, 1) := dk_3 (dk_at dksX8_pour_6 14 rfl rfl)
theorem dX8_pour_153 : decode cX8_pour 153 = .ok (.istore 6, 2) := dk_54 6 (dk_at dksX8_pour_6 15 rfl rfl)
theorem dX8_pour_155 : decode cX8_pour 155 = .ok (.iconst 0, 1) := dk_3 (dk_at dksX8_pour_6 17 rfl rfl)
theorem dX8_pour_156 : decode cX8_pour 156 = .ok (.istore 7, 2) := dk_54 7 (dk_at dksX8_pour_6 18 rfl rfl)
theorem dX8_pour_158 : decode cX8_pour 158 = .ok (.iload 7, 2) := dk_21 7 (dk_at dksX8_pour_6 20 rfl rfl)
theorem dX8_pour_160 : decode cX8_pour 160 = .ok (.iload 5, 2) := dk_21 5 (dk_at dksX8_pour_6 22 rfl rfl)
theorem dX8_pour_162 : decode cX8_pour 162 = .ok (.if_icmp .ge 57, 3) := dk_162 0 57 (dk_at dksX8_pour_7 0 rfl rfl)
theorem dX8_pour_165 : decode cX8_pour 165 = .ok (.iload 6, 2) := dk_21 6 (dk_at dksX8_pour_7 3 rfl rfl)
theorem dX8_pour_167 : decode cX8_pour 167 = .ok (.ifCond .eq 13, 3) := dk_153 0 13 (dk_at dksX8_pour_7 5 rfl rfl)
theorem dX8_pour_170 : decode cX8_pour 170 = .ok (.iload 5, 2) := dk_21 5 (dk_at dksX8_pour_7 8 rfl rfl)
theorem dX8_pour_172 : decode cX8_pour 172 = .ok (.iconst 1, 1) := dk_4 (dk_at dksX8_pour_7 10 rfl rfl)
theorem dX8_pour_173 : decode cX8_pour 173 = .ok (.isub, 1) := dk_100 (dk_at dksX8_pour_7 11 rfl rfl)
theorem dX8_pour_174 : decode cX8_pour 174 = .ok (.iload 7, 2) := dk_21 7 (dk_at dksX8_pour_7 12 rfl rfl)
theorem dX8_pour_176 : decode cX8_pour 176 = .ok (.isub, 1) := dk_100 (dk_at dksX8_pour_7 14 rfl rfl)
theorem dX8_pour_177 : decode cX8_pour 177 = .ok (.goto 5, 3) := dk_167 0 5 (dk_at dksX8_pour_7 15 rfl rfl)
theorem dX8_pour_180 : decode cX8_pour 180 = .ok (.iload 7, 2) := dk_21 7 (dk_at dksX8_pour_7 18 rfl rfl)
theorem dX8_pour_182 : decode cX8_pour 182 = .ok (.istore 8, 2) := dk_54 8 (dk_at dksX8_pour_7 20 rfl rfl)
theorem dX8_pour_184 : decode cX8_pour 184 = .ok (.aload_n 0, 1) := dk_42 (dk_at dksX8_pour_7 22 rfl rfl)
theorem dX8_pour_185 : decode cX8_pour 185 = .ok (.getfield 20, 3) := dk_180 0 20 (dk_at dksX8_pour_8 0 rfl rfl)
theorem dX8_pour_188 : decode cX8_pour 188 = .ok (.bipush 60, 2) := dk_16 60 (dk_at dksX8_pour_8 3 rfl rfl)
theorem dX8_pour_190 : decode cX8_pour 190 = .ok (.iload_n 3, 1) := dk_29 (dk_at dksX8_pour_8 5 rfl rfl)
theorem dX8_pour_191 : decode cX8_pour 191 = .ok (.imul, 1) := dk_104 (dk_at dksX8_pour_8 6 rfl rfl)
theorem dX8_pour_192 : decode cX8_pour 192 = .ok (.iload 4, 2) := dk_21 4 (dk_at dksX8_pour_8 7 rfl rfl)
theorem dX8_pour_194 : decode cX8_pour 194 = .ok (.iadd, 1) := dk_96 (dk_at dksX8_pour_8 9 rfl rfl)
theorem dX8_pour_195 : decode cX8_pour 195 = .ok (.iload 8, 2) := dk_21 8 (dk_at dksX8_pour_8 10 rfl rfl)
theorem dX8_pour_197 : decode cX8_pour 197 = .ok (.iadd, 1) := dk_96 (dk_at dksX8_pour_8 12 rfl rfl)
theorem dX8_pour_198 : decode cX8_pour 198 = .ok (.aload_n 0, 1) := dk_42 (dk_at dksX8_pour_8 13 rfl rfl)
theorem dX8_pour_199 : decode cX8_pour 199 = .ok (.getfield 20, 3) := dk_180 0 20 (dk_at dksX8_pour_8 14 rfl rfl)
theorem dX8_pour_202 : decode cX8_pour 202 = .ok (.bipush 60, 2) := dk_16 60 (dk_at dksX8_pour_8 17 rfl rfl)
theorem dX8_pour_204 : decode cX8_pour 204 = .ok (.iload_n 1, 1) := dk_27 (dk_at dksX8_pour_8 19 rfl rfl)
theorem dX8_pour_205 : decode cX8_pour 205 = .ok (.imul, 1) := dk_104 (dk_at dksX8_pour_8 20 rfl rfl)
theorem dX8_pour_206 : decode cX8_pour 206 = .ok (.iload_n 2, 1) := dk_28 (dk_at dksX8_pour_8 21 rfl rfl)
theorem dX8_pour_207 : decode cX8_pour 207 = .ok (.iadd, 1) := dk_96 (dk_at dksX8_pour_8 22 rfl rfl)
theorem dX8_pour_208 : decode cX8_pour 208 = .ok (.iload 8, 2) := dk_21 8 (dk_at dksX8_pour_9 0 rfl rfl)
theorem dX8_pour_210 : decode cX8_pour 210 = .ok (.iadd, 1) := dk_96 (dk_at dksX8_pour_9 2 rfl rfl)
theorem dX8_pour_211 : decode cX8_pour 211 = .ok (.laload, 1) := dk_47 (dk_at dksX8_pour_9 3 rfl rfl)
theorem dX8_pour_212 : decode cX8_pour 212 = .ok (.lastore, 1) := dk_80 (dk_at dksX8_pour_9 4 rfl rfl)
theorem dX8_pour_213 : decode cX8_pour 213 = .ok (.iinc 7 1, 3) := dk_132 7 1 (dk_at dksX8_pour_9 5 rfl rfl)
theorem dX8_pour_216 : decode cX8_pour 216 = .ok (.goto (-58), 3) := dk_167 255 198 (dk_at dksX8_pour_9 8 rfl rfl)
theorem dX8_pour_219 : decode cX8_pour 219 = .ok (.iconst 1, 1) := dk_4 (dk_at dksX8_pour_9 11 rfl rfl)
theorem dX8_pour_220 : decode cX8_pour 220 = .ok (.ireturn, 1) := dk_172 (dk_at dksX8_pour_9 12 rfl rfl)
abbrev cX8_feed : ByteArray := prog_14_method_49_code
def yX8_feed : MethodName := ⟨RX8, "feed", "(IIIII)I"⟩
def dkwX8_feed_2 : List UInt8 := [182, 0, 221, 42, 180, 0, 218, 172]
abbrev dktX8_feed_2 : List UInt8 := dkwX8_feed_2 ++ []
def dkwX8_feed_1 : List UInt8 := [182, 0, 221, 42, 28, 182, 0, 221, 42, 29, 182, 0, 221, 42, 21, 4, 182, 0, 221, 42, 21, 5]
abbrev dktX8_feed_1 : List UInt8 := dkwX8_feed_1 ++ dktX8_feed_2
def dkwX8_feed_0 : List UInt8 := [42, 3, 181, 0, 70, 42, 180, 0, 218, 16, 20, 96, 17, 3, 132, 164, 0, 5, 2, 172, 42, 27]
abbrev dktX8_feed_0 : List UInt8 := dkwX8_feed_0 ++ dktX8_feed_1
theorem dksX8_feed_0 : cX8_feed.data.toList.drop 0 = dktX8_feed_0 := by decide +kernel
theorem dksX8_feed_1 : cX8_feed.data.toList.drop 22 = dktX8_feed_1 := dk_seg dksX8_feed_0 22 rfl rfl
theorem dksX8_feed_2 : cX8_feed.data.toList.drop 44 = dktX8_feed_2 := dk_seg dksX8_feed_1 22 rfl rfl
theorem dX8_feed_0 : decode cX8_feed 0 = .ok (.aload_n 0, 1) := dk_42 (dk_at dksX8_feed_0 0 rfl rfl)
theorem dX8_feed_1 : decode cX8_feed 1 = .ok (.iconst 0, 1) := dk_3 (dk_at dksX8_feed_0 1 rfl rfl)
theorem dX8_feed_2 : decode cX8_feed 2 = .ok (.putfield 70, 3) := dk_181 0 70 (dk_at dksX8_feed_0 2 rfl rfl)
theorem dX8_feed_5 : decode cX8_feed 5 = .ok (.aload_n 0, 1) := dk_42 (dk_at dksX8_feed_0 5 rfl rfl)
theorem dX8_feed_6 : decode cX8_feed 6 = .ok (.getfield 218, 3) := dk_180 0 218 (dk_at dksX8_feed_0 6 rfl rfl)
theorem dX8_feed_9 : decode cX8_feed 9 = .ok (.bipush 20, 2) := dk_16 20 (dk_at dksX8_feed_0 9 rfl rfl)
theorem dX8_feed_11 : decode cX8_feed 11 = .ok (.iadd, 1) := dk_96 (dk_at dksX8_feed_0 11 rfl rfl)
theorem dX8_feed_12 : decode cX8_feed 12 = .ok (.sipush 900, 3) := dk_17 3 132 (dk_at dksX8_feed_0 12 rfl rfl)
theorem dX8_feed_15 : decode cX8_feed 15 = .ok (.if_icmp .le 5, 3) := dk_164 0 5 (dk_at dksX8_feed_0 15 rfl rfl)
theorem dX8_feed_18 : decode cX8_feed 18 = .ok (.iconst (-1), 1) := dk_2 (dk_at dksX8_feed_0 18 rfl rfl)
theorem dX8_feed_19 : decode cX8_feed 19 = .ok (.ireturn, 1) := dk_172 (dk_at dksX8_feed_0 19 rfl rfl)
theorem dX8_feed_20 : decode cX8_feed 20 = .ok (.aload_n 0, 1) := dk_42 (dk_at dksX8_feed_0 20 rfl rfl)
theorem dX8_feed_21 : decode cX8_feed 21 = .ok (.iload_n 1, 1) := dk_27 (dk_at dksX8_feed_0 21 rfl rfl)
theorem dX8_feed_22 : decode cX8_feed 22 = .ok (.invokevirtual 221, 3) := dk_182 0 221 (dk_at dksX8_feed_1 0 rfl rfl)
theorem dX8_feed_25 : decode cX8_feed 25 = .ok (.aload_n 0, 1) := dk_42 (dk_at dksX8_feed_1 3 rfl rfl)
theorem dX8_feed_26 : decode cX8_feed 26 = .ok (.iload_n 2, 1) := dk_28 (dk_at dksX8_feed_1 4 rfl rfl)
theorem dX8_feed_27 : decode cX8_feed 27 = .ok (.invokevirtual 221, 3) := dk_182 0 221 (dk_at dksX8_feed_1 5 rfl rfl)
theorem dX8_feed_30 : decode cX8_feed 30 = .ok (.aload_n 0, 1) := dk_42 (dk_at dksX8_feed_1 8 rfl rfl)
theorem dX8_feed_31 : decode cX8_feed 31 = .ok (.iload_n 3, 1) := dk_29 (dk_at dksX8_feed_1 9 rfl rfl)
theorem dX8_feed_32 : decode cX8_feed 32 = .ok (.invokevirtual 221, 3) := dk_182 0 221 (dk_at dksX8_feed_1 10 rfl rfl)
theorem dX8_feed_35 : decode cX8_feed 35 = .ok (.aload_n 0, 1) := dk_42 (dk_at dksX8_feed_1 13 rfl rfl)
theorem dX8_feed_36 : decode cX8_feed 36 = .ok (.iload 4, 2) := dk_21 4 (dk_at dksX8_feed_1 14 rfl rfl)
theorem dX8_feed_38 : decode cX8_feed 38 = .ok (.invokevirtual 221, 3) := dk_182 0 221 (dk_at dksX8_feed_1 16 rfl rfl)
theorem dX8_feed_41 : decode cX8_feed 41 = .ok (.aload_n 0, 1) := dk_42 (dk_at dksX8_feed_1 19 rfl rfl)
theorem dX8_feed_42 : decode cX8_feed 42 = .ok (.iload 5, 2) := dk_21 5 (dk_at dksX8_feed_1 20 rfl rfl)
theorem dX8_feed_44 : decode cX8_feed 44 = .ok (.invokevirtual 221, 3) := dk_182 0 221 (dk_at dksX8_feed_2 0 rfl rfl)
theorem dX8_feed_47 : decode cX8_feed 47 = .ok (.aload_n 0, 1) := dk_42 (dk_at dksX8_feed_2 3 rfl rfl)
theorem dX8_feed_48 : decode cX8_feed 48 = .ok (.getfield 218, 3) := dk_180 0 218 (dk_at dksX8_feed_2 4 rfl rfl)
theorem dX8_feed_51 : decode cX8_feed 51 = .ok (.ireturn, 1) := dk_172 (dk_at dksX8_feed_2 7 rfl rfl)
abbrev cX8_lay : ByteArray := prog_14_method_50_code
def yX8_lay : MethodName := ⟨RX8, "lay", "(I)V"⟩
def dkwX8_lay_1 : List UInt8 := [180, 0, 218, 4, 96, 181, 0, 218, 132, 2, 255, 167, 255, 223, 177]
abbrev dktX8_lay_1 : List UInt8 := dkwX8_lay_1 ++ []
def dkwX8_lay_0 : List UInt8 := [6, 61, 28, 155, 0, 35, 42, 180, 0, 24, 42, 180, 0, 218, 27, 16, 8, 28, 104, 122, 145, 84, 42, 89]
abbrev dktX8_lay_0 : List UInt8 := dkwX8_lay_0 ++ dktX8_lay_1
theorem dksX8_lay_0 : cX8_lay.data.toList.drop 0 = dktX8_lay_0 := by decide +kernel
theorem dksX8_lay_1 : cX8_lay.data.toList.drop 24 = dktX8_lay_1 := dk_seg dksX8_lay_0 24 rfl rfl
theorem dX8_lay_0 : decode cX8_lay 0 = .ok (.iconst 3, 1) := dk_6 (dk_at dksX8_lay_0 0 rfl rfl)
theorem dX8_lay_1 : decode cX8_lay 1 = .ok (.istore_n 2, 1) := dk_61 (dk_at dksX8_lay_0 1 rfl rfl)
theorem dX8_lay_2 : decode cX8_lay 2 = .ok (.iload_n 2, 1) := dk_28 (dk_at dksX8_lay_0 2 rfl rfl)
theorem dX8_lay_3 : decode cX8_lay 3 = .ok (.ifCond .lt 35, 3) := dk_155 0 35 (dk_at dksX8_lay_0 3 rfl rfl)
theorem dX8_lay_6 : decode cX8_lay 6 = .ok (.aload_n 0, 1) := dk_42 (dk_at dksX8_lay_0 6 rfl rfl)
theorem dX8_lay_7 : decode cX8_lay 7 = .ok (.getfield 24, 3) := dk_180 0 24 (dk_at dksX8_lay_0 7 rfl rfl)
theorem dX8_lay_10 : decode cX8_lay 10 = .ok (.aload_n 0, 1) := dk_42 (dk_at dksX8_lay_0 10 rfl rfl)
theorem dX8_lay_11 : decode cX8_lay 11 = .ok (.getfield 218, 3) := dk_180 0 218 (dk_at dksX8_lay_0 11 rfl rfl)
theorem dX8_lay_14 : decode cX8_lay 14 = .ok (.iload_n 1, 1) := dk_27 (dk_at dksX8_lay_0 14 rfl rfl)
theorem dX8_lay_15 : decode cX8_lay 15 = .ok (.bipush 8, 2) := dk_16 8 (dk_at dksX8_lay_0 15 rfl rfl)
theorem dX8_lay_17 : decode cX8_lay 17 = .ok (.iload_n 2, 1) := dk_28 (dk_at dksX8_lay_0 17 rfl rfl)
theorem dX8_lay_18 : decode cX8_lay 18 = .ok (.imul, 1) := dk_104 (dk_at dksX8_lay_0 18 rfl rfl)
theorem dX8_lay_19 : decode cX8_lay 19 = .ok (.ishr, 1) := dk_122 (dk_at dksX8_lay_0 19 rfl rfl)
theorem dX8_lay_20 : decode cX8_lay 20 = .ok (.i2b, 1) := dk_145 (dk_at dksX8_lay_0 20 rfl rfl)
theorem dX8_lay_21 : decode cX8_lay 21 = .ok (.bastore, 1) := dk_84 (dk_at dksX8_lay_0 21 rfl rfl)
theorem dX8_lay_22 : decode cX8_lay 22 = .ok (.aload_n 0, 1) := dk_42 (dk_at dksX8_lay_0 22 rfl rfl)
theorem dX8_lay_23 : decode cX8_lay 23 = .ok (.dup, 1) := dk_89 (dk_at dksX8_lay_0 23 rfl rfl)
theorem dX8_lay_24 : decode cX8_lay 24 = .ok (.getfield 218, 3) := dk_180 0 218 (dk_at dksX8_lay_1 0 rfl rfl)
theorem dX8_lay_27 : decode cX8_lay 27 = .ok (.iconst 1, 1) := dk_4 (dk_at dksX8_lay_1 3 rfl rfl)
theorem dX8_lay_28 : decode cX8_lay 28 = .ok (.iadd, 1) := dk_96 (dk_at dksX8_lay_1 4 rfl rfl)
theorem dX8_lay_29 : decode cX8_lay 29 = .ok (.putfield 218, 3) := dk_181 0 218 (dk_at dksX8_lay_1 5 rfl rfl)
theorem dX8_lay_32 : decode cX8_lay 32 = .ok (.iinc 2 (-1), 3) := dk_132 2 255 (dk_at dksX8_lay_1 8 rfl rfl)
theorem dX8_lay_35 : decode cX8_lay 35 = .ok (.goto (-33), 3) := dk_167 255 223 (dk_at dksX8_lay_1 11 rfl rfl)
theorem dX8_lay_38 : decode cX8_lay 38 = .ok (.return_, 1) := dk_177 (dk_at dksX8_lay_1 14 rfl rfl)
abbrev cX8_fault : ByteArray := prog_14_method_53_code
def yX8_fault : MethodName := ⟨RX8, "fault", "(I)I"⟩
def dkwX8_fault_1 : List UInt8 := [180, 0, 32, 167, 0, 4, 2, 172]
abbrev dktX8_fault_1 : List UInt8 := dkwX8_fault_1 ++ []
def dkwX8_fault_0 : List UInt8 := [42, 3, 181, 0, 70, 27, 154, 0, 10, 42, 180, 0, 28, 167, 0, 16, 27, 4, 160, 0, 10, 42]
abbrev dktX8_fault_0 : List UInt8 := dkwX8_fault_0 ++ dktX8_fault_1
theorem dksX8_fault_0 : cX8_fault.data.toList.drop 0 = dktX8_fault_0 := by decide +kernel
theorem dksX8_fault_1 : cX8_fault.data.toList.drop 22 = dktX8_fault_1 := dk_seg dksX8_fault_0 22 rfl rfl
theorem dX8_fault_0 : decode cX8_fault 0 = .ok (.aload_n 0, 1) := dk_42 (dk_at dksX8_fault_0 0 rfl rfl)
theorem dX8_fault_1 : decode cX8_fault 1 = .ok (.iconst 0, 1) := dk_3 (dk_at dksX8_fault_0 1 rfl rfl)
theorem dX8_fault_2 : decode cX8_fault 2 = .ok (.putfield 70, 3) := dk_181 0 70 (dk_at dksX8_fault_0 2 rfl rfl)
theorem dX8_fault_5 : decode cX8_fault 5 = .ok (.iload_n 1, 1) := dk_27 (dk_at dksX8_fault_0 5 rfl rfl)
theorem dX8_fault_6 : decode cX8_fault 6 = .ok (.ifCond .ne 10, 3) := dk_154 0 10 (dk_at dksX8_fault_0 6 rfl rfl)
theorem dX8_fault_9 : decode cX8_fault 9 = .ok (.aload_n 0, 1) := dk_42 (dk_at dksX8_fault_0 9 rfl rfl)
theorem dX8_fault_10 : decode cX8_fault 10 = .ok (.getfield 28, 3) := dk_180 0 28 (dk_at dksX8_fault_0 10 rfl rfl)
theorem dX8_fault_13 : decode cX8_fault 13 = .ok (.goto 16, 3) := dk_167 0 16 (dk_at dksX8_fault_0 13 rfl rfl)
theorem dX8_fault_16 : decode cX8_fault 16 = .ok (.iload_n 1, 1) := dk_27 (dk_at dksX8_fault_0 16 rfl rfl)
theorem dX8_fault_17 : decode cX8_fault 17 = .ok (.iconst 1, 1) := dk_4 (dk_at dksX8_fault_0 17 rfl rfl)
theorem dX8_fault_18 : decode cX8_fault 18 = .ok (.if_icmp .ne 10, 3) := dk_160 0 10 (dk_at dksX8_fault_0 18 rfl rfl)
theorem dX8_fault_21 : decode cX8_fault 21 = .ok (.aload_n 0, 1) := dk_42 (dk_at dksX8_fault_0 21 rfl rfl)
theorem dX8_fault_22 : decode cX8_fault 22 = .ok (.getfield 32, 3) := dk_180 0 32 (dk_at dksX8_fault_1 0 rfl rfl)
theorem dX8_fault_25 : decode cX8_fault 25 = .ok (.goto 4, 3) := dk_167 0 4 (dk_at dksX8_fault_1 3 rfl rfl)
theorem dX8_fault_28 : decode cX8_fault 28 = .ok (.iconst (-1), 1) := dk_2 (dk_at dksX8_fault_1 6 rfl rfl)
theorem dX8_fault_29 : decode cX8_fault 29 = .ok (.ireturn, 1) := dk_172 (dk_at dksX8_fault_1 7 rfl rfl)
abbrev cX8_fen : ByteArray := prog_14_method_68_code
def yX8_fen : MethodName := ⟨RX8, "fen", "(I)I"⟩
def dkwX8_fen_3 : List UInt8 := [172, 42, 7, 3, 182, 1, 39, 42, 180, 0, 35, 6, 46, 172]
abbrev dktX8_fen_3 : List UInt8 := dkwX8_fen_3 ++ []
def dkwX8_fen_2 : List UInt8 := [182, 1, 30, 42, 42, 16, 59, 182, 1, 33, 182, 0, 239, 167, 255, 228, 42, 182, 1, 36, 154, 0, 5, 2]
abbrev dktX8_fen_2 : List UInt8 := dkwX8_fen_2 ++ dktX8_fen_3
def dkwX8_fen_1 : List UInt8 := [7, 182, 0, 66, 42, 3, 181, 0, 243, 42, 180, 0, 202, 154, 0, 27, 42, 180, 0, 125, 153, 0, 20, 42]
abbrev dktX8_fen_1 : List UInt8 := dkwX8_fen_1 ++ dktX8_fen_2
def dkwX8_fen_0 : List UInt8 := [42, 3, 181, 0, 70, 42, 3, 181, 0, 73, 42, 27, 17, 3, 132, 182, 1, 27, 154, 0, 5, 2, 172, 42]
abbrev dktX8_fen_0 : List UInt8 := dkwX8_fen_0 ++ dktX8_fen_1
theorem dksX8_fen_0 : cX8_fen.data.toList.drop 0 = dktX8_fen_0 := by decide +kernel
theorem dksX8_fen_1 : cX8_fen.data.toList.drop 24 = dktX8_fen_1 := dk_seg dksX8_fen_0 24 rfl rfl
theorem dksX8_fen_2 : cX8_fen.data.toList.drop 48 = dktX8_fen_2 := dk_seg dksX8_fen_1 24 rfl rfl
theorem dksX8_fen_3 : cX8_fen.data.toList.drop 72 = dktX8_fen_3 := dk_seg dksX8_fen_2 24 rfl rfl
theorem dX8_fen_0 : decode cX8_fen 0 = .ok (.aload_n 0, 1) := dk_42 (dk_at dksX8_fen_0 0 rfl rfl)
theorem dX8_fen_1 : decode cX8_fen 1 = .ok (.iconst 0, 1) := dk_3 (dk_at dksX8_fen_0 1 rfl rfl)
theorem dX8_fen_2 : decode cX8_fen 2 = .ok (.putfield 70, 3) := dk_181 0 70 (dk_at dksX8_fen_0 2 rfl rfl)
theorem dX8_fen_5 : decode cX8_fen 5 = .ok (.aload_n 0, 1) := dk_42 (dk_at dksX8_fen_0 5 rfl rfl)
theorem dX8_fen_6 : decode cX8_fen 6 = .ok (.iconst 0, 1) := dk_3 (dk_at dksX8_fen_0 6 rfl rfl)
theorem dX8_fen_7 : decode cX8_fen 7 = .ok (.putfield 73, 3) := dk_181 0 73 (dk_at dksX8_fen_0 7 rfl rfl)
theorem dX8_fen_10 : decode cX8_fen 10 = .ok (.aload_n 0, 1) := dk_42 (dk_at dksX8_fen_0 10 rfl rfl)
theorem dX8_fen_11 : decode cX8_fen 11 = .ok (.iload_n 1, 1) := dk_27 (dk_at dksX8_fen_0 11 rfl rfl)
theorem dX8_fen_12 : decode cX8_fen 12 = .ok (.sipush 900, 3) := dk_17 3 132 (dk_at dksX8_fen_0 12 rfl rfl)
theorem dX8_fen_15 : decode cX8_fen 15 = .ok (.invokevirtual 283, 3) := dk_182 1 27 (dk_at dksX8_fen_0 15 rfl rfl)
theorem dX8_fen_18 : decode cX8_fen 18 = .ok (.ifCond .ne 5, 3) := dk_154 0 5 (dk_at dksX8_fen_0 18 rfl rfl)
theorem dX8_fen_21 : decode cX8_fen 21 = .ok (.iconst (-1), 1) := dk_2 (dk_at dksX8_fen_0 21 rfl rfl)
theorem dX8_fen_22 : decode cX8_fen 22 = .ok (.ireturn, 1) := dk_172 (dk_at dksX8_fen_0 22 rfl rfl)
theorem dX8_fen_23 : decode cX8_fen 23 = .ok (.aload_n 0, 1) := dk_42 (dk_at dksX8_fen_0 23 rfl rfl)
theorem dX8_fen_24 : decode cX8_fen 24 = .ok (.iconst 4, 1) := dk_7 (dk_at dksX8_fen_1 0 rfl rfl)
theorem dX8_fen_25 : decode cX8_fen 25 = .ok (.invokevirtual 66, 3) := dk_182 0 66 (dk_at dksX8_fen_1 1 rfl rfl)
theorem dX8_fen_28 : decode cX8_fen 28 = .ok (.aload_n 0, 1) := dk_42 (dk_at dksX8_fen_1 4 rfl rfl)
theorem dX8_fen_29 : decode cX8_fen 29 = .ok (.iconst 0, 1) := dk_3 (dk_at dksX8_fen_1 5 rfl rfl)
theorem dX8_fen_30 : decode cX8_fen 30 = .ok (.putfield 243, 3) := dk_181 0 243 (dk_at dksX8_fen_1 6 rfl rfl)
theorem dX8_fen_33 : decode cX8_fen 33 = .ok (.aload_n 0, 1) := dk_42 (dk_at dksX8_fen_1 9 rfl rfl)
theorem dX8_fen_34 : decode cX8_fen 34 = .ok (.getfield 202, 3) := dk_180 0 202 (dk_at dksX8_fen_1 10 rfl rfl)
theorem dX8_fen_37 : decode cX8_fen 37 = .ok (.ifCond .ne 27, 3) := dk_154 0 27 (dk_at dksX8_fen_1 13 rfl rfl)
theorem dX8_fen_40 : decode cX8_fen 40 = .ok (.aload_n 0, 1) := dk_42 (dk_at dksX8_fen_1 16 rfl rfl)
theorem dX8_fen_41 : decode cX8_fen 41 = .ok (.getfield 125, 3) := dk_180 0 125 (dk_at dksX8_fen_1 17 rfl rfl)
theorem dX8_fen_44 : decode cX8_fen 44 = .ok (.ifCond .eq 20, 3) := dk_153 0 20 (dk_at dksX8_fen_1 20 rfl rfl)
theorem dX8_fen_47 : decode cX8_fen 47 = .ok (.aload_n 0, 1) := dk_42 (dk_at dksX8_fen_1 23 rfl rfl)
theorem dX8_fen_48 : decode cX8_fen 48 = .ok (.invokevirtual 286, 3) := dk_182 1 30 (dk_at dksX8_fen_2 0 rfl rfl)
theorem dX8_fen_51 : decode cX8_fen 51 = .ok (.aload_n 0, 1) := dk_42 (dk_at dksX8_fen_2 3 rfl rfl)
theorem dX8_fen_52 : decode cX8_fen 52 = .ok (.aload_n 0, 1) := dk_42 (dk_at dksX8_fen_2 4 rfl rfl)
theorem dX8_fen_53 : decode cX8_fen 53 = .ok (.bipush 59, 2) := dk_16 59 (dk_at dksX8_fen_2 5 rfl rfl)
theorem dX8_fen_55 : decode cX8_fen 55 = .ok (.invokevirtual 289, 3) := dk_182 1 33 (dk_at dksX8_fen_2 7 rfl rfl)
theorem dX8_fen_58 : decode cX8_fen 58 = .ok (.invokevirtual 239, 3) := dk_182 0 239 (dk_at dksX8_fen_2 10 rfl rfl)
theorem dX8_fen_61 : decode cX8_fen 61 = .ok (.goto (-28), 3) := dk_167 255 228 (dk_at dksX8_fen_2 13 rfl rfl)
theorem dX8_fen_64 : decode cX8_fen 64 = .ok (.aload_n 0, 1) := dk_42 (dk_at dksX8_fen_2 16 rfl rfl)
theorem dX8_fen_65 : decode cX8_fen 65 = .ok (.invokevirtual 292, 3) := dk_182 1 36 (dk_at dksX8_fen_2 17 rfl rfl)
theorem dX8_fen_68 : decode cX8_fen 68 = .ok (.ifCond .ne 5, 3) := dk_154 0 5 (dk_at dksX8_fen_2 20 rfl rfl)
theorem dX8_fen_71 : decode cX8_fen 71 = .ok (.iconst (-1), 1) := dk_2 (dk_at dksX8_fen_2 23 rfl rfl)
theorem dX8_fen_72 : decode cX8_fen 72 = .ok (.ireturn, 1) := dk_172 (dk_at dksX8_fen_3 0 rfl rfl)
theorem dX8_fen_73 : decode cX8_fen 73 = .ok (.aload_n 0, 1) := dk_42 (dk_at dksX8_fen_3 1 rfl rfl)
theorem dX8_fen_74 : decode cX8_fen 74 = .ok (.iconst 4, 1) := dk_7 (dk_at dksX8_fen_3 2 rfl rfl)
theorem dX8_fen_75 : decode cX8_fen 75 = .ok (.iconst 0, 1) := dk_3 (dk_at dksX8_fen_3 3 rfl rfl)
theorem dX8_fen_76 : decode cX8_fen 76 = .ok (.invokevirtual 295, 3) := dk_182 1 39 (dk_at dksX8_fen_3 4 rfl rfl)
theorem dX8_fen_79 : decode cX8_fen 79 = .ok (.aload_n 0, 1) := dk_42 (dk_at dksX8_fen_3 7 rfl rfl)
theorem dX8_fen_80 : decode cX8_fen 80 = .ok (.getfield 35, 3) := dk_180 0 35 (dk_at dksX8_fen_3 8 rfl rfl)
theorem dX8_fen_83 : decode cX8_fen 83 = .ok (.iconst 3, 1) := dk_6 (dk_at dksX8_fen_3 11 rfl rfl)
theorem dX8_fen_84 : decode cX8_fen 84 = .ok (.iaload, 1) := dk_46 (dk_at dksX8_fen_3 12 rfl rfl)
theorem dX8_fen_85 : decode cX8_fen 85 = .ok (.ireturn, 1) := dk_172 (dk_at dksX8_fen_3 13 rfl rfl)
abbrev cX8_starts : ByteArray := prog_14_method_51_code
def yX8_starts : MethodName := ⟨RX8, "starts", "(II)Z"⟩
def dkwX8_starts_2 : List UInt8 := [172]
abbrev dktX8_starts_2 : List UInt8 := dkwX8_starts_2 ++ []
def dkwX8_starts_1 : List UInt8 := [27, 181, 0, 113, 42, 3, 181, 0, 218, 42, 3, 181, 0, 116, 42, 3, 181, 0, 202, 42, 182, 0, 212, 4]
abbrev dktX8_starts_1 : List UInt8 := dkwX8_starts_1 ++ dktX8_starts_2
def dkwX8_starts_0 : List UInt8 := [27, 155, 0, 16, 27, 42, 180, 0, 218, 163, 0, 8, 27, 28, 164, 0, 9, 42, 8, 182, 0, 85, 172, 42]
abbrev dktX8_starts_0 : List UInt8 := dkwX8_starts_0 ++ dktX8_starts_1
theorem dksX8_starts_0 : cX8_starts.data.toList.drop 0 = dktX8_starts_0 := by decide +kernel
theorem dksX8_starts_1 : cX8_starts.data.toList.drop 24 = dktX8_starts_1 := dk_seg dksX8_starts_0 24 rfl rfl
theorem dksX8_starts_2 : cX8_starts.data.toList.drop 48 = dktX8_starts_2 := dk_seg dksX8_starts_1 24 rfl rfl
theorem dX8_starts_0 : decode cX8_starts 0 = .ok (.iload_n 1, 1) := dk_27 (dk_at dksX8_starts_0 0 rfl rfl)
theorem dX8_starts_1 : decode cX8_starts 1 = .ok (.ifCond .lt 16, 3) := dk_155 0 16 (dk_at dksX8_starts_0 1 rfl rfl)
theorem dX8_starts_4 : decode cX8_starts 4 = .ok (.iload_n 1, 1) := dk_27 (dk_at dksX8_starts_0 4 rfl rfl)
theorem dX8_starts_5 : decode cX8_starts 5 = .ok (.aload_n 0, 1) := dk_42 (dk_at dksX8_starts_0 5 rfl rfl)
theorem dX8_starts_6 : decode cX8_starts 6 = .ok (.getfield 218, 3) := dk_180 0 218 (dk_at dksX8_starts_0 6 rfl rfl)
theorem dX8_starts_9 : decode cX8_starts 9 = .ok (.if_icmp .gt 8, 3) := dk_163 0 8 (dk_at dksX8_starts_0 9 rfl rfl)
theorem dX8_starts_12 : decode cX8_starts 12 = .ok (.iload_n 1, 1) := dk_27 (dk_at dksX8_starts_0 12 rfl rfl)
theorem dX8_starts_13 : decode cX8_starts 13 = .ok (.iload_n 2, 1) := dk_28 (dk_at dksX8_starts_0 13 rfl rfl)
theorem dX8_starts_14 : decode cX8_starts 14 = .ok (.if_icmp .le 9, 3) := dk_164 0 9 (dk_at dksX8_starts_0 14 rfl rfl)
theorem dX8_starts_17 : decode cX8_starts 17 = .ok (.aload_n 0, 1) := dk_42 (dk_at dksX8_starts_0 17 rfl rfl)
theorem dX8_starts_18 : decode cX8_starts 18 = .ok (.iconst 5, 1) := dk_8 (dk_at dksX8_starts_0 18 rfl rfl)
theorem dX8_starts_19 : decode cX8_starts 19 = .ok (.invokevirtual 85, 3) := dk_182 0 85 (dk_at dksX8_starts_0 19 rfl rfl)
theorem dX8_starts_22 : decode cX8_starts 22 = .ok (.ireturn, 1) := dk_172 (dk_at dksX8_starts_0 22 rfl rfl)
theorem dX8_starts_23 : decode cX8_starts 23 = .ok (.aload_n 0, 1) := dk_42 (dk_at dksX8_starts_0 23 rfl rfl)
theorem dX8_starts_24 : decode cX8_starts 24 = .ok (.iload_n 1, 1) := dk_27 (dk_at dksX8_starts_1 0 rfl rfl)
theorem dX8_starts_25 : decode cX8_starts 25 = .ok (.putfield 113, 3) := dk_181 0 113 (dk_at dksX8_starts_1 1 rfl rfl)
theorem dX8_starts_28 : decode cX8_starts 28 = .ok (.aload_n 0, 1) := dk_42 (dk_at dksX8_starts_1 4 rfl rfl)
theorem dX8_starts_29 : decode cX8_starts 29 = .ok (.iconst 0, 1) := dk_3 (dk_at dksX8_starts_1 5 rfl rfl)
theorem dX8_starts_30 : decode cX8_starts 30 = .ok (.putfield 218, 3) := dk_181 0 218 (dk_at dksX8_starts_1 6 rfl rfl)
theorem dX8_starts_33 : decode cX8_starts 33 = .ok (.aload_n 0, 1) := dk_42 (dk_at dksX8_starts_1 9 rfl rfl)
theorem dX8_starts_34 : decode cX8_starts 34 = .ok (.iconst 0, 1) := dk_3 (dk_at dksX8_starts_1 10 rfl rfl)
theorem dX8_starts_35 : decode cX8_starts 35 = .ok (.putfield 116, 3) := dk_181 0 116 (dk_at dksX8_starts_1 11 rfl rfl)
theorem dX8_starts_38 : decode cX8_starts 38 = .ok (.aload_n 0, 1) := dk_42 (dk_at dksX8_starts_1 14 rfl rfl)
theorem dX8_starts_39 : decode cX8_starts 39 = .ok (.iconst 0, 1) := dk_3 (dk_at dksX8_starts_1 15 rfl rfl)
theorem dX8_starts_40 : decode cX8_starts 40 = .ok (.putfield 202, 3) := dk_181 0 202 (dk_at dksX8_starts_1 16 rfl rfl)
theorem dX8_starts_43 : decode cX8_starts 43 = .ok (.aload_n 0, 1) := dk_42 (dk_at dksX8_starts_1 19 rfl rfl)
theorem dX8_starts_44 : decode cX8_starts 44 = .ok (.invokevirtual 212, 3) := dk_182 0 212 (dk_at dksX8_starts_1 20 rfl rfl)
theorem dX8_starts_47 : decode cX8_starts 47 = .ok (.iconst 1, 1) := dk_4 (dk_at dksX8_starts_1 23 rfl rfl)
theorem dX8_starts_48 : decode cX8_starts 48 = .ok (.ireturn, 1) := dk_172 (dk_at dksX8_starts_2 0 rfl rfl)
abbrev cX8_advance : ByteArray := prog_14_method_25_code
def yX8_advance : MethodName := ⟨RX8, "advance", "()V"⟩
def dkwX8_advance_14 : List UInt8 := [181, 0, 125, 177]
abbrev dktX8_advance_14 : List UInt8 := dkwX8_advance_14 ++ []
def dkwX8_advance_13 : List UInt8 := [4, 96, 181, 0, 116, 42, 27, 181, 0, 144, 42, 42, 27, 182, 0, 147, 153, 0, 7, 6, 167, 0, 4, 7]
abbrev dktX8_advance_13 : List UInt8 := dkwX8_advance_13 ++ dktX8_advance_14
def dkwX8_advance_12 : List UInt8 := [180, 0, 119, 100, 7, 164, 0, 7, 7, 167, 0, 4, 5, 181, 0, 125, 167, 0, 35, 42, 42, 180, 0, 119]
abbrev dktX8_advance_12 : List UInt8 := dkwX8_advance_12 ++ dktX8_advance_13
def dkwX8_advance_11 : List UInt8 := [181, 0, 144, 42, 89, 180, 0, 116, 4, 96, 181, 0, 116, 167, 255, 196, 42, 42, 180, 0, 116, 42]
abbrev dktX8_advance_11 : List UInt8 := dkwX8_advance_11 ++ dktX8_advance_12
def dkwX8_advance_10 : List UInt8 := [162, 0, 26, 42, 16, 10, 42, 180, 0, 144, 104, 42, 42, 180, 0, 116, 182, 0, 122, 96, 16, 48, 100]
abbrev dktX8_advance_10 : List UInt8 := dkwX8_advance_10 ++ dktX8_advance_11
def dkwX8_advance_9 : List UInt8 := [42, 180, 0, 116, 182, 0, 122, 184, 0, 141, 153, 0, 52, 42, 180, 0, 116, 42, 180, 0, 119, 100, 7]
abbrev dktX8_advance_9 : List UInt8 := dkwX8_advance_9 ++ dktX8_advance_10
def dkwX8_advance_8 : List UInt8 := [42, 180, 0, 119, 100, 181, 0, 138, 167, 0, 135, 27, 184, 0, 141, 153, 0, 96, 42, 3, 181, 0, 144, 42]
abbrev dktX8_advance_8 : List UInt8 := dkwX8_advance_8 ++ dktX8_advance_9
def dkwX8_advance_7 : List UInt8 := [20, 0, 101, 181, 0, 131, 42, 89, 180, 0, 116, 4, 96, 181, 0, 116, 167, 255, 186, 42, 42, 180, 0, 116]
abbrev dktX8_advance_7 : List UInt8 := dkwX8_advance_7 ++ dktX8_advance_8
def dkwX8_advance_6 : List UInt8 := [180, 0, 131, 20, 0, 134, 105, 42, 42, 180, 0, 116, 182, 0, 122, 133, 97, 20, 0, 136, 101, 167, 0, 6]
abbrev dktX8_advance_6 : List UInt8 := dkwX8_advance_6 ++ dktX8_advance_7
def dkwX8_advance_5 : List UInt8 := [184, 0, 128, 153, 0, 62, 42, 42, 180, 0, 116, 42, 180, 0, 119, 100, 16, 8, 162, 0, 28, 42]
abbrev dktX8_advance_5 : List UInt8 := dkwX8_advance_5 ++ dktX8_advance_6
def dkwX8_advance_4 : List UInt8 := [184, 0, 128, 153, 0, 102, 42, 4, 181, 0, 125, 42, 9, 181, 0, 131, 42, 42, 180, 0, 116, 182, 0, 122]
abbrev dktX8_advance_4 : List UInt8 := dkwX8_advance_4 ++ dktX8_advance_5
def dkwX8_advance_3 : List UInt8 := [180, 0, 113, 161, 0, 9, 42, 3, 181, 0, 125, 177, 42, 42, 180, 0, 119, 182, 0, 122, 60, 27]
abbrev dktX8_advance_3 : List UInt8 := dkwX8_advance_3 ++ dktX8_advance_4
def dkwX8_advance_2 : List UInt8 := [180, 0, 119, 4, 96, 181, 0, 119, 167, 255, 209, 42, 42, 180, 0, 119, 181, 0, 116, 42, 180, 0, 119, 42]
abbrev dktX8_advance_2 : List UInt8 := dkwX8_advance_2 ++ dktX8_advance_3
def dkwX8_advance_1 : List UInt8 := [182, 0, 122, 16, 10, 159, 0, 16, 42, 42, 180, 0, 119, 182, 0, 122, 16, 32, 160, 0, 16, 42, 89]
abbrev dktX8_advance_1 : List UInt8 := dkwX8_advance_1 ++ dktX8_advance_2
def dkwX8_advance_0 : List UInt8 := [42, 42, 180, 0, 116, 181, 0, 119, 42, 180, 0, 119, 42, 180, 0, 113, 162, 0, 42, 42, 42, 180, 0, 119]
abbrev dktX8_advance_0 : List UInt8 := dkwX8_advance_0 ++ dktX8_advance_1
theorem dksX8_advance_0 : cX8_advance.data.toList.drop 0 = dktX8_advance_0 := by decide +kernel
theorem dksX8_advance_1 : cX8_advance.data.toList.drop 24 = dktX8_advance_1 := dk_seg dksX8_advance_0 24 rfl rfl
theorem dksX8_advance_2 : cX8_advance.data.toList.drop 47 = dktX8_advance_2 := dk_seg dksX8_advance_1 23 rfl rfl
theorem dksX8_advance_3 : cX8_advance.data.toList.drop 71 = dktX8_advance_3 := dk_seg dksX8_advance_2 24 rfl rfl
theorem dksX8_advance_4 : cX8_advance.data.toList.drop 93 = dktX8_advance_4 := dk_seg dksX8_advance_3 22 rfl rfl
theorem dksX8_advance_5 : cX8_advance.data.toList.drop 117 = dktX8_advance_5 := dk_seg dksX8_advance_4 24 rfl rfl
theorem dksX8_advance_6 : cX8_advance.data.toList.drop 139 = dktX8_advance_6 := dk_seg dksX8_advance_5 22 rfl rfl
theorem dksX8_advance_7 : cX8_advance.data.toList.drop 163 = dktX8_advance_7 := dk_seg dksX8_advance_6 24 rfl rfl
theorem dksX8_advance_8 : cX8_advance.data.toList.drop 187 = dktX8_advance_8 := dk_seg dksX8_advance_7 24 rfl rfl
theorem dksX8_advance_9 : cX8_advance.data.toList.drop 211 = dktX8_advance_9 := dk_seg dksX8_advance_8 24 rfl rfl
theorem dksX8_advance_10 : cX8_advance.data.toList.drop 234 = dktX8_advance_10 := dk_seg dksX8_advance_9 23 rfl rfl
theorem dksX8_advance_11 : cX8_advance.data.toList.drop 257 = dktX8_advance_11 := dk_seg dksX8_advance_10 23 rfl rfl
theorem dksX8_advance_12 : cX8_advance.data.toList.drop 279 = dktX8_advance_12 := dk_seg dksX8_advance_11 22 rfl rfl
theorem dksX8_advance_13 : cX8_advance.data.toList.drop 303 = dktX8_advance_13 := dk_seg dksX8_advance_12 24 rfl rfl
theorem dksX8_advance_14 : cX8_advance.data.toList.drop 327 = dktX8_advance_14 := dk_seg dksX8_advance_13 24 rfl rfl
theorem dX8_advance_0 : decode cX8_advance 0 = .ok (.aload_n 0, 1) := dk_42 (dk_at dksX8_advance_0 0 rfl rfl)
theorem dX8_advance_1 : decode cX8_advance 1 = .ok (.aload_n 0, 1) := dk_42 (dk_at dksX8_advance_0 1 rfl rfl)
theorem dX8_advance_2 : decode cX8_advance 2 = .ok (.getfield 116, 3) := dk_180 0 116 (dk_at dksX8_advance_0 2 rfl rfl)
theorem dX8_advance_5 : decode cX8_advance 5 = .ok (.putfield 119, 3) := dk_181 0 119 (dk_at dksX8_advance_0 5 rfl rfl)
theorem dX8_advance_8 : decode cX8_advance 8 = .ok (.aload_n 0, 1) := dk_42 (dk_at dksX8_advance_0 8 rfl rfl)
theorem dX8_advance_9 : decode cX8_advance 9 = .ok (.getfield 119, 3) := dk_180 0 119 (dk_at dksX8_advance_0 9 rfl rfl)
theorem dX8_advance_12 : decode cX8_advance 12 = .ok (.aload_n 0, 1) := dk_42 (dk_at dksX8_advance_0 12 rfl rfl)
theorem dX8_advance_13 : decode cX8_advance 13 = .ok (.getfield 113, 3) := dk_180 0 113 (dk_at dksX8_advance_0 13 rfl rfl)
theorem dX8_advance_16 : decode cX8_advance 16 = .ok (.if_icmp .ge 42, 3) := dk_162 0 42 (dk_at dksX8_advance_0 16 rfl rfl)
theorem dX8_advance_19 : decode cX8_advance 19 = .ok (.aload_n 0, 1) := dk_42 (dk_at dksX8_advance_0 19 rfl rfl)
theorem dX8_advance_20 : decode cX8_advance 20 = .ok (.aload_n 0, 1) := dk_42 (dk_at dksX8_advance_0 20 rfl rfl)
theorem dX8_advance_21 : decode cX8_advance 21 = .ok (.getfield 119, 3) := dk_180 0 119 (dk_at dksX8_advance_0 21 rfl rfl)
theorem dX8_advance_24 : decode cX8_advance 24 = .ok (.invokevirtual 122, 3) := dk_182 0 122 (dk_at dksX8_advance_1 0 rfl rfl)
theorem dX8_advance_27 : decode cX8_advance 27 = .ok (.bipush 10, 2) := dk_16 10 (dk_at dksX8_advance_1 3 rfl rfl)
theorem dX8_advance_29 : decode cX8_advance 29 = .ok (.if_icmp .eq 16, 3) := dk_159 0 16 (dk_at dksX8_advance_1 5 rfl rfl)
theorem dX8_advance_32 : decode cX8_advance 32 = .ok (.aload_n 0, 1) := dk_42 (dk_at dksX8_advance_1 8 rfl rfl)
theorem dX8_advance_33 : decode cX8_advance 33 = .ok (.aload_n 0, 1) := dk_42 (dk_at dksX8_advance_1 9 rfl rfl)
theorem dX8_advance_34 : decode cX8_advance 34 = .ok (.getfield 119, 3) := dk_180 0 119 (dk_at dksX8_advance_1 10 rfl rfl)
theorem dX8_advance_37 : decode cX8_advance 37 = .ok (.invokevirtual 122, 3) := dk_182 0 122 (dk_at dksX8_advance_1 13 rfl rfl)
theorem dX8_advance_40 : decode cX8_advance 40 = .ok (.bipush 32, 2) := dk_16 32 (dk_at dksX8_advance_1 16 rfl rfl)
theorem dX8_advance_42 : decode cX8_advance 42 = .ok (.if_icmp .ne 16, 3) := dk_160 0 16 (dk_at dksX8_advance_1 18 rfl rfl)
theorem dX8_advance_45 : decode cX8_advance 45 = .ok (.aload_n 0, 1) := dk_42 (dk_at dksX8_advance_1 21 rfl rfl)
theorem dX8_advance_46 : decode cX8_advance 46 = .ok (.dup, 1) := dk_89 (dk_at dksX8_advance_1 22 rfl rfl)
theorem dX8_advance_47 : decode cX8_advance 47 = .ok (.getfield 119, 3) := dk_180 0 119 (dk_at dksX8_advance_2 0 rfl rfl)
theorem dX8_advance_50 : decode cX8_advance 50 = .ok (.iconst 1, 1) := dk_4 (dk_at dksX8_advance_2 3 rfl rfl)
theorem dX8_advance_51 : decode cX8_advance 51 = .ok (.iadd, 1) := dk_96 (dk_at dksX8_advance_2 4 rfl rfl)
theorem dX8_advance_52 : decode cX8_advance 52 = .ok (.putfield 119, 3) := dk_181 0 119 (dk_at dksX8_advance_2 5 rfl rfl)
theorem dX8_advance_55 : decode cX8_advance 55 = .ok (.goto (-47), 3) := dk_167 255 209 (dk_at dksX8_advance_2 8 rfl rfl)
theorem dX8_advance_58 : decode cX8_advance 58 = .ok (.aload_n 0, 1) := dk_42 (dk_at dksX8_advance_2 11 rfl rfl)
theorem dX8_advance_59 : decode cX8_advance 59 = .ok (.aload_n 0, 1) := dk_42 (dk_at dksX8_advance_2 12 rfl rfl)
theorem dX8_advance_60 : decode cX8_advance 60 = .ok (.getfield 119, 3) := dk_180 0 119 (dk_at dksX8_advance_2 13 rfl rfl)
theorem dX8_advance_63 : decode cX8_advance 63 = .ok (.putfield 116, 3) := dk_181 0 116 (dk_at dksX8_advance_2 16 rfl rfl)
theorem dX8_advance_66 : decode cX8_advance 66 = .ok (.aload_n 0, 1) := dk_42 (dk_at dksX8_advance_2 19 rfl rfl)
theorem dX8_advance_67 : decode cX8_advance 67 = .ok (.getfield 119, 3) := dk_180 0 119 (dk_at dksX8_advance_2 20 rfl rfl)
theorem dX8_advance_70 : decode cX8_advance 70 = .ok (.aload_n 0, 1) := dk_42 (dk_at dksX8_advance_2 23 rfl rfl)
theorem dX8_advance_71 : decode cX8_advance 71 = .ok (.getfield 113, 3) := dk_180 0 113 (dk_at dksX8_advance_3 0 rfl rfl)
theorem dX8_advance_74 : decode cX8_advance 74 = .ok (.if_icmp .lt 9, 3) := dk_161 0 9 (dk_at dksX8_advance_3 3 rfl rfl)
theorem dX8_advance_77 : decode cX8_advance 77 = .ok (.aload_n 0, 1) := dk_42 (dk_at dksX8_advance_3 6 rfl rfl)
theorem dX8_advance_78 : decode cX8_advance 78 = .ok (.iconst 0, 1) := dk_3 (dk_at dksX8_advance_3 7 rfl rfl)
theorem dX8_advance_79 : decode cX8_advance 79 = .ok (.putfield 125, 3) := dk_181 0 125 (dk_at dksX8_advance_3 8 rfl rfl)
theorem dX8_advance_82 : decode cX8_advance 82 = .ok (.return_, 1) := dk_177 (dk_at dksX8_advance_3 11 rfl rfl)
theorem dX8_advance_83 : decode cX8_advance 83 = .ok (.aload_n 0, 1) := dk_42 (dk_at dksX8_advance_3 12 rfl rfl)
theorem dX8_advance_84 : decode cX8_advance 84 = .ok (.aload_n 0, 1) := dk_42 (dk_at dksX8_advance_3 13 rfl rfl)
theorem dX8_advance_85 : decode cX8_advance 85 = .ok (.getfield 119, 3) := dk_180 0 119 (dk_at dksX8_advance_3 14 rfl rfl)
theorem dX8_advance_88 : decode cX8_advance 88 = .ok (.invokevirtual 122, 3) := dk_182 0 122 (dk_at dksX8_advance_3 17 rfl rfl)
theorem dX8_advance_91 : decode cX8_advance 91 = .ok (.istore_n 1, 1) := dk_60 (dk_at dksX8_advance_3 20 rfl rfl)
theorem dX8_advance_92 : decode cX8_advance 92 = .ok (.iload_n 1, 1) := dk_27 (dk_at dksX8_advance_3 21 rfl rfl)
theorem dX8_advance_93 : decode cX8_advance 93 = .ok (.invokestatic 128, 3) := dk_184 0 128 (dk_at dksX8_advance_4 0 rfl rfl)
theorem dX8_advance_96 : decode cX8_advance 96 = .ok (.ifCond .eq 102, 3) := dk_153 0 102 (dk_at dksX8_advance_4 3 rfl rfl)
theorem dX8_advance_99 : decode cX8_advance 99 = .ok (.aload_n 0, 1) := dk_42 (dk_at dksX8_advance_4 6 rfl rfl)
theorem dX8_advance_100 : decode cX8_advance 100 = .ok (.iconst 1, 1) := dk_4 (dk_at dksX8_advance_4 7 rfl rfl)
theorem dX8_advance_101 : decode cX8_advance 101 = .ok (.putfield 125, 3) := dk_181 0 125 (dk_at dksX8_advance_4 8 rfl rfl)
theorem dX8_advance_104 : decode cX8_advance 104 = .ok (.aload_n 0, 1) := dk_42 (dk_at dksX8_advance_4 11 rfl rfl)
theorem dX8_advance_105 : decode cX8_advance 105 = .ok (.lconst 0, 1) := dk_9 (dk_at dksX8_advance_4 12 rfl rfl)
theorem dX8_advance_106 : decode cX8_advance 106 = .ok (.putfield 131, 3) := dk_181 0 131 (dk_at dksX8_advance_4 13 rfl rfl)
theorem dX8_advance_109 : decode cX8_advance 109 = .ok (.aload_n 0, 1) := dk_42 (dk_at dksX8_advance_4 16 rfl rfl)
theorem dX8_advance_110 : decode cX8_advance 110 = .ok (.aload_n 0, 1) := dk_42 (dk_at dksX8_advance_4 17 rfl rfl)
theorem dX8_advance_111 : decode cX8_advance 111 = .ok (.getfield 116, 3) := dk_180 0 116 (dk_at dksX8_advance_4 18 rfl rfl)
theorem dX8_advance_114 : decode cX8_advance 114 = .ok (.invokevirtual 122, 3) := dk_182 0 122 (dk_at dksX8_advance_4 21 rfl rfl)
theorem dX8_advance_117 : decode cX8_advance 117 = .ok (.invokestatic 128, 3) := dk_184 0 128 (dk_at dksX8_advance_5 0 rfl rfl)
theorem dX8_advance_120 : decode cX8_advance 120 = .ok (.ifCond .eq 62, 3) := dk_153 0 62 (dk_at dksX8_advance_5 3 rfl rfl)
theorem dX8_advance_123 : decode cX8_advance 123 = .ok (.aload_n 0, 1) := dk_42 (dk_at dksX8_advance_5 6 rfl rfl)
theorem dX8_advance_124 : decode cX8_advance 124 = .ok (.aload_n 0, 1) := dk_42 (dk_at dksX8_advance_5 7 rfl rfl)
theorem dX8_advance_125 : decode cX8_advance 125 = .ok (.getfield 116, 3) := dk_180 0 116 (dk_at dksX8_advance_5 8 rfl rfl)
theorem dX8_advance_128 : decode cX8_advance 128 = .ok (.aload_n 0, 1) := dk_42 (dk_at dksX8_advance_5 11 rfl rfl)
theorem dX8_advance_129 : decode cX8_advance 129 = .ok (.getfield 119, 3) := dk_180 0 119 (dk_at dksX8_advance_5 12 rfl rfl)
theorem dX8_advance_132 : decode cX8_advance 132 = .ok (.isub, 1) := dk_100 (dk_at dksX8_advance_5 15 rfl rfl)
theorem dX8_advance_133 : decode cX8_advance 133 = .ok (.bipush 8, 2) := dk_16 8 (dk_at dksX8_advance_5 16 rfl rfl)
theorem dX8_advance_135 : decode cX8_advance 135 = .ok (.if_icmp .ge 28, 3) := dk_162 0 28 (dk_at dksX8_advance_5 18 rfl rfl)
theorem dX8_advance_138 : decode cX8_advance 138 = .ok (.aload_n 0, 1) := dk_42 (dk_at dksX8_advance_5 21 rfl rfl)
theorem dX8_advance_139 : decode cX8_advance 139 = .ok (.getfield 131, 3) := dk_180 0 131 (dk_at dksX8_advance_6 0 rfl rfl)
theorem dX8_advance_142 : decode cX8_advance 142 = .ok (.ldc2_w 134, 3) := dk_20 0 134 (dk_at dksX8_advance_6 3 rfl rfl)
theorem dX8_advance_145 : decode cX8_advance 145 = .ok (.lmul, 1) := dk_105 (dk_at dksX8_advance_6 6 rfl rfl)
theorem dX8_advance_146 : decode cX8_advance 146 = .ok (.aload_n 0, 1) := dk_42 (dk_at dksX8_advance_6 7 rfl rfl)
theorem dX8_advance_147 : decode cX8_advance 147 = .ok (.aload_n 0, 1) := dk_42 (dk_at dksX8_advance_6 8 rfl rfl)
theorem dX8_advance_148 : decode cX8_advance 148 = .ok (.getfield 116, 3) := dk_180 0 116 (dk_at dksX8_advance_6 9 rfl rfl)
theorem dX8_advance_151 : decode cX8_advance 151 = .ok (.invokevirtual 122, 3) := dk_182 0 122 (dk_at dksX8_advance_6 12 rfl rfl)
theorem dX8_advance_154 : decode cX8_advance 154 = .ok (.i2l, 1) := dk_133 (dk_at dksX8_advance_6 15 rfl rfl)
theorem dX8_advance_155 : decode cX8_advance 155 = .ok (.ladd, 1) := dk_97 (dk_at dksX8_advance_6 16 rfl rfl)
theorem dX8_advance_156 : decode cX8_advance 156 = .ok (.ldc2_w 136, 3) := dk_20 0 136 (dk_at dksX8_advance_6 17 rfl rfl)
theorem dX8_advance_159 : decode cX8_advance 159 = .ok (.lsub, 1) := dk_101 (dk_at dksX8_advance_6 20 rfl rfl)
theorem dX8_advance_160 : decode cX8_advance 160 = .ok (.goto 6, 3) := dk_167 0 6 (dk_at dksX8_advance_6 21 rfl rfl)
theorem dX8_advance_163 : decode cX8_advance 163 = .ok (.ldc2_w 101, 3) := dk_20 0 101 (dk_at dksX8_advance_7 0 rfl rfl)
theorem dX8_advance_166 : decode cX8_advance 166 = .ok (.putfield 131, 3) := dk_181 0 131 (dk_at dksX8_advance_7 3 rfl rfl)
theorem dX8_advance_169 : decode cX8_advance 169 = .ok (.aload_n 0, 1) := dk_42 (dk_at dksX8_advance_7 6 rfl rfl)
theorem dX8_advance_170 : decode cX8_advance 170 = .ok (.dup, 1) := dk_89 (dk_at dksX8_advance_7 7 rfl rfl)
theorem dX8_advance_171 : decode cX8_advance 171 = .ok (.getfield 116, 3) := dk_180 0 116 (dk_at dksX8_advance_7 8 rfl rfl)
theorem dX8_advance_174 : decode cX8_advance 174 = .ok (.iconst 1, 1) := dk_4 (dk_at dksX8_advance_7 11 rfl rfl)
theorem dX8_advance_175 : decode cX8_advance 175 = .ok (.iadd, 1) := dk_96 (dk_at dksX8_advance_7 12 rfl rfl)
theorem dX8_advance_176 : decode cX8_advance 176 = .ok (.putfield 116, 3) := dk_181 0 116 (dk_at dksX8_advance_7 13 rfl rfl)
theorem dX8_advance_179 : decode cX8_advance 179 = .ok (.goto (-70), 3) := dk_167 255 186 (dk_at dksX8_advance_7 16 rfl rfl)
theorem dX8_advance_182 : decode cX8_advance 182 = .ok (.aload_n 0, 1) := dk_42 (dk_at dksX8_advance_7 19 rfl rfl)
theorem dX8_advance_183 : decode cX8_advance 183 = .ok (.aload_n 0, 1) := dk_42 (dk_at dksX8_advance_7 20 rfl rfl)
theorem dX8_advance_184 : decode cX8_advance 184 = .ok (.getfield 116, 3) := dk_180 0 116 (dk_at dksX8_advance_7 21 rfl rfl)
theorem dX8_advance_187 : decode cX8_advance 187 = .ok (.aload_n 0, 1) := dk_42 (dk_at dksX8_advance_8 0 rfl rfl)
theorem dX8_advance_188 : decode cX8_advance 188 = .ok (.getfield 119, 3) := dk_180 0 119 (dk_at dksX8_advance_8 1 rfl rfl)
theorem dX8_advance_191 : decode cX8_advance 191 = .ok (.isub, 1) := dk_100 (dk_at dksX8_advance_8 4 rfl rfl)
theorem dX8_advance_192 : decode cX8_advance 192 = .ok (.putfield 138, 3) := dk_181 0 138 (dk_at dksX8_advance_8 5 rfl rfl)
theorem dX8_advance_195 : decode cX8_advance 195 = .ok (.goto 135, 3) := dk_167 0 135 (dk_at dksX8_advance_8 8 rfl rfl)
theorem dX8_advance_198 : decode cX8_advance 198 = .ok (.iload_n 1, 1) := dk_27 (dk_at dksX8_advance_8 11 rfl rfl)
theorem dX8_advance_199 : decode cX8_advance 199 = .ok (.invokestatic 141, 3) := dk_184 0 141 (dk_at dksX8_advance_8 12 rfl rfl)
theorem dX8_advance_202 : decode cX8_advance 202 = .ok (.ifCond .eq 96, 3) := dk_153 0 96 (dk_at dksX8_advance_8 15 rfl rfl)
theorem dX8_advance_205 : decode cX8_advance 205 = .ok (.aload_n 0, 1) := dk_42 (dk_at dksX8_advance_8 18 rfl rfl)
theorem dX8_advance_206 : decode cX8_advance 206 = .ok (.iconst 0, 1) := dk_3 (dk_at dksX8_advance_8 19 rfl rfl)
theorem dX8_advance_207 : decode cX8_advance 207 = .ok (.putfield 144, 3) := dk_181 0 144 (dk_at dksX8_advance_8 20 rfl rfl)
theorem dX8_advance_210 : decode cX8_advance 210 = .ok (.aload_n 0, 1) := dk_42 (dk_at dksX8_advance_8 23 rfl rfl)
theorem dX8_advance_211 : decode cX8_advance 211 = .ok (.aload_n 0, 1) := dk_42 (dk_at dksX8_advance_9 0 rfl rfl)
theorem dX8_advance_212 : decode cX8_advance 212 = .ok (.getfield 116, 3) := dk_180 0 116 (dk_at dksX8_advance_9 1 rfl rfl)
theorem dX8_advance_215 : decode cX8_advance 215 = .ok (.invokevirtual 122, 3) := dk_182 0 122 (dk_at dksX8_advance_9 4 rfl rfl)
theorem dX8_advance_218 : decode cX8_advance 218 = .ok (.invokestatic 141, 3) := dk_184 0 141 (dk_at dksX8_advance_9 7 rfl rfl)
theorem dX8_advance_221 : decode cX8_advance 221 = .ok (.ifCond .eq 52, 3) := dk_153 0 52 (dk_at dksX8_advance_9 10 rfl rfl)
theorem dX8_advance_224 : decode cX8_advance 224 = .ok (.aload_n 0, 1) := dk_42 (dk_at dksX8_advance_9 13 rfl rfl)
theorem dX8_advance_225 : decode cX8_advance 225 = .ok (.getfield 116, 3) := dk_180 0 116 (dk_at dksX8_advance_9 14 rfl rfl)
theorem dX8_advance_228 : decode cX8_advance 228 = .ok (.aload_n 0, 1) := dk_42 (dk_at dksX8_advance_9 17 rfl rfl)
theorem dX8_advance_229 : decode cX8_advance 229 = .ok (.getfield 119, 3) := dk_180 0 119 (dk_at dksX8_advance_9 18 rfl rfl)
theorem dX8_advance_232 : decode cX8_advance 232 = .ok (.isub, 1) := dk_100 (dk_at dksX8_advance_9 21 rfl rfl)
theorem dX8_advance_233 : decode cX8_advance 233 = .ok (.iconst 4, 1) := dk_7 (dk_at dksX8_advance_9 22 rfl rfl)
theorem dX8_advance_234 : decode cX8_advance 234 = .ok (.if_icmp .ge 26, 3) := dk_162 0 26 (dk_at dksX8_advance_10 0 rfl rfl)
theorem dX8_advance_237 : decode cX8_advance 237 = .ok (.aload_n 0, 1) := dk_42 (dk_at dksX8_advance_10 3 rfl rfl)
theorem dX8_advance_238 : decode cX8_advance 238 = .ok (.bipush 10, 2) := dk_16 10 (dk_at dksX8_advance_10 4 rfl rfl)
theorem dX8_advance_240 : decode cX8_advance 240 = .ok (.aload_n 0, 1) := dk_42 (dk_at dksX8_advance_10 6 rfl rfl)
theorem dX8_advance_241 : decode cX8_advance 241 = .ok (.getfield 144, 3) := dk_180 0 144 (dk_at dksX8_advance_10 7 rfl rfl)
theorem dX8_advance_244 : decode cX8_advance 244 = .ok (.imul, 1) := dk_104 (dk_at dksX8_advance_10 10 rfl rfl)
theorem dX8_advance_245 : decode cX8_advance 245 = .ok (.aload_n 0, 1) := dk_42 (dk_at dksX8_advance_10 11 rfl rfl)
theorem dX8_advance_246 : decode cX8_advance 246 = .ok (.aload_n 0, 1) := dk_42 (dk_at dksX8_advance_10 12 rfl rfl)
theorem dX8_advance_247 : decode cX8_advance 247 = .ok (.getfield 116, 3) := dk_180 0 116 (dk_at dksX8_advance_10 13 rfl rfl)
theorem dX8_advance_250 : decode cX8_advance 250 = .ok (.invokevirtual 122, 3) := dk_182 0 122 (dk_at dksX8_advance_10 16 rfl rfl)
theorem dX8_advance_253 : decode cX8_advance 253 = .ok (.iadd, 1) := dk_96 (dk_at dksX8_advance_10 19 rfl rfl)
theorem dX8_advance_254 : decode cX8_advance 254 = .ok (.bipush 48, 2) := dk_16 48 (dk_at dksX8_advance_10 20 rfl rfl)
theorem dX8_advance_256 : decode cX8_advance 256 = .ok (.isub, 1) := dk_100 (dk_at dksX8_advance_10 22 rfl rfl)
theorem dX8_advance_257 : decode cX8_advance 257 = .ok (.putfield 144, 3) := dk_181 0 144 (dk_at dksX8_advance_11 0 rfl rfl)
theorem dX8_advance_260 : decode cX8_advance 260 = .ok (.aload_n 0, 1) := dk_42 (dk_at dksX8_advance_11 3 rfl rfl)
theorem dX8_advance_261 : decode cX8_advance 261 = .ok (.dup, 1) := dk_89 (dk_at dksX8_advance_11 4 rfl rfl)
theorem dX8_advance_262 : decode cX8_advance 262 = .ok (.getfield 116, 3) := dk_180 0 116 (dk_at dksX8_advance_11 5 rfl rfl)
theorem dX8_advance_265 : decode cX8_advance 265 = .ok (.iconst 1, 1) := dk_4 (dk_at dksX8_advance_11 8 rfl rfl)
theorem dX8_advance_266 : decode cX8_advance 266 = .ok (.iadd, 1) := dk_96 (dk_at dksX8_advance_11 9 rfl rfl)
theorem dX8_advance_267 : decode cX8_advance 267 = .ok (.putfield 116, 3) := dk_181 0 116 (dk_at dksX8_advance_11 10 rfl rfl)
theorem dX8_advance_270 : decode cX8_advance 270 = .ok (.goto (-60), 3) := dk_167 255 196 (dk_at dksX8_advance_11 13 rfl rfl)
theorem dX8_advance_273 : decode cX8_advance 273 = .ok (.aload_n 0, 1) := dk_42 (dk_at dksX8_advance_11 16 rfl rfl)
theorem dX8_advance_274 : decode cX8_advance 274 = .ok (.aload_n 0, 1) := dk_42 (dk_at dksX8_advance_11 17 rfl rfl)
theorem dX8_advance_275 : decode cX8_advance 275 = .ok (.getfield 116, 3) := dk_180 0 116 (dk_at dksX8_advance_11 18 rfl rfl)
theorem dX8_advance_278 : decode cX8_advance 278 = .ok (.aload_n 0, 1) := dk_42 (dk_at dksX8_advance_11 21 rfl rfl)
theorem dX8_advance_279 : decode cX8_advance 279 = .ok (.getfield 119, 3) := dk_180 0 119 (dk_at dksX8_advance_12 0 rfl rfl)
theorem dX8_advance_282 : decode cX8_advance 282 = .ok (.isub, 1) := dk_100 (dk_at dksX8_advance_12 3 rfl rfl)
theorem dX8_advance_283 : decode cX8_advance 283 = .ok (.iconst 4, 1) := dk_7 (dk_at dksX8_advance_12 4 rfl rfl)
theorem dX8_advance_284 : decode cX8_advance 284 = .ok (.if_icmp .le 7, 3) := dk_164 0 7 (dk_at dksX8_advance_12 5 rfl rfl)
theorem dX8_advance_287 : decode cX8_advance 287 = .ok (.iconst 4, 1) := dk_7 (dk_at dksX8_advance_12 8 rfl rfl)
theorem dX8_advance_288 : decode cX8_advance 288 = .ok (.goto 4, 3) := dk_167 0 4 (dk_at dksX8_advance_12 9 rfl rfl)
theorem dX8_advance_291 : decode cX8_advance 291 = .ok (.iconst 2, 1) := dk_5 (dk_at dksX8_advance_12 12 rfl rfl)
theorem dX8_advance_292 : decode cX8_advance 292 = .ok (.putfield 125, 3) := dk_181 0 125 (dk_at dksX8_advance_12 13 rfl rfl)
theorem dX8_advance_295 : decode cX8_advance 295 = .ok (.goto 35, 3) := dk_167 0 35 (dk_at dksX8_advance_12 16 rfl rfl)
theorem dX8_advance_298 : decode cX8_advance 298 = .ok (.aload_n 0, 1) := dk_42 (dk_at dksX8_advance_12 19 rfl rfl)
theorem dX8_advance_299 : decode cX8_advance 299 = .ok (.aload_n 0, 1) := dk_42 (dk_at dksX8_advance_12 20 rfl rfl)
theorem dX8_advance_300 : decode cX8_advance 300 = .ok (.getfield 119, 3) := dk_180 0 119 (dk_at dksX8_advance_12 21 rfl rfl)
theorem dX8_advance_303 : decode cX8_advance 303 = .ok (.iconst 1, 1) := dk_4 (dk_at dksX8_advance_13 0 rfl rfl)
theorem dX8_advance_304 : decode cX8_advance 304 = .ok (.iadd, 1) := dk_96 (dk_at dksX8_advance_13 1 rfl rfl)
theorem dX8_advance_305 : decode cX8_advance 305 = .ok (.putfield 116, 3) := dk_181 0 116 (dk_at dksX8_advance_13 2 rfl rfl)
theorem dX8_advance_308 : decode cX8_advance 308 = .ok (.aload_n 0, 1) := dk_42 (dk_at dksX8_advance_13 5 rfl rfl)
theorem dX8_advance_309 : decode cX8_advance 309 = .ok (.iload_n 1, 1) := dk_27 (dk_at dksX8_advance_13 6 rfl rfl)
theorem dX8_advance_310 : decode cX8_advance 310 = .ok (.putfield 144, 3) := dk_181 0 144 (dk_at dksX8_advance_13 7 rfl rfl)
theorem dX8_advance_313 : decode cX8_advance 313 = .ok (.aload_n 0, 1) := dk_42 (dk_at dksX8_advance_13 10 rfl rfl)
theorem dX8_advance_314 : decode cX8_advance 314 = .ok (.aload_n 0, 1) := dk_42 (dk_at dksX8_advance_13 11 rfl rfl)
theorem dX8_advance_315 : decode cX8_advance 315 = .ok (.iload_n 1, 1) := dk_27 (dk_at dksX8_advance_13 12 rfl rfl)
theorem dX8_advance_316 : decode cX8_advance 316 = .ok (.invokevirtual 147, 3) := dk_182 0 147 (dk_at dksX8_advance_13 13 rfl rfl)
theorem dX8_advance_319 : decode cX8_advance 319 = .ok (.ifCond .eq 7, 3) := dk_153 0 7 (dk_at dksX8_advance_13 16 rfl rfl)
theorem dX8_advance_322 : decode cX8_advance 322 = .ok (.iconst 3, 1) := dk_6 (dk_at dksX8_advance_13 19 rfl rfl)
theorem dX8_advance_323 : decode cX8_advance 323 = .ok (.goto 4, 3) := dk_167 0 4 (dk_at dksX8_advance_13 20 rfl rfl)
theorem dX8_advance_326 : decode cX8_advance 326 = .ok (.iconst 4, 1) := dk_7 (dk_at dksX8_advance_13 23 rfl rfl)
theorem dX8_advance_327 : decode cX8_advance 327 = .ok (.putfield 125, 3) := dk_181 0 125 (dk_at dksX8_advance_14 0 rfl rfl)
theorem dX8_advance_330 : decode cX8_advance 330 = .ok (.return_, 1) := dk_177 (dk_at dksX8_advance_14 3 rfl rfl)
abbrev cX8_look2 : ByteArray := prog_14_method_21_code
def yX8_look2 : MethodName := ⟨RX8, "look2", "(I)I"⟩
def dkwX8_look2_0 : List UInt8 := [27, 42, 180, 0, 113, 162, 0, 16, 42, 180, 0, 24, 27, 51, 17, 0, 255, 126, 167, 0, 4, 3, 172]
abbrev dktX8_look2_0 : List UInt8 := dkwX8_look2_0 ++ []
theorem dksX8_look2_0 : cX8_look2.data.toList.drop 0 = dktX8_look2_0 := by decide +kernel
theorem dX8_look2_0 : decode cX8_look2 0 = .ok (.iload_n 1, 1) := dk_27 (dk_at dksX8_look2_0 0 rfl rfl)
theorem dX8_look2_1 : decode cX8_look2 1 = .ok (.aload_n 0, 1) := dk_42 (dk_at dksX8_look2_0 1 rfl rfl)
theorem dX8_look2_2 : decode cX8_look2 2 = .ok (.getfield 113, 3) := dk_180 0 113 (dk_at dksX8_look2_0 2 rfl rfl)
theorem dX8_look2_5 : decode cX8_look2 5 = .ok (.if_icmp .ge 16, 3) := dk_162 0 16 (dk_at dksX8_look2_0 5 rfl rfl)
theorem dX8_look2_8 : decode cX8_look2 8 = .ok (.aload_n 0, 1) := dk_42 (dk_at dksX8_look2_0 8 rfl rfl)
theorem dX8_look2_9 : decode cX8_look2 9 = .ok (.getfield 24, 3) := dk_180 0 24 (dk_at dksX8_look2_0 9 rfl rfl)
theorem dX8_look2_12 : decode cX8_look2 12 = .ok (.iload_n 1, 1) := dk_27 (dk_at dksX8_look2_0 12 rfl rfl)
theorem dX8_look2_13 : decode cX8_look2 13 = .ok (.baload, 1) := dk_51 (dk_at dksX8_look2_0 13 rfl rfl)
theorem dX8_look2_14 : decode cX8_look2 14 = .ok (.sipush 255, 3) := dk_17 0 255 (dk_at dksX8_look2_0 14 rfl rfl)
theorem dX8_look2_17 : decode cX8_look2 17 = .ok (.iand, 1) := dk_126 (dk_at dksX8_look2_0 17 rfl rfl)
theorem dX8_look2_18 : decode cX8_look2 18 = .ok (.goto 4, 3) := dk_167 0 4 (dk_at dksX8_look2_0 18 rfl rfl)
theorem dX8_look2_21 : decode cX8_look2 21 = .ok (.iconst 0, 1) := dk_3 (dk_at dksX8_look2_0 21 rfl rfl)
theorem dX8_look2_22 : decode cX8_look2 22 = .ok (.ireturn, 1) := dk_172 (dk_at dksX8_look2_0 22 rfl rfl)
abbrev cX8_isLetter : ByteArray := prog_14_method_22_code
def yX8_isLetter : MethodName := ⟨RX8, "isLetter", "(I)Z"⟩
def dkwX8_isLetter_0 : List UInt8 := [26, 16, 97, 161, 0, 13, 26, 16, 122, 163, 0, 7, 4, 167, 0, 4, 3, 172]
abbrev dktX8_isLetter_0 : List UInt8 := dkwX8_isLetter_0 ++ []
theorem dksX8_isLetter_0 : cX8_isLetter.data.toList.drop 0 = dktX8_isLetter_0 := by decide +kernel
theorem dX8_isLetter_0 : decode cX8_isLetter 0 = .ok (.iload_n 0, 1) := dk_26 (dk_at dksX8_isLetter_0 0 rfl rfl)
theorem dX8_isLetter_1 : decode cX8_isLetter 1 = .ok (.bipush 97, 2) := dk_16 97 (dk_at dksX8_isLetter_0 1 rfl rfl)
theorem dX8_isLetter_3 : decode cX8_isLetter 3 = .ok (.if_icmp .lt 13, 3) := dk_161 0 13 (dk_at dksX8_isLetter_0 3 rfl rfl)
theorem dX8_isLetter_6 : decode cX8_isLetter 6 = .ok (.iload_n 0, 1) := dk_26 (dk_at dksX8_isLetter_0 6 rfl rfl)
theorem dX8_isLetter_7 : decode cX8_isLetter 7 = .ok (.bipush 122, 2) := dk_16 122 (dk_at dksX8_isLetter_0 7 rfl rfl)
theorem dX8_isLetter_9 : decode cX8_isLetter 9 = .ok (.if_icmp .gt 7, 3) := dk_163 0 7 (dk_at dksX8_isLetter_0 9 rfl rfl)
theorem dX8_isLetter_12 : decode cX8_isLetter 12 = .ok (.iconst 1, 1) := dk_4 (dk_at dksX8_isLetter_0 12 rfl rfl)
theorem dX8_isLetter_13 : decode cX8_isLetter 13 = .ok (.goto 4, 3) := dk_167 0 4 (dk_at dksX8_isLetter_0 13 rfl rfl)
theorem dX8_isLetter_16 : decode cX8_isLetter 16 = .ok (.iconst 0, 1) := dk_3 (dk_at dksX8_isLetter_0 16 rfl rfl)
theorem dX8_isLetter_17 : decode cX8_isLetter 17 = .ok (.ireturn, 1) := dk_172 (dk_at dksX8_isLetter_0 17 rfl rfl)
abbrev cX8_isDigit : ByteArray := prog_14_method_23_code
def yX8_isDigit : MethodName := ⟨RX8, "isDigit", "(I)Z"⟩
def dkwX8_isDigit_0 : List UInt8 := [26, 16, 48, 161, 0, 13, 26, 16, 57, 163, 0, 7, 4, 167, 0, 4, 3, 172]
abbrev dktX8_isDigit_0 : List UInt8 := dkwX8_isDigit_0 ++ []
theorem dksX8_isDigit_0 : cX8_isDigit.data.toList.drop 0 = dktX8_isDigit_0 := by decide +kernel
theorem dX8_isDigit_0 : decode cX8_isDigit 0 = .ok (.iload_n 0, 1) := dk_26 (dk_at dksX8_isDigit_0 0 rfl rfl)
theorem dX8_isDigit_1 : decode cX8_isDigit 1 = .ok (.bipush 48, 2) := dk_16 48 (dk_at dksX8_isDigit_0 1 rfl rfl)
theorem dX8_isDigit_3 : decode cX8_isDigit 3 = .ok (.if_icmp .lt 13, 3) := dk_161 0 13 (dk_at dksX8_isDigit_0 3 rfl rfl)
theorem dX8_isDigit_6 : decode cX8_isDigit 6 = .ok (.iload_n 0, 1) := dk_26 (dk_at dksX8_isDigit_0 6 rfl rfl)
theorem dX8_isDigit_7 : decode cX8_isDigit 7 = .ok (.bipush 57, 2) := dk_16 57 (dk_at dksX8_isDigit_0 7 rfl rfl)
theorem dX8_isDigit_9 : decode cX8_isDigit 9 = .ok (.if_icmp .gt 7, 3) := dk_163 0 7 (dk_at dksX8_isDigit_0 9 rfl rfl)
theorem dX8_isDigit_12 : decode cX8_isDigit 12 = .ok (.iconst 1, 1) := dk_4 (dk_at dksX8_isDigit_0 12 rfl rfl)
theorem dX8_isDigit_13 : decode cX8_isDigit 13 = .ok (.goto 4, 3) := dk_167 0 4 (dk_at dksX8_isDigit_0 13 rfl rfl)
theorem dX8_isDigit_16 : decode cX8_isDigit 16 = .ok (.iconst 0, 1) := dk_3 (dk_at dksX8_isDigit_0 16 rfl rfl)
theorem dX8_isDigit_17 : decode cX8_isDigit 17 = .ok (.ireturn, 1) := dk_172 (dk_at dksX8_isDigit_0 17 rfl rfl)
abbrev cX8_isSignByte : ByteArray := prog_14_method_24_code
def yX8_isSignByte : MethodName := ⟨RX8, "isSignByte", "(I)Z"⟩
def dkwX8_isSignByte_1 : List UInt8 := [4, 167, 0, 4, 3, 172]
abbrev dktX8_isSignByte_1 : List UInt8 := dkwX8_isSignByte_1 ++ []
def dkwX8_isSignByte_0 : List UInt8 := [27, 16, 59, 159, 0, 21, 27, 16, 60, 159, 0, 15, 27, 16, 62, 159, 0, 9, 27, 16, 61, 160, 0, 7]
abbrev dktX8_isSignByte_0 : List UInt8 := dkwX8_isSignByte_0 ++ dktX8_isSignByte_1
theorem dksX8_isSignByte_0 : cX8_isSignByte.data.toList.drop 0 = dktX8_isSignByte_0 := by decide +kernel
theorem dksX8_isSignByte_1 : cX8_isSignByte.data.toList.drop 24 = dktX8_isSignByte_1 := dk_seg dksX8_isSignByte_0 24 rfl rfl
theorem dX8_isSignByte_0 : decode cX8_isSignByte 0 = .ok (.iload_n 1, 1) := dk_27 (dk_at dksX8_isSignByte_0 0 rfl rfl)
theorem dX8_isSignByte_1 : decode cX8_isSignByte 1 = .ok (.bipush 59, 2) := dk_16 59 (dk_at dksX8_isSignByte_0 1 rfl rfl)
theorem dX8_isSignByte_3 : decode cX8_isSignByte 3 = .ok (.if_icmp .eq 21, 3) := dk_159 0 21 (dk_at dksX8_isSignByte_0 3 rfl rfl)
theorem dX8_isSignByte_6 : decode cX8_isSignByte 6 = .ok (.iload_n 1, 1) := dk_27 (dk_at dksX8_isSignByte_0 6 rfl rfl)
theorem dX8_isSignByte_7 : decode cX8_isSignByte 7 = .ok (.bipush 60, 2) := dk_16 60 (dk_at dksX8_isSignByte_0 7 rfl rfl)
theorem dX8_isSignByte_9 : decode cX8_isSignByte 9 = .ok (.if_icmp .eq 15, 3) := dk_159 0 15 (dk_at dksX8_isSignByte_0 9 rfl rfl)
theorem dX8_isSignByte_12 : decode cX8_isSignByte 12 = .ok (.iload_n 1, 1) := dk_27 (dk_at dksX8_isSignByte_0 12 rfl rfl)
theorem dX8_isSignByte_13 : decode cX8_isSignByte 13 = .ok (.bipush 62, 2) := dk_16 62 (dk_at dksX8_isSignByte_0 13 rfl rfl)
theorem dX8_isSignByte_15 : decode cX8_isSignByte 15 = .ok (.if_icmp .eq 9, 3) := dk_159 0 9 (dk_at dksX8_isSignByte_0 15 rfl rfl)
theorem dX8_isSignByte_18 : decode cX8_isSignByte 18 = .ok (.iload_n 1, 1) := dk_27 (dk_at dksX8_isSignByte_0 18 rfl rfl)
theorem dX8_isSignByte_19 : decode cX8_isSignByte 19 = .ok (.bipush 61, 2) := dk_16 61 (dk_at dksX8_isSignByte_0 19 rfl rfl)
theorem dX8_isSignByte_21 : decode cX8_isSignByte 21 = .ok (.if_icmp .ne 7, 3) := dk_160 0 7 (dk_at dksX8_isSignByte_0 21 rfl rfl)
theorem dX8_isSignByte_24 : decode cX8_isSignByte 24 = .ok (.iconst 1, 1) := dk_4 (dk_at dksX8_isSignByte_1 0 rfl rfl)
theorem dX8_isSignByte_25 : decode cX8_isSignByte 25 = .ok (.goto 4, 3) := dk_167 0 4 (dk_at dksX8_isSignByte_1 1 rfl rfl)
theorem dX8_isSignByte_28 : decode cX8_isSignByte 28 = .ok (.iconst 0, 1) := dk_3 (dk_at dksX8_isSignByte_1 4 rfl rfl)
theorem dX8_isSignByte_29 : decode cX8_isSignByte 29 = .ok (.ireturn, 1) := dk_172 (dk_at dksX8_isSignByte_1 5 rfl rfl)
abbrev cX8_readPart : ByteArray := prog_14_method_67_code
def yX8_readPart : MethodName := ⟨RX8, "readPart", "()V"⟩
def dkwX8_readPart_3 : List UInt8 := [42, 182, 0, 215, 177]
abbrev dktX8_readPart_3 : List UInt8 := dkwX8_readPart_3 ++ []
def dkwX8_readPart_2 : List UInt8 := [153, 0, 10, 42, 182, 1, 21, 167, 0, 21, 42, 182, 0, 180, 153, 0, 10, 42, 182, 1, 24, 167, 0, 7]
abbrev dktX8_readPart_2 : List UInt8 := dkwX8_readPart_2 ++ dktX8_readPart_3
def dkwX8_readPart_1 : List UInt8 := [182, 1, 15, 167, 0, 49, 42, 182, 0, 171, 153, 0, 10, 42, 182, 1, 18, 167, 0, 35, 42, 182, 0, 177]
abbrev dktX8_readPart_1 : List UInt8 := dkwX8_readPart_1 ++ dktX8_readPart_2
def dkwX8_readPart_0 : List UInt8 := [42, 182, 0, 162, 153, 0, 10, 42, 182, 1, 12, 167, 0, 63, 42, 182, 0, 165, 153, 0, 10, 42]
abbrev dktX8_readPart_0 : List UInt8 := dkwX8_readPart_0 ++ dktX8_readPart_1
theorem dksX8_readPart_0 : cX8_readPart.data.toList.drop 0 = dktX8_readPart_0 := by decide +kernel
theorem dksX8_readPart_1 : cX8_readPart.data.toList.drop 22 = dktX8_readPart_1 := dk_seg dksX8_readPart_0 22 rfl rfl
theorem dksX8_readPart_2 : cX8_readPart.data.toList.drop 46 = dktX8_readPart_2 := dk_seg dksX8_readPart_1 24 rfl rfl
theorem dksX8_readPart_3 : cX8_readPart.data.toList.drop 70 = dktX8_readPart_3 := dk_seg dksX8_readPart_2 24 rfl rfl
theorem dX8_readPart_0 : decode cX8_readPart 0 = .ok (.aload_n 0, 1) := dk_42 (dk_at dksX8_readPart_0 0 rfl rfl)
theorem dX8_readPart_1 : decode cX8_readPart 1 = .ok (.invokevirtual 162, 3) := dk_182 0 162 (dk_at dksX8_readPart_0 1 rfl rfl)
theorem dX8_readPart_4 : decode cX8_readPart 4 = .ok (.ifCond .eq 10, 3) := dk_153 0 10 (dk_at dksX8_readPart_0 4 rfl rfl)
theorem dX8_readPart_7 : decode cX8_readPart 7 = .ok (.aload_n 0, 1) := dk_42 (dk_at dksX8_readPart_0 7 rfl rfl)
theorem dX8_readPart_8 : decode cX8_readPart 8 = .ok (.invokevirtual 268, 3) := dk_182 1 12 (dk_at dksX8_readPart_0 8 rfl rfl)
theorem dX8_readPart_11 : decode cX8_readPart 11 = .ok (.goto 63, 3) := dk_167 0 63 (dk_at dksX8_readPart_0 11 rfl rfl)
theorem dX8_readPart_14 : decode cX8_readPart 14 = .ok (.aload_n 0, 1) := dk_42 (dk_at dksX8_readPart_0 14 rfl rfl)
theorem dX8_readPart_15 : decode cX8_readPart 15 = .ok (.invokevirtual 165, 3) := dk_182 0 165 (dk_at dksX8_readPart_0 15 rfl rfl)
theorem dX8_readPart_18 : decode cX8_readPart 18 = .ok (.ifCond .eq 10, 3) := dk_153 0 10 (dk_at dksX8_readPart_0 18 rfl rfl)
theorem dX8_readPart_21 : decode cX8_readPart 21 = .ok (.aload_n 0, 1) := dk_42 (dk_at dksX8_readPart_0 21 rfl rfl)
theorem dX8_readPart_22 : decode cX8_readPart 22 = .ok (.invokevirtual 271, 3) := dk_182 1 15 (dk_at dksX8_readPart_1 0 rfl rfl)
theorem dX8_readPart_25 : decode cX8_readPart 25 = .ok (.goto 49, 3) := dk_167 0 49 (dk_at dksX8_readPart_1 3 rfl rfl)
theorem dX8_readPart_28 : decode cX8_readPart 28 = .ok (.aload_n 0, 1) := dk_42 (dk_at dksX8_readPart_1 6 rfl rfl)
theorem dX8_readPart_29 : decode cX8_readPart 29 = .ok (.invokevirtual 171, 3) := dk_182 0 171 (dk_at dksX8_readPart_1 7 rfl rfl)
theorem dX8_readPart_32 : decode cX8_readPart 32 = .ok (.ifCond .eq 10, 3) := dk_153 0 10 (dk_at dksX8_readPart_1 10 rfl rfl)
theorem dX8_readPart_35 : decode cX8_readPart 35 = .ok (.aload_n 0, 1) := dk_42 (dk_at dksX8_readPart_1 13 rfl rfl)
theorem dX8_readPart_36 : decode cX8_readPart 36 = .ok (.invokevirtual 274, 3) := dk_182 1 18 (dk_at dksX8_readPart_1 14 rfl rfl)
theorem dX8_readPart_39 : decode cX8_readPart 39 = .ok (.goto 35, 3) := dk_167 0 35 (dk_at dksX8_readPart_1 17 rfl rfl)
theorem dX8_readPart_42 : decode cX8_readPart 42 = .ok (.aload_n 0, 1) := dk_42 (dk_at dksX8_readPart_1 20 rfl rfl)
theorem dX8_readPart_43 : decode cX8_readPart 43 = .ok (.invokevirtual 177, 3) := dk_182 0 177 (dk_at dksX8_readPart_1 21 rfl rfl)
theorem dX8_readPart_46 : decode cX8_readPart 46 = .ok (.ifCond .eq 10, 3) := dk_153 0 10 (dk_at dksX8_readPart_2 0 rfl rfl)
theorem dX8_readPart_49 : decode cX8_readPart 49 = .ok (.aload_n 0, 1) := dk_42 (dk_at dksX8_readPart_2 3 rfl rfl)
theorem dX8_readPart_50 : decode cX8_readPart 50 = .ok (.invokevirtual 277, 3) := dk_182 1 21 (dk_at dksX8_readPart_2 4 rfl rfl)
theorem dX8_readPart_53 : decode cX8_readPart 53 = .ok (.goto 21, 3) := dk_167 0 21 (dk_at dksX8_readPart_2 7 rfl rfl)
theorem dX8_readPart_56 : decode cX8_readPart 56 = .ok (.aload_n 0, 1) := dk_42 (dk_at dksX8_readPart_2 10 rfl rfl)
theorem dX8_readPart_57 : decode cX8_readPart 57 = .ok (.invokevirtual 180, 3) := dk_182 0 180 (dk_at dksX8_readPart_2 11 rfl rfl)
theorem dX8_readPart_60 : decode cX8_readPart 60 = .ok (.ifCond .eq 10, 3) := dk_153 0 10 (dk_at dksX8_readPart_2 14 rfl rfl)
theorem dX8_readPart_63 : decode cX8_readPart 63 = .ok (.aload_n 0, 1) := dk_42 (dk_at dksX8_readPart_2 17 rfl rfl)
theorem dX8_readPart_64 : decode cX8_readPart 64 = .ok (.invokevirtual 280, 3) := dk_182 1 24 (dk_at dksX8_readPart_2 18 rfl rfl)
theorem dX8_readPart_67 : decode cX8_readPart 67 = .ok (.goto 7, 3) := dk_167 0 7 (dk_at dksX8_readPart_2 21 rfl rfl)
theorem dX8_readPart_70 : decode cX8_readPart 70 = .ok (.aload_n 0, 1) := dk_42 (dk_at dksX8_readPart_3 0 rfl rfl)
theorem dX8_readPart_71 : decode cX8_readPart 71 = .ok (.invokevirtual 215, 3) := dk_182 0 215 (dk_at dksX8_readPart_3 1 rfl rfl)
theorem dX8_readPart_74 : decode cX8_readPart 74 = .ok (.return_, 1) := dk_177 (dk_at dksX8_readPart_3 4 rfl rfl)
abbrev cX8_isOdds : ByteArray := prog_14_method_29_code
def yX8_isOdds : MethodName := ⟨RX8, "isOdds", "()Z"⟩
def dkwX8_isOdds_0 : List UInt8 := [42, 16, 111, 16, 100, 16, 100, 16, 115, 3, 3, 184, 0, 150, 182, 0, 154, 172]
abbrev dktX8_isOdds_0 : List UInt8 := dkwX8_isOdds_0 ++ []
theorem dksX8_isOdds_0 : cX8_isOdds.data.toList.drop 0 = dktX8_isOdds_0 := by decide +kernel
theorem dX8_isOdds_0 : decode cX8_isOdds 0 = .ok (.aload_n 0, 1) := dk_42 (dk_at dksX8_isOdds_0 0 rfl rfl)
theorem dX8_isOdds_1 : decode cX8_isOdds 1 = .ok (.bipush 111, 2) := dk_16 111 (dk_at dksX8_isOdds_0 1 rfl rfl)
theorem dX8_isOdds_3 : decode cX8_isOdds 3 = .ok (.bipush 100, 2) := dk_16 100 (dk_at dksX8_isOdds_0 3 rfl rfl)
theorem dX8_isOdds_5 : decode cX8_isOdds 5 = .ok (.bipush 100, 2) := dk_16 100 (dk_at dksX8_isOdds_0 5 rfl rfl)
theorem dX8_isOdds_7 : decode cX8_isOdds 7 = .ok (.bipush 115, 2) := dk_16 115 (dk_at dksX8_isOdds_0 7 rfl rfl)
theorem dX8_isOdds_9 : decode cX8_isOdds 9 = .ok (.iconst 0, 1) := dk_3 (dk_at dksX8_isOdds_0 9 rfl rfl)
theorem dX8_isOdds_10 : decode cX8_isOdds 10 = .ok (.iconst 0, 1) := dk_3 (dk_at dksX8_isOdds_0 10 rfl rfl)
theorem dX8_isOdds_11 : decode cX8_isOdds 11 = .ok (.invokestatic 150, 3) := dk_184 0 150 (dk_at dksX8_isOdds_0 11 rfl rfl)
theorem dX8_isOdds_14 : decode cX8_isOdds 14 = .ok (.invokevirtual 154, 3) := dk_182 0 154 (dk_at dksX8_isOdds_0 14 rfl rfl)
theorem dX8_isOdds_17 : decode cX8_isOdds 17 = .ok (.ireturn, 1) := dk_172 (dk_at dksX8_isOdds_0 17 rfl rfl)
abbrev cX8_spelled : ByteArray := prog_14_method_27_code
def yX8_spelled : MethodName := ⟨RX8, "spelled", "(IIIIII)J"⟩
def dkwX8_spelled_5 : List UInt8 := [173]
abbrev dktX8_spelled_5 : List UInt8 := dkwX8_spelled_5 ++ []
def dkwX8_spelled_4 : List UInt8 := [21, 5, 158, 0, 20, 22, 6, 20, 0, 134, 105, 21, 5, 133, 97, 20, 0, 136, 101, 167, 0, 5, 22, 6]
abbrev dktX8_spelled_4 : List UInt8 := dkwX8_spelled_4 ++ dktX8_spelled_5
def dkwX8_spelled_3 : List UInt8 := [158, 0, 20, 22, 6, 20, 0, 134, 105, 21, 4, 133, 97, 20, 0, 136, 101, 167, 0, 5, 22, 6, 55, 6]
abbrev dktX8_spelled_3 : List UInt8 := dkwX8_spelled_3 ++ dktX8_spelled_4
def dkwX8_spelled_2 : List UInt8 := [22, 6, 20, 0, 134, 105, 29, 133, 97, 20, 0, 136, 101, 167, 0, 5, 22, 6, 55, 6, 21, 4]
abbrev dktX8_spelled_2 : List UInt8 := dkwX8_spelled_2 ++ dktX8_spelled_3
def dkwX8_spelled_1 : List UInt8 := [22, 6, 20, 0, 134, 105, 28, 133, 97, 20, 0, 136, 101, 167, 0, 5, 22, 6, 55, 6, 29, 158, 0, 19]
abbrev dktX8_spelled_1 : List UInt8 := dkwX8_spelled_1 ++ dktX8_spelled_2
def dkwX8_spelled_0 : List UInt8 := [26, 133, 20, 0, 136, 101, 20, 0, 134, 105, 27, 133, 97, 20, 0, 136, 101, 55, 6, 28, 158, 0, 19]
abbrev dktX8_spelled_0 : List UInt8 := dkwX8_spelled_0 ++ dktX8_spelled_1
theorem dksX8_spelled_0 : cX8_spelled.data.toList.drop 0 = dktX8_spelled_0 := by decide +kernel
theorem dksX8_spelled_1 : cX8_spelled.data.toList.drop 23 = dktX8_spelled_1 := dk_seg dksX8_spelled_0 23 rfl rfl
theorem dksX8_spelled_2 : cX8_spelled.data.toList.drop 47 = dktX8_spelled_2 := dk_seg dksX8_spelled_1 24 rfl rfl
theorem dksX8_spelled_3 : cX8_spelled.data.toList.drop 69 = dktX8_spelled_3 := dk_seg dksX8_spelled_2 22 rfl rfl
theorem dksX8_spelled_4 : cX8_spelled.data.toList.drop 93 = dktX8_spelled_4 := dk_seg dksX8_spelled_3 24 rfl rfl
theorem dksX8_spelled_5 : cX8_spelled.data.toList.drop 117 = dktX8_spelled_5 := dk_seg dksX8_spelled_4 24 rfl rfl
theorem dX8_spelled_0 : decode cX8_spelled 0 = .ok (.iload_n 0, 1) := dk_26 (dk_at dksX8_spelled_0 0 rfl rfl)
theorem dX8_spelled_1 : decode cX8_spelled 1 = .ok (.i2l, 1) := dk_133 (dk_at dksX8_spelled_0 1 rfl rfl)
theorem dX8_spelled_2 : decode cX8_spelled 2 = .ok (.ldc2_w 136, 3) := dk_20 0 136 (dk_at dksX8_spelled_0 2 rfl rfl)
theorem dX8_spelled_5 : decode cX8_spelled 5 = .ok (.lsub, 1) := dk_101 (dk_at dksX8_spelled_0 5 rfl rfl)
theorem dX8_spelled_6 : decode cX8_spelled 6 = .ok (.ldc2_w 134, 3) := dk_20 0 134 (dk_at dksX8_spelled_0 6 rfl rfl)
theorem dX8_spelled_9 : decode cX8_spelled 9 = .ok (.lmul, 1) := dk_105 (dk_at dksX8_spelled_0 9 rfl rfl)
theorem dX8_spelled_10 : decode cX8_spelled 10 = .ok (.iload_n 1, 1) := dk_27 (dk_at dksX8_spelled_0 10 rfl rfl)
theorem dX8_spelled_11 : decode cX8_spelled 11 = .ok (.i2l, 1) := dk_133 (dk_at dksX8_spelled_0 11 rfl rfl)
theorem dX8_spelled_12 : decode cX8_spelled 12 = .ok (.ladd, 1) := dk_97 (dk_at dksX8_spelled_0 12 rfl rfl)
theorem dX8_spelled_13 : decode cX8_spelled 13 = .ok (.ldc2_w 136, 3) := dk_20 0 136 (dk_at dksX8_spelled_0 13 rfl rfl)
theorem dX8_spelled_16 : decode cX8_spelled 16 = .ok (.lsub, 1) := dk_101 (dk_at dksX8_spelled_0 16 rfl rfl)
theorem dX8_spelled_17 : decode cX8_spelled 17 = .ok (.lstore 6, 2) := dk_55 6 (dk_at dksX8_spelled_0 17 rfl rfl)
theorem dX8_spelled_19 : decode cX8_spelled 19 = .ok (.iload_n 2, 1) := dk_28 (dk_at dksX8_spelled_0 19 rfl rfl)
theorem dX8_spelled_20 : decode cX8_spelled 20 = .ok (.ifCond .le 19, 3) := dk_158 0 19 (dk_at dksX8_spelled_0 20 rfl rfl)
theorem dX8_spelled_23 : decode cX8_spelled 23 = .ok (.lload 6, 2) := dk_22 6 (dk_at dksX8_spelled_1 0 rfl rfl)
theorem dX8_spelled_25 : decode cX8_spelled 25 = .ok (.ldc2_w 134, 3) := dk_20 0 134 (dk_at dksX8_spelled_1 2 rfl rfl)
theorem dX8_spelled_28 : decode cX8_spelled 28 = .ok (.lmul, 1) := dk_105 (dk_at dksX8_spelled_1 5 rfl rfl)
theorem dX8_spelled_29 : decode cX8_spelled 29 = .ok (.iload_n 2, 1) := dk_28 (dk_at dksX8_spelled_1 6 rfl rfl)
theorem dX8_spelled_30 : decode cX8_spelled 30 = .ok (.i2l, 1) := dk_133 (dk_at dksX8_spelled_1 7 rfl rfl)
theorem dX8_spelled_31 : decode cX8_spelled 31 = .ok (.ladd, 1) := dk_97 (dk_at dksX8_spelled_1 8 rfl rfl)
theorem dX8_spelled_32 : decode cX8_spelled 32 = .ok (.ldc2_w 136, 3) := dk_20 0 136 (dk_at dksX8_spelled_1 9 rfl rfl)
theorem dX8_spelled_35 : decode cX8_spelled 35 = .ok (.lsub, 1) := dk_101 (dk_at dksX8_spelled_1 12 rfl rfl)
theorem dX8_spelled_36 : decode cX8_spelled 36 = .ok (.goto 5, 3) := dk_167 0 5 (dk_at dksX8_spelled_1 13 rfl rfl)
theorem dX8_spelled_39 : decode cX8_spelled 39 = .ok (.lload 6, 2) := dk_22 6 (dk_at dksX8_spelled_1 16 rfl rfl)
theorem dX8_spelled_41 : decode cX8_spelled 41 = .ok (.lstore 6, 2) := dk_55 6 (dk_at dksX8_spelled_1 18 rfl rfl)
theorem dX8_spelled_43 : decode cX8_spelled 43 = .ok (.iload_n 3, 1) := dk_29 (dk_at dksX8_spelled_1 20 rfl rfl)
theorem dX8_spelled_44 : decode cX8_spelled 44 = .ok (.ifCond .le 19, 3) := dk_158 0 19 (dk_at dksX8_spelled_1 21 rfl rfl)
theorem dX8_spelled_47 : decode cX8_spelled 47 = .ok (.lload 6, 2) := dk_22 6 (dk_at dksX8_spelled_2 0 rfl rfl)
theorem dX8_spelled_49 : decode cX8_spelled 49 = .ok (.ldc2_w 134, 3) := dk_20 0 134 (dk_at dksX8_spelled_2 2 rfl rfl)
theorem dX8_spelled_52 : decode cX8_spelled 52 = .ok (.lmul, 1) := dk_105 (dk_at dksX8_spelled_2 5 rfl rfl)
theorem dX8_spelled_53 : decode cX8_spelled 53 = .ok (.iload_n 3, 1) := dk_29 (dk_at dksX8_spelled_2 6 rfl rfl)
theorem dX8_spelled_54 : decode cX8_spelled 54 = .ok (.i2l, 1) := dk_133 (dk_at dksX8_spelled_2 7 rfl rfl)
theorem dX8_spelled_55 : decode cX8_spelled 55 = .ok (.ladd, 1) := dk_97 (dk_at dksX8_spelled_2 8 rfl rfl)
theorem dX8_spelled_56 : decode cX8_spelled 56 = .ok (.ldc2_w 136, 3) := dk_20 0 136 (dk_at dksX8_spelled_2 9 rfl rfl)
theorem dX8_spelled_59 : decode cX8_spelled 59 = .ok (.lsub, 1) := dk_101 (dk_at dksX8_spelled_2 12 rfl rfl)
theorem dX8_spelled_60 : decode cX8_spelled 60 = .ok (.goto 5, 3) := dk_167 0 5 (dk_at dksX8_spelled_2 13 rfl rfl)
theorem dX8_spelled_63 : decode cX8_spelled 63 = .ok (.lload 6, 2) := dk_22 6 (dk_at dksX8_spelled_2 16 rfl rfl)
theorem dX8_spelled_65 : decode cX8_spelled 65 = .ok (.lstore 6, 2) := dk_55 6 (dk_at dksX8_spelled_2 18 rfl rfl)
theorem dX8_spelled_67 : decode cX8_spelled 67 = .ok (.iload 4, 2) := dk_21 4 (dk_at dksX8_spelled_2 20 rfl rfl)
theorem dX8_spelled_69 : decode cX8_spelled 69 = .ok (.ifCond .le 20, 3) := dk_158 0 20 (dk_at dksX8_spelled_3 0 rfl rfl)
theorem dX8_spelled_72 : decode cX8_spelled 72 = .ok (.lload 6, 2) := dk_22 6 (dk_at dksX8_spelled_3 3 rfl rfl)
theorem dX8_spelled_74 : decode cX8_spelled 74 = .ok (.ldc2_w 134, 3) := dk_20 0 134 (dk_at dksX8_spelled_3 5 rfl rfl)
theorem dX8_spelled_77 : decode cX8_spelled 77 = .ok (.lmul, 1) := dk_105 (dk_at dksX8_spelled_3 8 rfl rfl)
theorem dX8_spelled_78 : decode cX8_spelled 78 = .ok (.iload 4, 2) := dk_21 4 (dk_at dksX8_spelled_3 9 rfl rfl)
theorem dX8_spelled_80 : decode cX8_spelled 80 = .ok (.i2l, 1) := dk_133 (dk_at dksX8_spelled_3 11 rfl rfl)
theorem dX8_spelled_81 : decode cX8_spelled 81 = .ok (.ladd, 1) := dk_97 (dk_at dksX8_spelled_3 12 rfl rfl)
theorem dX8_spelled_82 : decode cX8_spelled 82 = .ok (.ldc2_w 136, 3) := dk_20 0 136 (dk_at dksX8_spelled_3 13 rfl rfl)
theorem dX8_spelled_85 : decode cX8_spelled 85 = .ok (.lsub, 1) := dk_101 (dk_at dksX8_spelled_3 16 rfl rfl)
theorem dX8_spelled_86 : decode cX8_spelled 86 = .ok (.goto 5, 3) := dk_167 0 5 (dk_at dksX8_spelled_3 17 rfl rfl)
theorem dX8_spelled_89 : decode cX8_spelled 89 = .ok (.lload 6, 2) := dk_22 6 (dk_at dksX8_spelled_3 20 rfl rfl)
theorem dX8_spelled_91 : decode cX8_spelled 91 = .ok (.lstore 6, 2) := dk_55 6 (dk_at dksX8_spelled_3 22 rfl rfl)
theorem dX8_spelled_93 : decode cX8_spelled 93 = .ok (.iload 5, 2) := dk_21 5 (dk_at dksX8_spelled_4 0 rfl rfl)
theorem dX8_spelled_95 : decode cX8_spelled 95 = .ok (.ifCond .le 20, 3) := dk_158 0 20 (dk_at dksX8_spelled_4 2 rfl rfl)
theorem dX8_spelled_98 : decode cX8_spelled 98 = .ok (.lload 6, 2) := dk_22 6 (dk_at dksX8_spelled_4 5 rfl rfl)
theorem dX8_spelled_100 : decode cX8_spelled 100 = .ok (.ldc2_w 134, 3) := dk_20 0 134 (dk_at dksX8_spelled_4 7 rfl rfl)
theorem dX8_spelled_103 : decode cX8_spelled 103 = .ok (.lmul, 1) := dk_105 (dk_at dksX8_spelled_4 10 rfl rfl)
theorem dX8_spelled_104 : decode cX8_spelled 104 = .ok (.iload 5, 2) := dk_21 5 (dk_at dksX8_spelled_4 11 rfl rfl)
theorem dX8_spelled_106 : decode cX8_spelled 106 = .ok (.i2l, 1) := dk_133 (dk_at dksX8_spelled_4 13 rfl rfl)
theorem dX8_spelled_107 : decode cX8_spelled 107 = .ok (.ladd, 1) := dk_97 (dk_at dksX8_spelled_4 14 rfl rfl)
theorem dX8_spelled_108 : decode cX8_spelled 108 = .ok (.ldc2_w 136, 3) := dk_20 0 136 (dk_at dksX8_spelled_4 15 rfl rfl)
theorem dX8_spelled_111 : decode cX8_spelled 111 = .ok (.lsub, 1) := dk_101 (dk_at dksX8_spelled_4 18 rfl rfl)
theorem dX8_spelled_112 : decode cX8_spelled 112 = .ok (.goto 5, 3) := dk_167 0 5 (dk_at dksX8_spelled_4 19 rfl rfl)
theorem dX8_spelled_115 : decode cX8_spelled 115 = .ok (.lload 6, 2) := dk_22 6 (dk_at dksX8_spelled_4 22 rfl rfl)
theorem dX8_spelled_117 : decode cX8_spelled 117 = .ok (.lreturn, 1) := dk_173 (dk_at dksX8_spelled_5 0 rfl rfl)
abbrev cX8_isWord : ByteArray := prog_14_method_28_code
def yX8_isWord : MethodName := ⟨RX8, "isWord", "(J)Z"⟩
def dkwX8_isWord_0 : List UInt8 := [42, 180, 0, 125, 4, 160, 0, 16, 42, 180, 0, 131, 31, 148, 154, 0, 7, 4, 167, 0, 4, 3, 172]
abbrev dktX8_isWord_0 : List UInt8 := dkwX8_isWord_0 ++ []
theorem dksX8_isWord_0 : cX8_isWord.data.toList.drop 0 = dktX8_isWord_0 := by decide +kernel
theorem dX8_isWord_0 : decode cX8_isWord 0 = .ok (.aload_n 0, 1) := dk_42 (dk_at dksX8_isWord_0 0 rfl rfl)
theorem dX8_isWord_1 : decode cX8_isWord 1 = .ok (.getfield 125, 3) := dk_180 0 125 (dk_at dksX8_isWord_0 1 rfl rfl)
theorem dX8_isWord_4 : decode cX8_isWord 4 = .ok (.iconst 1, 1) := dk_4 (dk_at dksX8_isWord_0 4 rfl rfl)
theorem dX8_isWord_5 : decode cX8_isWord 5 = .ok (.if_icmp .ne 16, 3) := dk_160 0 16 (dk_at dksX8_isWord_0 5 rfl rfl)
theorem dX8_isWord_8 : decode cX8_isWord 8 = .ok (.aload_n 0, 1) := dk_42 (dk_at dksX8_isWord_0 8 rfl rfl)
theorem dX8_isWord_9 : decode cX8_isWord 9 = .ok (.getfield 131, 3) := dk_180 0 131 (dk_at dksX8_isWord_0 9 rfl rfl)
theorem dX8_isWord_12 : decode cX8_isWord 12 = .ok (.lload_n 1, 1) := dk_31 (dk_at dksX8_isWord_0 12 rfl rfl)
theorem dX8_isWord_13 : decode cX8_isWord 13 = .ok (.lcmp, 1) := dk_148 (dk_at dksX8_isWord_0 13 rfl rfl)
theorem dX8_isWord_14 : decode cX8_isWord 14 = .ok (.ifCond .ne 7, 3) := dk_154 0 7 (dk_at dksX8_isWord_0 14 rfl rfl)
theorem dX8_isWord_17 : decode cX8_isWord 17 = .ok (.iconst 1, 1) := dk_4 (dk_at dksX8_isWord_0 17 rfl rfl)
theorem dX8_isWord_18 : decode cX8_isWord 18 = .ok (.goto 4, 3) := dk_167 0 4 (dk_at dksX8_isWord_0 18 rfl rfl)
theorem dX8_isWord_21 : decode cX8_isWord 21 = .ok (.iconst 0, 1) := dk_3 (dk_at dksX8_isWord_0 21 rfl rfl)
theorem dX8_isWord_22 : decode cX8_isWord 22 = .ok (.ireturn, 1) := dk_172 (dk_at dksX8_isWord_0 22 rfl rfl)
abbrev cX8_readOdds : ByteArray := prog_14_method_60_code
def yX8_readOdds : MethodName := ⟨RX8, "readOdds", "()V"⟩
def dkwX8_readOdds_2 : List UInt8 := [177]
abbrev dktX8_readOdds_2 : List UInt8 := dkwX8_readOdds_2 ++ []
def dkwX8_readOdds_1 : List UInt8 := [42, 4, 181, 0, 243, 42, 182, 0, 212, 42, 180, 0, 35, 17, 5, 160, 42, 3, 16, 16, 182, 0, 247, 79]
abbrev dktX8_readOdds_1 : List UInt8 := dkwX8_readOdds_1 ++ dktX8_readOdds_2
def dkwX8_readOdds_0 : List UInt8 := [42, 180, 0, 243, 153, 0, 12, 42, 8, 42, 180, 0, 119, 182, 0, 208, 42, 180, 0, 202, 158, 0, 4, 177]
abbrev dktX8_readOdds_0 : List UInt8 := dkwX8_readOdds_0 ++ dktX8_readOdds_1
theorem dksX8_readOdds_0 : cX8_readOdds.data.toList.drop 0 = dktX8_readOdds_0 := by decide +kernel
theorem dksX8_readOdds_1 : cX8_readOdds.data.toList.drop 24 = dktX8_readOdds_1 := dk_seg dksX8_readOdds_0 24 rfl rfl
theorem dksX8_readOdds_2 : cX8_readOdds.data.toList.drop 48 = dktX8_readOdds_2 := dk_seg dksX8_readOdds_1 24 rfl rfl
theorem dX8_readOdds_0 : decode cX8_readOdds 0 = .ok (.aload_n 0, 1) := dk_42 (dk_at dksX8_readOdds_0 0 rfl rfl)
theorem dX8_readOdds_1 : decode cX8_readOdds 1 = .ok (.getfield 243, 3) := dk_180 0 243 (dk_at dksX8_readOdds_0 1 rfl rfl)
theorem dX8_readOdds_4 : decode cX8_readOdds 4 = .ok (.ifCond .eq 12, 3) := dk_153 0 12 (dk_at dksX8_readOdds_0 4 rfl rfl)
theorem dX8_readOdds_7 : decode cX8_readOdds 7 = .ok (.aload_n 0, 1) := dk_42 (dk_at dksX8_readOdds_0 7 rfl rfl)
theorem dX8_readOdds_8 : decode cX8_readOdds 8 = .ok (.iconst 5, 1) := dk_8 (dk_at dksX8_readOdds_0 8 rfl rfl)
theorem dX8_readOdds_9 : decode cX8_readOdds 9 = .ok (.aload_n 0, 1) := dk_42 (dk_at dksX8_readOdds_0 9 rfl rfl)
theorem dX8_readOdds_10 : decode cX8_readOdds 10 = .ok (.getfield 119, 3) := dk_180 0 119 (dk_at dksX8_readOdds_0 10 rfl rfl)
theorem dX8_readOdds_13 : decode cX8_readOdds 13 = .ok (.invokevirtual 208, 3) := dk_182 0 208 (dk_at dksX8_readOdds_0 13 rfl rfl)
theorem dX8_readOdds_16 : decode cX8_readOdds 16 = .ok (.aload_n 0, 1) := dk_42 (dk_at dksX8_readOdds_0 16 rfl rfl)
theorem dX8_readOdds_17 : decode cX8_readOdds 17 = .ok (.getfield 202, 3) := dk_180 0 202 (dk_at dksX8_readOdds_0 17 rfl rfl)
theorem dX8_readOdds_20 : decode cX8_readOdds 20 = .ok (.ifCond .le 4, 3) := dk_158 0 4 (dk_at dksX8_readOdds_0 20 rfl rfl)
theorem dX8_readOdds_23 : decode cX8_readOdds 23 = .ok (.return_, 1) := dk_177 (dk_at dksX8_readOdds_0 23 rfl rfl)
theorem dX8_readOdds_24 : decode cX8_readOdds 24 = .ok (.aload_n 0, 1) := dk_42 (dk_at dksX8_readOdds_1 0 rfl rfl)
theorem dX8_readOdds_25 : decode cX8_readOdds 25 = .ok (.iconst 1, 1) := dk_4 (dk_at dksX8_readOdds_1 1 rfl rfl)
theorem dX8_readOdds_26 : decode cX8_readOdds 26 = .ok (.putfield 243, 3) := dk_181 0 243 (dk_at dksX8_readOdds_1 2 rfl rfl)
theorem dX8_readOdds_29 : decode cX8_readOdds 29 = .ok (.aload_n 0, 1) := dk_42 (dk_at dksX8_readOdds_1 5 rfl rfl)
theorem dX8_readOdds_30 : decode cX8_readOdds 30 = .ok (.invokevirtual 212, 3) := dk_182 0 212 (dk_at dksX8_readOdds_1 6 rfl rfl)
theorem dX8_readOdds_33 : decode cX8_readOdds 33 = .ok (.aload_n 0, 1) := dk_42 (dk_at dksX8_readOdds_1 9 rfl rfl)
theorem dX8_readOdds_34 : decode cX8_readOdds 34 = .ok (.getfield 35, 3) := dk_180 0 35 (dk_at dksX8_readOdds_1 10 rfl rfl)
theorem dX8_readOdds_37 : decode cX8_readOdds 37 = .ok (.sipush 1440, 3) := dk_17 5 160 (dk_at dksX8_readOdds_1 13 rfl rfl)
theorem dX8_readOdds_40 : decode cX8_readOdds 40 = .ok (.aload_n 0, 1) := dk_42 (dk_at dksX8_readOdds_1 16 rfl rfl)
theorem dX8_readOdds_41 : decode cX8_readOdds 41 = .ok (.iconst 0, 1) := dk_3 (dk_at dksX8_readOdds_1 17 rfl rfl)
theorem dX8_readOdds_42 : decode cX8_readOdds 42 = .ok (.bipush 16, 2) := dk_16 16 (dk_at dksX8_readOdds_1 18 rfl rfl)
theorem dX8_readOdds_44 : decode cX8_readOdds 44 = .ok (.invokevirtual 247, 3) := dk_182 0 247 (dk_at dksX8_readOdds_1 20 rfl rfl)
theorem dX8_readOdds_47 : decode cX8_readOdds 47 = .ok (.iastore, 1) := dk_79 (dk_at dksX8_readOdds_1 23 rfl rfl)
theorem dX8_readOdds_48 : decode cX8_readOdds 48 = .ok (.return_, 1) := dk_177 (dk_at dksX8_readOdds_2 0 rfl rfl)
abbrev cX8_fail : ByteArray := prog_14_method_44_code
def yX8_fail : MethodName := ⟨RX8, "fail", "(II)V"⟩
def dkwX8_fail_0 : List UInt8 := [42, 180, 0, 202, 158, 0, 4, 177, 42, 27, 181, 0, 202, 42, 28, 181, 0, 205, 177]
abbrev dktX8_fail_0 : List UInt8 := dkwX8_fail_0 ++ []
theorem dksX8_fail_0 : cX8_fail.data.toList.drop 0 = dktX8_fail_0 := by decide +kernel
theorem dX8_fail_0 : decode cX8_fail 0 = .ok (.aload_n 0, 1) := dk_42 (dk_at dksX8_fail_0 0 rfl rfl)
theorem dX8_fail_1 : decode cX8_fail 1 = .ok (.getfield 202, 3) := dk_180 0 202 (dk_at dksX8_fail_0 1 rfl rfl)
theorem dX8_fail_4 : decode cX8_fail 4 = .ok (.ifCond .le 4, 3) := dk_158 0 4 (dk_at dksX8_fail_0 4 rfl rfl)
theorem dX8_fail_7 : decode cX8_fail 7 = .ok (.return_, 1) := dk_177 (dk_at dksX8_fail_0 7 rfl rfl)
theorem dX8_fail_8 : decode cX8_fail 8 = .ok (.aload_n 0, 1) := dk_42 (dk_at dksX8_fail_0 8 rfl rfl)
theorem dX8_fail_9 : decode cX8_fail 9 = .ok (.iload_n 1, 1) := dk_27 (dk_at dksX8_fail_0 9 rfl rfl)
theorem dX8_fail_10 : decode cX8_fail 10 = .ok (.putfield 202, 3) := dk_181 0 202 (dk_at dksX8_fail_0 10 rfl rfl)
theorem dX8_fail_13 : decode cX8_fail 13 = .ok (.aload_n 0, 1) := dk_42 (dk_at dksX8_fail_0 13 rfl rfl)
theorem dX8_fail_14 : decode cX8_fail 14 = .ok (.iload_n 2, 1) := dk_28 (dk_at dksX8_fail_0 14 rfl rfl)
theorem dX8_fail_15 : decode cX8_fail 15 = .ok (.putfield 205, 3) := dk_181 0 205 (dk_at dksX8_fail_0 15 rfl rfl)
theorem dX8_fail_18 : decode cX8_fail 18 = .ok (.return_, 1) := dk_177 (dk_at dksX8_fail_0 18 rfl rfl)
abbrev cX8_count : ByteArray := prog_14_method_47_code
def yX8_count : MethodName := ⟨RX8, "count", "(II)I"⟩
def dkwX8_count_2 : List UInt8 := [182, 0, 208, 42, 180, 0, 202, 158, 0, 5, 3, 172, 42, 180, 0, 144, 62, 42, 182, 0, 212, 29, 172]
abbrev dktX8_count_2 : List UInt8 := dkwX8_count_2 ++ []
def dkwX8_count_1 : List UInt8 := [154, 0, 27, 42, 180, 0, 144, 133, 27, 133, 28, 133, 184, 0, 105, 154, 0, 12, 42, 7, 42, 180, 0, 119]
abbrev dktX8_count_1 : List UInt8 := dkwX8_count_1 ++ dktX8_count_2
def dkwX8_count_0 : List UInt8 := [42, 180, 0, 202, 154, 0, 15, 42, 180, 0, 125, 5, 159, 0, 7, 42, 182, 0, 215, 42, 180, 0, 202]
abbrev dktX8_count_0 : List UInt8 := dkwX8_count_0 ++ dktX8_count_1
theorem dksX8_count_0 : cX8_count.data.toList.drop 0 = dktX8_count_0 := by decide +kernel
theorem dksX8_count_1 : cX8_count.data.toList.drop 23 = dktX8_count_1 := dk_seg dksX8_count_0 23 rfl rfl
theorem dksX8_count_2 : cX8_count.data.toList.drop 47 = dktX8_count_2 := dk_seg dksX8_count_1 24 rfl rfl
theorem dX8_count_0 : decode cX8_count 0 = .ok (.aload_n 0, 1) := dk_42 (dk_at dksX8_count_0 0 rfl rfl)
theorem dX8_count_1 : decode cX8_count 1 = .ok (.getfield 202, 3) := dk_180 0 202 (dk_at dksX8_count_0 1 rfl rfl)
theorem dX8_count_4 : decode cX8_count 4 = .ok (.ifCond .ne 15, 3) := dk_154 0 15 (dk_at dksX8_count_0 4 rfl rfl)
theorem dX8_count_7 : decode cX8_count 7 = .ok (.aload_n 0, 1) := dk_42 (dk_at dksX8_count_0 7 rfl rfl)
theorem dX8_count_8 : decode cX8_count 8 = .ok (.getfield 125, 3) := dk_180 0 125 (dk_at dksX8_count_0 8 rfl rfl)
theorem dX8_count_11 : decode cX8_count 11 = .ok (.iconst 2, 1) := dk_5 (dk_at dksX8_count_0 11 rfl rfl)
theorem dX8_count_12 : decode cX8_count 12 = .ok (.if_icmp .eq 7, 3) := dk_159 0 7 (dk_at dksX8_count_0 12 rfl rfl)
theorem dX8_count_15 : decode cX8_count 15 = .ok (.aload_n 0, 1) := dk_42 (dk_at dksX8_count_0 15 rfl rfl)
theorem dX8_count_16 : decode cX8_count 16 = .ok (.invokevirtual 215, 3) := dk_182 0 215 (dk_at dksX8_count_0 16 rfl rfl)
theorem dX8_count_19 : decode cX8_count 19 = .ok (.aload_n 0, 1) := dk_42 (dk_at dksX8_count_0 19 rfl rfl)
theorem dX8_count_20 : decode cX8_count 20 = .ok (.getfield 202, 3) := dk_180 0 202 (dk_at dksX8_count_0 20 rfl rfl)
theorem dX8_count_23 : decode cX8_count 23 = .ok (.ifCond .ne 27, 3) := dk_154 0 27 (dk_at dksX8_count_1 0 rfl rfl)
theorem dX8_count_26 : decode cX8_count 26 = .ok (.aload_n 0, 1) := dk_42 (dk_at dksX8_count_1 3 rfl rfl)
theorem dX8_count_27 : decode cX8_count 27 = .ok (.getfield 144, 3) := dk_180 0 144 (dk_at dksX8_count_1 4 rfl rfl)
theorem dX8_count_30 : decode cX8_count 30 = .ok (.i2l, 1) := dk_133 (dk_at dksX8_count_1 7 rfl rfl)
theorem dX8_count_31 : decode cX8_count 31 = .ok (.iload_n 1, 1) := dk_27 (dk_at dksX8_count_1 8 rfl rfl)
theorem dX8_count_32 : decode cX8_count 32 = .ok (.i2l, 1) := dk_133 (dk_at dksX8_count_1 9 rfl rfl)
theorem dX8_count_33 : decode cX8_count 33 = .ok (.iload_n 2, 1) := dk_28 (dk_at dksX8_count_1 10 rfl rfl)
theorem dX8_count_34 : decode cX8_count 34 = .ok (.i2l, 1) := dk_133 (dk_at dksX8_count_1 11 rfl rfl)
theorem dX8_count_35 : decode cX8_count 35 = .ok (.invokestatic 105, 3) := dk_184 0 105 (dk_at dksX8_count_1 12 rfl rfl)
theorem dX8_count_38 : decode cX8_count 38 = .ok (.ifCond .ne 12, 3) := dk_154 0 12 (dk_at dksX8_count_1 15 rfl rfl)
theorem dX8_count_41 : decode cX8_count 41 = .ok (.aload_n 0, 1) := dk_42 (dk_at dksX8_count_1 18 rfl rfl)
theorem dX8_count_42 : decode cX8_count 42 = .ok (.iconst 4, 1) := dk_7 (dk_at dksX8_count_1 19 rfl rfl)
theorem dX8_count_43 : decode cX8_count 43 = .ok (.aload_n 0, 1) := dk_42 (dk_at dksX8_count_1 20 rfl rfl)
theorem dX8_count_44 : decode cX8_count 44 = .ok (.getfield 119, 3) := dk_180 0 119 (dk_at dksX8_count_1 21 rfl rfl)
theorem dX8_count_47 : decode cX8_count 47 = .ok (.invokevirtual 208, 3) := dk_182 0 208 (dk_at dksX8_count_2 0 rfl rfl)
theorem dX8_count_50 : decode cX8_count 50 = .ok (.aload_n 0, 1) := dk_42 (dk_at dksX8_count_2 3 rfl rfl)
theorem dX8_count_51 : decode cX8_count 51 = .ok (.getfield 202, 3) := dk_180 0 202 (dk_at dksX8_count_2 4 rfl rfl)
theorem dX8_count_54 : decode cX8_count 54 = .ok (.ifCond .le 5, 3) := dk_158 0 5 (dk_at dksX8_count_2 7 rfl rfl)
theorem dX8_count_57 : decode cX8_count 57 = .ok (.iconst 0, 1) := dk_3 (dk_at dksX8_count_2 10 rfl rfl)
theorem dX8_count_58 : decode cX8_count 58 = .ok (.ireturn, 1) := dk_172 (dk_at dksX8_count_2 11 rfl rfl)
theorem dX8_count_59 : decode cX8_count 59 = .ok (.aload_n 0, 1) := dk_42 (dk_at dksX8_count_2 12 rfl rfl)
theorem dX8_count_60 : decode cX8_count 60 = .ok (.getfield 144, 3) := dk_180 0 144 (dk_at dksX8_count_2 13 rfl rfl)
theorem dX8_count_63 : decode cX8_count 63 = .ok (.istore_n 3, 1) := dk_62 (dk_at dksX8_count_2 16 rfl rfl)
theorem dX8_count_64 : decode cX8_count 64 = .ok (.aload_n 0, 1) := dk_42 (dk_at dksX8_count_2 17 rfl rfl)
theorem dX8_count_65 : decode cX8_count 65 = .ok (.invokevirtual 212, 3) := dk_182 0 212 (dk_at dksX8_count_2 18 rfl rfl)
theorem dX8_count_68 : decode cX8_count 68 = .ok (.iload_n 3, 1) := dk_29 (dk_at dksX8_count_2 21 rfl rfl)
theorem dX8_count_69 : decode cX8_count 69 = .ok (.ireturn, 1) := dk_172 (dk_at dksX8_count_2 22 rfl rfl)
abbrev cX8_amiss : ByteArray := prog_14_method_45_code
def yX8_amiss : MethodName := ⟨RX8, "amiss", "()V"⟩
def dkwX8_amiss_0 : List UInt8 := [42, 42, 180, 0, 125, 7, 160, 0, 7, 4, 167, 0, 4, 5, 42, 180, 0, 119, 182, 0, 208, 177]
abbrev dktX8_amiss_0 : List UInt8 := dkwX8_amiss_0 ++ []
theorem dksX8_amiss_0 : cX8_amiss.data.toList.drop 0 = dktX8_amiss_0 := by decide +kernel
theorem dX8_amiss_0 : decode cX8_amiss 0 = .ok (.aload_n 0, 1) := dk_42 (dk_at dksX8_amiss_0 0 rfl rfl)
theorem dX8_amiss_1 : decode cX8_amiss 1 = .ok (.aload_n 0, 1) := dk_42 (dk_at dksX8_amiss_0 1 rfl rfl)
theorem dX8_amiss_2 : decode cX8_amiss 2 = .ok (.getfield 125, 3) := dk_180 0 125 (dk_at dksX8_amiss_0 2 rfl rfl)
theorem dX8_amiss_5 : decode cX8_amiss 5 = .ok (.iconst 4, 1) := dk_7 (dk_at dksX8_amiss_0 5 rfl rfl)
theorem dX8_amiss_6 : decode cX8_amiss 6 = .ok (.if_icmp .ne 7, 3) := dk_160 0 7 (dk_at dksX8_amiss_0 6 rfl rfl)
theorem dX8_amiss_9 : decode cX8_amiss 9 = .ok (.iconst 1, 1) := dk_4 (dk_at dksX8_amiss_0 9 rfl rfl)
theorem dX8_amiss_10 : decode cX8_amiss 10 = .ok (.goto 4, 3) := dk_167 0 4 (dk_at dksX8_amiss_0 10 rfl rfl)
theorem dX8_amiss_13 : decode cX8_amiss 13 = .ok (.iconst 2, 1) := dk_5 (dk_at dksX8_amiss_0 13 rfl rfl)
theorem dX8_amiss_14 : decode cX8_amiss 14 = .ok (.aload_n 0, 1) := dk_42 (dk_at dksX8_amiss_0 14 rfl rfl)
theorem dX8_amiss_15 : decode cX8_amiss 15 = .ok (.getfield 119, 3) := dk_180 0 119 (dk_at dksX8_amiss_0 15 rfl rfl)
theorem dX8_amiss_18 : decode cX8_amiss 18 = .ok (.invokevirtual 208, 3) := dk_182 0 208 (dk_at dksX8_amiss_0 18 rfl rfl)
theorem dX8_amiss_21 : decode cX8_amiss 21 = .ok (.return_, 1) := dk_177 (dk_at dksX8_amiss_0 21 rfl rfl)
abbrev cX8_isIn : ByteArray := prog_14_method_8_code
def yX8_isIn : MethodName := ⟨RX8, "isIn", "(JJJ)Z"⟩
def dkwX8_isIn_0 : List UInt8 := [30, 32, 148, 155, 0, 14, 30, 22, 4, 148, 157, 0, 7, 4, 167, 0, 4, 3, 172]
abbrev dktX8_isIn_0 : List UInt8 := dkwX8_isIn_0 ++ []
theorem dksX8_isIn_0 : cX8_isIn.data.toList.drop 0 = dktX8_isIn_0 := by decide +kernel
theorem dX8_isIn_0 : decode cX8_isIn 0 = .ok (.lload_n 0, 1) := dk_30 (dk_at dksX8_isIn_0 0 rfl rfl)
theorem dX8_isIn_1 : decode cX8_isIn 1 = .ok (.lload_n 2, 1) := dk_32 (dk_at dksX8_isIn_0 1 rfl rfl)
theorem dX8_isIn_2 : decode cX8_isIn 2 = .ok (.lcmp, 1) := dk_148 (dk_at dksX8_isIn_0 2 rfl rfl)
theorem dX8_isIn_3 : decode cX8_isIn 3 = .ok (.ifCond .lt 14, 3) := dk_155 0 14 (dk_at dksX8_isIn_0 3 rfl rfl)
theorem dX8_isIn_6 : decode cX8_isIn 6 = .ok (.lload_n 0, 1) := dk_30 (dk_at dksX8_isIn_0 6 rfl rfl)
theorem dX8_isIn_7 : decode cX8_isIn 7 = .ok (.lload 4, 2) := dk_22 4 (dk_at dksX8_isIn_0 7 rfl rfl)
theorem dX8_isIn_9 : decode cX8_isIn 9 = .ok (.lcmp, 1) := dk_148 (dk_at dksX8_isIn_0 9 rfl rfl)
theorem dX8_isIn_10 : decode cX8_isIn 10 = .ok (.ifCond .gt 7, 3) := dk_157 0 7 (dk_at dksX8_isIn_0 10 rfl rfl)
theorem dX8_isIn_13 : decode cX8_isIn 13 = .ok (.iconst 1, 1) := dk_4 (dk_at dksX8_isIn_0 13 rfl rfl)
theorem dX8_isIn_14 : decode cX8_isIn 14 = .ok (.goto 4, 3) := dk_167 0 4 (dk_at dksX8_isIn_0 14 rfl rfl)
theorem dX8_isIn_17 : decode cX8_isIn 17 = .ok (.iconst 0, 1) := dk_3 (dk_at dksX8_isIn_0 17 rfl rfl)
theorem dX8_isIn_18 : decode cX8_isIn 18 = .ok (.ireturn, 1) := dk_172 (dk_at dksX8_isIn_0 18 rfl rfl)
abbrev cX8_isTrait : ByteArray := prog_14_method_30_code
def yX8_isTrait : MethodName := ⟨RX8, "isTrait", "()Z"⟩
def dkwX8_isTrait_0 : List UInt8 := [42, 16, 116, 16, 114, 16, 97, 16, 105, 16, 116, 3, 184, 0, 150, 182, 0, 154, 172]
abbrev dktX8_isTrait_0 : List UInt8 := dkwX8_isTrait_0 ++ []
theorem dksX8_isTrait_0 : cX8_isTrait.data.toList.drop 0 = dktX8_isTrait_0 := by decide +kernel
theorem dX8_isTrait_0 : decode cX8_isTrait 0 = .ok (.aload_n 0, 1) := dk_42 (dk_at dksX8_isTrait_0 0 rfl rfl)
theorem dX8_isTrait_1 : decode cX8_isTrait 1 = .ok (.bipush 116, 2) := dk_16 116 (dk_at dksX8_isTrait_0 1 rfl rfl)
theorem dX8_isTrait_3 : decode cX8_isTrait 3 = .ok (.bipush 114, 2) := dk_16 114 (dk_at dksX8_isTrait_0 3 rfl rfl)
theorem dX8_isTrait_5 : decode cX8_isTrait 5 = .ok (.bipush 97, 2) := dk_16 97 (dk_at dksX8_isTrait_0 5 rfl rfl)
theorem dX8_isTrait_7 : decode cX8_isTrait 7 = .ok (.bipush 105, 2) := dk_16 105 (dk_at dksX8_isTrait_0 7 rfl rfl)
theorem dX8_isTrait_9 : decode cX8_isTrait 9 = .ok (.bipush 116, 2) := dk_16 116 (dk_at dksX8_isTrait_0 9 rfl rfl)
theorem dX8_isTrait_11 : decode cX8_isTrait 11 = .ok (.iconst 0, 1) := dk_3 (dk_at dksX8_isTrait_0 11 rfl rfl)
theorem dX8_isTrait_12 : decode cX8_isTrait 12 = .ok (.invokestatic 150, 3) := dk_184 0 150 (dk_at dksX8_isTrait_0 12 rfl rfl)
theorem dX8_isTrait_15 : decode cX8_isTrait 15 = .ok (.invokevirtual 154, 3) := dk_182 0 154 (dk_at dksX8_isTrait_0 15 rfl rfl)
theorem dX8_isTrait_18 : decode cX8_isTrait 18 = .ok (.ireturn, 1) := dk_172 (dk_at dksX8_isTrait_0 18 rfl rfl)
abbrev cX8_readTrait : ByteArray := prog_14_method_61_code
def yX8_readTrait : MethodName := ⟨RX8, "readTrait", "()V"⟩
def dkwX8_readTrait_2 : List UInt8 := [17, 5, 156, 92, 46, 4, 96, 79, 177]
abbrev dktX8_readTrait_2 : List UInt8 := dkwX8_readTrait_2 ++ []
def dkwX8_readTrait_1 : List UInt8 := [42, 180, 0, 202, 158, 0, 4, 177, 42, 180, 0, 35, 17, 5, 162, 27, 96, 28, 79, 42, 180, 0, 35]
abbrev dktX8_readTrait_1 : List UInt8 := dkwX8_readTrait_1 ++ dktX8_readTrait_2
def dkwX8_readTrait_0 : List UInt8 := [42, 3, 16, 6, 182, 0, 250, 60, 42, 42, 182, 0, 168, 182, 0, 239, 42, 3, 16, 99, 182, 0, 247, 61]
abbrev dktX8_readTrait_0 : List UInt8 := dkwX8_readTrait_0 ++ dktX8_readTrait_1
theorem dksX8_readTrait_0 : cX8_readTrait.data.toList.drop 0 = dktX8_readTrait_0 := by decide +kernel
theorem dksX8_readTrait_1 : cX8_readTrait.data.toList.drop 24 = dktX8_readTrait_1 := dk_seg dksX8_readTrait_0 24 rfl rfl
theorem dksX8_readTrait_2 : cX8_readTrait.data.toList.drop 47 = dktX8_readTrait_2 := dk_seg dksX8_readTrait_1 23 rfl rfl
theorem dX8_readTrait_0 : decode cX8_readTrait 0 = .ok (.aload_n 0, 1) := dk_42 (dk_at dksX8_readTrait_0 0 rfl rfl)
theorem dX8_readTrait_1 : decode cX8_readTrait 1 = .ok (.iconst 0, 1) := dk_3 (dk_at dksX8_readTrait_0 1 rfl rfl)
theorem dX8_readTrait_2 : decode cX8_readTrait 2 = .ok (.bipush 6, 2) := dk_16 6 (dk_at dksX8_readTrait_0 2 rfl rfl)
theorem dX8_readTrait_4 : decode cX8_readTrait 4 = .ok (.invokevirtual 250, 3) := dk_182 0 250 (dk_at dksX8_readTrait_0 4 rfl rfl)
theorem dX8_readTrait_7 : decode cX8_readTrait 7 = .ok (.istore_n 1, 1) := dk_60 (dk_at dksX8_readTrait_0 7 rfl rfl)
theorem dX8_readTrait_8 : decode cX8_readTrait 8 = .ok (.aload_n 0, 1) := dk_42 (dk_at dksX8_readTrait_0 8 rfl rfl)
theorem dX8_readTrait_9 : decode cX8_readTrait 9 = .ok (.aload_n 0, 1) := dk_42 (dk_at dksX8_readTrait_0 9 rfl rfl)
theorem dX8_readTrait_10 : decode cX8_readTrait 10 = .ok (.invokevirtual 168, 3) := dk_182 0 168 (dk_at dksX8_readTrait_0 10 rfl rfl)
theorem dX8_readTrait_13 : decode cX8_readTrait 13 = .ok (.invokevirtual 239, 3) := dk_182 0 239 (dk_at dksX8_readTrait_0 13 rfl rfl)
theorem dX8_readTrait_16 : decode cX8_readTrait 16 = .ok (.aload_n 0, 1) := dk_42 (dk_at dksX8_readTrait_0 16 rfl rfl)
theorem dX8_readTrait_17 : decode cX8_readTrait 17 = .ok (.iconst 0, 1) := dk_3 (dk_at dksX8_readTrait_0 17 rfl rfl)
theorem dX8_readTrait_18 : decode cX8_readTrait 18 = .ok (.bipush 99, 2) := dk_16 99 (dk_at dksX8_readTrait_0 18 rfl rfl)
theorem dX8_readTrait_20 : decode cX8_readTrait 20 = .ok (.invokevirtual 247, 3) := dk_182 0 247 (dk_at dksX8_readTrait_0 20 rfl rfl)
theorem dX8_readTrait_23 : decode cX8_readTrait 23 = .ok (.istore_n 2, 1) := dk_61 (dk_at dksX8_readTrait_0 23 rfl rfl)
theorem dX8_readTrait_24 : decode cX8_readTrait 24 = .ok (.aload_n 0, 1) := dk_42 (dk_at dksX8_readTrait_1 0 rfl rfl)
theorem dX8_readTrait_25 : decode cX8_readTrait 25 = .ok (.getfield 202, 3) := dk_180 0 202 (dk_at dksX8_readTrait_1 1 rfl rfl)
theorem dX8_readTrait_28 : decode cX8_readTrait 28 = .ok (.ifCond .le 4, 3) := dk_158 0 4 (dk_at dksX8_readTrait_1 4 rfl rfl)
theorem dX8_readTrait_31 : decode cX8_readTrait 31 = .ok (.return_, 1) := dk_177 (dk_at dksX8_readTrait_1 7 rfl rfl)
theorem dX8_readTrait_32 : decode cX8_readTrait 32 = .ok (.aload_n 0, 1) := dk_42 (dk_at dksX8_readTrait_1 8 rfl rfl)
theorem dX8_readTrait_33 : decode cX8_readTrait 33 = .ok (.getfield 35, 3) := dk_180 0 35 (dk_at dksX8_readTrait_1 9 rfl rfl)
theorem dX8_readTrait_36 : decode cX8_readTrait 36 = .ok (.sipush 1442, 3) := dk_17 5 162 (dk_at dksX8_readTrait_1 12 rfl rfl)
theorem dX8_readTrait_39 : decode cX8_readTrait 39 = .ok (.iload_n 1, 1) := dk_27 (dk_at dksX8_readTrait_1 15 rfl rfl)
theorem dX8_readTrait_40 : decode cX8_readTrait 40 = .ok (.iadd, 1) := dk_96 (dk_at dksX8_readTrait_1 16 rfl rfl)
theorem dX8_readTrait_41 : decode cX8_readTrait 41 = .ok (.iload_n 2, 1) := dk_28 (dk_at dksX8_readTrait_1 17 rfl rfl)
theorem dX8_readTrait_42 : decode cX8_readTrait 42 = .ok (.iastore, 1) := dk_79 (dk_at dksX8_readTrait_1 18 rfl rfl)
theorem dX8_readTrait_43 : decode cX8_readTrait 43 = .ok (.aload_n 0, 1) := dk_42 (dk_at dksX8_readTrait_1 19 rfl rfl)
theorem dX8_readTrait_44 : decode cX8_readTrait 44 = .ok (.getfield 35, 3) := dk_180 0 35 (dk_at dksX8_readTrait_1 20 rfl rfl)
theorem dX8_readTrait_47 : decode cX8_readTrait 47 = .ok (.sipush 1436, 3) := dk_17 5 156 (dk_at dksX8_readTrait_2 0 rfl rfl)
theorem dX8_readTrait_50 : decode cX8_readTrait 50 = .ok (.dup2, 1) := dk_92 (dk_at dksX8_readTrait_2 3 rfl rfl)
theorem dX8_readTrait_51 : decode cX8_readTrait 51 = .ok (.iaload, 1) := dk_46 (dk_at dksX8_readTrait_2 4 rfl rfl)
theorem dX8_readTrait_52 : decode cX8_readTrait 52 = .ok (.iconst 1, 1) := dk_4 (dk_at dksX8_readTrait_2 5 rfl rfl)
theorem dX8_readTrait_53 : decode cX8_readTrait 53 = .ok (.iadd, 1) := dk_96 (dk_at dksX8_readTrait_2 6 rfl rfl)
theorem dX8_readTrait_54 : decode cX8_readTrait 54 = .ok (.iastore, 1) := dk_79 (dk_at dksX8_readTrait_2 7 rfl rfl)
theorem dX8_readTrait_55 : decode cX8_readTrait 55 = .ok (.return_, 1) := dk_177 (dk_at dksX8_readTrait_2 8 rfl rfl)
abbrev cX8_readNew : ByteArray := prog_14_method_57_code
def yX8_readNew : MethodName := ⟨RX8, "readNew", "(II)I"⟩
def dkwX8_readNew_5 : List UInt8 := [180, 0, 131, 80, 42, 182, 0, 212, 29, 172]
abbrev dktX8_readNew_5 : List UInt8 := dkwX8_readNew_5 ++ []
def dkwX8_readNew_4 : List UInt8 := [42, 180, 0, 202, 158, 0, 5, 3, 172, 42, 180, 0, 41, 16, 88, 27, 184, 0, 224, 96, 29, 96, 42]
abbrev dktX8_readNew_4 : List UInt8 := dkwX8_readNew_4 ++ dktX8_readNew_5
def dkwX8_readNew_3 : List UInt8 := [182, 0, 230, 156, 0, 12, 42, 7, 6, 182, 0, 230, 155, 0, 12, 42, 6, 42, 180, 0, 119, 182, 0, 208]
abbrev dktX8_readNew_3 : List UInt8 := dkwX8_readNew_3 ++ dktX8_readNew_4
def dkwX8_readNew_2 : List UInt8 := [182, 0, 215, 42, 180, 0, 202, 154, 0, 39, 42, 7, 3, 182, 0, 230, 156, 0, 21, 42, 7, 4]
abbrev dktX8_readNew_2 : List UInt8 := dkwX8_readNew_2 ++ dktX8_readNew_3
def dkwX8_readNew_1 : List UInt8 := [182, 0, 208, 42, 180, 0, 202, 158, 0, 5, 3, 172, 42, 182, 0, 212, 42, 182, 0, 227, 154, 0, 7, 42]
abbrev dktX8_readNew_1 : List UInt8 := dkwX8_readNew_1 ++ dktX8_readNew_2
def dkwX8_readNew_0 : List UInt8 := [42, 180, 0, 35, 17, 5, 156, 27, 96, 46, 62, 29, 28, 160, 0, 13, 42, 16, 6, 42, 180, 0, 119]
abbrev dktX8_readNew_0 : List UInt8 := dkwX8_readNew_0 ++ dktX8_readNew_1
theorem dksX8_readNew_0 : cX8_readNew.data.toList.drop 0 = dktX8_readNew_0 := by decide +kernel
theorem dksX8_readNew_1 : cX8_readNew.data.toList.drop 23 = dktX8_readNew_1 := dk_seg dksX8_readNew_0 23 rfl rfl
theorem dksX8_readNew_2 : cX8_readNew.data.toList.drop 47 = dktX8_readNew_2 := dk_seg dksX8_readNew_1 24 rfl rfl
theorem dksX8_readNew_3 : cX8_readNew.data.toList.drop 69 = dktX8_readNew_3 := dk_seg dksX8_readNew_2 22 rfl rfl
theorem dksX8_readNew_4 : cX8_readNew.data.toList.drop 93 = dktX8_readNew_4 := dk_seg dksX8_readNew_3 24 rfl rfl
theorem dksX8_readNew_5 : cX8_readNew.data.toList.drop 116 = dktX8_readNew_5 := dk_seg dksX8_readNew_4 23 rfl rfl
theorem dX8_readNew_0 : decode cX8_readNew 0 = .ok (.aload_n 0, 1) := dk_42 (dk_at dksX8_readNew_0 0 rfl rfl)
theorem dX8_readNew_1 : decode cX8_readNew 1 = .ok (.getfield 35, 3) := dk_180 0 35 (dk_at dksX8_readNew_0 1 rfl rfl)
theorem dX8_readNew_4 : decode cX8_readNew 4 = .ok (.sipush 1436, 3) := dk_17 5 156 (dk_at dksX8_readNew_0 4 rfl rfl)
theorem dX8_readNew_7 : decode cX8_readNew 7 = .ok (.iload_n 1, 1) := dk_27 (dk_at dksX8_readNew_0 7 rfl rfl)
theorem dX8_readNew_8 : decode cX8_readNew 8 = .ok (.iadd, 1) := dk_96 (dk_at dksX8_readNew_0 8 rfl rfl)
theorem dX8_readNew_9 : decode cX8_readNew 9 = .ok (.iaload, 1) := dk_46 (dk_at dksX8_readNew_0 9 rfl rfl)
theorem dX8_readNew_10 : decode cX8_readNew 10 = .ok (.istore_n 3, 1) := dk_62 (dk_at dksX8_readNew_0 10 rfl rfl)
theorem dX8_readNew_11 : decode cX8_readNew 11 = .ok (.iload_n 3, 1) := dk_29 (dk_at dksX8_readNew_0 11 rfl rfl)
theorem dX8_readNew_12 : decode cX8_readNew 12 = .ok (.iload_n 2, 1) := dk_28 (dk_at dksX8_readNew_0 12 rfl rfl)
theorem dX8_readNew_13 : decode cX8_readNew 13 = .ok (.if_icmp .ne 13, 3) := dk_160 0 13 (dk_at dksX8_readNew_0 13 rfl rfl)
theorem dX8_readNew_16 : decode cX8_readNew 16 = .ok (.aload_n 0, 1) := dk_42 (dk_at dksX8_readNew_0 16 rfl rfl)
theorem dX8_readNew_17 : decode cX8_readNew 17 = .ok (.bipush 6, 2) := dk_16 6 (dk_at dksX8_readNew_0 17 rfl rfl)
theorem dX8_readNew_19 : decode cX8_readNew 19 = .ok (.aload_n 0, 1) := dk_42 (dk_at dksX8_readNew_0 19 rfl rfl)
theorem dX8_readNew_20 : decode cX8_readNew 20 = .ok (.getfield 119, 3) := dk_180 0 119 (dk_at dksX8_readNew_0 20 rfl rfl)
theorem dX8_readNew_23 : decode cX8_readNew 23 = .ok (.invokevirtual 208, 3) := dk_182 0 208 (dk_at dksX8_readNew_1 0 rfl rfl)
theorem dX8_readNew_26 : decode cX8_readNew 26 = .ok (.aload_n 0, 1) := dk_42 (dk_at dksX8_readNew_1 3 rfl rfl)
theorem dX8_readNew_27 : decode cX8_readNew 27 = .ok (.getfield 202, 3) := dk_180 0 202 (dk_at dksX8_readNew_1 4 rfl rfl)
theorem dX8_readNew_30 : decode cX8_readNew 30 = .ok (.ifCond .le 5, 3) := dk_158 0 5 (dk_at dksX8_readNew_1 7 rfl rfl)
theorem dX8_readNew_33 : decode cX8_readNew 33 = .ok (.iconst 0, 1) := dk_3 (dk_at dksX8_readNew_1 10 rfl rfl)
theorem dX8_readNew_34 : decode cX8_readNew 34 = .ok (.ireturn, 1) := dk_172 (dk_at dksX8_readNew_1 11 rfl rfl)
theorem dX8_readNew_35 : decode cX8_readNew 35 = .ok (.aload_n 0, 1) := dk_42 (dk_at dksX8_readNew_1 12 rfl rfl)
theorem dX8_readNew_36 : decode cX8_readNew 36 = .ok (.invokevirtual 212, 3) := dk_182 0 212 (dk_at dksX8_readNew_1 13 rfl rfl)
theorem dX8_readNew_39 : decode cX8_readNew 39 = .ok (.aload_n 0, 1) := dk_42 (dk_at dksX8_readNew_1 16 rfl rfl)
theorem dX8_readNew_40 : decode cX8_readNew 40 = .ok (.invokevirtual 227, 3) := dk_182 0 227 (dk_at dksX8_readNew_1 17 rfl rfl)
theorem dX8_readNew_43 : decode cX8_readNew 43 = .ok (.ifCond .ne 7, 3) := dk_154 0 7 (dk_at dksX8_readNew_1 20 rfl rfl)
theorem dX8_readNew_46 : decode cX8_readNew 46 = .ok (.aload_n 0, 1) := dk_42 (dk_at dksX8_readNew_1 23 rfl rfl)
theorem dX8_readNew_47 : decode cX8_readNew 47 = .ok (.invokevirtual 215, 3) := dk_182 0 215 (dk_at dksX8_readNew_2 0 rfl rfl)
theorem dX8_readNew_50 : decode cX8_readNew 50 = .ok (.aload_n 0, 1) := dk_42 (dk_at dksX8_readNew_2 3 rfl rfl)
theorem dX8_readNew_51 : decode cX8_readNew 51 = .ok (.getfield 202, 3) := dk_180 0 202 (dk_at dksX8_readNew_2 4 rfl rfl)
theorem dX8_readNew_54 : decode cX8_readNew 54 = .ok (.ifCond .ne 39, 3) := dk_154 0 39 (dk_at dksX8_readNew_2 7 rfl rfl)
theorem dX8_readNew_57 : decode cX8_readNew 57 = .ok (.aload_n 0, 1) := dk_42 (dk_at dksX8_readNew_2 10 rfl rfl)
theorem dX8_readNew_58 : decode cX8_readNew 58 = .ok (.iconst 4, 1) := dk_7 (dk_at dksX8_readNew_2 11 rfl rfl)
theorem dX8_readNew_59 : decode cX8_readNew 59 = .ok (.iconst 0, 1) := dk_3 (dk_at dksX8_readNew_2 12 rfl rfl)
theorem dX8_readNew_60 : decode cX8_readNew 60 = .ok (.invokevirtual 230, 3) := dk_182 0 230 (dk_at dksX8_readNew_2 13 rfl rfl)
theorem dX8_readNew_63 : decode cX8_readNew 63 = .ok (.ifCond .ge 21, 3) := dk_156 0 21 (dk_at dksX8_readNew_2 16 rfl rfl)
theorem dX8_readNew_66 : decode cX8_readNew 66 = .ok (.aload_n 0, 1) := dk_42 (dk_at dksX8_readNew_2 19 rfl rfl)
theorem dX8_readNew_67 : decode cX8_readNew 67 = .ok (.iconst 4, 1) := dk_7 (dk_at dksX8_readNew_2 20 rfl rfl)
theorem dX8_readNew_68 : decode cX8_readNew 68 = .ok (.iconst 1, 1) := dk_4 (dk_at dksX8_readNew_2 21 rfl rfl)
theorem dX8_readNew_69 : decode cX8_readNew 69 = .ok (.invokevirtual 230, 3) := dk_182 0 230 (dk_at dksX8_readNew_3 0 rfl rfl)
theorem dX8_readNew_72 : decode cX8_readNew 72 = .ok (.ifCond .ge 12, 3) := dk_156 0 12 (dk_at dksX8_readNew_3 3 rfl rfl)
theorem dX8_readNew_75 : decode cX8_readNew 75 = .ok (.aload_n 0, 1) := dk_42 (dk_at dksX8_readNew_3 6 rfl rfl)
theorem dX8_readNew_76 : decode cX8_readNew 76 = .ok (.iconst 4, 1) := dk_7 (dk_at dksX8_readNew_3 7 rfl rfl)
theorem dX8_readNew_77 : decode cX8_readNew 77 = .ok (.iconst 3, 1) := dk_6 (dk_at dksX8_readNew_3 8 rfl rfl)
theorem dX8_readNew_78 : decode cX8_readNew 78 = .ok (.invokevirtual 230, 3) := dk_182 0 230 (dk_at dksX8_readNew_3 9 rfl rfl)
theorem dX8_readNew_81 : decode cX8_readNew 81 = .ok (.ifCond .lt 12, 3) := dk_155 0 12 (dk_at dksX8_readNew_3 12 rfl rfl)
theorem dX8_readNew_84 : decode cX8_readNew 84 = .ok (.aload_n 0, 1) := dk_42 (dk_at dksX8_readNew_3 15 rfl rfl)
theorem dX8_readNew_85 : decode cX8_readNew 85 = .ok (.iconst 3, 1) := dk_6 (dk_at dksX8_readNew_3 16 rfl rfl)
theorem dX8_readNew_86 : decode cX8_readNew 86 = .ok (.aload_n 0, 1) := dk_42 (dk_at dksX8_readNew_3 17 rfl rfl)
theorem dX8_readNew_87 : decode cX8_readNew 87 = .ok (.getfield 119, 3) := dk_180 0 119 (dk_at dksX8_readNew_3 18 rfl rfl)
theorem dX8_readNew_90 : decode cX8_readNew 90 = .ok (.invokevirtual 208, 3) := dk_182 0 208 (dk_at dksX8_readNew_3 21 rfl rfl)
theorem dX8_readNew_93 : decode cX8_readNew 93 = .ok (.aload_n 0, 1) := dk_42 (dk_at dksX8_readNew_4 0 rfl rfl)
theorem dX8_readNew_94 : decode cX8_readNew 94 = .ok (.getfield 202, 3) := dk_180 0 202 (dk_at dksX8_readNew_4 1 rfl rfl)
theorem dX8_readNew_97 : decode cX8_readNew 97 = .ok (.ifCond .le 5, 3) := dk_158 0 5 (dk_at dksX8_readNew_4 4 rfl rfl)
theorem dX8_readNew_100 : decode cX8_readNew 100 = .ok (.iconst 0, 1) := dk_3 (dk_at dksX8_readNew_4 7 rfl rfl)
theorem dX8_readNew_101 : decode cX8_readNew 101 = .ok (.ireturn, 1) := dk_172 (dk_at dksX8_readNew_4 8 rfl rfl)
theorem dX8_readNew_102 : decode cX8_readNew 102 = .ok (.aload_n 0, 1) := dk_42 (dk_at dksX8_readNew_4 9 rfl rfl)
theorem dX8_readNew_103 : decode cX8_readNew 103 = .ok (.getfield 41, 3) := dk_180 0 41 (dk_at dksX8_readNew_4 10 rfl rfl)
theorem dX8_readNew_106 : decode cX8_readNew 106 = .ok (.bipush 88, 2) := dk_16 88 (dk_at dksX8_readNew_4 13 rfl rfl)
theorem dX8_readNew_108 : decode cX8_readNew 108 = .ok (.iload_n 1, 1) := dk_27 (dk_at dksX8_readNew_4 15 rfl rfl)
theorem dX8_readNew_109 : decode cX8_readNew 109 = .ok (.invokestatic 224, 3) := dk_184 0 224 (dk_at dksX8_readNew_4 16 rfl rfl)
theorem dX8_readNew_112 : decode cX8_readNew 112 = .ok (.iadd, 1) := dk_96 (dk_at dksX8_readNew_4 19 rfl rfl)
theorem dX8_readNew_113 : decode cX8_readNew 113 = .ok (.iload_n 3, 1) := dk_29 (dk_at dksX8_readNew_4 20 rfl rfl)
theorem dX8_readNew_114 : decode cX8_readNew 114 = .ok (.iadd, 1) := dk_96 (dk_at dksX8_readNew_4 21 rfl rfl)
theorem dX8_readNew_115 : decode cX8_readNew 115 = .ok (.aload_n 0, 1) := dk_42 (dk_at dksX8_readNew_4 22 rfl rfl)
theorem dX8_readNew_116 : decode cX8_readNew 116 = .ok (.getfield 131, 3) := dk_180 0 131 (dk_at dksX8_readNew_5 0 rfl rfl)
theorem dX8_readNew_119 : decode cX8_readNew 119 = .ok (.lastore, 1) := dk_80 (dk_at dksX8_readNew_5 3 rfl rfl)
theorem dX8_readNew_120 : decode cX8_readNew 120 = .ok (.aload_n 0, 1) := dk_42 (dk_at dksX8_readNew_5 4 rfl rfl)
theorem dX8_readNew_121 : decode cX8_readNew 121 = .ok (.invokevirtual 212, 3) := dk_182 0 212 (dk_at dksX8_readNew_5 5 rfl rfl)
theorem dX8_readNew_124 : decode cX8_readNew 124 = .ok (.iload_n 3, 1) := dk_29 (dk_at dksX8_readNew_5 8 rfl rfl)
theorem dX8_readNew_125 : decode cX8_readNew 125 = .ok (.ireturn, 1) := dk_172 (dk_at dksX8_readNew_5 9 rfl rfl)
abbrev cX8_isName : ByteArray := prog_14_method_43_code
def yX8_isName : MethodName := ⟨RX8, "isName", "()Z"⟩
def dkwX8_isName_1 : List UInt8 := [4, 167, 0, 4, 3, 172]
abbrev dktX8_isName_1 : List UInt8 := dkwX8_isName_1 ++ []
def dkwX8_isName_0 : List UInt8 := [42, 180, 0, 125, 4, 160, 0, 23, 42, 180, 0, 138, 16, 8, 163, 0, 14, 42, 182, 0, 199, 154, 0, 7]
abbrev dktX8_isName_0 : List UInt8 := dkwX8_isName_0 ++ dktX8_isName_1
theorem dksX8_isName_0 : cX8_isName.data.toList.drop 0 = dktX8_isName_0 := by decide +kernel
theorem dksX8_isName_1 : cX8_isName.data.toList.drop 24 = dktX8_isName_1 := dk_seg dksX8_isName_0 24 rfl rfl
theorem dX8_isName_0 : decode cX8_isName 0 = .ok (.aload_n 0, 1) := dk_42 (dk_at dksX8_isName_0 0 rfl rfl)
theorem dX8_isName_1 : decode cX8_isName 1 = .ok (.getfield 125, 3) := dk_180 0 125 (dk_at dksX8_isName_0 1 rfl rfl)
theorem dX8_isName_4 : decode cX8_isName 4 = .ok (.iconst 1, 1) := dk_4 (dk_at dksX8_isName_0 4 rfl rfl)
theorem dX8_isName_5 : decode cX8_isName 5 = .ok (.if_icmp .ne 23, 3) := dk_160 0 23 (dk_at dksX8_isName_0 5 rfl rfl)
theorem dX8_isName_8 : decode cX8_isName 8 = .ok (.aload_n 0, 1) := dk_42 (dk_at dksX8_isName_0 8 rfl rfl)
theorem dX8_isName_9 : decode cX8_isName 9 = .ok (.getfield 138, 3) := dk_180 0 138 (dk_at dksX8_isName_0 9 rfl rfl)
theorem dX8_isName_12 : decode cX8_isName 12 = .ok (.bipush 8, 2) := dk_16 8 (dk_at dksX8_isName_0 12 rfl rfl)
theorem dX8_isName_14 : decode cX8_isName 14 = .ok (.if_icmp .gt 14, 3) := dk_163 0 14 (dk_at dksX8_isName_0 14 rfl rfl)
theorem dX8_isName_17 : decode cX8_isName 17 = .ok (.aload_n 0, 1) := dk_42 (dk_at dksX8_isName_0 17 rfl rfl)
theorem dX8_isName_18 : decode cX8_isName 18 = .ok (.invokevirtual 199, 3) := dk_182 0 199 (dk_at dksX8_isName_0 18 rfl rfl)
theorem dX8_isName_21 : decode cX8_isName 21 = .ok (.ifCond .ne 7, 3) := dk_154 0 7 (dk_at dksX8_isName_0 21 rfl rfl)
theorem dX8_isName_24 : decode cX8_isName 24 = .ok (.iconst 1, 1) := dk_4 (dk_at dksX8_isName_1 0 rfl rfl)
theorem dX8_isName_25 : decode cX8_isName 25 = .ok (.goto 4, 3) := dk_167 0 4 (dk_at dksX8_isName_1 1 rfl rfl)
theorem dX8_isName_28 : decode cX8_isName 28 = .ok (.iconst 0, 1) := dk_3 (dk_at dksX8_isName_1 4 rfl rfl)
theorem dX8_isName_29 : decode cX8_isName 29 = .ok (.ireturn, 1) := dk_172 (dk_at dksX8_isName_1 5 rfl rfl)
abbrev cX8_isKept : ByteArray := prog_14_method_42_code
def yX8_isKept : MethodName := ⟨RX8, "isKept", "()Z"⟩
def dkwX8_isKept_3 : List UInt8 := [156, 0, 17, 42, 182, 0, 193, 156, 0, 10, 42, 182, 0, 196, 153, 0, 7, 4, 167, 0, 4, 3, 172]
abbrev dktX8_isKept_3 : List UInt8 := dkwX8_isKept_3 ++ []
def dkwX8_isKept_2 : List UInt8 := [154, 0, 17, 42, 182, 0, 183, 154, 0, 10, 42, 182, 0, 186, 153, 0, 5, 4, 172, 42, 182, 0, 189]
abbrev dktX8_isKept_2 : List UInt8 := dkwX8_isKept_2 ++ dktX8_isKept_3
def dkwX8_isKept_1 : List UInt8 := [182, 0, 171, 154, 0, 38, 42, 182, 0, 174, 154, 0, 31, 42, 182, 0, 177, 154, 0, 24, 42, 182, 0, 180]
abbrev dktX8_isKept_1 : List UInt8 := dkwX8_isKept_1 ++ dktX8_isKept_2
def dkwX8_isKept_0 : List UInt8 := [42, 182, 0, 162, 154, 0, 59, 42, 182, 0, 165, 154, 0, 52, 42, 182, 0, 168, 154, 0, 45, 42]
abbrev dktX8_isKept_0 : List UInt8 := dkwX8_isKept_0 ++ dktX8_isKept_1
theorem dksX8_isKept_0 : cX8_isKept.data.toList.drop 0 = dktX8_isKept_0 := by decide +kernel
theorem dksX8_isKept_1 : cX8_isKept.data.toList.drop 22 = dktX8_isKept_1 := dk_seg dksX8_isKept_0 22 rfl rfl
theorem dksX8_isKept_2 : cX8_isKept.data.toList.drop 46 = dktX8_isKept_2 := dk_seg dksX8_isKept_1 24 rfl rfl
theorem dksX8_isKept_3 : cX8_isKept.data.toList.drop 69 = dktX8_isKept_3 := dk_seg dksX8_isKept_2 23 rfl rfl
theorem dX8_isKept_0 : decode cX8_isKept 0 = .ok (.aload_n 0, 1) := dk_42 (dk_at dksX8_isKept_0 0 rfl rfl)
theorem dX8_isKept_1 : decode cX8_isKept 1 = .ok (.invokevirtual 162, 3) := dk_182 0 162 (dk_at dksX8_isKept_0 1 rfl rfl)
theorem dX8_isKept_4 : decode cX8_isKept 4 = .ok (.ifCond .ne 59, 3) := dk_154 0 59 (dk_at dksX8_isKept_0 4 rfl rfl)
theorem dX8_isKept_7 : decode cX8_isKept 7 = .ok (.aload_n 0, 1) := dk_42 (dk_at dksX8_isKept_0 7 rfl rfl)
theorem dX8_isKept_8 : decode cX8_isKept 8 = .ok (.invokevirtual 165, 3) := dk_182 0 165 (dk_at dksX8_isKept_0 8 rfl rfl)
theorem dX8_isKept_11 : decode cX8_isKept 11 = .ok (.ifCond .ne 52, 3) := dk_154 0 52 (dk_at dksX8_isKept_0 11 rfl rfl)
theorem dX8_isKept_14 : decode cX8_isKept 14 = .ok (.aload_n 0, 1) := dk_42 (dk_at dksX8_isKept_0 14 rfl rfl)
theorem dX8_isKept_15 : decode cX8_isKept 15 = .ok (.invokevirtual 168, 3) := dk_182 0 168 (dk_at dksX8_isKept_0 15 rfl rfl)
theorem dX8_isKept_18 : decode cX8_isKept 18 = .ok (.ifCond .ne 45, 3) := dk_154 0 45 (dk_at dksX8_isKept_0 18 rfl rfl)
theorem dX8_isKept_21 : decode cX8_isKept 21 = .ok (.aload_n 0, 1) := dk_42 (dk_at dksX8_isKept_0 21 rfl rfl)
theorem dX8_isKept_22 : decode cX8_isKept 22 = .ok (.invokevirtual 171, 3) := dk_182 0 171 (dk_at dksX8_isKept_1 0 rfl rfl)
theorem dX8_isKept_25 : decode cX8_isKept 25 = .ok (.ifCond .ne 38, 3) := dk_154 0 38 (dk_at dksX8_isKept_1 3 rfl rfl)
theorem dX8_isKept_28 : decode cX8_isKept 28 = .ok (.aload_n 0, 1) := dk_42 (dk_at dksX8_isKept_1 6 rfl rfl)
theorem dX8_isKept_29 : decode cX8_isKept 29 = .ok (.invokevirtual 174, 3) := dk_182 0 174 (dk_at dksX8_isKept_1 7 rfl rfl)
theorem dX8_isKept_32 : decode cX8_isKept 32 = .ok (.ifCond .ne 31, 3) := dk_154 0 31 (dk_at dksX8_isKept_1 10 rfl rfl)
theorem dX8_isKept_35 : decode cX8_isKept 35 = .ok (.aload_n 0, 1) := dk_42 (dk_at dksX8_isKept_1 13 rfl rfl)
theorem dX8_isKept_36 : decode cX8_isKept 36 = .ok (.invokevirtual 177, 3) := dk_182 0 177 (dk_at dksX8_isKept_1 14 rfl rfl)
theorem dX8_isKept_39 : decode cX8_isKept 39 = .ok (.ifCond .ne 24, 3) := dk_154 0 24 (dk_at dksX8_isKept_1 17 rfl rfl)
theorem dX8_isKept_42 : decode cX8_isKept 42 = .ok (.aload_n 0, 1) := dk_42 (dk_at dksX8_isKept_1 20 rfl rfl)
theorem dX8_isKept_43 : decode cX8_isKept 43 = .ok (.invokevirtual 180, 3) := dk_182 0 180 (dk_at dksX8_isKept_1 21 rfl rfl)
theorem dX8_isKept_46 : decode cX8_isKept 46 = .ok (.ifCond .ne 17, 3) := dk_154 0 17 (dk_at dksX8_isKept_2 0 rfl rfl)
theorem dX8_isKept_49 : decode cX8_isKept 49 = .ok (.aload_n 0, 1) := dk_42 (dk_at dksX8_isKept_2 3 rfl rfl)
theorem dX8_isKept_50 : decode cX8_isKept 50 = .ok (.invokevirtual 183, 3) := dk_182 0 183 (dk_at dksX8_isKept_2 4 rfl rfl)
theorem dX8_isKept_53 : decode cX8_isKept 53 = .ok (.ifCond .ne 10, 3) := dk_154 0 10 (dk_at dksX8_isKept_2 7 rfl rfl)
theorem dX8_isKept_56 : decode cX8_isKept 56 = .ok (.aload_n 0, 1) := dk_42 (dk_at dksX8_isKept_2 10 rfl rfl)
theorem dX8_isKept_57 : decode cX8_isKept 57 = .ok (.invokevirtual 186, 3) := dk_182 0 186 (dk_at dksX8_isKept_2 11 rfl rfl)
theorem dX8_isKept_60 : decode cX8_isKept 60 = .ok (.ifCond .eq 5, 3) := dk_153 0 5 (dk_at dksX8_isKept_2 14 rfl rfl)
theorem dX8_isKept_63 : decode cX8_isKept 63 = .ok (.iconst 1, 1) := dk_4 (dk_at dksX8_isKept_2 17 rfl rfl)
theorem dX8_isKept_64 : decode cX8_isKept 64 = .ok (.ireturn, 1) := dk_172 (dk_at dksX8_isKept_2 18 rfl rfl)
theorem dX8_isKept_65 : decode cX8_isKept 65 = .ok (.aload_n 0, 1) := dk_42 (dk_at dksX8_isKept_2 19 rfl rfl)
theorem dX8_isKept_66 : decode cX8_isKept 66 = .ok (.invokevirtual 189, 3) := dk_182 0 189 (dk_at dksX8_isKept_2 20 rfl rfl)
theorem dX8_isKept_69 : decode cX8_isKept 69 = .ok (.ifCond .ge 17, 3) := dk_156 0 17 (dk_at dksX8_isKept_3 0 rfl rfl)
theorem dX8_isKept_72 : decode cX8_isKept 72 = .ok (.aload_n 0, 1) := dk_42 (dk_at dksX8_isKept_3 3 rfl rfl)
theorem dX8_isKept_73 : decode cX8_isKept 73 = .ok (.invokevirtual 193, 3) := dk_182 0 193 (dk_at dksX8_isKept_3 4 rfl rfl)
theorem dX8_isKept_76 : decode cX8_isKept 76 = .ok (.ifCond .ge 10, 3) := dk_156 0 10 (dk_at dksX8_isKept_3 7 rfl rfl)
theorem dX8_isKept_79 : decode cX8_isKept 79 = .ok (.aload_n 0, 1) := dk_42 (dk_at dksX8_isKept_3 10 rfl rfl)
theorem dX8_isKept_80 : decode cX8_isKept 80 = .ok (.invokevirtual 196, 3) := dk_182 0 196 (dk_at dksX8_isKept_3 11 rfl rfl)
theorem dX8_isKept_83 : decode cX8_isKept 83 = .ok (.ifCond .eq 7, 3) := dk_153 0 7 (dk_at dksX8_isKept_3 14 rfl rfl)
theorem dX8_isKept_86 : decode cX8_isKept 86 = .ok (.iconst 1, 1) := dk_4 (dk_at dksX8_isKept_3 17 rfl rfl)
theorem dX8_isKept_87 : decode cX8_isKept 87 = .ok (.goto 4, 3) := dk_167 0 4 (dk_at dksX8_isKept_3 18 rfl rfl)
theorem dX8_isKept_90 : decode cX8_isKept 90 = .ok (.iconst 0, 1) := dk_3 (dk_at dksX8_isKept_3 21 rfl rfl)
theorem dX8_isKept_91 : decode cX8_isKept 91 = .ok (.ireturn, 1) := dk_172 (dk_at dksX8_isKept_3 22 rfl rfl)
abbrev cX8_isWorth : ByteArray := prog_14_method_31_code
def yX8_isWorth : MethodName := ⟨RX8, "isWorth", "()Z"⟩
def dkwX8_isWorth_0 : List UInt8 := [42, 16, 119, 16, 111, 16, 114, 16, 116, 16, 104, 3, 184, 0, 150, 182, 0, 154, 172]
abbrev dktX8_isWorth_0 : List UInt8 := dkwX8_isWorth_0 ++ []
theorem dksX8_isWorth_0 : cX8_isWorth.data.toList.drop 0 = dktX8_isWorth_0 := by decide +kernel
theorem dX8_isWorth_0 : decode cX8_isWorth 0 = .ok (.aload_n 0, 1) := dk_42 (dk_at dksX8_isWorth_0 0 rfl rfl)
theorem dX8_isWorth_1 : decode cX8_isWorth 1 = .ok (.bipush 119, 2) := dk_16 119 (dk_at dksX8_isWorth_0 1 rfl rfl)
theorem dX8_isWorth_3 : decode cX8_isWorth 3 = .ok (.bipush 111, 2) := dk_16 111 (dk_at dksX8_isWorth_0 3 rfl rfl)
theorem dX8_isWorth_5 : decode cX8_isWorth 5 = .ok (.bipush 114, 2) := dk_16 114 (dk_at dksX8_isWorth_0 5 rfl rfl)
theorem dX8_isWorth_7 : decode cX8_isWorth 7 = .ok (.bipush 116, 2) := dk_16 116 (dk_at dksX8_isWorth_0 7 rfl rfl)
theorem dX8_isWorth_9 : decode cX8_isWorth 9 = .ok (.bipush 104, 2) := dk_16 104 (dk_at dksX8_isWorth_0 9 rfl rfl)
theorem dX8_isWorth_11 : decode cX8_isWorth 11 = .ok (.iconst 0, 1) := dk_3 (dk_at dksX8_isWorth_0 11 rfl rfl)
theorem dX8_isWorth_12 : decode cX8_isWorth 12 = .ok (.invokestatic 150, 3) := dk_184 0 150 (dk_at dksX8_isWorth_0 12 rfl rfl)
theorem dX8_isWorth_15 : decode cX8_isWorth 15 = .ok (.invokevirtual 154, 3) := dk_182 0 154 (dk_at dksX8_isWorth_0 15 rfl rfl)
theorem dX8_isWorth_18 : decode cX8_isWorth 18 = .ok (.ireturn, 1) := dk_172 (dk_at dksX8_isWorth_0 18 rfl rfl)
abbrev cX8_isPerson : ByteArray := prog_14_method_32_code
def yX8_isPerson : MethodName := ⟨RX8, "isPerson", "()Z"⟩
def dkwX8_isPerson_0 : List UInt8 := [42, 16, 112, 16, 101, 16, 114, 16, 115, 16, 111, 16, 110, 184, 0, 150, 182, 0, 154, 172]
abbrev dktX8_isPerson_0 : List UInt8 := dkwX8_isPerson_0 ++ []
theorem dksX8_isPerson_0 : cX8_isPerson.data.toList.drop 0 = dktX8_isPerson_0 := by decide +kernel
theorem dX8_isPerson_0 : decode cX8_isPerson 0 = .ok (.aload_n 0, 1) := dk_42 (dk_at dksX8_isPerson_0 0 rfl rfl)
theorem dX8_isPerson_1 : decode cX8_isPerson 1 = .ok (.bipush 112, 2) := dk_16 112 (dk_at dksX8_isPerson_0 1 rfl rfl)
theorem dX8_isPerson_3 : decode cX8_isPerson 3 = .ok (.bipush 101, 2) := dk_16 101 (dk_at dksX8_isPerson_0 3 rfl rfl)
theorem dX8_isPerson_5 : decode cX8_isPerson 5 = .ok (.bipush 114, 2) := dk_16 114 (dk_at dksX8_isPerson_0 5 rfl rfl)
theorem dX8_isPerson_7 : decode cX8_isPerson 7 = .ok (.bipush 115, 2) := dk_16 115 (dk_at dksX8_isPerson_0 7 rfl rfl)
theorem dX8_isPerson_9 : decode cX8_isPerson 9 = .ok (.bipush 111, 2) := dk_16 111 (dk_at dksX8_isPerson_0 9 rfl rfl)
theorem dX8_isPerson_11 : decode cX8_isPerson 11 = .ok (.bipush 110, 2) := dk_16 110 (dk_at dksX8_isPerson_0 11 rfl rfl)
theorem dX8_isPerson_13 : decode cX8_isPerson 13 = .ok (.invokestatic 150, 3) := dk_184 0 150 (dk_at dksX8_isPerson_0 13 rfl rfl)
theorem dX8_isPerson_16 : decode cX8_isPerson 16 = .ok (.invokevirtual 154, 3) := dk_182 0 154 (dk_at dksX8_isPerson_0 16 rfl rfl)
theorem dX8_isPerson_19 : decode cX8_isPerson 19 = .ok (.ireturn, 1) := dk_172 (dk_at dksX8_isPerson_0 19 rfl rfl)
abbrev cX8_isIs : ByteArray := prog_14_method_33_code
def yX8_isIs : MethodName := ⟨RX8, "isIs", "()Z"⟩
def dkwX8_isIs_0 : List UInt8 := [42, 16, 105, 16, 115, 3, 3, 3, 3, 184, 0, 150, 182, 0, 154, 172]
abbrev dktX8_isIs_0 : List UInt8 := dkwX8_isIs_0 ++ []
theorem dksX8_isIs_0 : cX8_isIs.data.toList.drop 0 = dktX8_isIs_0 := by decide +kernel
theorem dX8_isIs_0 : decode cX8_isIs 0 = .ok (.aload_n 0, 1) := dk_42 (dk_at dksX8_isIs_0 0 rfl rfl)
theorem dX8_isIs_1 : decode cX8_isIs 1 = .ok (.bipush 105, 2) := dk_16 105 (dk_at dksX8_isIs_0 1 rfl rfl)
theorem dX8_isIs_3 : decode cX8_isIs 3 = .ok (.bipush 115, 2) := dk_16 115 (dk_at dksX8_isIs_0 3 rfl rfl)
theorem dX8_isIs_5 : decode cX8_isIs 5 = .ok (.iconst 0, 1) := dk_3 (dk_at dksX8_isIs_0 5 rfl rfl)
theorem dX8_isIs_6 : decode cX8_isIs 6 = .ok (.iconst 0, 1) := dk_3 (dk_at dksX8_isIs_0 6 rfl rfl)
theorem dX8_isIs_7 : decode cX8_isIs 7 = .ok (.iconst 0, 1) := dk_3 (dk_at dksX8_isIs_0 7 rfl rfl)
theorem dX8_isIs_8 : decode cX8_isIs 8 = .ok (.iconst 0, 1) := dk_3 (dk_at dksX8_isIs_0 8 rfl rfl)
theorem dX8_isIs_9 : decode cX8_isIs 9 = .ok (.invokestatic 150, 3) := dk_184 0 150 (dk_at dksX8_isIs_0 9 rfl rfl)
theorem dX8_isIs_12 : decode cX8_isIs 12 = .ok (.invokevirtual 154, 3) := dk_182 0 154 (dk_at dksX8_isIs_0 12 rfl rfl)
theorem dX8_isIs_15 : decode cX8_isIs 15 = .ok (.ireturn, 1) := dk_172 (dk_at dksX8_isIs_0 15 rfl rfl)
abbrev cX8_isLane : ByteArray := prog_14_method_34_code
def yX8_isLane : MethodName := ⟨RX8, "isLane", "()Z"⟩
def dkwX8_isLane_0 : List UInt8 := [42, 16, 108, 16, 97, 16, 110, 16, 101, 3, 3, 184, 0, 150, 182, 0, 154, 172]
abbrev dktX8_isLane_0 : List UInt8 := dkwX8_isLane_0 ++ []
theorem dksX8_isLane_0 : cX8_isLane.data.toList.drop 0 = dktX8_isLane_0 := by decide +kernel
theorem dX8_isLane_0 : decode cX8_isLane 0 = .ok (.aload_n 0, 1) := dk_42 (dk_at dksX8_isLane_0 0 rfl rfl)
theorem dX8_isLane_1 : decode cX8_isLane 1 = .ok (.bipush 108, 2) := dk_16 108 (dk_at dksX8_isLane_0 1 rfl rfl)
theorem dX8_isLane_3 : decode cX8_isLane 3 = .ok (.bipush 97, 2) := dk_16 97 (dk_at dksX8_isLane_0 3 rfl rfl)
theorem dX8_isLane_5 : decode cX8_isLane 5 = .ok (.bipush 110, 2) := dk_16 110 (dk_at dksX8_isLane_0 5 rfl rfl)
theorem dX8_isLane_7 : decode cX8_isLane 7 = .ok (.bipush 101, 2) := dk_16 101 (dk_at dksX8_isLane_0 7 rfl rfl)
theorem dX8_isLane_9 : decode cX8_isLane 9 = .ok (.iconst 0, 1) := dk_3 (dk_at dksX8_isLane_0 9 rfl rfl)
theorem dX8_isLane_10 : decode cX8_isLane 10 = .ok (.iconst 0, 1) := dk_3 (dk_at dksX8_isLane_0 10 rfl rfl)
theorem dX8_isLane_11 : decode cX8_isLane 11 = .ok (.invokestatic 150, 3) := dk_184 0 150 (dk_at dksX8_isLane_0 11 rfl rfl)
theorem dX8_isLane_14 : decode cX8_isLane 14 = .ok (.invokevirtual 154, 3) := dk_182 0 154 (dk_at dksX8_isLane_0 14 rfl rfl)
theorem dX8_isLane_17 : decode cX8_isLane 17 = .ok (.ireturn, 1) := dk_172 (dk_at dksX8_isLane_0 17 rfl rfl)
abbrev cX8_isTin : ByteArray := prog_14_method_35_code
def yX8_isTin : MethodName := ⟨RX8, "isTin", "()Z"⟩
def dkwX8_isTin_0 : List UInt8 := [42, 16, 116, 16, 105, 16, 110, 3, 3, 3, 184, 0, 150, 182, 0, 154, 172]
abbrev dktX8_isTin_0 : List UInt8 := dkwX8_isTin_0 ++ []
theorem dksX8_isTin_0 : cX8_isTin.data.toList.drop 0 = dktX8_isTin_0 := by decide +kernel
theorem dX8_isTin_0 : decode cX8_isTin 0 = .ok (.aload_n 0, 1) := dk_42 (dk_at dksX8_isTin_0 0 rfl rfl)
theorem dX8_isTin_1 : decode cX8_isTin 1 = .ok (.bipush 116, 2) := dk_16 116 (dk_at dksX8_isTin_0 1 rfl rfl)
theorem dX8_isTin_3 : decode cX8_isTin 3 = .ok (.bipush 105, 2) := dk_16 105 (dk_at dksX8_isTin_0 3 rfl rfl)
theorem dX8_isTin_5 : decode cX8_isTin 5 = .ok (.bipush 110, 2) := dk_16 110 (dk_at dksX8_isTin_0 5 rfl rfl)
theorem dX8_isTin_7 : decode cX8_isTin 7 = .ok (.iconst 0, 1) := dk_3 (dk_at dksX8_isTin_0 7 rfl rfl)
theorem dX8_isTin_8 : decode cX8_isTin 8 = .ok (.iconst 0, 1) := dk_3 (dk_at dksX8_isTin_0 8 rfl rfl)
theorem dX8_isTin_9 : decode cX8_isTin 9 = .ok (.iconst 0, 1) := dk_3 (dk_at dksX8_isTin_0 9 rfl rfl)
theorem dX8_isTin_10 : decode cX8_isTin 10 = .ok (.invokestatic 150, 3) := dk_184 0 150 (dk_at dksX8_isTin_0 10 rfl rfl)
theorem dX8_isTin_13 : decode cX8_isTin 13 = .ok (.invokevirtual 154, 3) := dk_182 0 154 (dk_at dksX8_isTin_0 13 rfl rfl)
theorem dX8_isTin_16 : decode cX8_isTin 16 = .ok (.ireturn, 1) := dk_172 (dk_at dksX8_isTin_0 16 rfl rfl)
abbrev cX8_isOf : ByteArray := prog_14_method_36_code
def yX8_isOf : MethodName := ⟨RX8, "isOf", "()Z"⟩
def dkwX8_isOf_0 : List UInt8 := [42, 16, 111, 16, 102, 3, 3, 3, 3, 184, 0, 150, 182, 0, 154, 172]
abbrev dktX8_isOf_0 : List UInt8 := dkwX8_isOf_0 ++ []
theorem dksX8_isOf_0 : cX8_isOf.data.toList.drop 0 = dktX8_isOf_0 := by decide +kernel
theorem dX8_isOf_0 : decode cX8_isOf 0 = .ok (.aload_n 0, 1) := dk_42 (dk_at dksX8_isOf_0 0 rfl rfl)
theorem dX8_isOf_1 : decode cX8_isOf 1 = .ok (.bipush 111, 2) := dk_16 111 (dk_at dksX8_isOf_0 1 rfl rfl)
theorem dX8_isOf_3 : decode cX8_isOf 3 = .ok (.bipush 102, 2) := dk_16 102 (dk_at dksX8_isOf_0 3 rfl rfl)
theorem dX8_isOf_5 : decode cX8_isOf 5 = .ok (.iconst 0, 1) := dk_3 (dk_at dksX8_isOf_0 5 rfl rfl)
theorem dX8_isOf_6 : decode cX8_isOf 6 = .ok (.iconst 0, 1) := dk_3 (dk_at dksX8_isOf_0 6 rfl rfl)
theorem dX8_isOf_7 : decode cX8_isOf 7 = .ok (.iconst 0, 1) := dk_3 (dk_at dksX8_isOf_0 7 rfl rfl)
theorem dX8_isOf_8 : decode cX8_isOf 8 = .ok (.iconst 0, 1) := dk_3 (dk_at dksX8_isOf_0 8 rfl rfl)
theorem dX8_isOf_9 : decode cX8_isOf 9 = .ok (.invokestatic 150, 3) := dk_184 0 150 (dk_at dksX8_isOf_0 9 rfl rfl)
theorem dX8_isOf_12 : decode cX8_isOf 12 = .ok (.invokevirtual 154, 3) := dk_182 0 154 (dk_at dksX8_isOf_0 12 rfl rfl)
theorem dX8_isOf_15 : decode cX8_isOf 15 = .ok (.ireturn, 1) := dk_172 (dk_at dksX8_isOf_0 15 rfl rfl)
abbrev cX8_isLead : ByteArray := prog_14_method_38_code
def yX8_isLead : MethodName := ⟨RX8, "isLead", "()Z"⟩
def dkwX8_isLead_0 : List UInt8 := [42, 16, 108, 16, 101, 16, 97, 16, 100, 3, 3, 184, 0, 150, 182, 0, 154, 172]
abbrev dktX8_isLead_0 : List UInt8 := dkwX8_isLead_0 ++ []
theorem dksX8_isLead_0 : cX8_isLead.data.toList.drop 0 = dktX8_isLead_0 := by decide +kernel
theorem dX8_isLead_0 : decode cX8_isLead 0 = .ok (.aload_n 0, 1) := dk_42 (dk_at dksX8_isLead_0 0 rfl rfl)
theorem dX8_isLead_1 : decode cX8_isLead 1 = .ok (.bipush 108, 2) := dk_16 108 (dk_at dksX8_isLead_0 1 rfl rfl)
theorem dX8_isLead_3 : decode cX8_isLead 3 = .ok (.bipush 101, 2) := dk_16 101 (dk_at dksX8_isLead_0 3 rfl rfl)
theorem dX8_isLead_5 : decode cX8_isLead 5 = .ok (.bipush 97, 2) := dk_16 97 (dk_at dksX8_isLead_0 5 rfl rfl)
theorem dX8_isLead_7 : decode cX8_isLead 7 = .ok (.bipush 100, 2) := dk_16 100 (dk_at dksX8_isLead_0 7 rfl rfl)
theorem dX8_isLead_9 : decode cX8_isLead 9 = .ok (.iconst 0, 1) := dk_3 (dk_at dksX8_isLead_0 9 rfl rfl)
theorem dX8_isLead_10 : decode cX8_isLead 10 = .ok (.iconst 0, 1) := dk_3 (dk_at dksX8_isLead_0 10 rfl rfl)
theorem dX8_isLead_11 : decode cX8_isLead 11 = .ok (.invokestatic 150, 3) := dk_184 0 150 (dk_at dksX8_isLead_0 11 rfl rfl)
theorem dX8_isLead_14 : decode cX8_isLead 14 = .ok (.invokevirtual 154, 3) := dk_182 0 154 (dk_at dksX8_isLead_0 14 rfl rfl)
theorem dX8_isLead_17 : decode cX8_isLead 17 = .ok (.ireturn, 1) := dk_172 (dk_at dksX8_isLead_0 17 rfl rfl)
abbrev cX8_stepWord : ByteArray := prog_14_method_39_code
def yX8_stepWord : MethodName := ⟨RX8, "stepWord", "()I"⟩
def dkwX8_stepWord_7 : List UInt8 := [3, 184, 0, 150, 182, 0, 154, 153, 0, 8, 16, 7, 167, 0, 4, 2, 172]
abbrev dktX8_stepWord_7 : List UInt8 := dkwX8_stepWord_7 ++ []
def dkwX8_stepWord_6 : List UInt8 := [3, 3, 184, 0, 150, 182, 0, 154, 153, 0, 6, 16, 6, 172, 42, 16, 115, 16, 116, 16, 111, 16, 112, 3]
abbrev dktX8_stepWord_6 : List UInt8 := dkwX8_stepWord_6 ++ dktX8_stepWord_7
def dkwX8_stepWord_5 : List UInt8 := [16, 110, 3, 3, 184, 0, 150, 182, 0, 154, 153, 0, 5, 8, 172, 42, 16, 108, 16, 111, 16, 111, 16, 112]
abbrev dktX8_stepWord_5 : List UInt8 := dkwX8_stepWord_5 ++ dktX8_stepWord_6
def dkwX8_stepWord_4 : List UInt8 := [16, 121, 3, 3, 3, 184, 0, 150, 182, 0, 154, 153, 0, 5, 7, 172, 42, 16, 119, 16, 104, 16, 101]
abbrev dktX8_stepWord_4 : List UInt8 := dkwX8_stepWord_4 ++ dktX8_stepWord_5
def dkwX8_stepWord_3 : List UInt8 := [16, 111, 16, 115, 16, 101, 3, 3, 184, 0, 150, 182, 0, 154, 153, 0, 5, 6, 172, 42, 16, 97, 16, 110]
abbrev dktX8_stepWord_3 : List UInt8 := dkwX8_stepWord_3 ++ dktX8_stepWord_4
def dkwX8_stepWord_2 : List UInt8 := [16, 101, 16, 97, 16, 114, 16, 110, 3, 184, 0, 150, 182, 0, 154, 153, 0, 5, 5, 172, 42, 16, 108]
abbrev dktX8_stepWord_2 : List UInt8 := dkwX8_stepWord_2 ++ dktX8_stepWord_3
def dkwX8_stepWord_1 : List UInt8 := [16, 98, 16, 105, 16, 116, 16, 101, 3, 3, 184, 0, 150, 182, 0, 154, 153, 0, 5, 4, 172, 42, 16, 108]
abbrev dktX8_stepWord_1 : List UInt8 := dkwX8_stepWord_1 ++ dktX8_stepWord_2
def dkwX8_stepWord_0 : List UInt8 := [42, 16, 112, 16, 97, 16, 115, 16, 115, 3, 3, 184, 0, 150, 182, 0, 154, 153, 0, 5, 3, 172, 42]
abbrev dktX8_stepWord_0 : List UInt8 := dkwX8_stepWord_0 ++ dktX8_stepWord_1
theorem dksX8_stepWord_0 : cX8_stepWord.data.toList.drop 0 = dktX8_stepWord_0 := by decide +kernel
theorem dksX8_stepWord_1 : cX8_stepWord.data.toList.drop 23 = dktX8_stepWord_1 := dk_seg dksX8_stepWord_0 23 rfl rfl
theorem dksX8_stepWord_2 : cX8_stepWord.data.toList.drop 47 = dktX8_stepWord_2 := dk_seg dksX8_stepWord_1 24 rfl rfl
theorem dksX8_stepWord_3 : cX8_stepWord.data.toList.drop 70 = dktX8_stepWord_3 := dk_seg dksX8_stepWord_2 23 rfl rfl
theorem dksX8_stepWord_4 : cX8_stepWord.data.toList.drop 94 = dktX8_stepWord_4 := dk_seg dksX8_stepWord_3 24 rfl rfl
theorem dksX8_stepWord_5 : cX8_stepWord.data.toList.drop 117 = dktX8_stepWord_5 := dk_seg dksX8_stepWord_4 23 rfl rfl
theorem dksX8_stepWord_6 : cX8_stepWord.data.toList.drop 141 = dktX8_stepWord_6 := dk_seg dksX8_stepWord_5 24 rfl rfl
theorem dksX8_stepWord_7 : cX8_stepWord.data.toList.drop 165 = dktX8_stepWord_7 := dk_seg dksX8_stepWord_6 24 rfl rfl
theorem dX8_stepWord_0 : decode cX8_stepWord 0 = .ok (.aload_n 0, 1) := dk_42 (dk_at dksX8_stepWord_0 0 rfl rfl)
theorem dX8_stepWord_1 : decode cX8_stepWord 1 = .ok (.bipush 112, 2) := dk_16 112 (dk_at dksX8_stepWord_0 1 rfl rfl)
theorem dX8_stepWord_3 : decode cX8_stepWord 3 = .ok (.bipush 97, 2) := dk_16 97 (dk_at dksX8_stepWord_0 3 rfl rfl)
theorem dX8_stepWord_5 : decode cX8_stepWord 5 = .ok (.bipush 115, 2) := dk_16 115 (dk_at dksX8_stepWord_0 5 rfl rfl)
theorem dX8_stepWord_7 : decode cX8_stepWord 7 = .ok (.bipush 115, 2) := dk_16 115 (dk_at dksX8_stepWord_0 7 rfl rfl)
theorem dX8_stepWord_9 : decode cX8_stepWord 9 = .ok (.iconst 0, 1) := dk_3 (dk_at dksX8_stepWord_0 9 rfl rfl)
theorem dX8_stepWord_10 : decode cX8_stepWord 10 = .ok (.iconst 0, 1) := dk_3 (dk_at dksX8_stepWord_0 10 rfl rfl)
theorem dX8_stepWord_11 : decode cX8_stepWord 11 = .ok (.invokestatic 150, 3) := dk_184 0 150 (dk_at dksX8_stepWord_0 11 rfl rfl)
theorem dX8_stepWord_14 : decode cX8_stepWord 14 = .ok (.invokevirtual 154, 3) := dk_182 0 154 (dk_at dksX8_stepWord_0 14 rfl rfl)
theorem dX8_stepWord_17 : decode cX8_stepWord 17 = .ok (.ifCond .eq 5, 3) := dk_153 0 5 (dk_at dksX8_stepWord_0 17 rfl rfl)
theorem dX8_stepWord_20 : decode cX8_stepWord 20 = .ok (.iconst 0, 1) := dk_3 (dk_at dksX8_stepWord_0 20 rfl rfl)
theorem dX8_stepWord_21 : decode cX8_stepWord 21 = .ok (.ireturn, 1) := dk_172 (dk_at dksX8_stepWord_0 21 rfl rfl)
theorem dX8_stepWord_22 : decode cX8_stepWord 22 = .ok (.aload_n 0, 1) := dk_42 (dk_at dksX8_stepWord_0 22 rfl rfl)
theorem dX8_stepWord_23 : decode cX8_stepWord 23 = .ok (.bipush 98, 2) := dk_16 98 (dk_at dksX8_stepWord_1 0 rfl rfl)
theorem dX8_stepWord_25 : decode cX8_stepWord 25 = .ok (.bipush 105, 2) := dk_16 105 (dk_at dksX8_stepWord_1 2 rfl rfl)
theorem dX8_stepWord_27 : decode cX8_stepWord 27 = .ok (.bipush 116, 2) := dk_16 116 (dk_at dksX8_stepWord_1 4 rfl rfl)
theorem dX8_stepWord_29 : decode cX8_stepWord 29 = .ok (.bipush 101, 2) := dk_16 101 (dk_at dksX8_stepWord_1 6 rfl rfl)
theorem dX8_stepWord_31 : decode cX8_stepWord 31 = .ok (.iconst 0, 1) := dk_3 (dk_at dksX8_stepWord_1 8 rfl rfl)
theorem dX8_stepWord_32 : decode cX8_stepWord 32 = .ok (.iconst 0, 1) := dk_3 (dk_at dksX8_stepWord_1 9 rfl rfl)
theorem dX8_stepWord_33 : decode cX8_stepWord 33 = .ok (.invokestatic 150, 3) := dk_184 0 150 (dk_at dksX8_stepWord_1 10 rfl rfl)
theorem dX8_stepWord_36 : decode cX8_stepWord 36 = .ok (.invokevirtual 154, 3) := dk_182 0 154 (dk_at dksX8_stepWord_1 13 rfl rfl)
theorem dX8_stepWord_39 : decode cX8_stepWord 39 = .ok (.ifCond .eq 5, 3) := dk_153 0 5 (dk_at dksX8_stepWord_1 16 rfl rfl)
theorem dX8_stepWord_42 : decode cX8_stepWord 42 = .ok (.iconst 1, 1) := dk_4 (dk_at dksX8_stepWord_1 19 rfl rfl)
theorem dX8_stepWord_43 : decode cX8_stepWord 43 = .ok (.ireturn, 1) := dk_172 (dk_at dksX8_stepWord_1 20 rfl rfl)
theorem dX8_stepWord_44 : decode cX8_stepWord 44 = .ok (.aload_n 0, 1) := dk_42 (dk_at dksX8_stepWord_1 21 rfl rfl)
theorem dX8_stepWord_45 : decode cX8_stepWord 45 = .ok (.bipush 108, 2) := dk_16 108 (dk_at dksX8_stepWord_1 22 rfl rfl)
theorem dX8_stepWord_47 : decode cX8_stepWord 47 = .ok (.bipush 101, 2) := dk_16 101 (dk_at dksX8_stepWord_2 0 rfl rfl)
theorem dX8_stepWord_49 : decode cX8_stepWord 49 = .ok (.bipush 97, 2) := dk_16 97 (dk_at dksX8_stepWord_2 2 rfl rfl)
theorem dX8_stepWord_51 : decode cX8_stepWord 51 = .ok (.bipush 114, 2) := dk_16 114 (dk_at dksX8_stepWord_2 4 rfl rfl)
theorem dX8_stepWord_53 : decode cX8_stepWord 53 = .ok (.bipush 110, 2) := dk_16 110 (dk_at dksX8_stepWord_2 6 rfl rfl)
theorem dX8_stepWord_55 : decode cX8_stepWord 55 = .ok (.iconst 0, 1) := dk_3 (dk_at dksX8_stepWord_2 8 rfl rfl)
theorem dX8_stepWord_56 : decode cX8_stepWord 56 = .ok (.invokestatic 150, 3) := dk_184 0 150 (dk_at dksX8_stepWord_2 9 rfl rfl)
theorem dX8_stepWord_59 : decode cX8_stepWord 59 = .ok (.invokevirtual 154, 3) := dk_182 0 154 (dk_at dksX8_stepWord_2 12 rfl rfl)
theorem dX8_stepWord_62 : decode cX8_stepWord 62 = .ok (.ifCond .eq 5, 3) := dk_153 0 5 (dk_at dksX8_stepWord_2 15 rfl rfl)
theorem dX8_stepWord_65 : decode cX8_stepWord 65 = .ok (.iconst 2, 1) := dk_5 (dk_at dksX8_stepWord_2 18 rfl rfl)
theorem dX8_stepWord_66 : decode cX8_stepWord 66 = .ok (.ireturn, 1) := dk_172 (dk_at dksX8_stepWord_2 19 rfl rfl)
theorem dX8_stepWord_67 : decode cX8_stepWord 67 = .ok (.aload_n 0, 1) := dk_42 (dk_at dksX8_stepWord_2 20 rfl rfl)
theorem dX8_stepWord_68 : decode cX8_stepWord 68 = .ok (.bipush 108, 2) := dk_16 108 (dk_at dksX8_stepWord_2 21 rfl rfl)
theorem dX8_stepWord_70 : decode cX8_stepWord 70 = .ok (.bipush 111, 2) := dk_16 111 (dk_at dksX8_stepWord_3 0 rfl rfl)
theorem dX8_stepWord_72 : decode cX8_stepWord 72 = .ok (.bipush 115, 2) := dk_16 115 (dk_at dksX8_stepWord_3 2 rfl rfl)
theorem dX8_stepWord_74 : decode cX8_stepWord 74 = .ok (.bipush 101, 2) := dk_16 101 (dk_at dksX8_stepWord_3 4 rfl rfl)
theorem dX8_stepWord_76 : decode cX8_stepWord 76 = .ok (.iconst 0, 1) := dk_3 (dk_at dksX8_stepWord_3 6 rfl rfl)
theorem dX8_stepWord_77 : decode cX8_stepWord 77 = .ok (.iconst 0, 1) := dk_3 (dk_at dksX8_stepWord_3 7 rfl rfl)
theorem dX8_stepWord_78 : decode cX8_stepWord 78 = .ok (.invokestatic 150, 3) := dk_184 0 150 (dk_at dksX8_stepWord_3 8 rfl rfl)
theorem dX8_stepWord_81 : decode cX8_stepWord 81 = .ok (.invokevirtual 154, 3) := dk_182 0 154 (dk_at dksX8_stepWord_3 11 rfl rfl)
theorem dX8_stepWord_84 : decode cX8_stepWord 84 = .ok (.ifCond .eq 5, 3) := dk_153 0 5 (dk_at dksX8_stepWord_3 14 rfl rfl)
theorem dX8_stepWord_87 : decode cX8_stepWord 87 = .ok (.iconst 3, 1) := dk_6 (dk_at dksX8_stepWord_3 17 rfl rfl)
theorem dX8_stepWord_88 : decode cX8_stepWord 88 = .ok (.ireturn, 1) := dk_172 (dk_at dksX8_stepWord_3 18 rfl rfl)
theorem dX8_stepWord_89 : decode cX8_stepWord 89 = .ok (.aload_n 0, 1) := dk_42 (dk_at dksX8_stepWord_3 19 rfl rfl)
theorem dX8_stepWord_90 : decode cX8_stepWord 90 = .ok (.bipush 97, 2) := dk_16 97 (dk_at dksX8_stepWord_3 20 rfl rfl)
theorem dX8_stepWord_92 : decode cX8_stepWord 92 = .ok (.bipush 110, 2) := dk_16 110 (dk_at dksX8_stepWord_3 22 rfl rfl)
theorem dX8_stepWord_94 : decode cX8_stepWord 94 = .ok (.bipush 121, 2) := dk_16 121 (dk_at dksX8_stepWord_4 0 rfl rfl)
theorem dX8_stepWord_96 : decode cX8_stepWord 96 = .ok (.iconst 0, 1) := dk_3 (dk_at dksX8_stepWord_4 2 rfl rfl)
theorem dX8_stepWord_97 : decode cX8_stepWord 97 = .ok (.iconst 0, 1) := dk_3 (dk_at dksX8_stepWord_4 3 rfl rfl)
theorem dX8_stepWord_98 : decode cX8_stepWord 98 = .ok (.iconst 0, 1) := dk_3 (dk_at dksX8_stepWord_4 4 rfl rfl)
theorem dX8_stepWord_99 : decode cX8_stepWord 99 = .ok (.invokestatic 150, 3) := dk_184 0 150 (dk_at dksX8_stepWord_4 5 rfl rfl)
theorem dX8_stepWord_102 : decode cX8_stepWord 102 = .ok (.invokevirtual 154, 3) := dk_182 0 154 (dk_at dksX8_stepWord_4 8 rfl rfl)
theorem dX8_stepWord_105 : decode cX8_stepWord 105 = .ok (.ifCond .eq 5, 3) := dk_153 0 5 (dk_at dksX8_stepWord_4 11 rfl rfl)
theorem dX8_stepWord_108 : decode cX8_stepWord 108 = .ok (.iconst 4, 1) := dk_7 (dk_at dksX8_stepWord_4 14 rfl rfl)
theorem dX8_stepWord_109 : decode cX8_stepWord 109 = .ok (.ireturn, 1) := dk_172 (dk_at dksX8_stepWord_4 15 rfl rfl)
theorem dX8_stepWord_110 : decode cX8_stepWord 110 = .ok (.aload_n 0, 1) := dk_42 (dk_at dksX8_stepWord_4 16 rfl rfl)
theorem dX8_stepWord_111 : decode cX8_stepWord 111 = .ok (.bipush 119, 2) := dk_16 119 (dk_at dksX8_stepWord_4 17 rfl rfl)
theorem dX8_stepWord_113 : decode cX8_stepWord 113 = .ok (.bipush 104, 2) := dk_16 104 (dk_at dksX8_stepWord_4 19 rfl rfl)
theorem dX8_stepWord_115 : decode cX8_stepWord 115 = .ok (.bipush 101, 2) := dk_16 101 (dk_at dksX8_stepWord_4 21 rfl rfl)
theorem dX8_stepWord_117 : decode cX8_stepWord 117 = .ok (.bipush 110, 2) := dk_16 110 (dk_at dksX8_stepWord_5 0 rfl rfl)
theorem dX8_stepWord_119 : decode cX8_stepWord 119 = .ok (.iconst 0, 1) := dk_3 (dk_at dksX8_stepWord_5 2 rfl rfl)
theorem dX8_stepWord_120 : decode cX8_stepWord 120 = .ok (.iconst 0, 1) := dk_3 (dk_at dksX8_stepWord_5 3 rfl rfl)
theorem dX8_stepWord_121 : decode cX8_stepWord 121 = .ok (.invokestatic 150, 3) := dk_184 0 150 (dk_at dksX8_stepWord_5 4 rfl rfl)
theorem dX8_stepWord_124 : decode cX8_stepWord 124 = .ok (.invokevirtual 154, 3) := dk_182 0 154 (dk_at dksX8_stepWord_5 7 rfl rfl)
theorem dX8_stepWord_127 : decode cX8_stepWord 127 = .ok (.ifCond .eq 5, 3) := dk_153 0 5 (dk_at dksX8_stepWord_5 10 rfl rfl)
theorem dX8_stepWord_130 : decode cX8_stepWord 130 = .ok (.iconst 5, 1) := dk_8 (dk_at dksX8_stepWord_5 13 rfl rfl)
theorem dX8_stepWord_131 : decode cX8_stepWord 131 = .ok (.ireturn, 1) := dk_172 (dk_at dksX8_stepWord_5 14 rfl rfl)
theorem dX8_stepWord_132 : decode cX8_stepWord 132 = .ok (.aload_n 0, 1) := dk_42 (dk_at dksX8_stepWord_5 15 rfl rfl)
theorem dX8_stepWord_133 : decode cX8_stepWord 133 = .ok (.bipush 108, 2) := dk_16 108 (dk_at dksX8_stepWord_5 16 rfl rfl)
theorem dX8_stepWord_135 : decode cX8_stepWord 135 = .ok (.bipush 111, 2) := dk_16 111 (dk_at dksX8_stepWord_5 18 rfl rfl)
theorem dX8_stepWord_137 : decode cX8_stepWord 137 = .ok (.bipush 111, 2) := dk_16 111 (dk_at dksX8_stepWord_5 20 rfl rfl)
theorem dX8_stepWord_139 : decode cX8_stepWord 139 = .ok (.bipush 112, 2) := dk_16 112 (dk_at dksX8_stepWord_5 22 rfl rfl)
theorem dX8_stepWord_141 : decode cX8_stepWord 141 = .ok (.iconst 0, 1) := dk_3 (dk_at dksX8_stepWord_6 0 rfl rfl)
theorem dX8_stepWord_142 : decode cX8_stepWord 142 = .ok (.iconst 0, 1) := dk_3 (dk_at dksX8_stepWord_6 1 rfl rfl)
theorem dX8_stepWord_143 : decode cX8_stepWord 143 = .ok (.invokestatic 150, 3) := dk_184 0 150 (dk_at dksX8_stepWord_6 2 rfl rfl)
theorem dX8_stepWord_146 : decode cX8_stepWord 146 = .ok (.invokevirtual 154, 3) := dk_182 0 154 (dk_at dksX8_stepWord_6 5 rfl rfl)
theorem dX8_stepWord_149 : decode cX8_stepWord 149 = .ok (.ifCond .eq 6, 3) := dk_153 0 6 (dk_at dksX8_stepWord_6 8 rfl rfl)
theorem dX8_stepWord_152 : decode cX8_stepWord 152 = .ok (.bipush 6, 2) := dk_16 6 (dk_at dksX8_stepWord_6 11 rfl rfl)
theorem dX8_stepWord_154 : decode cX8_stepWord 154 = .ok (.ireturn, 1) := dk_172 (dk_at dksX8_stepWord_6 13 rfl rfl)
theorem dX8_stepWord_155 : decode cX8_stepWord 155 = .ok (.aload_n 0, 1) := dk_42 (dk_at dksX8_stepWord_6 14 rfl rfl)
theorem dX8_stepWord_156 : decode cX8_stepWord 156 = .ok (.bipush 115, 2) := dk_16 115 (dk_at dksX8_stepWord_6 15 rfl rfl)
theorem dX8_stepWord_158 : decode cX8_stepWord 158 = .ok (.bipush 116, 2) := dk_16 116 (dk_at dksX8_stepWord_6 17 rfl rfl)
theorem dX8_stepWord_160 : decode cX8_stepWord 160 = .ok (.bipush 111, 2) := dk_16 111 (dk_at dksX8_stepWord_6 19 rfl rfl)
theorem dX8_stepWord_162 : decode cX8_stepWord 162 = .ok (.bipush 112, 2) := dk_16 112 (dk_at dksX8_stepWord_6 21 rfl rfl)
theorem dX8_stepWord_164 : decode cX8_stepWord 164 = .ok (.iconst 0, 1) := dk_3 (dk_at dksX8_stepWord_6 23 rfl rfl)
theorem dX8_stepWord_165 : decode cX8_stepWord 165 = .ok (.iconst 0, 1) := dk_3 (dk_at dksX8_stepWord_7 0 rfl rfl)
theorem dX8_stepWord_166 : decode cX8_stepWord 166 = .ok (.invokestatic 150, 3) := dk_184 0 150 (dk_at dksX8_stepWord_7 1 rfl rfl)
theorem dX8_stepWord_169 : decode cX8_stepWord 169 = .ok (.invokevirtual 154, 3) := dk_182 0 154 (dk_at dksX8_stepWord_7 4 rfl rfl)
theorem dX8_stepWord_172 : decode cX8_stepWord 172 = .ok (.ifCond .eq 8, 3) := dk_153 0 8 (dk_at dksX8_stepWord_7 7 rfl rfl)
theorem dX8_stepWord_175 : decode cX8_stepWord 175 = .ok (.bipush 7, 2) := dk_16 7 (dk_at dksX8_stepWord_7 10 rfl rfl)
theorem dX8_stepWord_177 : decode cX8_stepWord 177 = .ok (.goto 4, 3) := dk_167 0 4 (dk_at dksX8_stepWord_7 12 rfl rfl)
theorem dX8_stepWord_180 : decode cX8_stepWord 180 = .ok (.iconst (-1), 1) := dk_2 (dk_at dksX8_stepWord_7 15 rfl rfl)
theorem dX8_stepWord_181 : decode cX8_stepWord 181 = .ok (.ireturn, 1) := dk_172 (dk_at dksX8_stepWord_7 16 rfl rfl)
abbrev cX8_testWord : ByteArray := prog_14_method_40_code
def yX8_testWord : MethodName := ⟨RX8, "testWord", "()I"⟩
def dkwX8_testWord_2 : List UInt8 := [182, 0, 154, 153, 0, 7, 5, 167, 0, 4, 2, 172]
abbrev dktX8_testWord_2 : List UInt8 := dkwX8_testWord_2 ++ []
def dkwX8_testWord_1 : List UInt8 := [182, 0, 154, 153, 0, 5, 4, 172, 42, 16, 103, 16, 111, 16, 110, 16, 101, 3, 3, 184, 0, 150]
abbrev dktX8_testWord_1 : List UInt8 := dkwX8_testWord_1 ++ dktX8_testWord_2
def dkwX8_testWord_0 : List UInt8 := [42, 182, 0, 158, 153, 0, 5, 3, 172, 42, 16, 103, 16, 111, 16, 116, 3, 3, 3, 184, 0, 150]
abbrev dktX8_testWord_0 : List UInt8 := dkwX8_testWord_0 ++ dktX8_testWord_1
theorem dksX8_testWord_0 : cX8_testWord.data.toList.drop 0 = dktX8_testWord_0 := by decide +kernel
theorem dksX8_testWord_1 : cX8_testWord.data.toList.drop 22 = dktX8_testWord_1 := dk_seg dksX8_testWord_0 22 rfl rfl
theorem dksX8_testWord_2 : cX8_testWord.data.toList.drop 44 = dktX8_testWord_2 := dk_seg dksX8_testWord_1 22 rfl rfl
theorem dX8_testWord_0 : decode cX8_testWord 0 = .ok (.aload_n 0, 1) := dk_42 (dk_at dksX8_testWord_0 0 rfl rfl)
theorem dX8_testWord_1 : decode cX8_testWord 1 = .ok (.invokevirtual 158, 3) := dk_182 0 158 (dk_at dksX8_testWord_0 1 rfl rfl)
theorem dX8_testWord_4 : decode cX8_testWord 4 = .ok (.ifCond .eq 5, 3) := dk_153 0 5 (dk_at dksX8_testWord_0 4 rfl rfl)
theorem dX8_testWord_7 : decode cX8_testWord 7 = .ok (.iconst 0, 1) := dk_3 (dk_at dksX8_testWord_0 7 rfl rfl)
theorem dX8_testWord_8 : decode cX8_testWord 8 = .ok (.ireturn, 1) := dk_172 (dk_at dksX8_testWord_0 8 rfl rfl)
theorem dX8_testWord_9 : decode cX8_testWord 9 = .ok (.aload_n 0, 1) := dk_42 (dk_at dksX8_testWord_0 9 rfl rfl)
theorem dX8_testWord_10 : decode cX8_testWord 10 = .ok (.bipush 103, 2) := dk_16 103 (dk_at dksX8_testWord_0 10 rfl rfl)
theorem dX8_testWord_12 : decode cX8_testWord 12 = .ok (.bipush 111, 2) := dk_16 111 (dk_at dksX8_testWord_0 12 rfl rfl)
theorem dX8_testWord_14 : decode cX8_testWord 14 = .ok (.bipush 116, 2) := dk_16 116 (dk_at dksX8_testWord_0 14 rfl rfl)
theorem dX8_testWord_16 : decode cX8_testWord 16 = .ok (.iconst 0, 1) := dk_3 (dk_at dksX8_testWord_0 16 rfl rfl)
theorem dX8_testWord_17 : decode cX8_testWord 17 = .ok (.iconst 0, 1) := dk_3 (dk_at dksX8_testWord_0 17 rfl rfl)
theorem dX8_testWord_18 : decode cX8_testWord 18 = .ok (.iconst 0, 1) := dk_3 (dk_at dksX8_testWord_0 18 rfl rfl)
theorem dX8_testWord_19 : decode cX8_testWord 19 = .ok (.invokestatic 150, 3) := dk_184 0 150 (dk_at dksX8_testWord_0 19 rfl rfl)
theorem dX8_testWord_22 : decode cX8_testWord 22 = .ok (.invokevirtual 154, 3) := dk_182 0 154 (dk_at dksX8_testWord_1 0 rfl rfl)
theorem dX8_testWord_25 : decode cX8_testWord 25 = .ok (.ifCond .eq 5, 3) := dk_153 0 5 (dk_at dksX8_testWord_1 3 rfl rfl)
theorem dX8_testWord_28 : decode cX8_testWord 28 = .ok (.iconst 1, 1) := dk_4 (dk_at dksX8_testWord_1 6 rfl rfl)
theorem dX8_testWord_29 : decode cX8_testWord 29 = .ok (.ireturn, 1) := dk_172 (dk_at dksX8_testWord_1 7 rfl rfl)
theorem dX8_testWord_30 : decode cX8_testWord 30 = .ok (.aload_n 0, 1) := dk_42 (dk_at dksX8_testWord_1 8 rfl rfl)
theorem dX8_testWord_31 : decode cX8_testWord 31 = .ok (.bipush 103, 2) := dk_16 103 (dk_at dksX8_testWord_1 9 rfl rfl)
theorem dX8_testWord_33 : decode cX8_testWord 33 = .ok (.bipush 111, 2) := dk_16 111 (dk_at dksX8_testWord_1 11 rfl rfl)
theorem dX8_testWord_35 : decode cX8_testWord 35 = .ok (.bipush 110, 2) := dk_16 110 (dk_at dksX8_testWord_1 13 rfl rfl)
theorem dX8_testWord_37 : decode cX8_testWord 37 = .ok (.bipush 101, 2) := dk_16 101 (dk_at dksX8_testWord_1 15 rfl rfl)
theorem dX8_testWord_39 : decode cX8_testWord 39 = .ok (.iconst 0, 1) := dk_3 (dk_at dksX8_testWord_1 17 rfl rfl)
theorem dX8_testWord_40 : decode cX8_testWord 40 = .ok (.iconst 0, 1) := dk_3 (dk_at dksX8_testWord_1 18 rfl rfl)
theorem dX8_testWord_41 : decode cX8_testWord 41 = .ok (.invokestatic 150, 3) := dk_184 0 150 (dk_at dksX8_testWord_1 19 rfl rfl)
theorem dX8_testWord_44 : decode cX8_testWord 44 = .ok (.invokevirtual 154, 3) := dk_182 0 154 (dk_at dksX8_testWord_2 0 rfl rfl)
theorem dX8_testWord_47 : decode cX8_testWord 47 = .ok (.ifCond .eq 7, 3) := dk_153 0 7 (dk_at dksX8_testWord_2 3 rfl rfl)
theorem dX8_testWord_50 : decode cX8_testWord 50 = .ok (.iconst 2, 1) := dk_5 (dk_at dksX8_testWord_2 6 rfl rfl)
theorem dX8_testWord_51 : decode cX8_testWord 51 = .ok (.goto 4, 3) := dk_167 0 4 (dk_at dksX8_testWord_2 7 rfl rfl)
theorem dX8_testWord_54 : decode cX8_testWord 54 = .ok (.iconst (-1), 1) := dk_2 (dk_at dksX8_testWord_2 10 rfl rfl)
theorem dX8_testWord_55 : decode cX8_testWord 55 = .ok (.ireturn, 1) := dk_172 (dk_at dksX8_testWord_2 11 rfl rfl)
abbrev cX8_isOn : ByteArray := prog_14_method_37_code
def yX8_isOn : MethodName := ⟨RX8, "isOn", "()Z"⟩
def dkwX8_isOn_0 : List UInt8 := [42, 16, 111, 16, 110, 3, 3, 3, 3, 184, 0, 150, 182, 0, 154, 172]
abbrev dktX8_isOn_0 : List UInt8 := dkwX8_isOn_0 ++ []
theorem dksX8_isOn_0 : cX8_isOn.data.toList.drop 0 = dktX8_isOn_0 := by decide +kernel
theorem dX8_isOn_0 : decode cX8_isOn 0 = .ok (.aload_n 0, 1) := dk_42 (dk_at dksX8_isOn_0 0 rfl rfl)
theorem dX8_isOn_1 : decode cX8_isOn 1 = .ok (.bipush 111, 2) := dk_16 111 (dk_at dksX8_isOn_0 1 rfl rfl)
theorem dX8_isOn_3 : decode cX8_isOn 3 = .ok (.bipush 110, 2) := dk_16 110 (dk_at dksX8_isOn_0 3 rfl rfl)
theorem dX8_isOn_5 : decode cX8_isOn 5 = .ok (.iconst 0, 1) := dk_3 (dk_at dksX8_isOn_0 5 rfl rfl)
theorem dX8_isOn_6 : decode cX8_isOn 6 = .ok (.iconst 0, 1) := dk_3 (dk_at dksX8_isOn_0 6 rfl rfl)
theorem dX8_isOn_7 : decode cX8_isOn 7 = .ok (.iconst 0, 1) := dk_3 (dk_at dksX8_isOn_0 7 rfl rfl)
theorem dX8_isOn_8 : decode cX8_isOn 8 = .ok (.iconst 0, 1) := dk_3 (dk_at dksX8_isOn_0 8 rfl rfl)
theorem dX8_isOn_9 : decode cX8_isOn 9 = .ok (.invokestatic 150, 3) := dk_184 0 150 (dk_at dksX8_isOn_0 9 rfl rfl)
theorem dX8_isOn_12 : decode cX8_isOn 12 = .ok (.invokevirtual 154, 3) := dk_182 0 154 (dk_at dksX8_isOn_0 12 rfl rfl)
theorem dX8_isOn_15 : decode cX8_isOn 15 = .ok (.ireturn, 1) := dk_172 (dk_at dksX8_isOn_0 15 rfl rfl)
abbrev cX8_isEnd : ByteArray := prog_14_method_41_code
def yX8_isEnd : MethodName := ⟨RX8, "isEnd", "()Z"⟩
def dkwX8_isEnd_0 : List UInt8 := [42, 16, 101, 16, 110, 16, 100, 3, 3, 3, 184, 0, 150, 182, 0, 154, 172]
abbrev dktX8_isEnd_0 : List UInt8 := dkwX8_isEnd_0 ++ []
theorem dksX8_isEnd_0 : cX8_isEnd.data.toList.drop 0 = dktX8_isEnd_0 := by decide +kernel
theorem dX8_isEnd_0 : decode cX8_isEnd 0 = .ok (.aload_n 0, 1) := dk_42 (dk_at dksX8_isEnd_0 0 rfl rfl)
theorem dX8_isEnd_1 : decode cX8_isEnd 1 = .ok (.bipush 101, 2) := dk_16 101 (dk_at dksX8_isEnd_0 1 rfl rfl)
theorem dX8_isEnd_3 : decode cX8_isEnd 3 = .ok (.bipush 110, 2) := dk_16 110 (dk_at dksX8_isEnd_0 3 rfl rfl)
theorem dX8_isEnd_5 : decode cX8_isEnd 5 = .ok (.bipush 100, 2) := dk_16 100 (dk_at dksX8_isEnd_0 5 rfl rfl)
theorem dX8_isEnd_7 : decode cX8_isEnd 7 = .ok (.iconst 0, 1) := dk_3 (dk_at dksX8_isEnd_0 7 rfl rfl)
theorem dX8_isEnd_8 : decode cX8_isEnd 8 = .ok (.iconst 0, 1) := dk_3 (dk_at dksX8_isEnd_0 8 rfl rfl)
theorem dX8_isEnd_9 : decode cX8_isEnd 9 = .ok (.iconst 0, 1) := dk_3 (dk_at dksX8_isEnd_0 9 rfl rfl)
theorem dX8_isEnd_10 : decode cX8_isEnd 10 = .ok (.invokestatic 150, 3) := dk_184 0 150 (dk_at dksX8_isEnd_0 10 rfl rfl)
theorem dX8_isEnd_13 : decode cX8_isEnd 13 = .ok (.invokevirtual 154, 3) := dk_182 0 154 (dk_at dksX8_isEnd_0 13 rfl rfl)
theorem dX8_isEnd_16 : decode cX8_isEnd 16 = .ok (.ireturn, 1) := dk_172 (dk_at dksX8_isEnd_0 16 rfl rfl)
abbrev cX8_named : ByteArray := prog_14_method_56_code
def yX8_named : MethodName := ⟨RX8, "named", "(II)I"⟩
def dkwX8_named_2 : List UInt8 := [167, 255, 211, 2, 172]
abbrev dktX8_named_2 : List UInt8 := dkwX8_named_2 ++ []
def dkwX8_named_1 : List UInt8 := [27, 104, 28, 184, 0, 224, 96, 29, 96, 47, 42, 180, 0, 131, 148, 154, 0, 5, 29, 172, 132, 3, 1]
abbrev dktX8_named_1 : List UInt8 := dkwX8_named_1 ++ dktX8_named_2
def dkwX8_named_0 : List UInt8 := [3, 62, 29, 42, 180, 0, 35, 17, 1, 103, 27, 104, 28, 96, 46, 162, 0, 35, 42, 180, 0, 41, 16, 22]
abbrev dktX8_named_0 : List UInt8 := dkwX8_named_0 ++ dktX8_named_1
theorem dksX8_named_0 : cX8_named.data.toList.drop 0 = dktX8_named_0 := by decide +kernel
theorem dksX8_named_1 : cX8_named.data.toList.drop 24 = dktX8_named_1 := dk_seg dksX8_named_0 24 rfl rfl
theorem dksX8_named_2 : cX8_named.data.toList.drop 47 = dktX8_named_2 := dk_seg dksX8_named_1 23 rfl rfl
theorem dX8_named_0 : decode cX8_named 0 = .ok (.iconst 0, 1) := dk_3 (dk_at dksX8_named_0 0 rfl rfl)
theorem dX8_named_1 : decode cX8_named 1 = .ok (.istore_n 3, 1) := dk_62 (dk_at dksX8_named_0 1 rfl rfl)
theorem dX8_named_2 : decode cX8_named 2 = .ok (.iload_n 3, 1) := dk_29 (dk_at dksX8_named_0 2 rfl rfl)
theorem dX8_named_3 : decode cX8_named 3 = .ok (.aload_n 0, 1) := dk_42 (dk_at dksX8_named_0 3 rfl rfl)
theorem dX8_named_4 : decode cX8_named 4 = .ok (.getfield 35, 3) := dk_180 0 35 (dk_at dksX8_named_0 4 rfl rfl)
theorem dX8_named_7 : decode cX8_named 7 = .ok (.sipush 359, 3) := dk_17 1 103 (dk_at dksX8_named_0 7 rfl rfl)
theorem dX8_named_10 : decode cX8_named 10 = .ok (.iload_n 1, 1) := dk_27 (dk_at dksX8_named_0 10 rfl rfl)
theorem dX8_named_11 : decode cX8_named 11 = .ok (.imul, 1) := dk_104 (dk_at dksX8_named_0 11 rfl rfl)
theorem dX8_named_12 : decode cX8_named 12 = .ok (.iload_n 2, 1) := dk_28 (dk_at dksX8_named_0 12 rfl rfl)
theorem dX8_named_13 : decode cX8_named 13 = .ok (.iadd, 1) := dk_96 (dk_at dksX8_named_0 13 rfl rfl)
theorem dX8_named_14 : decode cX8_named 14 = .ok (.iaload, 1) := dk_46 (dk_at dksX8_named_0 14 rfl rfl)
theorem dX8_named_15 : decode cX8_named 15 = .ok (.if_icmp .ge 35, 3) := dk_162 0 35 (dk_at dksX8_named_0 15 rfl rfl)
theorem dX8_named_18 : decode cX8_named 18 = .ok (.aload_n 0, 1) := dk_42 (dk_at dksX8_named_0 18 rfl rfl)
theorem dX8_named_19 : decode cX8_named 19 = .ok (.getfield 41, 3) := dk_180 0 41 (dk_at dksX8_named_0 19 rfl rfl)
theorem dX8_named_22 : decode cX8_named 22 = .ok (.bipush 22, 2) := dk_16 22 (dk_at dksX8_named_0 22 rfl rfl)
theorem dX8_named_24 : decode cX8_named 24 = .ok (.iload_n 1, 1) := dk_27 (dk_at dksX8_named_1 0 rfl rfl)
theorem dX8_named_25 : decode cX8_named 25 = .ok (.imul, 1) := dk_104 (dk_at dksX8_named_1 1 rfl rfl)
theorem dX8_named_26 : decode cX8_named 26 = .ok (.iload_n 2, 1) := dk_28 (dk_at dksX8_named_1 2 rfl rfl)
theorem dX8_named_27 : decode cX8_named 27 = .ok (.invokestatic 224, 3) := dk_184 0 224 (dk_at dksX8_named_1 3 rfl rfl)
theorem dX8_named_30 : decode cX8_named 30 = .ok (.iadd, 1) := dk_96 (dk_at dksX8_named_1 6 rfl rfl)
theorem dX8_named_31 : decode cX8_named 31 = .ok (.iload_n 3, 1) := dk_29 (dk_at dksX8_named_1 7 rfl rfl)
theorem dX8_named_32 : decode cX8_named 32 = .ok (.iadd, 1) := dk_96 (dk_at dksX8_named_1 8 rfl rfl)
theorem dX8_named_33 : decode cX8_named 33 = .ok (.laload, 1) := dk_47 (dk_at dksX8_named_1 9 rfl rfl)
theorem dX8_named_34 : decode cX8_named 34 = .ok (.aload_n 0, 1) := dk_42 (dk_at dksX8_named_1 10 rfl rfl)
theorem dX8_named_35 : decode cX8_named 35 = .ok (.getfield 131, 3) := dk_180 0 131 (dk_at dksX8_named_1 11 rfl rfl)
theorem dX8_named_38 : decode cX8_named 38 = .ok (.lcmp, 1) := dk_148 (dk_at dksX8_named_1 14 rfl rfl)
theorem dX8_named_39 : decode cX8_named 39 = .ok (.ifCond .ne 5, 3) := dk_154 0 5 (dk_at dksX8_named_1 15 rfl rfl)
theorem dX8_named_42 : decode cX8_named 42 = .ok (.iload_n 3, 1) := dk_29 (dk_at dksX8_named_1 18 rfl rfl)
theorem dX8_named_43 : decode cX8_named 43 = .ok (.ireturn, 1) := dk_172 (dk_at dksX8_named_1 19 rfl rfl)
theorem dX8_named_44 : decode cX8_named 44 = .ok (.iinc 3 1, 3) := dk_132 3 1 (dk_at dksX8_named_1 20 rfl rfl)
theorem dX8_named_47 : decode cX8_named 47 = .ok (.goto (-45), 3) := dk_167 255 211 (dk_at dksX8_named_2 0 rfl rfl)
theorem dX8_named_50 : decode cX8_named 50 = .ok (.iconst (-1), 1) := dk_2 (dk_at dksX8_named_2 3 rfl rfl)
theorem dX8_named_51 : decode cX8_named 51 = .ok (.ireturn, 1) := dk_172 (dk_at dksX8_named_2 4 rfl rfl)
abbrev cX8_namesFrom : ByteArray := prog_14_method_55_code
def yX8_namesFrom : MethodName := ⟨RX8, "namesFrom", "(I)I"⟩
def dkwX8_namesFrom_0 : List UInt8 := [26, 154, 0, 7, 3, 167, 0, 15, 26, 4, 160, 0, 8, 16, 6, 167, 0, 5, 16, 13, 172]
abbrev dktX8_namesFrom_0 : List UInt8 := dkwX8_namesFrom_0 ++ []
theorem dksX8_namesFrom_0 : cX8_namesFrom.data.toList.drop 0 = dktX8_namesFrom_0 := by decide +kernel
theorem dX8_namesFrom_0 : decode cX8_namesFrom 0 = .ok (.iload_n 0, 1) := dk_26 (dk_at dksX8_namesFrom_0 0 rfl rfl)
theorem dX8_namesFrom_1 : decode cX8_namesFrom 1 = .ok (.ifCond .ne 7, 3) := dk_154 0 7 (dk_at dksX8_namesFrom_0 1 rfl rfl)
theorem dX8_namesFrom_4 : decode cX8_namesFrom 4 = .ok (.iconst 0, 1) := dk_3 (dk_at dksX8_namesFrom_0 4 rfl rfl)
theorem dX8_namesFrom_5 : decode cX8_namesFrom 5 = .ok (.goto 15, 3) := dk_167 0 15 (dk_at dksX8_namesFrom_0 5 rfl rfl)
theorem dX8_namesFrom_8 : decode cX8_namesFrom 8 = .ok (.iload_n 0, 1) := dk_26 (dk_at dksX8_namesFrom_0 8 rfl rfl)
theorem dX8_namesFrom_9 : decode cX8_namesFrom 9 = .ok (.iconst 1, 1) := dk_4 (dk_at dksX8_namesFrom_0 9 rfl rfl)
theorem dX8_namesFrom_10 : decode cX8_namesFrom 10 = .ok (.if_icmp .ne 8, 3) := dk_160 0 8 (dk_at dksX8_namesFrom_0 10 rfl rfl)
theorem dX8_namesFrom_13 : decode cX8_namesFrom 13 = .ok (.bipush 6, 2) := dk_16 6 (dk_at dksX8_namesFrom_0 13 rfl rfl)
theorem dX8_namesFrom_15 : decode cX8_namesFrom 15 = .ok (.goto 5, 3) := dk_167 0 5 (dk_at dksX8_namesFrom_0 15 rfl rfl)
theorem dX8_namesFrom_18 : decode cX8_namesFrom 18 = .ok (.bipush 13, 2) := dk_16 13 (dk_at dksX8_namesFrom_0 18 rfl rfl)
theorem dX8_namesFrom_20 : decode cX8_namesFrom 20 = .ok (.ireturn, 1) := dk_172 (dk_at dksX8_namesFrom_0 20 rfl rfl)
abbrev cX8_must : ByteArray := prog_14_method_46_code
def yX8_must : MethodName := ⟨RX8, "must", "(Z)V"⟩
def dkwX8_must_0 : List UInt8 := [42, 180, 0, 202, 158, 0, 4, 177, 27, 153, 0, 10, 42, 182, 0, 212, 167, 0, 7, 42, 182, 0, 215, 177]
abbrev dktX8_must_0 : List UInt8 := dkwX8_must_0 ++ []
theorem dksX8_must_0 : cX8_must.data.toList.drop 0 = dktX8_must_0 := by decide +kernel
theorem dX8_must_0 : decode cX8_must 0 = .ok (.aload_n 0, 1) := dk_42 (dk_at dksX8_must_0 0 rfl rfl)
theorem dX8_must_1 : decode cX8_must 1 = .ok (.getfield 202, 3) := dk_180 0 202 (dk_at dksX8_must_0 1 rfl rfl)
theorem dX8_must_4 : decode cX8_must 4 = .ok (.ifCond .le 4, 3) := dk_158 0 4 (dk_at dksX8_must_0 4 rfl rfl)
theorem dX8_must_7 : decode cX8_must 7 = .ok (.return_, 1) := dk_177 (dk_at dksX8_must_0 7 rfl rfl)
theorem dX8_must_8 : decode cX8_must 8 = .ok (.iload_n 1, 1) := dk_27 (dk_at dksX8_must_0 8 rfl rfl)
theorem dX8_must_9 : decode cX8_must 9 = .ok (.ifCond .eq 10, 3) := dk_153 0 10 (dk_at dksX8_must_0 9 rfl rfl)
theorem dX8_must_12 : decode cX8_must 12 = .ok (.aload_n 0, 1) := dk_42 (dk_at dksX8_must_0 12 rfl rfl)
theorem dX8_must_13 : decode cX8_must 13 = .ok (.invokevirtual 212, 3) := dk_182 0 212 (dk_at dksX8_must_0 13 rfl rfl)
theorem dX8_must_16 : decode cX8_must 16 = .ok (.goto 7, 3) := dk_167 0 7 (dk_at dksX8_must_0 16 rfl rfl)
theorem dX8_must_19 : decode cX8_must 19 = .ok (.aload_n 0, 1) := dk_42 (dk_at dksX8_must_0 19 rfl rfl)
theorem dX8_must_20 : decode cX8_must 20 = .ok (.invokevirtual 215, 3) := dk_182 0 215 (dk_at dksX8_must_0 20 rfl rfl)
theorem dX8_must_23 : decode cX8_must 23 = .ok (.return_, 1) := dk_177 (dk_at dksX8_must_0 23 rfl rfl)
abbrev cX8_readPerson : ByteArray := prog_14_method_62_code
def yX8_readPerson : MethodName := ⟨RX8, "readPerson", "()V"⟩
def dkwX8_readPerson_4 : List UInt8 := [180, 0, 35, 17, 5, 168, 27, 96, 28, 79, 42, 180, 0, 35, 17, 5, 157, 92, 46, 4, 96, 79, 177]
abbrev dktX8_readPerson_4 : List UInt8 := dkwX8_readPerson_4 ++ []
def dkwX8_readPerson_3 : List UInt8 := [4, 29, 120, 128, 61, 42, 4, 182, 0, 239, 167, 255, 199, 42, 180, 0, 202, 158, 0, 4, 177, 42]
abbrev dktX8_readPerson_3 : List UInt8 := dkwX8_readPerson_3 ++ dktX8_readPerson_4
def dkwX8_readPerson_2 : List UInt8 := [180, 0, 202, 154, 0, 20, 28, 29, 184, 0, 109, 153, 0, 12, 42, 8, 42, 180, 0, 119, 182, 0, 208, 28]
abbrev dktX8_readPerson_2 : List UInt8 := dkwX8_readPerson_2 ++ dktX8_readPerson_3
def dkwX8_readPerson_1 : List UInt8 := [180, 0, 202, 154, 0, 56, 42, 180, 0, 125, 4, 160, 0, 48, 42, 7, 3, 182, 0, 236, 62, 42]
abbrev dktX8_readPerson_1 : List UInt8 := dkwX8_readPerson_1 ++ dktX8_readPerson_2
def dkwX8_readPerson_0 : List UInt8 := [42, 4, 16, 7, 182, 0, 250, 60, 3, 61, 42, 42, 182, 0, 174, 182, 0, 253, 153, 0, 63, 42]
abbrev dktX8_readPerson_0 : List UInt8 := dkwX8_readPerson_0 ++ dktX8_readPerson_1
theorem dksX8_readPerson_0 : cX8_readPerson.data.toList.drop 0 = dktX8_readPerson_0 := by decide +kernel
theorem dksX8_readPerson_1 : cX8_readPerson.data.toList.drop 22 = dktX8_readPerson_1 := dk_seg dksX8_readPerson_0 22 rfl rfl
theorem dksX8_readPerson_2 : cX8_readPerson.data.toList.drop 44 = dktX8_readPerson_2 := dk_seg dksX8_readPerson_1 22 rfl rfl
theorem dksX8_readPerson_3 : cX8_readPerson.data.toList.drop 68 = dktX8_readPerson_3 := dk_seg dksX8_readPerson_2 24 rfl rfl
theorem dksX8_readPerson_4 : cX8_readPerson.data.toList.drop 90 = dktX8_readPerson_4 := dk_seg dksX8_readPerson_3 22 rfl rfl
theorem dX8_readPerson_0 : decode cX8_readPerson 0 = .ok (.aload_n 0, 1) := dk_42 (dk_at dksX8_readPerson_0 0 rfl rfl)
theorem dX8_readPerson_1 : decode cX8_readPerson 1 = .ok (.iconst 1, 1) := dk_4 (dk_at dksX8_readPerson_0 1 rfl rfl)
theorem dX8_readPerson_2 : decode cX8_readPerson 2 = .ok (.bipush 7, 2) := dk_16 7 (dk_at dksX8_readPerson_0 2 rfl rfl)
theorem dX8_readPerson_4 : decode cX8_readPerson 4 = .ok (.invokevirtual 250, 3) := dk_182 0 250 (dk_at dksX8_readPerson_0 4 rfl rfl)
theorem dX8_readPerson_7 : decode cX8_readPerson 7 = .ok (.istore_n 1, 1) := dk_60 (dk_at dksX8_readPerson_0 7 rfl rfl)
theorem dX8_readPerson_8 : decode cX8_readPerson 8 = .ok (.iconst 0, 1) := dk_3 (dk_at dksX8_readPerson_0 8 rfl rfl)
theorem dX8_readPerson_9 : decode cX8_readPerson 9 = .ok (.istore_n 2, 1) := dk_61 (dk_at dksX8_readPerson_0 9 rfl rfl)
theorem dX8_readPerson_10 : decode cX8_readPerson 10 = .ok (.aload_n 0, 1) := dk_42 (dk_at dksX8_readPerson_0 10 rfl rfl)
theorem dX8_readPerson_11 : decode cX8_readPerson 11 = .ok (.aload_n 0, 1) := dk_42 (dk_at dksX8_readPerson_0 11 rfl rfl)
theorem dX8_readPerson_12 : decode cX8_readPerson 12 = .ok (.invokevirtual 174, 3) := dk_182 0 174 (dk_at dksX8_readPerson_0 12 rfl rfl)
theorem dX8_readPerson_15 : decode cX8_readPerson 15 = .ok (.invokevirtual 253, 3) := dk_182 0 253 (dk_at dksX8_readPerson_0 15 rfl rfl)
theorem dX8_readPerson_18 : decode cX8_readPerson 18 = .ok (.ifCond .eq 63, 3) := dk_153 0 63 (dk_at dksX8_readPerson_0 18 rfl rfl)
theorem dX8_readPerson_21 : decode cX8_readPerson 21 = .ok (.aload_n 0, 1) := dk_42 (dk_at dksX8_readPerson_0 21 rfl rfl)
theorem dX8_readPerson_22 : decode cX8_readPerson 22 = .ok (.getfield 202, 3) := dk_180 0 202 (dk_at dksX8_readPerson_1 0 rfl rfl)
theorem dX8_readPerson_25 : decode cX8_readPerson 25 = .ok (.ifCond .ne 56, 3) := dk_154 0 56 (dk_at dksX8_readPerson_1 3 rfl rfl)
theorem dX8_readPerson_28 : decode cX8_readPerson 28 = .ok (.aload_n 0, 1) := dk_42 (dk_at dksX8_readPerson_1 6 rfl rfl)
theorem dX8_readPerson_29 : decode cX8_readPerson 29 = .ok (.getfield 125, 3) := dk_180 0 125 (dk_at dksX8_readPerson_1 7 rfl rfl)
theorem dX8_readPerson_32 : decode cX8_readPerson 32 = .ok (.iconst 1, 1) := dk_4 (dk_at dksX8_readPerson_1 10 rfl rfl)
theorem dX8_readPerson_33 : decode cX8_readPerson 33 = .ok (.if_icmp .ne 48, 3) := dk_160 0 48 (dk_at dksX8_readPerson_1 11 rfl rfl)
theorem dX8_readPerson_36 : decode cX8_readPerson 36 = .ok (.aload_n 0, 1) := dk_42 (dk_at dksX8_readPerson_1 14 rfl rfl)
theorem dX8_readPerson_37 : decode cX8_readPerson 37 = .ok (.iconst 4, 1) := dk_7 (dk_at dksX8_readPerson_1 15 rfl rfl)
theorem dX8_readPerson_38 : decode cX8_readPerson 38 = .ok (.iconst 0, 1) := dk_3 (dk_at dksX8_readPerson_1 16 rfl rfl)
theorem dX8_readPerson_39 : decode cX8_readPerson 39 = .ok (.invokevirtual 236, 3) := dk_182 0 236 (dk_at dksX8_readPerson_1 17 rfl rfl)
theorem dX8_readPerson_42 : decode cX8_readPerson 42 = .ok (.istore_n 3, 1) := dk_62 (dk_at dksX8_readPerson_1 20 rfl rfl)
theorem dX8_readPerson_43 : decode cX8_readPerson 43 = .ok (.aload_n 0, 1) := dk_42 (dk_at dksX8_readPerson_1 21 rfl rfl)
theorem dX8_readPerson_44 : decode cX8_readPerson 44 = .ok (.getfield 202, 3) := dk_180 0 202 (dk_at dksX8_readPerson_2 0 rfl rfl)
theorem dX8_readPerson_47 : decode cX8_readPerson 47 = .ok (.ifCond .ne 20, 3) := dk_154 0 20 (dk_at dksX8_readPerson_2 3 rfl rfl)
theorem dX8_readPerson_50 : decode cX8_readPerson 50 = .ok (.iload_n 2, 1) := dk_28 (dk_at dksX8_readPerson_2 6 rfl rfl)
theorem dX8_readPerson_51 : decode cX8_readPerson 51 = .ok (.iload_n 3, 1) := dk_29 (dk_at dksX8_readPerson_2 7 rfl rfl)
theorem dX8_readPerson_52 : decode cX8_readPerson 52 = .ok (.invokestatic 109, 3) := dk_184 0 109 (dk_at dksX8_readPerson_2 8 rfl rfl)
theorem dX8_readPerson_55 : decode cX8_readPerson 55 = .ok (.ifCond .eq 12, 3) := dk_153 0 12 (dk_at dksX8_readPerson_2 11 rfl rfl)
theorem dX8_readPerson_58 : decode cX8_readPerson 58 = .ok (.aload_n 0, 1) := dk_42 (dk_at dksX8_readPerson_2 14 rfl rfl)
theorem dX8_readPerson_59 : decode cX8_readPerson 59 = .ok (.iconst 5, 1) := dk_8 (dk_at dksX8_readPerson_2 15 rfl rfl)
theorem dX8_readPerson_60 : decode cX8_readPerson 60 = .ok (.aload_n 0, 1) := dk_42 (dk_at dksX8_readPerson_2 16 rfl rfl)
theorem dX8_readPerson_61 : decode cX8_readPerson 61 = .ok (.getfield 119, 3) := dk_180 0 119 (dk_at dksX8_readPerson_2 17 rfl rfl)
theorem dX8_readPerson_64 : decode cX8_readPerson 64 = .ok (.invokevirtual 208, 3) := dk_182 0 208 (dk_at dksX8_readPerson_2 20 rfl rfl)
theorem dX8_readPerson_67 : decode cX8_readPerson 67 = .ok (.iload_n 2, 1) := dk_28 (dk_at dksX8_readPerson_2 23 rfl rfl)
theorem dX8_readPerson_68 : decode cX8_readPerson 68 = .ok (.iconst 1, 1) := dk_4 (dk_at dksX8_readPerson_3 0 rfl rfl)
theorem dX8_readPerson_69 : decode cX8_readPerson 69 = .ok (.iload_n 3, 1) := dk_29 (dk_at dksX8_readPerson_3 1 rfl rfl)
theorem dX8_readPerson_70 : decode cX8_readPerson 70 = .ok (.ishl, 1) := dk_120 (dk_at dksX8_readPerson_3 2 rfl rfl)
theorem dX8_readPerson_71 : decode cX8_readPerson 71 = .ok (.ior, 1) := dk_128 (dk_at dksX8_readPerson_3 3 rfl rfl)
theorem dX8_readPerson_72 : decode cX8_readPerson 72 = .ok (.istore_n 2, 1) := dk_61 (dk_at dksX8_readPerson_3 4 rfl rfl)
theorem dX8_readPerson_73 : decode cX8_readPerson 73 = .ok (.aload_n 0, 1) := dk_42 (dk_at dksX8_readPerson_3 5 rfl rfl)
theorem dX8_readPerson_74 : decode cX8_readPerson 74 = .ok (.iconst 1, 1) := dk_4 (dk_at dksX8_readPerson_3 6 rfl rfl)
theorem dX8_readPerson_75 : decode cX8_readPerson 75 = .ok (.invokevirtual 239, 3) := dk_182 0 239 (dk_at dksX8_readPerson_3 7 rfl rfl)
theorem dX8_readPerson_78 : decode cX8_readPerson 78 = .ok (.goto (-57), 3) := dk_167 255 199 (dk_at dksX8_readPerson_3 10 rfl rfl)
theorem dX8_readPerson_81 : decode cX8_readPerson 81 = .ok (.aload_n 0, 1) := dk_42 (dk_at dksX8_readPerson_3 13 rfl rfl)
theorem dX8_readPerson_82 : decode cX8_readPerson 82 = .ok (.getfield 202, 3) := dk_180 0 202 (dk_at dksX8_readPerson_3 14 rfl rfl)
theorem dX8_readPerson_85 : decode cX8_readPerson 85 = .ok (.ifCond .le 4, 3) := dk_158 0 4 (dk_at dksX8_readPerson_3 17 rfl rfl)
theorem dX8_readPerson_88 : decode cX8_readPerson 88 = .ok (.return_, 1) := dk_177 (dk_at dksX8_readPerson_3 20 rfl rfl)
theorem dX8_readPerson_89 : decode cX8_readPerson 89 = .ok (.aload_n 0, 1) := dk_42 (dk_at dksX8_readPerson_3 21 rfl rfl)
theorem dX8_readPerson_90 : decode cX8_readPerson 90 = .ok (.getfield 35, 3) := dk_180 0 35 (dk_at dksX8_readPerson_4 0 rfl rfl)
theorem dX8_readPerson_93 : decode cX8_readPerson 93 = .ok (.sipush 1448, 3) := dk_17 5 168 (dk_at dksX8_readPerson_4 3 rfl rfl)
theorem dX8_readPerson_96 : decode cX8_readPerson 96 = .ok (.iload_n 1, 1) := dk_27 (dk_at dksX8_readPerson_4 6 rfl rfl)
theorem dX8_readPerson_97 : decode cX8_readPerson 97 = .ok (.iadd, 1) := dk_96 (dk_at dksX8_readPerson_4 7 rfl rfl)
theorem dX8_readPerson_98 : decode cX8_readPerson 98 = .ok (.iload_n 2, 1) := dk_28 (dk_at dksX8_readPerson_4 8 rfl rfl)
theorem dX8_readPerson_99 : decode cX8_readPerson 99 = .ok (.iastore, 1) := dk_79 (dk_at dksX8_readPerson_4 9 rfl rfl)
theorem dX8_readPerson_100 : decode cX8_readPerson 100 = .ok (.aload_n 0, 1) := dk_42 (dk_at dksX8_readPerson_4 10 rfl rfl)
theorem dX8_readPerson_101 : decode cX8_readPerson 101 = .ok (.getfield 35, 3) := dk_180 0 35 (dk_at dksX8_readPerson_4 11 rfl rfl)
theorem dX8_readPerson_104 : decode cX8_readPerson 104 = .ok (.sipush 1437, 3) := dk_17 5 157 (dk_at dksX8_readPerson_4 14 rfl rfl)
theorem dX8_readPerson_107 : decode cX8_readPerson 107 = .ok (.dup2, 1) := dk_92 (dk_at dksX8_readPerson_4 17 rfl rfl)
theorem dX8_readPerson_108 : decode cX8_readPerson 108 = .ok (.iaload, 1) := dk_46 (dk_at dksX8_readPerson_4 18 rfl rfl)
theorem dX8_readPerson_109 : decode cX8_readPerson 109 = .ok (.iconst 1, 1) := dk_4 (dk_at dksX8_readPerson_4 19 rfl rfl)
theorem dX8_readPerson_110 : decode cX8_readPerson 110 = .ok (.iadd, 1) := dk_96 (dk_at dksX8_readPerson_4 20 rfl rfl)
theorem dX8_readPerson_111 : decode cX8_readPerson 111 = .ok (.iastore, 1) := dk_79 (dk_at dksX8_readPerson_4 21 rfl rfl)
theorem dX8_readPerson_112 : decode cX8_readPerson 112 = .ok (.return_, 1) := dk_177 (dk_at dksX8_readPerson_4 22 rfl rfl)
abbrev cX8_perhaps : ByteArray := prog_14_method_48_code
def yX8_perhaps : MethodName := ⟨RX8, "perhaps", "(Z)Z"⟩
def dkwX8_perhaps_0 : List UInt8 := [42, 180, 0, 202, 157, 0, 7, 27, 154, 0, 5, 3, 172, 42, 182, 0, 212, 4, 172]
abbrev dktX8_perhaps_0 : List UInt8 := dkwX8_perhaps_0 ++ []
theorem dksX8_perhaps_0 : cX8_perhaps.data.toList.drop 0 = dktX8_perhaps_0 := by decide +kernel
theorem dX8_perhaps_0 : decode cX8_perhaps 0 = .ok (.aload_n 0, 1) := dk_42 (dk_at dksX8_perhaps_0 0 rfl rfl)
theorem dX8_perhaps_1 : decode cX8_perhaps 1 = .ok (.getfield 202, 3) := dk_180 0 202 (dk_at dksX8_perhaps_0 1 rfl rfl)
theorem dX8_perhaps_4 : decode cX8_perhaps 4 = .ok (.ifCond .gt 7, 3) := dk_157 0 7 (dk_at dksX8_perhaps_0 4 rfl rfl)
theorem dX8_perhaps_7 : decode cX8_perhaps 7 = .ok (.iload_n 1, 1) := dk_27 (dk_at dksX8_perhaps_0 7 rfl rfl)
theorem dX8_perhaps_8 : decode cX8_perhaps 8 = .ok (.ifCond .ne 5, 3) := dk_154 0 5 (dk_at dksX8_perhaps_0 8 rfl rfl)
theorem dX8_perhaps_11 : decode cX8_perhaps 11 = .ok (.iconst 0, 1) := dk_3 (dk_at dksX8_perhaps_0 11 rfl rfl)
theorem dX8_perhaps_12 : decode cX8_perhaps 12 = .ok (.ireturn, 1) := dk_172 (dk_at dksX8_perhaps_0 12 rfl rfl)
theorem dX8_perhaps_13 : decode cX8_perhaps 13 = .ok (.aload_n 0, 1) := dk_42 (dk_at dksX8_perhaps_0 13 rfl rfl)
theorem dX8_perhaps_14 : decode cX8_perhaps 14 = .ok (.invokevirtual 212, 3) := dk_182 0 212 (dk_at dksX8_perhaps_0 14 rfl rfl)
theorem dX8_perhaps_17 : decode cX8_perhaps 17 = .ok (.iconst 1, 1) := dk_4 (dk_at dksX8_perhaps_0 17 rfl rfl)
theorem dX8_perhaps_18 : decode cX8_perhaps 18 = .ok (.ireturn, 1) := dk_172 (dk_at dksX8_perhaps_0 18 rfl rfl)
abbrev cX8_told : ByteArray := prog_14_method_58_code
def yX8_told : MethodName := ⟨RX8, "told", "(II)I"⟩
def dkwX8_told_2 : List UInt8 := [182, 0, 208, 3, 29, 184, 0, 233, 172]
abbrev dktX8_told_2 : List UInt8 := dkwX8_told_2 ++ []
def dkwX8_told_1 : List UInt8 := [158, 0, 5, 3, 172, 42, 27, 28, 182, 0, 230, 62, 29, 156, 0, 12, 42, 6, 42, 180, 0, 119]
abbrev dktX8_told_1 : List UInt8 := dkwX8_told_1 ++ dktX8_told_2
def dkwX8_told_0 : List UInt8 := [42, 180, 0, 202, 154, 0, 14, 42, 182, 0, 227, 154, 0, 7, 42, 182, 0, 215, 42, 180, 0, 202]
abbrev dktX8_told_0 : List UInt8 := dkwX8_told_0 ++ dktX8_told_1
theorem dksX8_told_0 : cX8_told.data.toList.drop 0 = dktX8_told_0 := by decide +kernel
theorem dksX8_told_1 : cX8_told.data.toList.drop 22 = dktX8_told_1 := dk_seg dksX8_told_0 22 rfl rfl
theorem dksX8_told_2 : cX8_told.data.toList.drop 44 = dktX8_told_2 := dk_seg dksX8_told_1 22 rfl rfl
theorem dX8_told_0 : decode cX8_told 0 = .ok (.aload_n 0, 1) := dk_42 (dk_at dksX8_told_0 0 rfl rfl)
theorem dX8_told_1 : decode cX8_told 1 = .ok (.getfield 202, 3) := dk_180 0 202 (dk_at dksX8_told_0 1 rfl rfl)
theorem dX8_told_4 : decode cX8_told 4 = .ok (.ifCond .ne 14, 3) := dk_154 0 14 (dk_at dksX8_told_0 4 rfl rfl)
theorem dX8_told_7 : decode cX8_told 7 = .ok (.aload_n 0, 1) := dk_42 (dk_at dksX8_told_0 7 rfl rfl)
theorem dX8_told_8 : decode cX8_told 8 = .ok (.invokevirtual 227, 3) := dk_182 0 227 (dk_at dksX8_told_0 8 rfl rfl)
theorem dX8_told_11 : decode cX8_told 11 = .ok (.ifCond .ne 7, 3) := dk_154 0 7 (dk_at dksX8_told_0 11 rfl rfl)
theorem dX8_told_14 : decode cX8_told 14 = .ok (.aload_n 0, 1) := dk_42 (dk_at dksX8_told_0 14 rfl rfl)
theorem dX8_told_15 : decode cX8_told 15 = .ok (.invokevirtual 215, 3) := dk_182 0 215 (dk_at dksX8_told_0 15 rfl rfl)
theorem dX8_told_18 : decode cX8_told 18 = .ok (.aload_n 0, 1) := dk_42 (dk_at dksX8_told_0 18 rfl rfl)
theorem dX8_told_19 : decode cX8_told 19 = .ok (.getfield 202, 3) := dk_180 0 202 (dk_at dksX8_told_0 19 rfl rfl)
theorem dX8_told_22 : decode cX8_told 22 = .ok (.ifCond .le 5, 3) := dk_158 0 5 (dk_at dksX8_told_1 0 rfl rfl)
theorem dX8_told_25 : decode cX8_told 25 = .ok (.iconst 0, 1) := dk_3 (dk_at dksX8_told_1 3 rfl rfl)
theorem dX8_told_26 : decode cX8_told 26 = .ok (.ireturn, 1) := dk_172 (dk_at dksX8_told_1 4 rfl rfl)
theorem dX8_told_27 : decode cX8_told 27 = .ok (.aload_n 0, 1) := dk_42 (dk_at dksX8_told_1 5 rfl rfl)
theorem dX8_told_28 : decode cX8_told 28 = .ok (.iload_n 1, 1) := dk_27 (dk_at dksX8_told_1 6 rfl rfl)
theorem dX8_told_29 : decode cX8_told 29 = .ok (.iload_n 2, 1) := dk_28 (dk_at dksX8_told_1 7 rfl rfl)
theorem dX8_told_30 : decode cX8_told 30 = .ok (.invokevirtual 230, 3) := dk_182 0 230 (dk_at dksX8_told_1 8 rfl rfl)
theorem dX8_told_33 : decode cX8_told 33 = .ok (.istore_n 3, 1) := dk_62 (dk_at dksX8_told_1 11 rfl rfl)
theorem dX8_told_34 : decode cX8_told 34 = .ok (.iload_n 3, 1) := dk_29 (dk_at dksX8_told_1 12 rfl rfl)
theorem dX8_told_35 : decode cX8_told 35 = .ok (.ifCond .ge 12, 3) := dk_156 0 12 (dk_at dksX8_told_1 13 rfl rfl)
theorem dX8_told_38 : decode cX8_told 38 = .ok (.aload_n 0, 1) := dk_42 (dk_at dksX8_told_1 16 rfl rfl)
theorem dX8_told_39 : decode cX8_told 39 = .ok (.iconst 3, 1) := dk_6 (dk_at dksX8_told_1 17 rfl rfl)
theorem dX8_told_40 : decode cX8_told 40 = .ok (.aload_n 0, 1) := dk_42 (dk_at dksX8_told_1 18 rfl rfl)
theorem dX8_told_41 : decode cX8_told 41 = .ok (.getfield 119, 3) := dk_180 0 119 (dk_at dksX8_told_1 19 rfl rfl)
theorem dX8_told_44 : decode cX8_told 44 = .ok (.invokevirtual 208, 3) := dk_182 0 208 (dk_at dksX8_told_2 0 rfl rfl)
theorem dX8_told_47 : decode cX8_told 47 = .ok (.iconst 0, 1) := dk_3 (dk_at dksX8_told_2 3 rfl rfl)
theorem dX8_told_48 : decode cX8_told 48 = .ok (.iload_n 3, 1) := dk_29 (dk_at dksX8_told_2 4 rfl rfl)
theorem dX8_told_49 : decode cX8_told 49 = .ok (.invokestatic 233, 3) := dk_184 0 233 (dk_at dksX8_told_2 5 rfl rfl)
theorem dX8_told_52 : decode cX8_told 52 = .ok (.ireturn, 1) := dk_172 (dk_at dksX8_told_2 8 rfl rfl)
abbrev cX8_has : ByteArray := prog_14_method_19_code
def yX8_has : MethodName := ⟨RX8, "has", "(II)Z"⟩
def dkwX8_has_0 : List UInt8 := [26, 27, 122, 4, 126, 4, 160, 0, 7, 4, 167, 0, 4, 3, 172]
abbrev dktX8_has_0 : List UInt8 := dkwX8_has_0 ++ []
theorem dksX8_has_0 : cX8_has.data.toList.drop 0 = dktX8_has_0 := by decide +kernel
theorem dX8_has_0 : decode cX8_has 0 = .ok (.iload_n 0, 1) := dk_26 (dk_at dksX8_has_0 0 rfl rfl)
theorem dX8_has_1 : decode cX8_has 1 = .ok (.iload_n 1, 1) := dk_27 (dk_at dksX8_has_0 1 rfl rfl)
theorem dX8_has_2 : decode cX8_has 2 = .ok (.ishr, 1) := dk_122 (dk_at dksX8_has_0 2 rfl rfl)
theorem dX8_has_3 : decode cX8_has 3 = .ok (.iconst 1, 1) := dk_4 (dk_at dksX8_has_0 3 rfl rfl)
theorem dX8_has_4 : decode cX8_has 4 = .ok (.iand, 1) := dk_126 (dk_at dksX8_has_0 4 rfl rfl)
theorem dX8_has_5 : decode cX8_has 5 = .ok (.iconst 1, 1) := dk_4 (dk_at dksX8_has_0 5 rfl rfl)
theorem dX8_has_6 : decode cX8_has 6 = .ok (.if_icmp .ne 7, 3) := dk_160 0 7 (dk_at dksX8_has_0 6 rfl rfl)
theorem dX8_has_9 : decode cX8_has 9 = .ok (.iconst 1, 1) := dk_4 (dk_at dksX8_has_0 9 rfl rfl)
theorem dX8_has_10 : decode cX8_has 10 = .ok (.goto 4, 3) := dk_167 0 4 (dk_at dksX8_has_0 10 rfl rfl)
theorem dX8_has_13 : decode cX8_has 13 = .ok (.iconst 0, 1) := dk_3 (dk_at dksX8_has_0 13 rfl rfl)
theorem dX8_has_14 : decode cX8_has 14 = .ok (.ireturn, 1) := dk_172 (dk_at dksX8_has_0 14 rfl rfl)
abbrev cX8_readLane : ByteArray := prog_14_method_64_code
def yX8_readLane : MethodName := ⟨RX8, "readLane", "()V"⟩
def dkwX8_readLane_3 : List UInt8 := [182, 0, 239, 42, 180, 0, 202, 154, 0, 10, 42, 7, 27, 28, 182, 1, 4, 177]
abbrev dktX8_readLane_3 : List UInt8 := dkwX8_readLane_3 ++ []
def dkwX8_readLane_2 : List UInt8 := [61, 42, 180, 0, 202, 154, 0, 17, 27, 28, 160, 0, 12, 42, 8, 42, 180, 0, 119, 182, 0, 208, 42, 4]
abbrev dktX8_readLane_2 : List UInt8 := dkwX8_readLane_2 ++ dktX8_readLane_3
def dkwX8_readLane_1 : List UInt8 := [180, 0, 202, 158, 0, 4, 177, 42, 182, 0, 212, 42, 7, 4, 182, 1, 1, 60, 42, 7, 4, 182, 0, 236]
abbrev dktX8_readLane_1 : List UInt8 := dkwX8_readLane_1 ++ dktX8_readLane_2
def dkwX8_readLane_0 : List UInt8 := [42, 180, 0, 35, 17, 5, 158, 46, 16, 12, 160, 0, 13, 42, 16, 6, 42, 180, 0, 119, 182, 0, 208, 42]
abbrev dktX8_readLane_0 : List UInt8 := dkwX8_readLane_0 ++ dktX8_readLane_1
theorem dksX8_readLane_0 : cX8_readLane.data.toList.drop 0 = dktX8_readLane_0 := by decide +kernel
theorem dksX8_readLane_1 : cX8_readLane.data.toList.drop 24 = dktX8_readLane_1 := dk_seg dksX8_readLane_0 24 rfl rfl
theorem dksX8_readLane_2 : cX8_readLane.data.toList.drop 48 = dktX8_readLane_2 := dk_seg dksX8_readLane_1 24 rfl rfl
theorem dksX8_readLane_3 : cX8_readLane.data.toList.drop 72 = dktX8_readLane_3 := dk_seg dksX8_readLane_2 24 rfl rfl
theorem dX8_readLane_0 : decode cX8_readLane 0 = .ok (.aload_n 0, 1) := dk_42 (dk_at dksX8_readLane_0 0 rfl rfl)
theorem dX8_readLane_1 : decode cX8_readLane 1 = .ok (.getfield 35, 3) := dk_180 0 35 (dk_at dksX8_readLane_0 1 rfl rfl)
theorem dX8_readLane_4 : decode cX8_readLane 4 = .ok (.sipush 1438, 3) := dk_17 5 158 (dk_at dksX8_readLane_0 4 rfl rfl)
theorem dX8_readLane_7 : decode cX8_readLane 7 = .ok (.iaload, 1) := dk_46 (dk_at dksX8_readLane_0 7 rfl rfl)
theorem dX8_readLane_8 : decode cX8_readLane 8 = .ok (.bipush 12, 2) := dk_16 12 (dk_at dksX8_readLane_0 8 rfl rfl)
theorem dX8_readLane_10 : decode cX8_readLane 10 = .ok (.if_icmp .ne 13, 3) := dk_160 0 13 (dk_at dksX8_readLane_0 10 rfl rfl)
theorem dX8_readLane_13 : decode cX8_readLane 13 = .ok (.aload_n 0, 1) := dk_42 (dk_at dksX8_readLane_0 13 rfl rfl)
theorem dX8_readLane_14 : decode cX8_readLane 14 = .ok (.bipush 6, 2) := dk_16 6 (dk_at dksX8_readLane_0 14 rfl rfl)
theorem dX8_readLane_16 : decode cX8_readLane 16 = .ok (.aload_n 0, 1) := dk_42 (dk_at dksX8_readLane_0 16 rfl rfl)
theorem dX8_readLane_17 : decode cX8_readLane 17 = .ok (.getfield 119, 3) := dk_180 0 119 (dk_at dksX8_readLane_0 17 rfl rfl)
theorem dX8_readLane_20 : decode cX8_readLane 20 = .ok (.invokevirtual 208, 3) := dk_182 0 208 (dk_at dksX8_readLane_0 20 rfl rfl)
theorem dX8_readLane_23 : decode cX8_readLane 23 = .ok (.aload_n 0, 1) := dk_42 (dk_at dksX8_readLane_0 23 rfl rfl)
theorem dX8_readLane_24 : decode cX8_readLane 24 = .ok (.getfield 202, 3) := dk_180 0 202 (dk_at dksX8_readLane_1 0 rfl rfl)
theorem dX8_readLane_27 : decode cX8_readLane 27 = .ok (.ifCond .le 4, 3) := dk_158 0 4 (dk_at dksX8_readLane_1 3 rfl rfl)
theorem dX8_readLane_30 : decode cX8_readLane 30 = .ok (.return_, 1) := dk_177 (dk_at dksX8_readLane_1 6 rfl rfl)
theorem dX8_readLane_31 : decode cX8_readLane 31 = .ok (.aload_n 0, 1) := dk_42 (dk_at dksX8_readLane_1 7 rfl rfl)
theorem dX8_readLane_32 : decode cX8_readLane 32 = .ok (.invokevirtual 212, 3) := dk_182 0 212 (dk_at dksX8_readLane_1 8 rfl rfl)
theorem dX8_readLane_35 : decode cX8_readLane 35 = .ok (.aload_n 0, 1) := dk_42 (dk_at dksX8_readLane_1 11 rfl rfl)
theorem dX8_readLane_36 : decode cX8_readLane 36 = .ok (.iconst 4, 1) := dk_7 (dk_at dksX8_readLane_1 12 rfl rfl)
theorem dX8_readLane_37 : decode cX8_readLane 37 = .ok (.iconst 1, 1) := dk_4 (dk_at dksX8_readLane_1 13 rfl rfl)
theorem dX8_readLane_38 : decode cX8_readLane 38 = .ok (.invokevirtual 257, 3) := dk_182 1 1 (dk_at dksX8_readLane_1 14 rfl rfl)
theorem dX8_readLane_41 : decode cX8_readLane 41 = .ok (.istore_n 1, 1) := dk_60 (dk_at dksX8_readLane_1 17 rfl rfl)
theorem dX8_readLane_42 : decode cX8_readLane 42 = .ok (.aload_n 0, 1) := dk_42 (dk_at dksX8_readLane_1 18 rfl rfl)
theorem dX8_readLane_43 : decode cX8_readLane 43 = .ok (.iconst 4, 1) := dk_7 (dk_at dksX8_readLane_1 19 rfl rfl)
theorem dX8_readLane_44 : decode cX8_readLane 44 = .ok (.iconst 1, 1) := dk_4 (dk_at dksX8_readLane_1 20 rfl rfl)
theorem dX8_readLane_45 : decode cX8_readLane 45 = .ok (.invokevirtual 236, 3) := dk_182 0 236 (dk_at dksX8_readLane_1 21 rfl rfl)
theorem dX8_readLane_48 : decode cX8_readLane 48 = .ok (.istore_n 2, 1) := dk_61 (dk_at dksX8_readLane_2 0 rfl rfl)
theorem dX8_readLane_49 : decode cX8_readLane 49 = .ok (.aload_n 0, 1) := dk_42 (dk_at dksX8_readLane_2 1 rfl rfl)
theorem dX8_readLane_50 : decode cX8_readLane 50 = .ok (.getfield 202, 3) := dk_180 0 202 (dk_at dksX8_readLane_2 2 rfl rfl)
theorem dX8_readLane_53 : decode cX8_readLane 53 = .ok (.ifCond .ne 17, 3) := dk_154 0 17 (dk_at dksX8_readLane_2 5 rfl rfl)
theorem dX8_readLane_56 : decode cX8_readLane 56 = .ok (.iload_n 1, 1) := dk_27 (dk_at dksX8_readLane_2 8 rfl rfl)
theorem dX8_readLane_57 : decode cX8_readLane 57 = .ok (.iload_n 2, 1) := dk_28 (dk_at dksX8_readLane_2 9 rfl rfl)
theorem dX8_readLane_58 : decode cX8_readLane 58 = .ok (.if_icmp .ne 12, 3) := dk_160 0 12 (dk_at dksX8_readLane_2 10 rfl rfl)
theorem dX8_readLane_61 : decode cX8_readLane 61 = .ok (.aload_n 0, 1) := dk_42 (dk_at dksX8_readLane_2 13 rfl rfl)
theorem dX8_readLane_62 : decode cX8_readLane 62 = .ok (.iconst 5, 1) := dk_8 (dk_at dksX8_readLane_2 14 rfl rfl)
theorem dX8_readLane_63 : decode cX8_readLane 63 = .ok (.aload_n 0, 1) := dk_42 (dk_at dksX8_readLane_2 15 rfl rfl)
theorem dX8_readLane_64 : decode cX8_readLane 64 = .ok (.getfield 119, 3) := dk_180 0 119 (dk_at dksX8_readLane_2 16 rfl rfl)
theorem dX8_readLane_67 : decode cX8_readLane 67 = .ok (.invokevirtual 208, 3) := dk_182 0 208 (dk_at dksX8_readLane_2 19 rfl rfl)
theorem dX8_readLane_70 : decode cX8_readLane 70 = .ok (.aload_n 0, 1) := dk_42 (dk_at dksX8_readLane_2 22 rfl rfl)
theorem dX8_readLane_71 : decode cX8_readLane 71 = .ok (.iconst 1, 1) := dk_4 (dk_at dksX8_readLane_2 23 rfl rfl)
theorem dX8_readLane_72 : decode cX8_readLane 72 = .ok (.invokevirtual 239, 3) := dk_182 0 239 (dk_at dksX8_readLane_3 0 rfl rfl)
theorem dX8_readLane_75 : decode cX8_readLane 75 = .ok (.aload_n 0, 1) := dk_42 (dk_at dksX8_readLane_3 3 rfl rfl)
theorem dX8_readLane_76 : decode cX8_readLane 76 = .ok (.getfield 202, 3) := dk_180 0 202 (dk_at dksX8_readLane_3 4 rfl rfl)
theorem dX8_readLane_79 : decode cX8_readLane 79 = .ok (.ifCond .ne 10, 3) := dk_154 0 10 (dk_at dksX8_readLane_3 7 rfl rfl)
theorem dX8_readLane_82 : decode cX8_readLane 82 = .ok (.aload_n 0, 1) := dk_42 (dk_at dksX8_readLane_3 10 rfl rfl)
theorem dX8_readLane_83 : decode cX8_readLane 83 = .ok (.iconst 4, 1) := dk_7 (dk_at dksX8_readLane_3 11 rfl rfl)
theorem dX8_readLane_84 : decode cX8_readLane 84 = .ok (.iload_n 1, 1) := dk_27 (dk_at dksX8_readLane_3 12 rfl rfl)
theorem dX8_readLane_85 : decode cX8_readLane 85 = .ok (.iload_n 2, 1) := dk_28 (dk_at dksX8_readLane_3 13 rfl rfl)
theorem dX8_readLane_86 : decode cX8_readLane 86 = .ok (.invokevirtual 260, 3) := dk_182 1 4 (dk_at dksX8_readLane_3 14 rfl rfl)
theorem dX8_readLane_89 : decode cX8_readLane 89 = .ok (.return_, 1) := dk_177 (dk_at dksX8_readLane_3 17 rfl rfl)
abbrev cX8_readTold : ByteArray := prog_14_method_59_code
def yX8_readTold : MethodName := ⟨RX8, "readTold", "(II)I"⟩
def dkwX8_readTold_0 : List UInt8 := [42, 27, 28, 182, 0, 236, 62, 42, 4, 182, 0, 239, 29, 172]
abbrev dktX8_readTold_0 : List UInt8 := dkwX8_readTold_0 ++ []
theorem dksX8_readTold_0 : cX8_readTold.data.toList.drop 0 = dktX8_readTold_0 := by decide +kernel
theorem dX8_readTold_0 : decode cX8_readTold 0 = .ok (.aload_n 0, 1) := dk_42 (dk_at dksX8_readTold_0 0 rfl rfl)
theorem dX8_readTold_1 : decode cX8_readTold 1 = .ok (.iload_n 1, 1) := dk_27 (dk_at dksX8_readTold_0 1 rfl rfl)
theorem dX8_readTold_2 : decode cX8_readTold 2 = .ok (.iload_n 2, 1) := dk_28 (dk_at dksX8_readTold_0 2 rfl rfl)
theorem dX8_readTold_3 : decode cX8_readTold 3 = .ok (.invokevirtual 236, 3) := dk_182 0 236 (dk_at dksX8_readTold_0 3 rfl rfl)
theorem dX8_readTold_6 : decode cX8_readTold 6 = .ok (.istore_n 3, 1) := dk_62 (dk_at dksX8_readTold_0 6 rfl rfl)
theorem dX8_readTold_7 : decode cX8_readTold 7 = .ok (.aload_n 0, 1) := dk_42 (dk_at dksX8_readTold_0 7 rfl rfl)
theorem dX8_readTold_8 : decode cX8_readTold 8 = .ok (.iconst 1, 1) := dk_4 (dk_at dksX8_readTold_0 8 rfl rfl)
theorem dX8_readTold_9 : decode cX8_readTold 9 = .ok (.invokevirtual 239, 3) := dk_182 0 239 (dk_at dksX8_readTold_0 9 rfl rfl)
theorem dX8_readTold_12 : decode cX8_readTold 12 = .ok (.iload_n 3, 1) := dk_29 (dk_at dksX8_readTold_0 12 rfl rfl)
theorem dX8_readTold_13 : decode cX8_readTold 13 = .ok (.ireturn, 1) := dk_172 (dk_at dksX8_readTold_0 13 rfl rfl)
abbrev cX8_meet : ByteArray := prog_14_method_63_code
def yX8_meet : MethodName := ⟨RX8, "meet", "(III)V"⟩
def dkwX8_meet_2 : List UInt8 := [21, 4, 5, 96, 92, 46, 4, 96, 79, 177]
abbrev dktX8_meet_2 : List UInt8 := dkwX8_meet_2 ++ []
def dkwX8_meet_1 : List UInt8 := [79, 42, 180, 0, 35, 21, 4, 16, 19, 96, 29, 96, 92, 46, 4, 28, 120, 128, 79, 42, 180, 0, 35]
abbrev dktX8_meet_1 : List UInt8 := dkwX8_meet_1 ++ dktX8_meet_2
def dkwX8_meet_0 : List UInt8 := [17, 1, 103, 27, 104, 54, 4, 42, 180, 0, 35, 21, 4, 16, 19, 96, 28, 96, 92, 46, 4, 29, 120, 128]
abbrev dktX8_meet_0 : List UInt8 := dkwX8_meet_0 ++ dktX8_meet_1
theorem dksX8_meet_0 : cX8_meet.data.toList.drop 0 = dktX8_meet_0 := by decide +kernel
theorem dksX8_meet_1 : cX8_meet.data.toList.drop 24 = dktX8_meet_1 := dk_seg dksX8_meet_0 24 rfl rfl
theorem dksX8_meet_2 : cX8_meet.data.toList.drop 47 = dktX8_meet_2 := dk_seg dksX8_meet_1 23 rfl rfl
theorem dX8_meet_0 : decode cX8_meet 0 = .ok (.sipush 359, 3) := dk_17 1 103 (dk_at dksX8_meet_0 0 rfl rfl)
theorem dX8_meet_3 : decode cX8_meet 3 = .ok (.iload_n 1, 1) := dk_27 (dk_at dksX8_meet_0 3 rfl rfl)
theorem dX8_meet_4 : decode cX8_meet 4 = .ok (.imul, 1) := dk_104 (dk_at dksX8_meet_0 4 rfl rfl)
theorem dX8_meet_5 : decode cX8_meet 5 = .ok (.istore 4, 2) := dk_54 4 (dk_at dksX8_meet_0 5 rfl rfl)
theorem dX8_meet_7 : decode cX8_meet 7 = .ok (.aload_n 0, 1) := dk_42 (dk_at dksX8_meet_0 7 rfl rfl)
theorem dX8_meet_8 : decode cX8_meet 8 = .ok (.getfield 35, 3) := dk_180 0 35 (dk_at dksX8_meet_0 8 rfl rfl)
theorem dX8_meet_11 : decode cX8_meet 11 = .ok (.iload 4, 2) := dk_21 4 (dk_at dksX8_meet_0 11 rfl rfl)
theorem dX8_meet_13 : decode cX8_meet 13 = .ok (.bipush 19, 2) := dk_16 19 (dk_at dksX8_meet_0 13 rfl rfl)
theorem dX8_meet_15 : decode cX8_meet 15 = .ok (.iadd, 1) := dk_96 (dk_at dksX8_meet_0 15 rfl rfl)
theorem dX8_meet_16 : decode cX8_meet 16 = .ok (.iload_n 2, 1) := dk_28 (dk_at dksX8_meet_0 16 rfl rfl)
theorem dX8_meet_17 : decode cX8_meet 17 = .ok (.iadd, 1) := dk_96 (dk_at dksX8_meet_0 17 rfl rfl)
theorem dX8_meet_18 : decode cX8_meet 18 = .ok (.dup2, 1) := dk_92 (dk_at dksX8_meet_0 18 rfl rfl)
theorem dX8_meet_19 : decode cX8_meet 19 = .ok (.iaload, 1) := dk_46 (dk_at dksX8_meet_0 19 rfl rfl)
theorem dX8_meet_20 : decode cX8_meet 20 = .ok (.iconst 1, 1) := dk_4 (dk_at dksX8_meet_0 20 rfl rfl)
theorem dX8_meet_21 : decode cX8_meet 21 = .ok (.iload_n 3, 1) := dk_29 (dk_at dksX8_meet_0 21 rfl rfl)
theorem dX8_meet_22 : decode cX8_meet 22 = .ok (.ishl, 1) := dk_120 (dk_at dksX8_meet_0 22 rfl rfl)
theorem dX8_meet_23 : decode cX8_meet 23 = .ok (.ior, 1) := dk_128 (dk_at dksX8_meet_0 23 rfl rfl)
theorem dX8_meet_24 : decode cX8_meet 24 = .ok (.iastore, 1) := dk_79 (dk_at dksX8_meet_1 0 rfl rfl)
theorem dX8_meet_25 : decode cX8_meet 25 = .ok (.aload_n 0, 1) := dk_42 (dk_at dksX8_meet_1 1 rfl rfl)
theorem dX8_meet_26 : decode cX8_meet 26 = .ok (.getfield 35, 3) := dk_180 0 35 (dk_at dksX8_meet_1 2 rfl rfl)
theorem dX8_meet_29 : decode cX8_meet 29 = .ok (.iload 4, 2) := dk_21 4 (dk_at dksX8_meet_1 5 rfl rfl)
theorem dX8_meet_31 : decode cX8_meet 31 = .ok (.bipush 19, 2) := dk_16 19 (dk_at dksX8_meet_1 7 rfl rfl)
theorem dX8_meet_33 : decode cX8_meet 33 = .ok (.iadd, 1) := dk_96 (dk_at dksX8_meet_1 9 rfl rfl)
theorem dX8_meet_34 : decode cX8_meet 34 = .ok (.iload_n 3, 1) := dk_29 (dk_at dksX8_meet_1 10 rfl rfl)
theorem dX8_meet_35 : decode cX8_meet 35 = .ok (.iadd, 1) := dk_96 (dk_at dksX8_meet_1 11 rfl rfl)
theorem dX8_meet_36 : decode cX8_meet 36 = .ok (.dup2, 1) := dk_92 (dk_at dksX8_meet_1 12 rfl rfl)
theorem dX8_meet_37 : decode cX8_meet 37 = .ok (.iaload, 1) := dk_46 (dk_at dksX8_meet_1 13 rfl rfl)
theorem dX8_meet_38 : decode cX8_meet 38 = .ok (.iconst 1, 1) := dk_4 (dk_at dksX8_meet_1 14 rfl rfl)
theorem dX8_meet_39 : decode cX8_meet 39 = .ok (.iload_n 2, 1) := dk_28 (dk_at dksX8_meet_1 15 rfl rfl)
theorem dX8_meet_40 : decode cX8_meet 40 = .ok (.ishl, 1) := dk_120 (dk_at dksX8_meet_1 16 rfl rfl)
theorem dX8_meet_41 : decode cX8_meet 41 = .ok (.ior, 1) := dk_128 (dk_at dksX8_meet_1 17 rfl rfl)
theorem dX8_meet_42 : decode cX8_meet 42 = .ok (.iastore, 1) := dk_79 (dk_at dksX8_meet_1 18 rfl rfl)
theorem dX8_meet_43 : decode cX8_meet 43 = .ok (.aload_n 0, 1) := dk_42 (dk_at dksX8_meet_1 19 rfl rfl)
theorem dX8_meet_44 : decode cX8_meet 44 = .ok (.getfield 35, 3) := dk_180 0 35 (dk_at dksX8_meet_1 20 rfl rfl)
theorem dX8_meet_47 : decode cX8_meet 47 = .ok (.iload 4, 2) := dk_21 4 (dk_at dksX8_meet_2 0 rfl rfl)
theorem dX8_meet_49 : decode cX8_meet 49 = .ok (.iconst 2, 1) := dk_5 (dk_at dksX8_meet_2 2 rfl rfl)
theorem dX8_meet_50 : decode cX8_meet 50 = .ok (.iadd, 1) := dk_96 (dk_at dksX8_meet_2 3 rfl rfl)
theorem dX8_meet_51 : decode cX8_meet 51 = .ok (.dup2, 1) := dk_92 (dk_at dksX8_meet_2 4 rfl rfl)
theorem dX8_meet_52 : decode cX8_meet 52 = .ok (.iaload, 1) := dk_46 (dk_at dksX8_meet_2 5 rfl rfl)
theorem dX8_meet_53 : decode cX8_meet 53 = .ok (.iconst 1, 1) := dk_4 (dk_at dksX8_meet_2 6 rfl rfl)
theorem dX8_meet_54 : decode cX8_meet 54 = .ok (.iadd, 1) := dk_96 (dk_at dksX8_meet_2 7 rfl rfl)
theorem dX8_meet_55 : decode cX8_meet 55 = .ok (.iastore, 1) := dk_79 (dk_at dksX8_meet_2 8 rfl rfl)
theorem dX8_meet_56 : decode cX8_meet 56 = .ok (.return_, 1) := dk_177 (dk_at dksX8_meet_2 9 rfl rfl)
abbrev cX8_readTin : ByteArray := prog_14_method_66_code
def yX8_readTin : MethodName := ⟨RX8, "readTin", "()V"⟩
def dkwX8_readTin_3 : List UInt8 := [182, 1, 8, 177]
abbrev dktX8_readTin_3 : List UInt8 := dkwX8_readTin_3 ++ []
def dkwX8_readTin_2 : List UInt8 := [42, 180, 0, 202, 154, 0, 21, 42, 7, 27, 28, 29, 21, 4, 153, 0, 7, 4, 167, 0, 4, 3]
abbrev dktX8_readTin_2 : List UInt8 := dkwX8_readTin_2 ++ dktX8_readTin_3
def dkwX8_readTin_1 : List UInt8 := [42, 182, 0, 158, 182, 0, 239, 42, 7, 4, 182, 1, 1, 62, 42, 42, 182, 0, 186, 182, 0, 253, 54, 4]
abbrev dktX8_readTin_1 : List UInt8 := dkwX8_readTin_1 ++ dktX8_readTin_2
def dkwX8_readTin_0 : List UInt8 := [42, 6, 16, 9, 182, 0, 250, 60, 42, 42, 182, 0, 183, 182, 0, 239, 42, 7, 3, 182, 1, 1, 61, 42]
abbrev dktX8_readTin_0 : List UInt8 := dkwX8_readTin_0 ++ dktX8_readTin_1
theorem dksX8_readTin_0 : cX8_readTin.data.toList.drop 0 = dktX8_readTin_0 := by decide +kernel
theorem dksX8_readTin_1 : cX8_readTin.data.toList.drop 24 = dktX8_readTin_1 := dk_seg dksX8_readTin_0 24 rfl rfl
theorem dksX8_readTin_2 : cX8_readTin.data.toList.drop 48 = dktX8_readTin_2 := dk_seg dksX8_readTin_1 24 rfl rfl
theorem dksX8_readTin_3 : cX8_readTin.data.toList.drop 70 = dktX8_readTin_3 := dk_seg dksX8_readTin_2 22 rfl rfl
theorem dX8_readTin_0 : decode cX8_readTin 0 = .ok (.aload_n 0, 1) := dk_42 (dk_at dksX8_readTin_0 0 rfl rfl)
theorem dX8_readTin_1 : decode cX8_readTin 1 = .ok (.iconst 3, 1) := dk_6 (dk_at dksX8_readTin_0 1 rfl rfl)
theorem dX8_readTin_2 : decode cX8_readTin 2 = .ok (.bipush 9, 2) := dk_16 9 (dk_at dksX8_readTin_0 2 rfl rfl)
theorem dX8_readTin_4 : decode cX8_readTin 4 = .ok (.invokevirtual 250, 3) := dk_182 0 250 (dk_at dksX8_readTin_0 4 rfl rfl)
theorem dX8_readTin_7 : decode cX8_readTin 7 = .ok (.istore_n 1, 1) := dk_60 (dk_at dksX8_readTin_0 7 rfl rfl)
theorem dX8_readTin_8 : decode cX8_readTin 8 = .ok (.aload_n 0, 1) := dk_42 (dk_at dksX8_readTin_0 8 rfl rfl)
theorem dX8_readTin_9 : decode cX8_readTin 9 = .ok (.aload_n 0, 1) := dk_42 (dk_at dksX8_readTin_0 9 rfl rfl)
theorem dX8_readTin_10 : decode cX8_readTin 10 = .ok (.invokevirtual 183, 3) := dk_182 0 183 (dk_at dksX8_readTin_0 10 rfl rfl)
theorem dX8_readTin_13 : decode cX8_readTin 13 = .ok (.invokevirtual 239, 3) := dk_182 0 239 (dk_at dksX8_readTin_0 13 rfl rfl)
theorem dX8_readTin_16 : decode cX8_readTin 16 = .ok (.aload_n 0, 1) := dk_42 (dk_at dksX8_readTin_0 16 rfl rfl)
theorem dX8_readTin_17 : decode cX8_readTin 17 = .ok (.iconst 4, 1) := dk_7 (dk_at dksX8_readTin_0 17 rfl rfl)
theorem dX8_readTin_18 : decode cX8_readTin 18 = .ok (.iconst 0, 1) := dk_3 (dk_at dksX8_readTin_0 18 rfl rfl)
theorem dX8_readTin_19 : decode cX8_readTin 19 = .ok (.invokevirtual 257, 3) := dk_182 1 1 (dk_at dksX8_readTin_0 19 rfl rfl)
theorem dX8_readTin_22 : decode cX8_readTin 22 = .ok (.istore_n 2, 1) := dk_61 (dk_at dksX8_readTin_0 22 rfl rfl)
theorem dX8_readTin_23 : decode cX8_readTin 23 = .ok (.aload_n 0, 1) := dk_42 (dk_at dksX8_readTin_0 23 rfl rfl)
theorem dX8_readTin_24 : decode cX8_readTin 24 = .ok (.aload_n 0, 1) := dk_42 (dk_at dksX8_readTin_1 0 rfl rfl)
theorem dX8_readTin_25 : decode cX8_readTin 25 = .ok (.invokevirtual 158, 3) := dk_182 0 158 (dk_at dksX8_readTin_1 1 rfl rfl)
theorem dX8_readTin_28 : decode cX8_readTin 28 = .ok (.invokevirtual 239, 3) := dk_182 0 239 (dk_at dksX8_readTin_1 4 rfl rfl)
theorem dX8_readTin_31 : decode cX8_readTin 31 = .ok (.aload_n 0, 1) := dk_42 (dk_at dksX8_readTin_1 7 rfl rfl)
theorem dX8_readTin_32 : decode cX8_readTin 32 = .ok (.iconst 4, 1) := dk_7 (dk_at dksX8_readTin_1 8 rfl rfl)
theorem dX8_readTin_33 : decode cX8_readTin 33 = .ok (.iconst 1, 1) := dk_4 (dk_at dksX8_readTin_1 9 rfl rfl)
theorem dX8_readTin_34 : decode cX8_readTin 34 = .ok (.invokevirtual 257, 3) := dk_182 1 1 (dk_at dksX8_readTin_1 10 rfl rfl)
theorem dX8_readTin_37 : decode cX8_readTin 37 = .ok (.istore_n 3, 1) := dk_62 (dk_at dksX8_readTin_1 13 rfl rfl)
theorem dX8_readTin_38 : decode cX8_readTin 38 = .ok (.aload_n 0, 1) := dk_42 (dk_at dksX8_readTin_1 14 rfl rfl)
theorem dX8_readTin_39 : decode cX8_readTin 39 = .ok (.aload_n 0, 1) := dk_42 (dk_at dksX8_readTin_1 15 rfl rfl)
theorem dX8_readTin_40 : decode cX8_readTin 40 = .ok (.invokevirtual 186, 3) := dk_182 0 186 (dk_at dksX8_readTin_1 16 rfl rfl)
theorem dX8_readTin_43 : decode cX8_readTin 43 = .ok (.invokevirtual 253, 3) := dk_182 0 253 (dk_at dksX8_readTin_1 19 rfl rfl)
theorem dX8_readTin_46 : decode cX8_readTin 46 = .ok (.istore 4, 2) := dk_54 4 (dk_at dksX8_readTin_1 22 rfl rfl)
theorem dX8_readTin_48 : decode cX8_readTin 48 = .ok (.aload_n 0, 1) := dk_42 (dk_at dksX8_readTin_2 0 rfl rfl)
theorem dX8_readTin_49 : decode cX8_readTin 49 = .ok (.getfield 202, 3) := dk_180 0 202 (dk_at dksX8_readTin_2 1 rfl rfl)
theorem dX8_readTin_52 : decode cX8_readTin 52 = .ok (.ifCond .ne 21, 3) := dk_154 0 21 (dk_at dksX8_readTin_2 4 rfl rfl)
theorem dX8_readTin_55 : decode cX8_readTin 55 = .ok (.aload_n 0, 1) := dk_42 (dk_at dksX8_readTin_2 7 rfl rfl)
theorem dX8_readTin_56 : decode cX8_readTin 56 = .ok (.iconst 4, 1) := dk_7 (dk_at dksX8_readTin_2 8 rfl rfl)
theorem dX8_readTin_57 : decode cX8_readTin 57 = .ok (.iload_n 1, 1) := dk_27 (dk_at dksX8_readTin_2 9 rfl rfl)
theorem dX8_readTin_58 : decode cX8_readTin 58 = .ok (.iload_n 2, 1) := dk_28 (dk_at dksX8_readTin_2 10 rfl rfl)
theorem dX8_readTin_59 : decode cX8_readTin 59 = .ok (.iload_n 3, 1) := dk_29 (dk_at dksX8_readTin_2 11 rfl rfl)
theorem dX8_readTin_60 : decode cX8_readTin 60 = .ok (.iload 4, 2) := dk_21 4 (dk_at dksX8_readTin_2 12 rfl rfl)
theorem dX8_readTin_62 : decode cX8_readTin 62 = .ok (.ifCond .eq 7, 3) := dk_153 0 7 (dk_at dksX8_readTin_2 14 rfl rfl)
theorem dX8_readTin_65 : decode cX8_readTin 65 = .ok (.iconst 1, 1) := dk_4 (dk_at dksX8_readTin_2 17 rfl rfl)
theorem dX8_readTin_66 : decode cX8_readTin 66 = .ok (.goto 4, 3) := dk_167 0 4 (dk_at dksX8_readTin_2 18 rfl rfl)
theorem dX8_readTin_69 : decode cX8_readTin 69 = .ok (.iconst 0, 1) := dk_3 (dk_at dksX8_readTin_2 21 rfl rfl)
theorem dX8_readTin_70 : decode cX8_readTin 70 = .ok (.invokevirtual 264, 3) := dk_182 1 8 (dk_at dksX8_readTin_3 0 rfl rfl)
theorem dX8_readTin_73 : decode cX8_readTin 73 = .ok (.return_, 1) := dk_177 (dk_at dksX8_readTin_3 3 rfl rfl)
abbrev cX8_strikes : ByteArray := prog_14_method_65_code
def yX8_strikes : MethodName := ⟨RX8, "strikes", "(IIIII)V"⟩
def dkwX8_strikes_4 : List UInt8 := [6, 96, 28, 4, 96, 79, 177]
abbrev dktX8_strikes_4 : List UInt8 := dkwX8_strikes_4 ++ []
def dkwX8_strikes_3 : List UInt8 := [4, 21, 4, 120, 79, 42, 180, 0, 35, 21, 6, 16, 78, 96, 28, 96, 3, 79, 42, 180, 0, 35, 21, 6]
abbrev dktX8_strikes_3 : List UInt8 := dkwX8_strikes_3 ++ dktX8_strikes_4
def dkwX8_strikes_2 : List UInt8 := [42, 180, 0, 35, 21, 6, 16, 60, 96, 28, 96, 3, 79, 42, 180, 0, 35, 21, 6, 16, 69, 96, 28, 96]
abbrev dktX8_strikes_2 : List UInt8 := dkwX8_strikes_2 ++ dktX8_strikes_3
def dkwX8_strikes_1 : List UInt8 := [21, 6, 16, 42, 96, 28, 96, 21, 4, 79, 42, 180, 0, 35, 21, 6, 16, 51, 96, 28, 96, 21, 5, 79]
abbrev dktX8_strikes_1 : List UInt8 := dkwX8_strikes_1 ++ dktX8_strikes_2
def dkwX8_strikes_0 : List UInt8 := [17, 1, 103, 27, 104, 54, 6, 42, 180, 0, 35, 21, 6, 16, 33, 96, 28, 96, 29, 79, 42, 180, 0, 35]
abbrev dktX8_strikes_0 : List UInt8 := dkwX8_strikes_0 ++ dktX8_strikes_1
theorem dksX8_strikes_0 : cX8_strikes.data.toList.drop 0 = dktX8_strikes_0 := by decide +kernel
theorem dksX8_strikes_1 : cX8_strikes.data.toList.drop 24 = dktX8_strikes_1 := dk_seg dksX8_strikes_0 24 rfl rfl
theorem dksX8_strikes_2 : cX8_strikes.data.toList.drop 48 = dktX8_strikes_2 := dk_seg dksX8_strikes_1 24 rfl rfl
theorem dksX8_strikes_3 : cX8_strikes.data.toList.drop 72 = dktX8_strikes_3 := dk_seg dksX8_strikes_2 24 rfl rfl
theorem dksX8_strikes_4 : cX8_strikes.data.toList.drop 96 = dktX8_strikes_4 := dk_seg dksX8_strikes_3 24 rfl rfl
theorem dX8_strikes_0 : decode cX8_strikes 0 = .ok (.sipush 359, 3) := dk_17 1 103 (dk_at dksX8_strikes_0 0 rfl rfl)
theorem dX8_strikes_3 : decode cX8_strikes 3 = .ok (.iload_n 1, 1) := dk_27 (dk_at dksX8_strikes_0 3 rfl rfl)
theorem dX8_strikes_4 : decode cX8_strikes 4 = .ok (.imul, 1) := dk_104 (dk_at dksX8_strikes_0 4 rfl rfl)
theorem dX8_strikes_5 : decode cX8_strikes 5 = .ok (.istore 6, 2) := dk_54 6 (dk_at dksX8_strikes_0 5 rfl rfl)
theorem dX8_strikes_7 : decode cX8_strikes 7 = .ok (.aload_n 0, 1) := dk_42 (dk_at dksX8_strikes_0 7 rfl rfl)
theorem dX8_strikes_8 : decode cX8_strikes 8 = .ok (.getfield 35, 3) := dk_180 0 35 (dk_at dksX8_strikes_0 8 rfl rfl)
theorem dX8_strikes_11 : decode cX8_strikes 11 = .ok (.iload 6, 2) := dk_21 6 (dk_at dksX8_strikes_0 11 rfl rfl)
theorem dX8_strikes_13 : decode cX8_strikes 13 = .ok (.bipush 33, 2) := dk_16 33 (dk_at dksX8_strikes_0 13 rfl rfl)
theorem dX8_strikes_15 : decode cX8_strikes 15 = .ok (.iadd, 1) := dk_96 (dk_at dksX8_strikes_0 15 rfl rfl)
theorem dX8_strikes_16 : decode cX8_strikes 16 = .ok (.iload_n 2, 1) := dk_28 (dk_at dksX8_strikes_0 16 rfl rfl)
theorem dX8_strikes_17 : decode cX8_strikes 17 = .ok (.iadd, 1) := dk_96 (dk_at dksX8_strikes_0 17 rfl rfl)
theorem dX8_strikes_18 : decode cX8_strikes 18 = .ok (.iload_n 3, 1) := dk_29 (dk_at dksX8_strikes_0 18 rfl rfl)
theorem dX8_strikes_19 : decode cX8_strikes 19 = .ok (.iastore, 1) := dk_79 (dk_at dksX8_strikes_0 19 rfl rfl)
theorem dX8_strikes_20 : decode cX8_strikes 20 = .ok (.aload_n 0, 1) := dk_42 (dk_at dksX8_strikes_0 20 rfl rfl)
theorem dX8_strikes_21 : decode cX8_strikes 21 = .ok (.getfield 35, 3) := dk_180 0 35 (dk_at dksX8_strikes_0 21 rfl rfl)
theorem dX8_strikes_24 : decode cX8_strikes 24 = .ok (.iload 6, 2) := dk_21 6 (dk_at dksX8_strikes_1 0 rfl rfl)
theorem dX8_strikes_26 : decode cX8_strikes 26 = .ok (.bipush 42, 2) := dk_16 42 (dk_at dksX8_strikes_1 2 rfl rfl)
theorem dX8_strikes_28 : decode cX8_strikes 28 = .ok (.iadd, 1) := dk_96 (dk_at dksX8_strikes_1 4 rfl rfl)
theorem dX8_strikes_29 : decode cX8_strikes 29 = .ok (.iload_n 2, 1) := dk_28 (dk_at dksX8_strikes_1 5 rfl rfl)
theorem dX8_strikes_30 : decode cX8_strikes 30 = .ok (.iadd, 1) := dk_96 (dk_at dksX8_strikes_1 6 rfl rfl)
theorem dX8_strikes_31 : decode cX8_strikes 31 = .ok (.iload 4, 2) := dk_21 4 (dk_at dksX8_strikes_1 7 rfl rfl)
theorem dX8_strikes_33 : decode cX8_strikes 33 = .ok (.iastore, 1) := dk_79 (dk_at dksX8_strikes_1 9 rfl rfl)
theorem dX8_strikes_34 : decode cX8_strikes 34 = .ok (.aload_n 0, 1) := dk_42 (dk_at dksX8_strikes_1 10 rfl rfl)
theorem dX8_strikes_35 : decode cX8_strikes 35 = .ok (.getfield 35, 3) := dk_180 0 35 (dk_at dksX8_strikes_1 11 rfl rfl)
theorem dX8_strikes_38 : decode cX8_strikes 38 = .ok (.iload 6, 2) := dk_21 6 (dk_at dksX8_strikes_1 14 rfl rfl)
theorem dX8_strikes_40 : decode cX8_strikes 40 = .ok (.bipush 51, 2) := dk_16 51 (dk_at dksX8_strikes_1 16 rfl rfl)
theorem dX8_strikes_42 : decode cX8_strikes 42 = .ok (.iadd, 1) := dk_96 (dk_at dksX8_strikes_1 18 rfl rfl)
theorem dX8_strikes_43 : decode cX8_strikes 43 = .ok (.iload_n 2, 1) := dk_28 (dk_at dksX8_strikes_1 19 rfl rfl)
theorem dX8_strikes_44 : decode cX8_strikes 44 = .ok (.iadd, 1) := dk_96 (dk_at dksX8_strikes_1 20 rfl rfl)
theorem dX8_strikes_45 : decode cX8_strikes 45 = .ok (.iload 5, 2) := dk_21 5 (dk_at dksX8_strikes_1 21 rfl rfl)
theorem dX8_strikes_47 : decode cX8_strikes 47 = .ok (.iastore, 1) := dk_79 (dk_at dksX8_strikes_1 23 rfl rfl)
theorem dX8_strikes_48 : decode cX8_strikes 48 = .ok (.aload_n 0, 1) := dk_42 (dk_at dksX8_strikes_2 0 rfl rfl)
theorem dX8_strikes_49 : decode cX8_strikes 49 = .ok (.getfield 35, 3) := dk_180 0 35 (dk_at dksX8_strikes_2 1 rfl rfl)
theorem dX8_strikes_52 : decode cX8_strikes 52 = .ok (.iload 6, 2) := dk_21 6 (dk_at dksX8_strikes_2 4 rfl rfl)
theorem dX8_strikes_54 : decode cX8_strikes 54 = .ok (.bipush 60, 2) := dk_16 60 (dk_at dksX8_strikes_2 6 rfl rfl)
theorem dX8_strikes_56 : decode cX8_strikes 56 = .ok (.iadd, 1) := dk_96 (dk_at dksX8_strikes_2 8 rfl rfl)
theorem dX8_strikes_57 : decode cX8_strikes 57 = .ok (.iload_n 2, 1) := dk_28 (dk_at dksX8_strikes_2 9 rfl rfl)
theorem dX8_strikes_58 : decode cX8_strikes 58 = .ok (.iadd, 1) := dk_96 (dk_at dksX8_strikes_2 10 rfl rfl)
theorem dX8_strikes_59 : decode cX8_strikes 59 = .ok (.iconst 0, 1) := dk_3 (dk_at dksX8_strikes_2 11 rfl rfl)
theorem dX8_strikes_60 : decode cX8_strikes 60 = .ok (.iastore, 1) := dk_79 (dk_at dksX8_strikes_2 12 rfl rfl)
theorem dX8_strikes_61 : decode cX8_strikes 61 = .ok (.aload_n 0, 1) := dk_42 (dk_at dksX8_strikes_2 13 rfl rfl)
theorem dX8_strikes_62 : decode cX8_strikes 62 = .ok (.getfield 35, 3) := dk_180 0 35 (dk_at dksX8_strikes_2 14 rfl rfl)
theorem dX8_strikes_65 : decode cX8_strikes 65 = .ok (.iload 6, 2) := dk_21 6 (dk_at dksX8_strikes_2 17 rfl rfl)
theorem dX8_strikes_67 : decode cX8_strikes 67 = .ok (.bipush 69, 2) := dk_16 69 (dk_at dksX8_strikes_2 19 rfl rfl)
theorem dX8_strikes_69 : decode cX8_strikes 69 = .ok (.iadd, 1) := dk_96 (dk_at dksX8_strikes_2 21 rfl rfl)
theorem dX8_strikes_70 : decode cX8_strikes 70 = .ok (.iload_n 2, 1) := dk_28 (dk_at dksX8_strikes_2 22 rfl rfl)
theorem dX8_strikes_71 : decode cX8_strikes 71 = .ok (.iadd, 1) := dk_96 (dk_at dksX8_strikes_2 23 rfl rfl)
theorem dX8_strikes_72 : decode cX8_strikes 72 = .ok (.iconst 1, 1) := dk_4 (dk_at dksX8_strikes_3 0 rfl rfl)
theorem dX8_strikes_73 : decode cX8_strikes 73 = .ok (.iload 4, 2) := dk_21 4 (dk_at dksX8_strikes_3 1 rfl rfl)
theorem dX8_strikes_75 : decode cX8_strikes 75 = .ok (.ishl, 1) := dk_120 (dk_at dksX8_strikes_3 3 rfl rfl)
theorem dX8_strikes_76 : decode cX8_strikes 76 = .ok (.iastore, 1) := dk_79 (dk_at dksX8_strikes_3 4 rfl rfl)
theorem dX8_strikes_77 : decode cX8_strikes 77 = .ok (.aload_n 0, 1) := dk_42 (dk_at dksX8_strikes_3 5 rfl rfl)
theorem dX8_strikes_78 : decode cX8_strikes 78 = .ok (.getfield 35, 3) := dk_180 0 35 (dk_at dksX8_strikes_3 6 rfl rfl)
theorem dX8_strikes_81 : decode cX8_strikes 81 = .ok (.iload 6, 2) := dk_21 6 (dk_at dksX8_strikes_3 9 rfl rfl)
theorem dX8_strikes_83 : decode cX8_strikes 83 = .ok (.bipush 78, 2) := dk_16 78 (dk_at dksX8_strikes_3 11 rfl rfl)
theorem dX8_strikes_85 : decode cX8_strikes 85 = .ok (.iadd, 1) := dk_96 (dk_at dksX8_strikes_3 13 rfl rfl)
theorem dX8_strikes_86 : decode cX8_strikes 86 = .ok (.iload_n 2, 1) := dk_28 (dk_at dksX8_strikes_3 14 rfl rfl)
theorem dX8_strikes_87 : decode cX8_strikes 87 = .ok (.iadd, 1) := dk_96 (dk_at dksX8_strikes_3 15 rfl rfl)
theorem dX8_strikes_88 : decode cX8_strikes 88 = .ok (.iconst 0, 1) := dk_3 (dk_at dksX8_strikes_3 16 rfl rfl)
theorem dX8_strikes_89 : decode cX8_strikes 89 = .ok (.iastore, 1) := dk_79 (dk_at dksX8_strikes_3 17 rfl rfl)
theorem dX8_strikes_90 : decode cX8_strikes 90 = .ok (.aload_n 0, 1) := dk_42 (dk_at dksX8_strikes_3 18 rfl rfl)
theorem dX8_strikes_91 : decode cX8_strikes 91 = .ok (.getfield 35, 3) := dk_180 0 35 (dk_at dksX8_strikes_3 19 rfl rfl)
theorem dX8_strikes_94 : decode cX8_strikes 94 = .ok (.iload 6, 2) := dk_21 6 (dk_at dksX8_strikes_3 22 rfl rfl)
theorem dX8_strikes_96 : decode cX8_strikes 96 = .ok (.iconst 3, 1) := dk_6 (dk_at dksX8_strikes_4 0 rfl rfl)
theorem dX8_strikes_97 : decode cX8_strikes 97 = .ok (.iadd, 1) := dk_96 (dk_at dksX8_strikes_4 1 rfl rfl)
theorem dX8_strikes_98 : decode cX8_strikes 98 = .ok (.iload_n 2, 1) := dk_28 (dk_at dksX8_strikes_4 2 rfl rfl)
theorem dX8_strikes_99 : decode cX8_strikes 99 = .ok (.iconst 1, 1) := dk_4 (dk_at dksX8_strikes_4 3 rfl rfl)
theorem dX8_strikes_100 : decode cX8_strikes 100 = .ok (.iadd, 1) := dk_96 (dk_at dksX8_strikes_4 4 rfl rfl)
theorem dX8_strikes_101 : decode cX8_strikes 101 = .ok (.iastore, 1) := dk_79 (dk_at dksX8_strikes_4 5 rfl rfl)
theorem dX8_strikes_102 : decode cX8_strikes 102 = .ok (.return_, 1) := dk_177 (dk_at dksX8_strikes_4 6 rfl rfl)
abbrev cX8_isSign : ByteArray := prog_14_method_26_code
def yX8_isSign : MethodName := ⟨RX8, "isSign", "(I)Z"⟩
def dkwX8_isSign_0 : List UInt8 := [42, 180, 0, 125, 6, 160, 0, 15, 42, 180, 0, 144, 27, 160, 0, 7, 4, 167, 0, 4, 3, 172]
abbrev dktX8_isSign_0 : List UInt8 := dkwX8_isSign_0 ++ []
theorem dksX8_isSign_0 : cX8_isSign.data.toList.drop 0 = dktX8_isSign_0 := by decide +kernel
theorem dX8_isSign_0 : decode cX8_isSign 0 = .ok (.aload_n 0, 1) := dk_42 (dk_at dksX8_isSign_0 0 rfl rfl)
theorem dX8_isSign_1 : decode cX8_isSign 1 = .ok (.getfield 125, 3) := dk_180 0 125 (dk_at dksX8_isSign_0 1 rfl rfl)
theorem dX8_isSign_4 : decode cX8_isSign 4 = .ok (.iconst 3, 1) := dk_6 (dk_at dksX8_isSign_0 4 rfl rfl)
theorem dX8_isSign_5 : decode cX8_isSign 5 = .ok (.if_icmp .ne 15, 3) := dk_160 0 15 (dk_at dksX8_isSign_0 5 rfl rfl)
theorem dX8_isSign_8 : decode cX8_isSign 8 = .ok (.aload_n 0, 1) := dk_42 (dk_at dksX8_isSign_0 8 rfl rfl)
theorem dX8_isSign_9 : decode cX8_isSign 9 = .ok (.getfield 144, 3) := dk_180 0 144 (dk_at dksX8_isSign_0 9 rfl rfl)
theorem dX8_isSign_12 : decode cX8_isSign 12 = .ok (.iload_n 1, 1) := dk_27 (dk_at dksX8_isSign_0 12 rfl rfl)
theorem dX8_isSign_13 : decode cX8_isSign 13 = .ok (.if_icmp .ne 7, 3) := dk_160 0 7 (dk_at dksX8_isSign_0 13 rfl rfl)
theorem dX8_isSign_16 : decode cX8_isSign 16 = .ok (.iconst 1, 1) := dk_4 (dk_at dksX8_isSign_0 16 rfl rfl)
theorem dX8_isSign_17 : decode cX8_isSign 17 = .ok (.goto 4, 3) := dk_167 0 4 (dk_at dksX8_isSign_0 17 rfl rfl)
theorem dX8_isSign_20 : decode cX8_isSign 20 = .ok (.iconst 0, 1) := dk_3 (dk_at dksX8_isSign_0 20 rfl rfl)
theorem dX8_isSign_21 : decode cX8_isSign 21 = .ok (.ireturn, 1) := dk_172 (dk_at dksX8_isSign_0 21 rfl rfl)
abbrev cX8_isWell : ByteArray := prog_14_method_52_code
def yX8_isWell : MethodName := ⟨RX8, "isWell", "()Z"⟩
def dkwX8_isWell_2 : List UInt8 := [172]
abbrev dktX8_isWell_2 : List UInt8 := dkwX8_isWell_2 ++ []
def dkwX8_isWell_1 : List UInt8 := [181, 0, 32, 42, 180, 0, 202, 153, 0, 12, 42, 16, 10, 182, 0, 85, 153, 0, 7, 4, 167, 0, 4, 3]
abbrev dktX8_isWell_1 : List UInt8 := dkwX8_isWell_1 ++ dktX8_isWell_2
def dkwX8_isWell_0 : List UInt8 := [42, 42, 180, 0, 202, 181, 0, 28, 42, 42, 180, 0, 202, 154, 0, 7, 2, 167, 0, 7, 42, 180, 0, 205]
abbrev dktX8_isWell_0 : List UInt8 := dkwX8_isWell_0 ++ dktX8_isWell_1
theorem dksX8_isWell_0 : cX8_isWell.data.toList.drop 0 = dktX8_isWell_0 := by decide +kernel
theorem dksX8_isWell_1 : cX8_isWell.data.toList.drop 24 = dktX8_isWell_1 := dk_seg dksX8_isWell_0 24 rfl rfl
theorem dksX8_isWell_2 : cX8_isWell.data.toList.drop 48 = dktX8_isWell_2 := dk_seg dksX8_isWell_1 24 rfl rfl
theorem dX8_isWell_0 : decode cX8_isWell 0 = .ok (.aload_n 0, 1) := dk_42 (dk_at dksX8_isWell_0 0 rfl rfl)
theorem dX8_isWell_1 : decode cX8_isWell 1 = .ok (.aload_n 0, 1) := dk_42 (dk_at dksX8_isWell_0 1 rfl rfl)
theorem dX8_isWell_2 : decode cX8_isWell 2 = .ok (.getfield 202, 3) := dk_180 0 202 (dk_at dksX8_isWell_0 2 rfl rfl)
theorem dX8_isWell_5 : decode cX8_isWell 5 = .ok (.putfield 28, 3) := dk_181 0 28 (dk_at dksX8_isWell_0 5 rfl rfl)
theorem dX8_isWell_8 : decode cX8_isWell 8 = .ok (.aload_n 0, 1) := dk_42 (dk_at dksX8_isWell_0 8 rfl rfl)
theorem dX8_isWell_9 : decode cX8_isWell 9 = .ok (.aload_n 0, 1) := dk_42 (dk_at dksX8_isWell_0 9 rfl rfl)
theorem dX8_isWell_10 : decode cX8_isWell 10 = .ok (.getfield 202, 3) := dk_180 0 202 (dk_at dksX8_isWell_0 10 rfl rfl)
theorem dX8_isWell_13 : decode cX8_isWell 13 = .ok (.ifCond .ne 7, 3) := dk_154 0 7 (dk_at dksX8_isWell_0 13 rfl rfl)
theorem dX8_isWell_16 : decode cX8_isWell 16 = .ok (.iconst (-1), 1) := dk_2 (dk_at dksX8_isWell_0 16 rfl rfl)
theorem dX8_isWell_17 : decode cX8_isWell 17 = .ok (.goto 7, 3) := dk_167 0 7 (dk_at dksX8_isWell_0 17 rfl rfl)
theorem dX8_isWell_20 : decode cX8_isWell 20 = .ok (.aload_n 0, 1) := dk_42 (dk_at dksX8_isWell_0 20 rfl rfl)
theorem dX8_isWell_21 : decode cX8_isWell 21 = .ok (.getfield 205, 3) := dk_180 0 205 (dk_at dksX8_isWell_0 21 rfl rfl)
theorem dX8_isWell_24 : decode cX8_isWell 24 = .ok (.putfield 32, 3) := dk_181 0 32 (dk_at dksX8_isWell_1 0 rfl rfl)
theorem dX8_isWell_27 : decode cX8_isWell 27 = .ok (.aload_n 0, 1) := dk_42 (dk_at dksX8_isWell_1 3 rfl rfl)
theorem dX8_isWell_28 : decode cX8_isWell 28 = .ok (.getfield 202, 3) := dk_180 0 202 (dk_at dksX8_isWell_1 4 rfl rfl)
theorem dX8_isWell_31 : decode cX8_isWell 31 = .ok (.ifCond .eq 12, 3) := dk_153 0 12 (dk_at dksX8_isWell_1 7 rfl rfl)
theorem dX8_isWell_34 : decode cX8_isWell 34 = .ok (.aload_n 0, 1) := dk_42 (dk_at dksX8_isWell_1 10 rfl rfl)
theorem dX8_isWell_35 : decode cX8_isWell 35 = .ok (.bipush 10, 2) := dk_16 10 (dk_at dksX8_isWell_1 11 rfl rfl)
theorem dX8_isWell_37 : decode cX8_isWell 37 = .ok (.invokevirtual 85, 3) := dk_182 0 85 (dk_at dksX8_isWell_1 13 rfl rfl)
theorem dX8_isWell_40 : decode cX8_isWell 40 = .ok (.ifCond .eq 7, 3) := dk_153 0 7 (dk_at dksX8_isWell_1 16 rfl rfl)
theorem dX8_isWell_43 : decode cX8_isWell 43 = .ok (.iconst 1, 1) := dk_4 (dk_at dksX8_isWell_1 19 rfl rfl)
theorem dX8_isWell_44 : decode cX8_isWell 44 = .ok (.goto 4, 3) := dk_167 0 4 (dk_at dksX8_isWell_1 20 rfl rfl)
theorem dX8_isWell_47 : decode cX8_isWell 47 = .ok (.iconst 0, 1) := dk_3 (dk_at dksX8_isWell_1 23 rfl rfl)
theorem dX8_isWell_48 : decode cX8_isWell 48 = .ok (.ireturn, 1) := dk_172 (dk_at dksX8_isWell_2 0 rfl rfl)
abbrev cX8_copy : ByteArray := prog_14_method_152_code
def yX8_copy : MethodName := ⟨RX8, "copy", "(II)V"⟩
def dkwX8_copy_3 : List UInt8 := [167, 255, 225, 177]
abbrev dktX8_copy_3 : List UInt8 := dkwX8_copy_3 ++ []
def dkwX8_copy_2 : List UInt8 := [180, 0, 41, 16, 22, 28, 104, 29, 96, 42, 180, 0, 41, 16, 22, 27, 104, 29, 96, 47, 80, 132, 3, 1]
abbrev dktX8_copy_2 : List UInt8 := dkwX8_copy_2 ++ dktX8_copy_3
def dkwX8_copy_1 : List UInt8 := [17, 1, 103, 27, 104, 29, 96, 46, 79, 132, 3, 1, 167, 255, 222, 3, 62, 29, 16, 22, 162, 0, 31, 42]
abbrev dktX8_copy_1 : List UInt8 := dkwX8_copy_1 ++ dktX8_copy_2
def dkwX8_copy_0 : List UInt8 := [3, 62, 29, 17, 1, 103, 162, 0, 33, 42, 180, 0, 35, 17, 1, 103, 28, 104, 29, 96, 42, 180, 0, 35]
abbrev dktX8_copy_0 : List UInt8 := dkwX8_copy_0 ++ dktX8_copy_1
theorem dksX8_copy_0 : cX8_copy.data.toList.drop 0 = dktX8_copy_0 := by decide +kernel
theorem dksX8_copy_1 : cX8_copy.data.toList.drop 24 = dktX8_copy_1 := dk_seg dksX8_copy_0 24 rfl rfl
theorem dksX8_copy_2 : cX8_copy.data.toList.drop 48 = dktX8_copy_2 := dk_seg dksX8_copy_1 24 rfl rfl
theorem dksX8_copy_3 : cX8_copy.data.toList.drop 72 = dktX8_copy_3 := dk_seg dksX8_copy_2 24 rfl rfl
theorem dX8_copy_0 : decode cX8_copy 0 = .ok (.iconst 0, 1) := dk_3 (dk_at dksX8_copy_0 0 rfl rfl)
theorem dX8_copy_1 : decode cX8_copy 1 = .ok (.istore_n 3, 1) := dk_62 (dk_at dksX8_copy_0 1 rfl rfl)
theorem dX8_copy_2 : decode cX8_copy 2 = .ok (.iload_n 3, 1) := dk_29 (dk_at dksX8_copy_0 2 rfl rfl)
theorem dX8_copy_3 : decode cX8_copy 3 = .ok (.sipush 359, 3) := dk_17 1 103 (dk_at dksX8_copy_0 3 rfl rfl)
theorem dX8_copy_6 : decode cX8_copy 6 = .ok (.if_icmp .ge 33, 3) := dk_162 0 33 (dk_at dksX8_copy_0 6 rfl rfl)
theorem dX8_copy_9 : decode cX8_copy 9 = .ok (.aload_n 0, 1) := dk_42 (dk_at dksX8_copy_0 9 rfl rfl)
theorem dX8_copy_10 : decode cX8_copy 10 = .ok (.getfield 35, 3) := dk_180 0 35 (dk_at dksX8_copy_0 10 rfl rfl)
theorem dX8_copy_13 : decode cX8_copy 13 = .ok (.sipush 359, 3) := dk_17 1 103 (dk_at dksX8_copy_0 13 rfl rfl)
theorem dX8_copy_16 : decode cX8_copy 16 = .ok (.iload_n 2, 1) := dk_28 (dk_at dksX8_copy_0 16 rfl rfl)
theorem dX8_copy_17 : decode cX8_copy 17 = .ok (.imul, 1) := dk_104 (dk_at dksX8_copy_0 17 rfl rfl)
theorem dX8_copy_18 : decode cX8_copy 18 = .ok (.iload_n 3, 1) := dk_29 (dk_at dksX8_copy_0 18 rfl rfl)
theorem dX8_copy_19 : decode cX8_copy 19 = .ok (.iadd, 1) := dk_96 (dk_at dksX8_copy_0 19 rfl rfl)
theorem dX8_copy_20 : decode cX8_copy 20 = .ok (.aload_n 0, 1) := dk_42 (dk_at dksX8_copy_0 20 rfl rfl)
theorem dX8_copy_21 : decode cX8_copy 21 = .ok (.getfield 35, 3) := dk_180 0 35 (dk_at dksX8_copy_0 21 rfl rfl)
theorem dX8_copy_24 : decode cX8_copy 24 = .ok (.sipush 359, 3) := dk_17 1 103 (dk_at dksX8_copy_1 0 rfl rfl)
theorem dX8_copy_27 : decode cX8_copy 27 = .ok (.iload_n 1, 1) := dk_27 (dk_at dksX8_copy_1 3 rfl rfl)
theorem dX8_copy_28 : decode cX8_copy 28 = .ok (.imul, 1) := dk_104 (dk_at dksX8_copy_1 4 rfl rfl)
theorem dX8_copy_29 : decode cX8_copy 29 = .ok (.iload_n 3, 1) := dk_29 (dk_at dksX8_copy_1 5 rfl rfl)
theorem dX8_copy_30 : decode cX8_copy 30 = .ok (.iadd, 1) := dk_96 (dk_at dksX8_copy_1 6 rfl rfl)
theorem dX8_copy_31 : decode cX8_copy 31 = .ok (.iaload, 1) := dk_46 (dk_at dksX8_copy_1 7 rfl rfl)
theorem dX8_copy_32 : decode cX8_copy 32 = .ok (.iastore, 1) := dk_79 (dk_at dksX8_copy_1 8 rfl rfl)
theorem dX8_copy_33 : decode cX8_copy 33 = .ok (.iinc 3 1, 3) := dk_132 3 1 (dk_at dksX8_copy_1 9 rfl rfl)
theorem dX8_copy_36 : decode cX8_copy 36 = .ok (.goto (-34), 3) := dk_167 255 222 (dk_at dksX8_copy_1 12 rfl rfl)
theorem dX8_copy_39 : decode cX8_copy 39 = .ok (.iconst 0, 1) := dk_3 (dk_at dksX8_copy_1 15 rfl rfl)
theorem dX8_copy_40 : decode cX8_copy 40 = .ok (.istore_n 3, 1) := dk_62 (dk_at dksX8_copy_1 16 rfl rfl)
theorem dX8_copy_41 : decode cX8_copy 41 = .ok (.iload_n 3, 1) := dk_29 (dk_at dksX8_copy_1 17 rfl rfl)
theorem dX8_copy_42 : decode cX8_copy 42 = .ok (.bipush 22, 2) := dk_16 22 (dk_at dksX8_copy_1 18 rfl rfl)
theorem dX8_copy_44 : decode cX8_copy 44 = .ok (.if_icmp .ge 31, 3) := dk_162 0 31 (dk_at dksX8_copy_1 20 rfl rfl)
theorem dX8_copy_47 : decode cX8_copy 47 = .ok (.aload_n 0, 1) := dk_42 (dk_at dksX8_copy_1 23 rfl rfl)
theorem dX8_copy_48 : decode cX8_copy 48 = .ok (.getfield 41, 3) := dk_180 0 41 (dk_at dksX8_copy_2 0 rfl rfl)
theorem dX8_copy_51 : decode cX8_copy 51 = .ok (.bipush 22, 2) := dk_16 22 (dk_at dksX8_copy_2 3 rfl rfl)
theorem dX8_copy_53 : decode cX8_copy 53 = .ok (.iload_n 2, 1) := dk_28 (dk_at dksX8_copy_2 5 rfl rfl)
theorem dX8_copy_54 : decode cX8_copy 54 = .ok (.imul, 1) := dk_104 (dk_at dksX8_copy_2 6 rfl rfl)
theorem dX8_copy_55 : decode cX8_copy 55 = .ok (.iload_n 3, 1) := dk_29 (dk_at dksX8_copy_2 7 rfl rfl)
theorem dX8_copy_56 : decode cX8_copy 56 = .ok (.iadd, 1) := dk_96 (dk_at dksX8_copy_2 8 rfl rfl)
theorem dX8_copy_57 : decode cX8_copy 57 = .ok (.aload_n 0, 1) := dk_42 (dk_at dksX8_copy_2 9 rfl rfl)
theorem dX8_copy_58 : decode cX8_copy 58 = .ok (.getfield 41, 3) := dk_180 0 41 (dk_at dksX8_copy_2 10 rfl rfl)
theorem dX8_copy_61 : decode cX8_copy 61 = .ok (.bipush 22, 2) := dk_16 22 (dk_at dksX8_copy_2 13 rfl rfl)
theorem dX8_copy_63 : decode cX8_copy 63 = .ok (.iload_n 1, 1) := dk_27 (dk_at dksX8_copy_2 15 rfl rfl)
theorem dX8_copy_64 : decode cX8_copy 64 = .ok (.imul, 1) := dk_104 (dk_at dksX8_copy_2 16 rfl rfl)
theorem dX8_copy_65 : decode cX8_copy 65 = .ok (.iload_n 3, 1) := dk_29 (dk_at dksX8_copy_2 17 rfl rfl)
theorem dX8_copy_66 : decode cX8_copy 66 = .ok (.iadd, 1) := dk_96 (dk_at dksX8_copy_2 18 rfl rfl)
theorem dX8_copy_67 : decode cX8_copy 67 = .ok (.laload, 1) := dk_47 (dk_at dksX8_copy_2 19 rfl rfl)
theorem dX8_copy_68 : decode cX8_copy 68 = .ok (.lastore, 1) := dk_80 (dk_at dksX8_copy_2 20 rfl rfl)
theorem dX8_copy_69 : decode cX8_copy 69 = .ok (.iinc 3 1, 3) := dk_132 3 1 (dk_at dksX8_copy_2 21 rfl rfl)
theorem dX8_copy_72 : decode cX8_copy 72 = .ok (.goto (-31), 3) := dk_167 255 225 (dk_at dksX8_copy_3 0 rfl rfl)
theorem dX8_copy_75 : decode cX8_copy 75 = .ok (.return_, 1) := dk_177 (dk_at dksX8_copy_3 3 rfl rfl)
abbrev cX8_years : ByteArray := prog_14_method_72_code
def yX8_years : MethodName := ⟨RX8, "years", "(I)I"⟩
def dkwX8_years_5 : List UInt8 := [180, 1, 45, 172]
abbrev dktX8_years_5 : List UInt8 := dkwX8_years_5 ++ []
def dkwX8_years_4 : List UInt8 := [16, 89, 28, 96, 42, 180, 0, 35, 17, 5, 245, 28, 96, 46, 79, 132, 2, 1, 167, 255, 223, 42]
abbrev dktX8_years_4 : List UInt8 := dkwX8_years_4 ++ dktX8_years_5
def dkwX8_years_3 : List UInt8 := [16, 88, 42, 180, 1, 45, 79, 3, 61, 28, 16, 9, 42, 180, 1, 45, 104, 162, 0, 28, 42, 180, 0, 35]
abbrev dktX8_years_3 : List UInt8 := dkwX8_years_3 ++ dktX8_years_4
def dkwX8_years_2 : List UInt8 := [167, 255, 237, 42, 182, 1, 36, 154, 0, 5, 2, 172, 42, 180, 0, 35, 16, 87, 4, 79, 42, 180, 0, 35]
abbrev dktX8_years_2 : List UInt8 := dkwX8_years_2 ++ dktX8_years_3
def dkwX8_years_1 : List UInt8 := [3, 181, 1, 45, 42, 180, 0, 202, 154, 0, 18, 42, 180, 0, 125, 153, 0, 11, 42, 3, 182, 1, 51]
abbrev dktX8_years_1 : List UInt8 := dkwX8_years_1 ++ dktX8_years_2
def dkwX8_years_0 : List UInt8 := [42, 3, 181, 0, 70, 42, 3, 181, 0, 73, 42, 27, 17, 1, 44, 182, 1, 27, 154, 0, 5, 2, 172, 42]
abbrev dktX8_years_0 : List UInt8 := dkwX8_years_0 ++ dktX8_years_1
theorem dksX8_years_0 : cX8_years.data.toList.drop 0 = dktX8_years_0 := by decide +kernel
theorem dksX8_years_1 : cX8_years.data.toList.drop 24 = dktX8_years_1 := dk_seg dksX8_years_0 24 rfl rfl
theorem dksX8_years_2 : cX8_years.data.toList.drop 47 = dktX8_years_2 := dk_seg dksX8_years_1 23 rfl rfl
theorem dksX8_years_3 : cX8_years.data.toList.drop 71 = dktX8_years_3 := dk_seg dksX8_years_2 24 rfl rfl
theorem dksX8_years_4 : cX8_years.data.toList.drop 95 = dktX8_years_4 := dk_seg dksX8_years_3 24 rfl rfl
theorem dksX8_years_5 : cX8_years.data.toList.drop 117 = dktX8_years_5 := dk_seg dksX8_years_4 22 rfl rfl
theorem dX8_years_0 : decode cX8_years 0 = .ok (.aload_n 0, 1) := dk_42 (dk_at dksX8_years_0 0 rfl rfl)
theorem dX8_years_1 : decode cX8_years 1 = .ok (.iconst 0, 1) := dk_3 (dk_at dksX8_years_0 1 rfl rfl)
theorem dX8_years_2 : decode cX8_years 2 = .ok (.putfield 70, 3) := dk_181 0 70 (dk_at dksX8_years_0 2 rfl rfl)
theorem dX8_years_5 : decode cX8_years 5 = .ok (.aload_n 0, 1) := dk_42 (dk_at dksX8_years_0 5 rfl rfl)
theorem dX8_years_6 : decode cX8_years 6 = .ok (.iconst 0, 1) := dk_3 (dk_at dksX8_years_0 6 rfl rfl)
theorem dX8_years_7 : decode cX8_years 7 = .ok (.putfield 73, 3) := dk_181 0 73 (dk_at dksX8_years_0 7 rfl rfl)
theorem dX8_years_10 : decode cX8_years 10 = .ok (.aload_n 0, 1) := dk_42 (dk_at dksX8_years_0 10 rfl rfl)
theorem dX8_years_11 : decode cX8_years 11 = .ok (.iload_n 1, 1) := dk_27 (dk_at dksX8_years_0 11 rfl rfl)
theorem dX8_years_12 : decode cX8_years 12 = .ok (.sipush 300, 3) := dk_17 1 44 (dk_at dksX8_years_0 12 rfl rfl)
theorem dX8_years_15 : decode cX8_years 15 = .ok (.invokevirtual 283, 3) := dk_182 1 27 (dk_at dksX8_years_0 15 rfl rfl)
theorem dX8_years_18 : decode cX8_years 18 = .ok (.ifCond .ne 5, 3) := dk_154 0 5 (dk_at dksX8_years_0 18 rfl rfl)
theorem dX8_years_21 : decode cX8_years 21 = .ok (.iconst (-1), 1) := dk_2 (dk_at dksX8_years_0 21 rfl rfl)
theorem dX8_years_22 : decode cX8_years 22 = .ok (.ireturn, 1) := dk_172 (dk_at dksX8_years_0 22 rfl rfl)
theorem dX8_years_23 : decode cX8_years 23 = .ok (.aload_n 0, 1) := dk_42 (dk_at dksX8_years_0 23 rfl rfl)
theorem dX8_years_24 : decode cX8_years 24 = .ok (.iconst 0, 1) := dk_3 (dk_at dksX8_years_1 0 rfl rfl)
theorem dX8_years_25 : decode cX8_years 25 = .ok (.putfield 301, 3) := dk_181 1 45 (dk_at dksX8_years_1 1 rfl rfl)
theorem dX8_years_28 : decode cX8_years 28 = .ok (.aload_n 0, 1) := dk_42 (dk_at dksX8_years_1 4 rfl rfl)
theorem dX8_years_29 : decode cX8_years 29 = .ok (.getfield 202, 3) := dk_180 0 202 (dk_at dksX8_years_1 5 rfl rfl)
theorem dX8_years_32 : decode cX8_years 32 = .ok (.ifCond .ne 18, 3) := dk_154 0 18 (dk_at dksX8_years_1 8 rfl rfl)
theorem dX8_years_35 : decode cX8_years 35 = .ok (.aload_n 0, 1) := dk_42 (dk_at dksX8_years_1 11 rfl rfl)
theorem dX8_years_36 : decode cX8_years 36 = .ok (.getfield 125, 3) := dk_180 0 125 (dk_at dksX8_years_1 12 rfl rfl)
theorem dX8_years_39 : decode cX8_years 39 = .ok (.ifCond .eq 11, 3) := dk_153 0 11 (dk_at dksX8_years_1 15 rfl rfl)
theorem dX8_years_42 : decode cX8_years 42 = .ok (.aload_n 0, 1) := dk_42 (dk_at dksX8_years_1 18 rfl rfl)
theorem dX8_years_43 : decode cX8_years 43 = .ok (.iconst 0, 1) := dk_3 (dk_at dksX8_years_1 19 rfl rfl)
theorem dX8_years_44 : decode cX8_years 44 = .ok (.invokevirtual 307, 3) := dk_182 1 51 (dk_at dksX8_years_1 20 rfl rfl)
theorem dX8_years_47 : decode cX8_years 47 = .ok (.goto (-19), 3) := dk_167 255 237 (dk_at dksX8_years_2 0 rfl rfl)
theorem dX8_years_50 : decode cX8_years 50 = .ok (.aload_n 0, 1) := dk_42 (dk_at dksX8_years_2 3 rfl rfl)
theorem dX8_years_51 : decode cX8_years 51 = .ok (.invokevirtual 292, 3) := dk_182 1 36 (dk_at dksX8_years_2 4 rfl rfl)
theorem dX8_years_54 : decode cX8_years 54 = .ok (.ifCond .ne 5, 3) := dk_154 0 5 (dk_at dksX8_years_2 7 rfl rfl)
theorem dX8_years_57 : decode cX8_years 57 = .ok (.iconst (-1), 1) := dk_2 (dk_at dksX8_years_2 10 rfl rfl)
theorem dX8_years_58 : decode cX8_years 58 = .ok (.ireturn, 1) := dk_172 (dk_at dksX8_years_2 11 rfl rfl)
theorem dX8_years_59 : decode cX8_years 59 = .ok (.aload_n 0, 1) := dk_42 (dk_at dksX8_years_2 12 rfl rfl)
theorem dX8_years_60 : decode cX8_years 60 = .ok (.getfield 35, 3) := dk_180 0 35 (dk_at dksX8_years_2 13 rfl rfl)
theorem dX8_years_63 : decode cX8_years 63 = .ok (.bipush 87, 2) := dk_16 87 (dk_at dksX8_years_2 16 rfl rfl)
theorem dX8_years_65 : decode cX8_years 65 = .ok (.iconst 1, 1) := dk_4 (dk_at dksX8_years_2 18 rfl rfl)
theorem dX8_years_66 : decode cX8_years 66 = .ok (.iastore, 1) := dk_79 (dk_at dksX8_years_2 19 rfl rfl)
theorem dX8_years_67 : decode cX8_years 67 = .ok (.aload_n 0, 1) := dk_42 (dk_at dksX8_years_2 20 rfl rfl)
theorem dX8_years_68 : decode cX8_years 68 = .ok (.getfield 35, 3) := dk_180 0 35 (dk_at dksX8_years_2 21 rfl rfl)
theorem dX8_years_71 : decode cX8_years 71 = .ok (.bipush 88, 2) := dk_16 88 (dk_at dksX8_years_3 0 rfl rfl)
theorem dX8_years_73 : decode cX8_years 73 = .ok (.aload_n 0, 1) := dk_42 (dk_at dksX8_years_3 2 rfl rfl)
theorem dX8_years_74 : decode cX8_years 74 = .ok (.getfield 301, 3) := dk_180 1 45 (dk_at dksX8_years_3 3 rfl rfl)
theorem dX8_years_77 : decode cX8_years 77 = .ok (.iastore, 1) := dk_79 (dk_at dksX8_years_3 6 rfl rfl)
theorem dX8_years_78 : decode cX8_years 78 = .ok (.iconst 0, 1) := dk_3 (dk_at dksX8_years_3 7 rfl rfl)
theorem dX8_years_79 : decode cX8_years 79 = .ok (.istore_n 2, 1) := dk_61 (dk_at dksX8_years_3 8 rfl rfl)
theorem dX8_years_80 : decode cX8_years 80 = .ok (.iload_n 2, 1) := dk_28 (dk_at dksX8_years_3 9 rfl rfl)
theorem dX8_years_81 : decode cX8_years 81 = .ok (.bipush 9, 2) := dk_16 9 (dk_at dksX8_years_3 10 rfl rfl)
theorem dX8_years_83 : decode cX8_years 83 = .ok (.aload_n 0, 1) := dk_42 (dk_at dksX8_years_3 12 rfl rfl)
theorem dX8_years_84 : decode cX8_years 84 = .ok (.getfield 301, 3) := dk_180 1 45 (dk_at dksX8_years_3 13 rfl rfl)
theorem dX8_years_87 : decode cX8_years 87 = .ok (.imul, 1) := dk_104 (dk_at dksX8_years_3 16 rfl rfl)
theorem dX8_years_88 : decode cX8_years 88 = .ok (.if_icmp .ge 28, 3) := dk_162 0 28 (dk_at dksX8_years_3 17 rfl rfl)
theorem dX8_years_91 : decode cX8_years 91 = .ok (.aload_n 0, 1) := dk_42 (dk_at dksX8_years_3 20 rfl rfl)
theorem dX8_years_92 : decode cX8_years 92 = .ok (.getfield 35, 3) := dk_180 0 35 (dk_at dksX8_years_3 21 rfl rfl)
theorem dX8_years_95 : decode cX8_years 95 = .ok (.bipush 89, 2) := dk_16 89 (dk_at dksX8_years_4 0 rfl rfl)
theorem dX8_years_97 : decode cX8_years 97 = .ok (.iload_n 2, 1) := dk_28 (dk_at dksX8_years_4 2 rfl rfl)
theorem dX8_years_98 : decode cX8_years 98 = .ok (.iadd, 1) := dk_96 (dk_at dksX8_years_4 3 rfl rfl)
theorem dX8_years_99 : decode cX8_years 99 = .ok (.aload_n 0, 1) := dk_42 (dk_at dksX8_years_4 4 rfl rfl)
theorem dX8_years_100 : decode cX8_years 100 = .ok (.getfield 35, 3) := dk_180 0 35 (dk_at dksX8_years_4 5 rfl rfl)
theorem dX8_years_103 : decode cX8_years 103 = .ok (.sipush 1525, 3) := dk_17 5 245 (dk_at dksX8_years_4 8 rfl rfl)
theorem dX8_years_106 : decode cX8_years 106 = .ok (.iload_n 2, 1) := dk_28 (dk_at dksX8_years_4 11 rfl rfl)
theorem dX8_years_107 : decode cX8_years 107 = .ok (.iadd, 1) := dk_96 (dk_at dksX8_years_4 12 rfl rfl)
theorem dX8_years_108 : decode cX8_years 108 = .ok (.iaload, 1) := dk_46 (dk_at dksX8_years_4 13 rfl rfl)
theorem dX8_years_109 : decode cX8_years 109 = .ok (.iastore, 1) := dk_79 (dk_at dksX8_years_4 14 rfl rfl)
theorem dX8_years_110 : decode cX8_years 110 = .ok (.iinc 2 1, 3) := dk_132 2 1 (dk_at dksX8_years_4 15 rfl rfl)
theorem dX8_years_113 : decode cX8_years 113 = .ok (.goto (-33), 3) := dk_167 255 223 (dk_at dksX8_years_4 18 rfl rfl)
theorem dX8_years_116 : decode cX8_years 116 = .ok (.aload_n 0, 1) := dk_42 (dk_at dksX8_years_4 21 rfl rfl)
theorem dX8_years_117 : decode cX8_years 117 = .ok (.getfield 301, 3) := dk_180 1 45 (dk_at dksX8_years_5 0 rfl rfl)
theorem dX8_years_120 : decode cX8_years 120 = .ok (.ireturn, 1) := dk_172 (dk_at dksX8_years_5 3 rfl rfl)
abbrev cX8_readStep : ByteArray := prog_14_method_71_code
def yX8_readStep : MethodName := ⟨RX8, "readStep", "(I)V"⟩
def dkwX8_readStep_8 : List UInt8 := [182, 1, 33, 182, 0, 239, 42, 180, 0, 35, 21, 4, 16, 8, 96, 42, 180, 1, 45, 79, 177]
abbrev dktX8_readStep_8 : List UInt8 := dkwX8_readStep_8 ++ []
def dkwX8_readStep_7 : List UInt8 := [182, 1, 51, 167, 255, 231, 29, 153, 0, 21, 42, 42, 182, 0, 196, 182, 0, 239, 42, 42, 16, 59]
abbrev dktX8_readStep_7 : List UInt8 := dkwX8_readStep_7 ++ dktX8_readStep_8
def dkwX8_readStep_6 : List UInt8 := [29, 153, 0, 27, 42, 180, 0, 202, 154, 0, 20, 42, 182, 0, 196, 154, 0, 13, 42, 27, 4, 96]
abbrev dktX8_readStep_6 : List UInt8 := dkwX8_readStep_6 ++ dktX8_readStep_7
def dkwX8_readStep_5 : List UInt8 := [42, 180, 0, 35, 21, 4, 28, 79, 42, 21, 4, 182, 1, 48, 42, 42, 16, 59, 182, 1, 33, 182, 0, 239]
abbrev dktX8_readStep_5 : List UInt8 := dkwX8_readStep_5 ++ dktX8_readStep_6
def dkwX8_readStep_4 : List UInt8 := [16, 9, 42, 180, 1, 45, 104, 96, 54, 4, 42, 89, 180, 1, 45, 4, 96, 181, 1, 45, 42, 182, 0, 212]
abbrev dktX8_readStep_4 : List UInt8 := dkwX8_readStep_4 ++ dktX8_readStep_5
def dkwX8_readStep_3 : List UInt8 := [160, 0, 13, 42, 16, 7, 42, 180, 0, 119, 182, 0, 208, 42, 180, 0, 202, 158, 0, 4, 177, 17, 5, 245]
abbrev dktX8_readStep_3 : List UInt8 := dkwX8_readStep_3 ++ dktX8_readStep_4
def dkwX8_readStep_2 : List UInt8 := [16, 6, 42, 180, 0, 119, 182, 0, 208, 42, 180, 0, 202, 154, 0, 22, 29, 153, 0, 18, 27, 6]
abbrev dktX8_readStep_2 : List UInt8 := dkwX8_readStep_2 ++ dktX8_readStep_3
def dkwX8_readStep_1 : List UInt8 := [156, 0, 7, 42, 182, 0, 215, 42, 180, 0, 202, 154, 0, 22, 42, 180, 1, 45, 16, 30, 160, 0, 13, 42]
abbrev dktX8_readStep_1 : List UInt8 := dkwX8_readStep_1 ++ dktX8_readStep_2
def dkwX8_readStep_0 : List UInt8 := [42, 182, 0, 189, 61, 28, 8, 159, 0, 9, 28, 16, 6, 160, 0, 7, 4, 167, 0, 4, 3, 62, 28]
abbrev dktX8_readStep_0 : List UInt8 := dkwX8_readStep_0 ++ dktX8_readStep_1
theorem dksX8_readStep_0 : cX8_readStep.data.toList.drop 0 = dktX8_readStep_0 := by decide +kernel
theorem dksX8_readStep_1 : cX8_readStep.data.toList.drop 23 = dktX8_readStep_1 := dk_seg dksX8_readStep_0 23 rfl rfl
theorem dksX8_readStep_2 : cX8_readStep.data.toList.drop 47 = dktX8_readStep_2 := dk_seg dksX8_readStep_1 24 rfl rfl
theorem dksX8_readStep_3 : cX8_readStep.data.toList.drop 69 = dktX8_readStep_3 := dk_seg dksX8_readStep_2 22 rfl rfl
theorem dksX8_readStep_4 : cX8_readStep.data.toList.drop 93 = dktX8_readStep_4 := dk_seg dksX8_readStep_3 24 rfl rfl
theorem dksX8_readStep_5 : cX8_readStep.data.toList.drop 117 = dktX8_readStep_5 := dk_seg dksX8_readStep_4 24 rfl rfl
theorem dksX8_readStep_6 : cX8_readStep.data.toList.drop 141 = dktX8_readStep_6 := dk_seg dksX8_readStep_5 24 rfl rfl
theorem dksX8_readStep_7 : cX8_readStep.data.toList.drop 163 = dktX8_readStep_7 := dk_seg dksX8_readStep_6 22 rfl rfl
theorem dksX8_readStep_8 : cX8_readStep.data.toList.drop 185 = dktX8_readStep_8 := dk_seg dksX8_readStep_7 22 rfl rfl
theorem dX8_readStep_0 : decode cX8_readStep 0 = .ok (.aload_n 0, 1) := dk_42 (dk_at dksX8_readStep_0 0 rfl rfl)
theorem dX8_readStep_1 : decode cX8_readStep 1 = .ok (.invokevirtual 189, 3) := dk_182 0 189 (dk_at dksX8_readStep_0 1 rfl rfl)
theorem dX8_readStep_4 : decode cX8_readStep 4 = .ok (.istore_n 2, 1) := dk_61 (dk_at dksX8_readStep_0 4 rfl rfl)
theorem dX8_readStep_5 : decode cX8_readStep 5 = .ok (.iload_n 2, 1) := dk_28 (dk_at dksX8_readStep_0 5 rfl rfl)
theorem dX8_readStep_6 : decode cX8_readStep 6 = .ok (.iconst 5, 1) := dk_8 (dk_at dksX8_readStep_0 6 rfl rfl)
theorem dX8_readStep_7 : decode cX8_readStep 7 = .ok (.if_icmp .eq 9, 3) := dk_159 0 9 (dk_at dksX8_readStep_0 7 rfl rfl)
theorem dX8_readStep_10 : decode cX8_readStep 10 = .ok (.iload_n 2, 1) := dk_28 (dk_at dksX8_readStep_0 10 rfl rfl)
theorem dX8_readStep_11 : decode cX8_readStep 11 = .ok (.bipush 6, 2) := dk_16 6 (dk_at dksX8_readStep_0 11 rfl rfl)
theorem dX8_readStep_13 : decode cX8_readStep 13 = .ok (.if_icmp .ne 7, 3) := dk_160 0 7 (dk_at dksX8_readStep_0 13 rfl rfl)
theorem dX8_readStep_16 : decode cX8_readStep 16 = .ok (.iconst 1, 1) := dk_4 (dk_at dksX8_readStep_0 16 rfl rfl)
theorem dX8_readStep_17 : decode cX8_readStep 17 = .ok (.goto 4, 3) := dk_167 0 4 (dk_at dksX8_readStep_0 17 rfl rfl)
theorem dX8_readStep_20 : decode cX8_readStep 20 = .ok (.iconst 0, 1) := dk_3 (dk_at dksX8_readStep_0 20 rfl rfl)
theorem dX8_readStep_21 : decode cX8_readStep 21 = .ok (.istore_n 3, 1) := dk_62 (dk_at dksX8_readStep_0 21 rfl rfl)
theorem dX8_readStep_22 : decode cX8_readStep 22 = .ok (.iload_n 2, 1) := dk_28 (dk_at dksX8_readStep_0 22 rfl rfl)
theorem dX8_readStep_23 : decode cX8_readStep 23 = .ok (.ifCond .ge 7, 3) := dk_156 0 7 (dk_at dksX8_readStep_1 0 rfl rfl)
theorem dX8_readStep_26 : decode cX8_readStep 26 = .ok (.aload_n 0, 1) := dk_42 (dk_at dksX8_readStep_1 3 rfl rfl)
theorem dX8_readStep_27 : decode cX8_readStep 27 = .ok (.invokevirtual 215, 3) := dk_182 0 215 (dk_at dksX8_readStep_1 4 rfl rfl)
theorem dX8_readStep_30 : decode cX8_readStep 30 = .ok (.aload_n 0, 1) := dk_42 (dk_at dksX8_readStep_1 7 rfl rfl)
theorem dX8_readStep_31 : decode cX8_readStep 31 = .ok (.getfield 202, 3) := dk_180 0 202 (dk_at dksX8_readStep_1 8 rfl rfl)
theorem dX8_readStep_34 : decode cX8_readStep 34 = .ok (.ifCond .ne 22, 3) := dk_154 0 22 (dk_at dksX8_readStep_1 11 rfl rfl)
theorem dX8_readStep_37 : decode cX8_readStep 37 = .ok (.aload_n 0, 1) := dk_42 (dk_at dksX8_readStep_1 14 rfl rfl)
theorem dX8_readStep_38 : decode cX8_readStep 38 = .ok (.getfield 301, 3) := dk_180 1 45 (dk_at dksX8_readStep_1 15 rfl rfl)
theorem dX8_readStep_41 : decode cX8_readStep 41 = .ok (.bipush 30, 2) := dk_16 30 (dk_at dksX8_readStep_1 18 rfl rfl)
theorem dX8_readStep_43 : decode cX8_readStep 43 = .ok (.if_icmp .ne 13, 3) := dk_160 0 13 (dk_at dksX8_readStep_1 20 rfl rfl)
theorem dX8_readStep_46 : decode cX8_readStep 46 = .ok (.aload_n 0, 1) := dk_42 (dk_at dksX8_readStep_1 23 rfl rfl)
theorem dX8_readStep_47 : decode cX8_readStep 47 = .ok (.bipush 6, 2) := dk_16 6 (dk_at dksX8_readStep_2 0 rfl rfl)
theorem dX8_readStep_49 : decode cX8_readStep 49 = .ok (.aload_n 0, 1) := dk_42 (dk_at dksX8_readStep_2 2 rfl rfl)
theorem dX8_readStep_50 : decode cX8_readStep 50 = .ok (.getfield 119, 3) := dk_180 0 119 (dk_at dksX8_readStep_2 3 rfl rfl)
theorem dX8_readStep_53 : decode cX8_readStep 53 = .ok (.invokevirtual 208, 3) := dk_182 0 208 (dk_at dksX8_readStep_2 6 rfl rfl)
theorem dX8_readStep_56 : decode cX8_readStep 56 = .ok (.aload_n 0, 1) := dk_42 (dk_at dksX8_readStep_2 9 rfl rfl)
theorem dX8_readStep_57 : decode cX8_readStep 57 = .ok (.getfield 202, 3) := dk_180 0 202 (dk_at dksX8_readStep_2 10 rfl rfl)
theorem dX8_readStep_60 : decode cX8_readStep 60 = .ok (.ifCond .ne 22, 3) := dk_154 0 22 (dk_at dksX8_readStep_2 13 rfl rfl)
theorem dX8_readStep_63 : decode cX8_readStep 63 = .ok (.iload_n 3, 1) := dk_29 (dk_at dksX8_readStep_2 16 rfl rfl)
theorem dX8_readStep_64 : decode cX8_readStep 64 = .ok (.ifCond .eq 18, 3) := dk_153 0 18 (dk_at dksX8_readStep_2 17 rfl rfl)
theorem dX8_readStep_67 : decode cX8_readStep 67 = .ok (.iload_n 1, 1) := dk_27 (dk_at dksX8_readStep_2 20 rfl rfl)
theorem dX8_readStep_68 : decode cX8_readStep 68 = .ok (.iconst 3, 1) := dk_6 (dk_at dksX8_readStep_2 21 rfl rfl)
theorem dX8_readStep_69 : decode cX8_readStep 69 = .ok (.if_icmp .ne 13, 3) := dk_160 0 13 (dk_at dksX8_readStep_3 0 rfl rfl)
theorem dX8_readStep_72 : decode cX8_readStep 72 = .ok (.aload_n 0, 1) := dk_42 (dk_at dksX8_readStep_3 3 rfl rfl)
theorem dX8_readStep_73 : decode cX8_readStep 73 = .ok (.bipush 7, 2) := dk_16 7 (dk_at dksX8_readStep_3 4 rfl rfl)
theorem dX8_readStep_75 : decode cX8_readStep 75 = .ok (.aload_n 0, 1) := dk_42 (dk_at dksX8_readStep_3 6 rfl rfl)
theorem dX8_readStep_76 : decode cX8_readStep 76 = .ok (.getfield 119, 3) := dk_180 0 119 (dk_at dksX8_readStep_3 7 rfl rfl)
theorem dX8_readStep_79 : decode cX8_readStep 79 = .ok (.invokevirtual 208, 3) := dk_182 0 208 (dk_at dksX8_readStep_3 10 rfl rfl)
theorem dX8_readStep_82 : decode cX8_readStep 82 = .ok (.aload_n 0, 1) := dk_42 (dk_at dksX8_readStep_3 13 rfl rfl)
theorem dX8_readStep_83 : decode cX8_readStep 83 = .ok (.getfield 202, 3) := dk_180 0 202 (dk_at dksX8_readStep_3 14 rfl rfl)
theorem dX8_readStep_86 : decode cX8_readStep 86 = .ok (.ifCond .le 4, 3) := dk_158 0 4 (dk_at dksX8_readStep_3 17 rfl rfl)
theorem dX8_readStep_89 : decode cX8_readStep 89 = .ok (.return_, 1) := dk_177 (dk_at dksX8_readStep_3 20 rfl rfl)
theorem dX8_readStep_90 : decode cX8_readStep 90 = .ok (.sipush 1525, 3) := dk_17 5 245 (dk_at dksX8_readStep_3 21 rfl rfl)
theorem dX8_readStep_93 : decode cX8_readStep 93 = .ok (.bipush 9, 2) := dk_16 9 (dk_at dksX8_readStep_4 0 rfl rfl)
theorem dX8_readStep_95 : decode cX8_readStep 95 = .ok (.aload_n 0, 1) := dk_42 (dk_at dksX8_readStep_4 2 rfl rfl)
theorem dX8_readStep_96 : decode cX8_readStep 96 = .ok (.getfield 301, 3) := dk_180 1 45 (dk_at dksX8_readStep_4 3 rfl rfl)
theorem dX8_readStep_99 : decode cX8_readStep 99 = .ok (.imul, 1) := dk_104 (dk_at dksX8_readStep_4 6 rfl rfl)
theorem dX8_readStep_100 : decode cX8_readStep 100 = .ok (.iadd, 1) := dk_96 (dk_at dksX8_readStep_4 7 rfl rfl)
theorem dX8_readStep_101 : decode cX8_readStep 101 = .ok (.istore 4, 2) := dk_54 4 (dk_at dksX8_readStep_4 8 rfl rfl)
theorem dX8_readStep_103 : decode cX8_readStep 103 = .ok (.aload_n 0, 1) := dk_42 (dk_at dksX8_readStep_4 10 rfl rfl)
theorem dX8_readStep_104 : decode cX8_readStep 104 = .ok (.dup, 1) := dk_89 (dk_at dksX8_readStep_4 11 rfl rfl)
theorem dX8_readStep_105 : decode cX8_readStep 105 = .ok (.getfield 301, 3) := dk_180 1 45 (dk_at dksX8_readStep_4 12 rfl rfl)
theorem dX8_readStep_108 : decode cX8_readStep 108 = .ok (.iconst 1, 1) := dk_4 (dk_at dksX8_readStep_4 15 rfl rfl)
theorem dX8_readStep_109 : decode cX8_readStep 109 = .ok (.iadd, 1) := dk_96 (dk_at dksX8_readStep_4 16 rfl rfl)
theorem dX8_readStep_110 : decode cX8_readStep 110 = .ok (.putfield 301, 3) := dk_181 1 45 (dk_at dksX8_readStep_4 17 rfl rfl)
theorem dX8_readStep_113 : decode cX8_readStep 113 = .ok (.aload_n 0, 1) := dk_42 (dk_at dksX8_readStep_4 20 rfl rfl)
theorem dX8_readStep_114 : decode cX8_readStep 114 = .ok (.invokevirtual 212, 3) := dk_182 0 212 (dk_at dksX8_readStep_4 21 rfl rfl)
theorem dX8_readStep_117 : decode cX8_readStep 117 = .ok (.aload_n 0, 1) := dk_42 (dk_at dksX8_readStep_5 0 rfl rfl)
theorem dX8_readStep_118 : decode cX8_readStep 118 = .ok (.getfield 35, 3) := dk_180 0 35 (dk_at dksX8_readStep_5 1 rfl rfl)
theorem dX8_readStep_121 : decode cX8_readStep 121 = .ok (.iload 4, 2) := dk_21 4 (dk_at dksX8_readStep_5 4 rfl rfl)
theorem dX8_readStep_123 : decode cX8_readStep 123 = .ok (.iload_n 2, 1) := dk_28 (dk_at dksX8_readStep_5 6 rfl rfl)
theorem dX8_readStep_124 : decode cX8_readStep 124 = .ok (.iastore, 1) := dk_79 (dk_at dksX8_readStep_5 7 rfl rfl)
theorem dX8_readStep_125 : decode cX8_readStep 125 = .ok (.aload_n 0, 1) := dk_42 (dk_at dksX8_readStep_5 8 rfl rfl)
theorem dX8_readStep_126 : decode cX8_readStep 126 = .ok (.iload 4, 2) := dk_21 4 (dk_at dksX8_readStep_5 9 rfl rfl)
theorem dX8_readStep_128 : decode cX8_readStep 128 = .ok (.invokevirtual 304, 3) := dk_182 1 48 (dk_at dksX8_readStep_5 11 rfl rfl)
theorem dX8_readStep_131 : decode cX8_readStep 131 = .ok (.aload_n 0, 1) := dk_42 (dk_at dksX8_readStep_5 14 rfl rfl)
theorem dX8_readStep_132 : decode cX8_readStep 132 = .ok (.aload_n 0, 1) := dk_42 (dk_at dksX8_readStep_5 15 rfl rfl)
theorem dX8_readStep_133 : decode cX8_readStep 133 = .ok (.bipush 59, 2) := dk_16 59 (dk_at dksX8_readStep_5 16 rfl rfl)
theorem dX8_readStep_135 : decode cX8_readStep 135 = .ok (.invokevirtual 289, 3) := dk_182 1 33 (dk_at dksX8_readStep_5 18 rfl rfl)
theorem dX8_readStep_138 : decode cX8_readStep 138 = .ok (.invokevirtual 239, 3) := dk_182 0 239 (dk_at dksX8_readStep_5 21 rfl rfl)
theorem dX8_readStep_141 : decode cX8_readStep 141 = .ok (.iload_n 3, 1) := dk_29 (dk_at dksX8_readStep_6 0 rfl rfl)
theorem dX8_readStep_142 : decode cX8_readStep 142 = .ok (.ifCond .eq 27, 3) := dk_153 0 27 (dk_at dksX8_readStep_6 1 rfl rfl)
theorem dX8_readStep_145 : decode cX8_readStep 145 = .ok (.aload_n 0, 1) := dk_42 (dk_at dksX8_readStep_6 4 rfl rfl)
theorem dX8_readStep_146 : decode cX8_readStep 146 = .ok (.getfield 202, 3) := dk_180 0 202 (dk_at dksX8_readStep_6 5 rfl rfl)
theorem dX8_readStep_149 : decode cX8_readStep 149 = .ok (.ifCond .ne 20, 3) := dk_154 0 20 (dk_at dksX8_readStep_6 8 rfl rfl)
theorem dX8_readStep_152 : decode cX8_readStep 152 = .ok (.aload_n 0, 1) := dk_42 (dk_at dksX8_readStep_6 11 rfl rfl)
theorem dX8_readStep_153 : decode cX8_readStep 153 = .ok (.invokevirtual 196, 3) := dk_182 0 196 (dk_at dksX8_readStep_6 12 rfl rfl)
theorem dX8_readStep_156 : decode cX8_readStep 156 = .ok (.ifCond .ne 13, 3) := dk_154 0 13 (dk_at dksX8_readStep_6 15 rfl rfl)
theorem dX8_readStep_159 : decode cX8_readStep 159 = .ok (.aload_n 0, 1) := dk_42 (dk_at dksX8_readStep_6 18 rfl rfl)
theorem dX8_readStep_160 : decode cX8_readStep 160 = .ok (.iload_n 1, 1) := dk_27 (dk_at dksX8_readStep_6 19 rfl rfl)
theorem dX8_readStep_161 : decode cX8_readStep 161 = .ok (.iconst 1, 1) := dk_4 (dk_at dksX8_readStep_6 20 rfl rfl)
theorem dX8_readStep_162 : decode cX8_readStep 162 = .ok (.iadd, 1) := dk_96 (dk_at dksX8_readStep_6 21 rfl rfl)
theorem dX8_readStep_163 : decode cX8_readStep 163 = .ok (.invokevirtual 307, 3) := dk_182 1 51 (dk_at dksX8_readStep_7 0 rfl rfl)
theorem dX8_readStep_166 : decode cX8_readStep 166 = .ok (.goto (-25), 3) := dk_167 255 231 (dk_at dksX8_readStep_7 3 rfl rfl)
theorem dX8_readStep_169 : decode cX8_readStep 169 = .ok (.iload_n 3, 1) := dk_29 (dk_at dksX8_readStep_7 6 rfl rfl)
theorem dX8_readStep_170 : decode cX8_readStep 170 = .ok (.ifCond .eq 21, 3) := dk_153 0 21 (dk_at dksX8_readStep_7 7 rfl rfl)
theorem dX8_readStep_173 : decode cX8_readStep 173 = .ok (.aload_n 0, 1) := dk_42 (dk_at dksX8_readStep_7 10 rfl rfl)
theorem dX8_readStep_174 : decode cX8_readStep 174 = .ok (.aload_n 0, 1) := dk_42 (dk_at dksX8_readStep_7 11 rfl rfl)
theorem dX8_readStep_175 : decode cX8_readStep 175 = .ok (.invokevirtual 196, 3) := dk_182 0 196 (dk_at dksX8_readStep_7 12 rfl rfl)
theorem dX8_readStep_178 : decode cX8_readStep 178 = .ok (.invokevirtual 239, 3) := dk_182 0 239 (dk_at dksX8_readStep_7 15 rfl rfl)
theorem dX8_readStep_181 : decode cX8_readStep 181 = .ok (.aload_n 0, 1) := dk_42 (dk_at dksX8_readStep_7 18 rfl rfl)
theorem dX8_readStep_182 : decode cX8_readStep 182 = .ok (.aload_n 0, 1) := dk_42 (dk_at dksX8_readStep_7 19 rfl rfl)
theorem dX8_readStep_183 : decode cX8_readStep 183 = .ok (.bipush 59, 2) := dk_16 59 (dk_at dksX8_readStep_7 20 rfl rfl)
theorem dX8_readStep_185 : decode cX8_readStep 185 = .ok (.invokevirtual 289, 3) := dk_182 1 33 (dk_at dksX8_readStep_8 0 rfl rfl)
theorem dX8_readStep_188 : decode cX8_readStep 188 = .ok (.invokevirtual 239, 3) := dk_182 0 239 (dk_at dksX8_readStep_8 3 rfl rfl)
theorem dX8_readStep_191 : decode cX8_readStep 191 = .ok (.aload_n 0, 1) := dk_42 (dk_at dksX8_readStep_8 6 rfl rfl)
theorem dX8_readStep_192 : decode cX8_readStep 192 = .ok (.getfield 35, 3) := dk_180 0 35 (dk_at dksX8_readStep_8 7 rfl rfl)
theorem dX8_readStep_195 : decode cX8_readStep 195 = .ok (.iload 4, 2) := dk_21 4 (dk_at dksX8_readStep_8 10 rfl rfl)
theorem dX8_readStep_197 : decode cX8_readStep 197 = .ok (.bipush 8, 2) := dk_16 8 (dk_at dksX8_readStep_8 12 rfl rfl)
theorem dX8_readStep_199 : decode cX8_readStep 199 = .ok (.iadd, 1) := dk_96 (dk_at dksX8_readStep_8 14 rfl rfl)
theorem dX8_readStep_200 : decode cX8_readStep 200 = .ok (.aload_n 0, 1) := dk_42 (dk_at dksX8_readStep_8 15 rfl rfl)
theorem dX8_readStep_201 : decode cX8_readStep 201 = .ok (.getfield 301, 3) := dk_180 1 45 (dk_at dksX8_readStep_8 16 rfl rfl)
theorem dX8_readStep_204 : decode cX8_readStep 204 = .ok (.iastore, 1) := dk_79 (dk_at dksX8_readStep_8 19 rfl rfl)
theorem dX8_readStep_205 : decode cX8_readStep 205 = .ok (.return_, 1) := dk_177 (dk_at dksX8_readStep_8 20 rfl rfl)
abbrev cX8_readRest : ByteArray := prog_14_method_70_code
def yX8_readRest : MethodName := ⟨RX8, "readRest", "(I)V"⟩
def dkwX8_readRest_5 : List UInt8 := [182, 1, 1, 79, 177]
abbrev dktX8_readRest_5 : List UInt8 := dkwX8_readRest_5 ++ []
def dkwX8_readRest_4 : List UInt8 := [180, 0, 35, 27, 4, 96, 42, 3, 4, 182, 1, 1, 79, 42, 180, 0, 35, 27, 5, 96, 42, 3, 3]
abbrev dktX8_readRest_4 : List UInt8 := dkwX8_readRest_4 ++ dktX8_readRest_5
def dkwX8_readRest_3 : List UInt8 := [180, 0, 35, 27, 5, 96, 42, 3, 4, 182, 1, 1, 79, 167, 0, 36, 28, 7, 162, 0, 31, 42]
abbrev dktX8_readRest_3 : List UInt8 := dkwX8_readRest_3 ++ dktX8_readRest_4
def dkwX8_readRest_2 : List UInt8 := [28, 4, 160, 0, 38, 42, 180, 0, 35, 27, 4, 96, 42, 3, 6, 182, 1, 1, 79, 28, 154, 0, 53, 42]
abbrev dktX8_readRest_2 : List UInt8 := dkwX8_readRest_2 ++ dktX8_readRest_3
def dkwX8_readRest_1 : List UInt8 := [182, 0, 247, 79, 167, 0, 93, 28, 8, 160, 0, 11, 42, 27, 182, 1, 42, 167, 0, 80, 28, 153, 0, 8]
abbrev dktX8_readRest_1 : List UInt8 := dkwX8_readRest_1 ++ dktX8_readRest_2
def dkwX8_readRest_0 : List UInt8 := [42, 180, 0, 35, 27, 46, 61, 28, 16, 6, 160, 0, 21, 42, 180, 0, 35, 27, 4, 96, 42, 4, 16, 99]
abbrev dktX8_readRest_0 : List UInt8 := dkwX8_readRest_0 ++ dktX8_readRest_1
theorem dksX8_readRest_0 : cX8_readRest.data.toList.drop 0 = dktX8_readRest_0 := by decide +kernel
theorem dksX8_readRest_1 : cX8_readRest.data.toList.drop 24 = dktX8_readRest_1 := dk_seg dksX8_readRest_0 24 rfl rfl
theorem dksX8_readRest_2 : cX8_readRest.data.toList.drop 48 = dktX8_readRest_2 := dk_seg dksX8_readRest_1 24 rfl rfl
theorem dksX8_readRest_3 : cX8_readRest.data.toList.drop 72 = dktX8_readRest_3 := dk_seg dksX8_readRest_2 24 rfl rfl
theorem dksX8_readRest_4 : cX8_readRest.data.toList.drop 94 = dktX8_readRest_4 := dk_seg dksX8_readRest_3 22 rfl rfl
theorem dksX8_readRest_5 : cX8_readRest.data.toList.drop 117 = dktX8_readRest_5 := dk_seg dksX8_readRest_4 23 rfl rfl
theorem dX8_readRest_0 : decode cX8_readRest 0 = .ok (.aload_n 0, 1) := dk_42 (dk_at dksX8_readRest_0 0 rfl rfl)
theorem dX8_readRest_1 : decode cX8_readRest 1 = .ok (.getfield 35, 3) := dk_180 0 35 (dk_at dksX8_readRest_0 1 rfl rfl)
theorem dX8_readRest_4 : decode cX8_readRest 4 = .ok (.iload_n 1, 1) := dk_27 (dk_at dksX8_readRest_0 4 rfl rfl)
theorem dX8_readRest_5 : decode cX8_readRest 5 = .ok (.iaload, 1) := dk_46 (dk_at dksX8_readRest_0 5 rfl rfl)
theorem dX8_readRest_6 : decode cX8_readRest 6 = .ok (.istore_n 2, 1) := dk_61 (dk_at dksX8_readRest_0 6 rfl rfl)
theorem dX8_readRest_7 : decode cX8_readRest 7 = .ok (.iload_n 2, 1) := dk_28 (dk_at dksX8_readRest_0 7 rfl rfl)
theorem dX8_readRest_8 : decode cX8_readRest 8 = .ok (.bipush 6, 2) := dk_16 6 (dk_at dksX8_readRest_0 8 rfl rfl)
theorem dX8_readRest_10 : decode cX8_readRest 10 = .ok (.if_icmp .ne 21, 3) := dk_160 0 21 (dk_at dksX8_readRest_0 10 rfl rfl)
theorem dX8_readRest_13 : decode cX8_readRest 13 = .ok (.aload_n 0, 1) := dk_42 (dk_at dksX8_readRest_0 13 rfl rfl)
theorem dX8_readRest_14 : decode cX8_readRest 14 = .ok (.getfield 35, 3) := dk_180 0 35 (dk_at dksX8_readRest_0 14 rfl rfl)
theorem dX8_readRest_17 : decode cX8_readRest 17 = .ok (.iload_n 1, 1) := dk_27 (dk_at dksX8_readRest_0 17 rfl rfl)
theorem dX8_readRest_18 : decode cX8_readRest 18 = .ok (.iconst 1, 1) := dk_4 (dk_at dksX8_readRest_0 18 rfl rfl)
theorem dX8_readRest_19 : decode cX8_readRest 19 = .ok (.iadd, 1) := dk_96 (dk_at dksX8_readRest_0 19 rfl rfl)
theorem dX8_readRest_20 : decode cX8_readRest 20 = .ok (.aload_n 0, 1) := dk_42 (dk_at dksX8_readRest_0 20 rfl rfl)
theorem dX8_readRest_21 : decode cX8_readRest 21 = .ok (.iconst 1, 1) := dk_4 (dk_at dksX8_readRest_0 21 rfl rfl)
theorem dX8_readRest_22 : decode cX8_readRest 22 = .ok (.bipush 99, 2) := dk_16 99 (dk_at dksX8_readRest_0 22 rfl rfl)
theorem dX8_readRest_24 : decode cX8_readRest 24 = .ok (.invokevirtual 247, 3) := dk_182 0 247 (dk_at dksX8_readRest_1 0 rfl rfl)
theorem dX8_readRest_27 : decode cX8_readRest 27 = .ok (.iastore, 1) := dk_79 (dk_at dksX8_readRest_1 3 rfl rfl)
theorem dX8_readRest_28 : decode cX8_readRest 28 = .ok (.goto 93, 3) := dk_167 0 93 (dk_at dksX8_readRest_1 4 rfl rfl)
theorem dX8_readRest_31 : decode cX8_readRest 31 = .ok (.iload_n 2, 1) := dk_28 (dk_at dksX8_readRest_1 7 rfl rfl)
theorem dX8_readRest_32 : decode cX8_readRest 32 = .ok (.iconst 5, 1) := dk_8 (dk_at dksX8_readRest_1 8 rfl rfl)
theorem dX8_readRest_33 : decode cX8_readRest 33 = .ok (.if_icmp .ne 11, 3) := dk_160 0 11 (dk_at dksX8_readRest_1 9 rfl rfl)
theorem dX8_readRest_36 : decode cX8_readRest 36 = .ok (.aload_n 0, 1) := dk_42 (dk_at dksX8_readRest_1 12 rfl rfl)
theorem dX8_readRest_37 : decode cX8_readRest 37 = .ok (.iload_n 1, 1) := dk_27 (dk_at dksX8_readRest_1 13 rfl rfl)
theorem dX8_readRest_38 : decode cX8_readRest 38 = .ok (.invokevirtual 298, 3) := dk_182 1 42 (dk_at dksX8_readRest_1 14 rfl rfl)
theorem dX8_readRest_41 : decode cX8_readRest 41 = .ok (.goto 80, 3) := dk_167 0 80 (dk_at dksX8_readRest_1 17 rfl rfl)
theorem dX8_readRest_44 : decode cX8_readRest 44 = .ok (.iload_n 2, 1) := dk_28 (dk_at dksX8_readRest_1 20 rfl rfl)
theorem dX8_readRest_45 : decode cX8_readRest 45 = .ok (.ifCond .eq 8, 3) := dk_153 0 8 (dk_at dksX8_readRest_1 21 rfl rfl)
theorem dX8_readRest_48 : decode cX8_readRest 48 = .ok (.iload_n 2, 1) := dk_28 (dk_at dksX8_readRest_2 0 rfl rfl)
theorem dX8_readRest_49 : decode cX8_readRest 49 = .ok (.iconst 1, 1) := dk_4 (dk_at dksX8_readRest_2 1 rfl rfl)
theorem dX8_readRest_50 : decode cX8_readRest 50 = .ok (.if_icmp .ne 38, 3) := dk_160 0 38 (dk_at dksX8_readRest_2 2 rfl rfl)
theorem dX8_readRest_53 : decode cX8_readRest 53 = .ok (.aload_n 0, 1) := dk_42 (dk_at dksX8_readRest_2 5 rfl rfl)
theorem dX8_readRest_54 : decode cX8_readRest 54 = .ok (.getfield 35, 3) := dk_180 0 35 (dk_at dksX8_readRest_2 6 rfl rfl)
theorem dX8_readRest_57 : decode cX8_readRest 57 = .ok (.iload_n 1, 1) := dk_27 (dk_at dksX8_readRest_2 9 rfl rfl)
theorem dX8_readRest_58 : decode cX8_readRest 58 = .ok (.iconst 1, 1) := dk_4 (dk_at dksX8_readRest_2 10 rfl rfl)
theorem dX8_readRest_59 : decode cX8_readRest 59 = .ok (.iadd, 1) := dk_96 (dk_at dksX8_readRest_2 11 rfl rfl)
theorem dX8_readRest_60 : decode cX8_readRest 60 = .ok (.aload_n 0, 1) := dk_42 (dk_at dksX8_readRest_2 12 rfl rfl)
theorem dX8_readRest_61 : decode cX8_readRest 61 = .ok (.iconst 0, 1) := dk_3 (dk_at dksX8_readRest_2 13 rfl rfl)
theorem dX8_readRest_62 : decode cX8_readRest 62 = .ok (.iconst 3, 1) := dk_6 (dk_at dksX8_readRest_2 14 rfl rfl)
theorem dX8_readRest_63 : decode cX8_readRest 63 = .ok (.invokevirtual 257, 3) := dk_182 1 1 (dk_at dksX8_readRest_2 15 rfl rfl)
theorem dX8_readRest_66 : decode cX8_readRest 66 = .ok (.iastore, 1) := dk_79 (dk_at dksX8_readRest_2 18 rfl rfl)
theorem dX8_readRest_67 : decode cX8_readRest 67 = .ok (.iload_n 2, 1) := dk_28 (dk_at dksX8_readRest_2 19 rfl rfl)
theorem dX8_readRest_68 : decode cX8_readRest 68 = .ok (.ifCond .ne 53, 3) := dk_154 0 53 (dk_at dksX8_readRest_2 20 rfl rfl)
theorem dX8_readRest_71 : decode cX8_readRest 71 = .ok (.aload_n 0, 1) := dk_42 (dk_at dksX8_readRest_2 23 rfl rfl)
theorem dX8_readRest_72 : decode cX8_readRest 72 = .ok (.getfield 35, 3) := dk_180 0 35 (dk_at dksX8_readRest_3 0 rfl rfl)
theorem dX8_readRest_75 : decode cX8_readRest 75 = .ok (.iload_n 1, 1) := dk_27 (dk_at dksX8_readRest_3 3 rfl rfl)
theorem dX8_readRest_76 : decode cX8_readRest 76 = .ok (.iconst 2, 1) := dk_5 (dk_at dksX8_readRest_3 4 rfl rfl)
theorem dX8_readRest_77 : decode cX8_readRest 77 = .ok (.iadd, 1) := dk_96 (dk_at dksX8_readRest_3 5 rfl rfl)
theorem dX8_readRest_78 : decode cX8_readRest 78 = .ok (.aload_n 0, 1) := dk_42 (dk_at dksX8_readRest_3 6 rfl rfl)
theorem dX8_readRest_79 : decode cX8_readRest 79 = .ok (.iconst 0, 1) := dk_3 (dk_at dksX8_readRest_3 7 rfl rfl)
theorem dX8_readRest_80 : decode cX8_readRest 80 = .ok (.iconst 1, 1) := dk_4 (dk_at dksX8_readRest_3 8 rfl rfl)
theorem dX8_readRest_81 : decode cX8_readRest 81 = .ok (.invokevirtual 257, 3) := dk_182 1 1 (dk_at dksX8_readRest_3 9 rfl rfl)
theorem dX8_readRest_84 : decode cX8_readRest 84 = .ok (.iastore, 1) := dk_79 (dk_at dksX8_readRest_3 12 rfl rfl)
theorem dX8_readRest_85 : decode cX8_readRest 85 = .ok (.goto 36, 3) := dk_167 0 36 (dk_at dksX8_readRest_3 13 rfl rfl)
theorem dX8_readRest_88 : decode cX8_readRest 88 = .ok (.iload_n 2, 1) := dk_28 (dk_at dksX8_readRest_3 16 rfl rfl)
theorem dX8_readRest_89 : decode cX8_readRest 89 = .ok (.iconst 4, 1) := dk_7 (dk_at dksX8_readRest_3 17 rfl rfl)
theorem dX8_readRest_90 : decode cX8_readRest 90 = .ok (.if_icmp .ge 31, 3) := dk_162 0 31 (dk_at dksX8_readRest_3 18 rfl rfl)
theorem dX8_readRest_93 : decode cX8_readRest 93 = .ok (.aload_n 0, 1) := dk_42 (dk_at dksX8_readRest_3 21 rfl rfl)
theorem dX8_readRest_94 : decode cX8_readRest 94 = .ok (.getfield 35, 3) := dk_180 0 35 (dk_at dksX8_readRest_4 0 rfl rfl)
theorem dX8_readRest_97 : decode cX8_readRest 97 = .ok (.iload_n 1, 1) := dk_27 (dk_at dksX8_readRest_4 3 rfl rfl)
theorem dX8_readRest_98 : decode cX8_readRest 98 = .ok (.iconst 1, 1) := dk_4 (dk_at dksX8_readRest_4 4 rfl rfl)
theorem dX8_readRest_99 : decode cX8_readRest 99 = .ok (.iadd, 1) := dk_96 (dk_at dksX8_readRest_4 5 rfl rfl)
theorem dX8_readRest_100 : decode cX8_readRest 100 = .ok (.aload_n 0, 1) := dk_42 (dk_at dksX8_readRest_4 6 rfl rfl)
theorem dX8_readRest_101 : decode cX8_readRest 101 = .ok (.iconst 0, 1) := dk_3 (dk_at dksX8_readRest_4 7 rfl rfl)
theorem dX8_readRest_102 : decode cX8_readRest 102 = .ok (.iconst 1, 1) := dk_4 (dk_at dksX8_readRest_4 8 rfl rfl)
theorem dX8_readRest_103 : decode cX8_readRest 103 = .ok (.invokevirtual 257, 3) := dk_182 1 1 (dk_at dksX8_readRest_4 9 rfl rfl)
theorem dX8_readRest_106 : decode cX8_readRest 106 = .ok (.iastore, 1) := dk_79 (dk_at dksX8_readRest_4 12 rfl rfl)
theorem dX8_readRest_107 : decode cX8_readRest 107 = .ok (.aload_n 0, 1) := dk_42 (dk_at dksX8_readRest_4 13 rfl rfl)
theorem dX8_readRest_108 : decode cX8_readRest 108 = .ok (.getfield 35, 3) := dk_180 0 35 (dk_at dksX8_readRest_4 14 rfl rfl)
theorem dX8_readRest_111 : decode cX8_readRest 111 = .ok (.iload_n 1, 1) := dk_27 (dk_at dksX8_readRest_4 17 rfl rfl)
theorem dX8_readRest_112 : decode cX8_readRest 112 = .ok (.iconst 2, 1) := dk_5 (dk_at dksX8_readRest_4 18 rfl rfl)
theorem dX8_readRest_113 : decode cX8_readRest 113 = .ok (.iadd, 1) := dk_96 (dk_at dksX8_readRest_4 19 rfl rfl)
theorem dX8_readRest_114 : decode cX8_readRest 114 = .ok (.aload_n 0, 1) := dk_42 (dk_at dksX8_readRest_4 20 rfl rfl)
theorem dX8_readRest_115 : decode cX8_readRest 115 = .ok (.iconst 0, 1) := dk_3 (dk_at dksX8_readRest_4 21 rfl rfl)
theorem dX8_readRest_116 : decode cX8_readRest 116 = .ok (.iconst 0, 1) := dk_3 (dk_at dksX8_readRest_4 22 rfl rfl)
theorem dX8_readRest_117 : decode cX8_readRest 117 = .ok (.invokevirtual 257, 3) := dk_182 1 1 (dk_at dksX8_readRest_5 0 rfl rfl)
theorem dX8_readRest_120 : decode cX8_readRest 120 = .ok (.iastore, 1) := dk_79 (dk_at dksX8_readRest_5 3 rfl rfl)
theorem dX8_readRest_121 : decode cX8_readRest 121 = .ok (.return_, 1) := dk_177 (dk_at dksX8_readRest_5 4 rfl rfl)
abbrev cX8_readTest : ByteArray := prog_14_method_69_code
def yX8_readTest : MethodName := ⟨RX8, "readTest", "(I)V"⟩
def dkwX8_readTest_7 : List UInt8 := [79, 177]
abbrev dktX8_readTest_7 : List UInt8 := dkwX8_readTest_7 ++ []
def dkwX8_readTest_6 : List UInt8 := [4, 167, 0, 4, 3, 182, 0, 239, 42, 180, 0, 35, 27, 16, 6, 96, 42, 3, 17, 39, 15, 182, 0, 247]
abbrev dktX8_readTest_6 : List UInt8 := dkwX8_readTest_6 ++ dktX8_readTest_7
def dkwX8_readTest_5 : List UInt8 := [182, 1, 33, 154, 0, 21, 42, 16, 62, 182, 1, 33, 154, 0, 12, 42, 16, 61, 182, 1, 33, 153, 0, 7]
abbrev dktX8_readTest_5 : List UInt8 := dkwX8_readTest_5 ++ dktX8_readTest_6
def dkwX8_readTest_4 : List UInt8 := [16, 7, 96, 42, 180, 0, 125, 6, 160, 0, 10, 42, 180, 0, 144, 167, 0, 4, 3, 79, 42, 42, 16, 60]
abbrev dktX8_readTest_4 : List UInt8 := dkwX8_readTest_4 ++ dktX8_readTest_5
def dkwX8_readTest_3 : List UInt8 := [3, 4, 182, 1, 1, 79, 42, 180, 0, 202, 157, 0, 8, 28, 4, 159, 0, 4, 177, 42, 180, 0, 35, 27]
abbrev dktX8_readTest_3 : List UInt8 := dkwX8_readTest_3 ++ dktX8_readTest_4
def dkwX8_readTest_2 : List UInt8 := [160, 0, 7, 4, 167, 0, 4, 6, 182, 1, 1, 79, 28, 154, 0, 17, 42, 180, 0, 35, 27, 5, 96, 42]
abbrev dktX8_readTest_2 : List UInt8 := dkwX8_readTest_2 ++ dktX8_readTest_3
def dkwX8_readTest_1 : List UInt8 := [96, 28, 79, 42, 180, 0, 202, 158, 0, 4, 177, 42, 180, 0, 35, 27, 4, 96, 42, 3, 28, 4]
abbrev dktX8_readTest_1 : List UInt8 := dkwX8_readTest_1 ++ dktX8_readTest_2
def dkwX8_readTest_0 : List UInt8 := [42, 182, 0, 193, 61, 42, 28, 155, 0, 7, 4, 167, 0, 4, 3, 182, 0, 239, 42, 180, 0, 35, 27, 8]
abbrev dktX8_readTest_0 : List UInt8 := dkwX8_readTest_0 ++ dktX8_readTest_1
theorem dksX8_readTest_0 : cX8_readTest.data.toList.drop 0 = dktX8_readTest_0 := by decide +kernel
theorem dksX8_readTest_1 : cX8_readTest.data.toList.drop 24 = dktX8_readTest_1 := dk_seg dksX8_readTest_0 24 rfl rfl
theorem dksX8_readTest_2 : cX8_readTest.data.toList.drop 46 = dktX8_readTest_2 := dk_seg dksX8_readTest_1 22 rfl rfl
theorem dksX8_readTest_3 : cX8_readTest.data.toList.drop 70 = dktX8_readTest_3 := dk_seg dksX8_readTest_2 24 rfl rfl
theorem dksX8_readTest_4 : cX8_readTest.data.toList.drop 94 = dktX8_readTest_4 := dk_seg dksX8_readTest_3 24 rfl rfl
theorem dksX8_readTest_5 : cX8_readTest.data.toList.drop 118 = dktX8_readTest_5 := dk_seg dksX8_readTest_4 24 rfl rfl
theorem dksX8_readTest_6 : cX8_readTest.data.toList.drop 142 = dktX8_readTest_6 := dk_seg dksX8_readTest_5 24 rfl rfl
theorem dksX8_readTest_7 : cX8_readTest.data.toList.drop 166 = dktX8_readTest_7 := dk_seg dksX8_readTest_6 24 rfl rfl
theorem dX8_readTest_0 : decode cX8_readTest 0 = .ok (.aload_n 0, 1) := dk_42 (dk_at dksX8_readTest_0 0 rfl rfl)
theorem dX8_readTest_1 : decode cX8_readTest 1 = .ok (.invokevirtual 193, 3) := dk_182 0 193 (dk_at dksX8_readTest_0 1 rfl rfl)
theorem dX8_readTest_4 : decode cX8_readTest 4 = .ok (.istore_n 2, 1) := dk_61 (dk_at dksX8_readTest_0 4 rfl rfl)
theorem dX8_readTest_5 : decode cX8_readTest 5 = .ok (.aload_n 0, 1) := dk_42 (dk_at dksX8_readTest_0 5 rfl rfl)
theorem dX8_readTest_6 : decode cX8_readTest 6 = .ok (.iload_n 2, 1) := dk_28 (dk_at dksX8_readTest_0 6 rfl rfl)
theorem dX8_readTest_7 : decode cX8_readTest 7 = .ok (.ifCond .lt 7, 3) := dk_155 0 7 (dk_at dksX8_readTest_0 7 rfl rfl)
theorem dX8_readTest_10 : decode cX8_readTest 10 = .ok (.iconst 1, 1) := dk_4 (dk_at dksX8_readTest_0 10 rfl rfl)
theorem dX8_readTest_11 : decode cX8_readTest 11 = .ok (.goto 4, 3) := dk_167 0 4 (dk_at dksX8_readTest_0 11 rfl rfl)
theorem dX8_readTest_14 : decode cX8_readTest 14 = .ok (.iconst 0, 1) := dk_3 (dk_at dksX8_readTest_0 14 rfl rfl)
theorem dX8_readTest_15 : decode cX8_readTest 15 = .ok (.invokevirtual 239, 3) := dk_182 0 239 (dk_at dksX8_readTest_0 15 rfl rfl)
theorem dX8_readTest_18 : decode cX8_readTest 18 = .ok (.aload_n 0, 1) := dk_42 (dk_at dksX8_readTest_0 18 rfl rfl)
theorem dX8_readTest_19 : decode cX8_readTest 19 = .ok (.getfield 35, 3) := dk_180 0 35 (dk_at dksX8_readTest_0 19 rfl rfl)
theorem dX8_readTest_22 : decode cX8_readTest 22 = .ok (.iload_n 1, 1) := dk_27 (dk_at dksX8_readTest_0 22 rfl rfl)
theorem dX8_readTest_23 : decode cX8_readTest 23 = .ok (.iconst 5, 1) := dk_8 (dk_at dksX8_readTest_0 23 rfl rfl)
theorem dX8_readTest_24 : decode cX8_readTest 24 = .ok (.iadd, 1) := dk_96 (dk_at dksX8_readTest_1 0 rfl rfl)
theorem dX8_readTest_25 : decode cX8_readTest 25 = .ok (.iload_n 2, 1) := dk_28 (dk_at dksX8_readTest_1 1 rfl rfl)
theorem dX8_readTest_26 : decode cX8_readTest 26 = .ok (.iastore, 1) := dk_79 (dk_at dksX8_readTest_1 2 rfl rfl)
theorem dX8_readTest_27 : decode cX8_readTest 27 = .ok (.aload_n 0, 1) := dk_42 (dk_at dksX8_readTest_1 3 rfl rfl)
theorem dX8_readTest_28 : decode cX8_readTest 28 = .ok (.getfield 202, 3) := dk_180 0 202 (dk_at dksX8_readTest_1 4 rfl rfl)
theorem dX8_readTest_31 : decode cX8_readTest 31 = .ok (.ifCond .le 4, 3) := dk_158 0 4 (dk_at dksX8_readTest_1 7 rfl rfl)
theorem dX8_readTest_34 : decode cX8_readTest 34 = .ok (.return_, 1) := dk_177 (dk_at dksX8_readTest_1 10 rfl rfl)
theorem dX8_readTest_35 : decode cX8_readTest 35 = .ok (.aload_n 0, 1) := dk_42 (dk_at dksX8_readTest_1 11 rfl rfl)
theorem dX8_readTest_36 : decode cX8_readTest 36 = .ok (.getfield 35, 3) := dk_180 0 35 (dk_at dksX8_readTest_1 12 rfl rfl)
theorem dX8_readTest_39 : decode cX8_readTest 39 = .ok (.iload_n 1, 1) := dk_27 (dk_at dksX8_readTest_1 15 rfl rfl)
theorem dX8_readTest_40 : decode cX8_readTest 40 = .ok (.iconst 1, 1) := dk_4 (dk_at dksX8_readTest_1 16 rfl rfl)
theorem dX8_readTest_41 : decode cX8_readTest 41 = .ok (.iadd, 1) := dk_96 (dk_at dksX8_readTest_1 17 rfl rfl)
theorem dX8_readTest_42 : decode cX8_readTest 42 = .ok (.aload_n 0, 1) := dk_42 (dk_at dksX8_readTest_1 18 rfl rfl)
theorem dX8_readTest_43 : decode cX8_readTest 43 = .ok (.iconst 0, 1) := dk_3 (dk_at dksX8_readTest_1 19 rfl rfl)
theorem dX8_readTest_44 : decode cX8_readTest 44 = .ok (.iload_n 2, 1) := dk_28 (dk_at dksX8_readTest_1 20 rfl rfl)
theorem dX8_readTest_45 : decode cX8_readTest 45 = .ok (.iconst 1, 1) := dk_4 (dk_at dksX8_readTest_1 21 rfl rfl)
theorem dX8_readTest_46 : decode cX8_readTest 46 = .ok (.if_icmp .ne 7, 3) := dk_160 0 7 (dk_at dksX8_readTest_2 0 rfl rfl)
theorem dX8_readTest_49 : decode cX8_readTest 49 = .ok (.iconst 1, 1) := dk_4 (dk_at dksX8_readTest_2 3 rfl rfl)
theorem dX8_readTest_50 : decode cX8_readTest 50 = .ok (.goto 4, 3) := dk_167 0 4 (dk_at dksX8_readTest_2 4 rfl rfl)
theorem dX8_readTest_53 : decode cX8_readTest 53 = .ok (.iconst 3, 1) := dk_6 (dk_at dksX8_readTest_2 7 rfl rfl)
theorem dX8_readTest_54 : decode cX8_readTest 54 = .ok (.invokevirtual 257, 3) := dk_182 1 1 (dk_at dksX8_readTest_2 8 rfl rfl)
theorem dX8_readTest_57 : decode cX8_readTest 57 = .ok (.iastore, 1) := dk_79 (dk_at dksX8_readTest_2 11 rfl rfl)
theorem dX8_readTest_58 : decode cX8_readTest 58 = .ok (.iload_n 2, 1) := dk_28 (dk_at dksX8_readTest_2 12 rfl rfl)
theorem dX8_readTest_59 : decode cX8_readTest 59 = .ok (.ifCond .ne 17, 3) := dk_154 0 17 (dk_at dksX8_readTest_2 13 rfl rfl)
theorem dX8_readTest_62 : decode cX8_readTest 62 = .ok (.aload_n 0, 1) := dk_42 (dk_at dksX8_readTest_2 16 rfl rfl)
theorem dX8_readTest_63 : decode cX8_readTest 63 = .ok (.getfield 35, 3) := dk_180 0 35 (dk_at dksX8_readTest_2 17 rfl rfl)
theorem dX8_readTest_66 : decode cX8_readTest 66 = .ok (.iload_n 1, 1) := dk_27 (dk_at dksX8_readTest_2 20 rfl rfl)
theorem dX8_readTest_67 : decode cX8_readTest 67 = .ok (.iconst 2, 1) := dk_5 (dk_at dksX8_readTest_2 21 rfl rfl)
theorem dX8_readTest_68 : decode cX8_readTest 68 = .ok (.iadd, 1) := dk_96 (dk_at dksX8_readTest_2 22 rfl rfl)
theorem dX8_readTest_69 : decode cX8_readTest 69 = .ok (.aload_n 0, 1) := dk_42 (dk_at dksX8_readTest_2 23 rfl rfl)
theorem dX8_readTest_70 : decode cX8_readTest 70 = .ok (.iconst 0, 1) := dk_3 (dk_at dksX8_readTest_3 0 rfl rfl)
theorem dX8_readTest_71 : decode cX8_readTest 71 = .ok (.iconst 1, 1) := dk_4 (dk_at dksX8_readTest_3 1 rfl rfl)
theorem dX8_readTest_72 : decode cX8_readTest 72 = .ok (.invokevirtual 257, 3) := dk_182 1 1 (dk_at dksX8_readTest_3 2 rfl rfl)
theorem dX8_readTest_75 : decode cX8_readTest 75 = .ok (.iastore, 1) := dk_79 (dk_at dksX8_readTest_3 5 rfl rfl)
theorem dX8_readTest_76 : decode cX8_readTest 76 = .ok (.aload_n 0, 1) := dk_42 (dk_at dksX8_readTest_3 6 rfl rfl)
theorem dX8_readTest_77 : decode cX8_readTest 77 = .ok (.getfield 202, 3) := dk_180 0 202 (dk_at dksX8_readTest_3 7 rfl rfl)
theorem dX8_readTest_80 : decode cX8_readTest 80 = .ok (.ifCond .gt 8, 3) := dk_157 0 8 (dk_at dksX8_readTest_3 10 rfl rfl)
theorem dX8_readTest_83 : decode cX8_readTest 83 = .ok (.iload_n 2, 1) := dk_28 (dk_at dksX8_readTest_3 13 rfl rfl)
theorem dX8_readTest_84 : decode cX8_readTest 84 = .ok (.iconst 1, 1) := dk_4 (dk_at dksX8_readTest_3 14 rfl rfl)
theorem dX8_readTest_85 : decode cX8_readTest 85 = .ok (.if_icmp .eq 4, 3) := dk_159 0 4 (dk_at dksX8_readTest_3 15 rfl rfl)
theorem dX8_readTest_88 : decode cX8_readTest 88 = .ok (.return_, 1) := dk_177 (dk_at dksX8_readTest_3 18 rfl rfl)
theorem dX8_readTest_89 : decode cX8_readTest 89 = .ok (.aload_n 0, 1) := dk_42 (dk_at dksX8_readTest_3 19 rfl rfl)
theorem dX8_readTest_90 : decode cX8_readTest 90 = .ok (.getfield 35, 3) := dk_180 0 35 (dk_at dksX8_readTest_3 20 rfl rfl)
theorem dX8_readTest_93 : decode cX8_readTest 93 = .ok (.iload_n 1, 1) := dk_27 (dk_at dksX8_readTest_3 23 rfl rfl)
theorem dX8_readTest_94 : decode cX8_readTest 94 = .ok (.bipush 7, 2) := dk_16 7 (dk_at dksX8_readTest_4 0 rfl rfl)
theorem dX8_readTest_96 : decode cX8_readTest 96 = .ok (.iadd, 1) := dk_96 (dk_at dksX8_readTest_4 2 rfl rfl)
theorem dX8_readTest_97 : decode cX8_readTest 97 = .ok (.aload_n 0, 1) := dk_42 (dk_at dksX8_readTest_4 3 rfl rfl)
theorem dX8_readTest_98 : decode cX8_readTest 98 = .ok (.getfield 125, 3) := dk_180 0 125 (dk_at dksX8_readTest_4 4 rfl rfl)
theorem dX8_readTest_101 : decode cX8_readTest 101 = .ok (.iconst 3, 1) := dk_6 (dk_at dksX8_readTest_4 7 rfl rfl)
theorem dX8_readTest_102 : decode cX8_readTest 102 = .ok (.if_icmp .ne 10, 3) := dk_160 0 10 (dk_at dksX8_readTest_4 8 rfl rfl)
theorem dX8_readTest_105 : decode cX8_readTest 105 = .ok (.aload_n 0, 1) := dk_42 (dk_at dksX8_readTest_4 11 rfl rfl)
theorem dX8_readTest_106 : decode cX8_readTest 106 = .ok (.getfield 144, 3) := dk_180 0 144 (dk_at dksX8_readTest_4 12 rfl rfl)
theorem dX8_readTest_109 : decode cX8_readTest 109 = .ok (.goto 4, 3) := dk_167 0 4 (dk_at dksX8_readTest_4 15 rfl rfl)
theorem dX8_readTest_112 : decode cX8_readTest 112 = .ok (.iconst 0, 1) := dk_3 (dk_at dksX8_readTest_4 18 rfl rfl)
theorem dX8_readTest_113 : decode cX8_readTest 113 = .ok (.iastore, 1) := dk_79 (dk_at dksX8_readTest_4 19 rfl rfl)
theorem dX8_readTest_114 : decode cX8_readTest 114 = .ok (.aload_n 0, 1) := dk_42 (dk_at dksX8_readTest_4 20 rfl rfl)
theorem dX8_readTest_115 : decode cX8_readTest 115 = .ok (.aload_n 0, 1) := dk_42 (dk_at dksX8_readTest_4 21 rfl rfl)
theorem dX8_readTest_116 : decode cX8_readTest 116 = .ok (.bipush 60, 2) := dk_16 60 (dk_at dksX8_readTest_4 22 rfl rfl)
theorem dX8_readTest_118 : decode cX8_readTest 118 = .ok (.invokevirtual 289, 3) := dk_182 1 33 (dk_at dksX8_readTest_5 0 rfl rfl)
theorem dX8_readTest_121 : decode cX8_readTest 121 = .ok (.ifCond .ne 21, 3) := dk_154 0 21 (dk_at dksX8_readTest_5 3 rfl rfl)
theorem dX8_readTest_124 : decode cX8_readTest 124 = .ok (.aload_n 0, 1) := dk_42 (dk_at dksX8_readTest_5 6 rfl rfl)
theorem dX8_readTest_125 : decode cX8_readTest 125 = .ok (.bipush 62, 2) := dk_16 62 (dk_at dksX8_readTest_5 7 rfl rfl)
theorem dX8_readTest_127 : decode cX8_readTest 127 = .ok (.invokevirtual 289, 3) := dk_182 1 33 (dk_at dksX8_readTest_5 9 rfl rfl)
theorem dX8_readTest_130 : decode cX8_readTest 130 = .ok (.ifCond .ne 12, 3) := dk_154 0 12 (dk_at dksX8_readTest_5 12 rfl rfl)
theorem dX8_readTest_133 : decode cX8_readTest 133 = .ok (.aload_n 0, 1) := dk_42 (dk_at dksX8_readTest_5 15 rfl rfl)
theorem dX8_readTest_134 : decode cX8_readTest 134 = .ok (.bipush 61, 2) := dk_16 61 (dk_at dksX8_readTest_5 16 rfl rfl)
theorem dX8_readTest_136 : decode cX8_readTest 136 = .ok (.invokevirtual 289, 3) := dk_182 1 33 (dk_at dksX8_readTest_5 18 rfl rfl)
theorem dX8_readTest_139 : decode cX8_readTest 139 = .ok (.ifCond .eq 7, 3) := dk_153 0 7 (dk_at dksX8_readTest_5 21 rfl rfl)
theorem dX8_readTest_142 : decode cX8_readTest 142 = .ok (.iconst 1, 1) := dk_4 (dk_at dksX8_readTest_6 0 rfl rfl)
theorem dX8_readTest_143 : decode cX8_readTest 143 = .ok (.goto 4, 3) := dk_167 0 4 (dk_at dksX8_readTest_6 1 rfl rfl)
theorem dX8_readTest_146 : decode cX8_readTest 146 = .ok (.iconst 0, 1) := dk_3 (dk_at dksX8_readTest_6 4 rfl rfl)
theorem dX8_readTest_147 : decode cX8_readTest 147 = .ok (.invokevirtual 239, 3) := dk_182 0 239 (dk_at dksX8_readTest_6 5 rfl rfl)
theorem dX8_readTest_150 : decode cX8_readTest 150 = .ok (.aload_n 0, 1) := dk_42 (dk_at dksX8_readTest_6 8 rfl rfl)
theorem dX8_readTest_151 : decode cX8_readTest 151 = .ok (.getfield 35, 3) := dk_180 0 35 (dk_at dksX8_readTest_6 9 rfl rfl)
theorem dX8_readTest_154 : decode cX8_readTest 154 = .ok (.iload_n 1, 1) := dk_27 (dk_at dksX8_readTest_6 12 rfl rfl)
theorem dX8_readTest_155 : decode cX8_readTest 155 = .ok (.bipush 6, 2) := dk_16 6 (dk_at dksX8_readTest_6 13 rfl rfl)
theorem dX8_readTest_157 : decode cX8_readTest 157 = .ok (.iadd, 1) := dk_96 (dk_at dksX8_readTest_6 15 rfl rfl)
theorem dX8_readTest_158 : decode cX8_readTest 158 = .ok (.aload_n 0, 1) := dk_42 (dk_at dksX8_readTest_6 16 rfl rfl)
theorem dX8_readTest_159 : decode cX8_readTest 159 = .ok (.iconst 0, 1) := dk_3 (dk_at dksX8_readTest_6 17 rfl rfl)
theorem dX8_readTest_160 : decode cX8_readTest 160 = .ok (.sipush 9999, 3) := dk_17 39 15 (dk_at dksX8_readTest_6 18 rfl rfl)
theorem dX8_readTest_163 : decode cX8_readTest 163 = .ok (.invokevirtual 247, 3) := dk_182 0 247 (dk_at dksX8_readTest_6 21 rfl rfl)
theorem dX8_readTest_166 : decode cX8_readTest 166 = .ok (.iastore, 1) := dk_79 (dk_at dksX8_readTest_7 0 rfl rfl)
theorem dX8_readTest_167 : decode cX8_readTest 167 = .ok (.return_, 1) := dk_177 (dk_at dksX8_readTest_7 1 rfl rfl)
abbrev cX8_many : ByteArray := prog_14_method_84_code
def yX8_many : MethodName := ⟨RX8, "many", "(I)I"⟩
def dkwX8_many_2 : List UInt8 := [162, 0, 14, 42, 27, 16, 6, 100, 182, 1, 63, 167, 0, 7, 42, 182, 1, 74, 172]
abbrev dktX8_many_2 : List UInt8 := dkwX8_many_2 ++ []
def dkwX8_many_1 : List UInt8 := [182, 1, 71, 172, 27, 16, 6, 162, 0, 12, 42, 180, 0, 35, 27, 46, 167, 0, 24, 27, 16, 9]
abbrev dktX8_many_1 : List UInt8 := dkwX8_many_1 ++ dktX8_many_2
def dkwX8_many_0 : List UInt8 := [42, 3, 181, 0, 70, 42, 3, 181, 0, 73, 27, 133, 9, 20, 1, 69, 184, 0, 105, 154, 0, 9, 42, 8]
abbrev dktX8_many_0 : List UInt8 := dkwX8_many_0 ++ dktX8_many_1
theorem dksX8_many_0 : cX8_many.data.toList.drop 0 = dktX8_many_0 := by decide +kernel
theorem dksX8_many_1 : cX8_many.data.toList.drop 24 = dktX8_many_1 := dk_seg dksX8_many_0 24 rfl rfl
theorem dksX8_many_2 : cX8_many.data.toList.drop 46 = dktX8_many_2 := dk_seg dksX8_many_1 22 rfl rfl
theorem dX8_many_0 : decode cX8_many 0 = .ok (.aload_n 0, 1) := dk_42 (dk_at dksX8_many_0 0 rfl rfl)
theorem dX8_many_1 : decode cX8_many 1 = .ok (.iconst 0, 1) := dk_3 (dk_at dksX8_many_0 1 rfl rfl)
theorem dX8_many_2 : decode cX8_many 2 = .ok (.putfield 70, 3) := dk_181 0 70 (dk_at dksX8_many_0 2 rfl rfl)
theorem dX8_many_5 : decode cX8_many 5 = .ok (.aload_n 0, 1) := dk_42 (dk_at dksX8_many_0 5 rfl rfl)
theorem dX8_many_6 : decode cX8_many 6 = .ok (.iconst 0, 1) := dk_3 (dk_at dksX8_many_0 6 rfl rfl)
theorem dX8_many_7 : decode cX8_many 7 = .ok (.putfield 73, 3) := dk_181 0 73 (dk_at dksX8_many_0 7 rfl rfl)
theorem dX8_many_10 : decode cX8_many 10 = .ok (.iload_n 1, 1) := dk_27 (dk_at dksX8_many_0 10 rfl rfl)
theorem dX8_many_11 : decode cX8_many 11 = .ok (.i2l, 1) := dk_133 (dk_at dksX8_many_0 11 rfl rfl)
theorem dX8_many_12 : decode cX8_many 12 = .ok (.lconst 0, 1) := dk_9 (dk_at dksX8_many_0 12 rfl rfl)
theorem dX8_many_13 : decode cX8_many 13 = .ok (.ldc2_w 325, 3) := dk_20 1 69 (dk_at dksX8_many_0 13 rfl rfl)
theorem dX8_many_16 : decode cX8_many 16 = .ok (.invokestatic 105, 3) := dk_184 0 105 (dk_at dksX8_many_0 16 rfl rfl)
theorem dX8_many_19 : decode cX8_many 19 = .ok (.ifCond .ne 9, 3) := dk_154 0 9 (dk_at dksX8_many_0 19 rfl rfl)
theorem dX8_many_22 : decode cX8_many 22 = .ok (.aload_n 0, 1) := dk_42 (dk_at dksX8_many_0 22 rfl rfl)
theorem dX8_many_23 : decode cX8_many 23 = .ok (.iconst 5, 1) := dk_8 (dk_at dksX8_many_0 23 rfl rfl)
theorem dX8_many_24 : decode cX8_many 24 = .ok (.invokevirtual 327, 3) := dk_182 1 71 (dk_at dksX8_many_1 0 rfl rfl)
theorem dX8_many_27 : decode cX8_many 27 = .ok (.ireturn, 1) := dk_172 (dk_at dksX8_many_1 3 rfl rfl)
theorem dX8_many_28 : decode cX8_many 28 = .ok (.iload_n 1, 1) := dk_27 (dk_at dksX8_many_1 4 rfl rfl)
theorem dX8_many_29 : decode cX8_many 29 = .ok (.bipush 6, 2) := dk_16 6 (dk_at dksX8_many_1 5 rfl rfl)
theorem dX8_many_31 : decode cX8_many 31 = .ok (.if_icmp .ge 12, 3) := dk_162 0 12 (dk_at dksX8_many_1 7 rfl rfl)
theorem dX8_many_34 : decode cX8_many 34 = .ok (.aload_n 0, 1) := dk_42 (dk_at dksX8_many_1 10 rfl rfl)
theorem dX8_many_35 : decode cX8_many 35 = .ok (.getfield 35, 3) := dk_180 0 35 (dk_at dksX8_many_1 11 rfl rfl)
theorem dX8_many_38 : decode cX8_many 38 = .ok (.iload_n 1, 1) := dk_27 (dk_at dksX8_many_1 14 rfl rfl)
theorem dX8_many_39 : decode cX8_many 39 = .ok (.iaload, 1) := dk_46 (dk_at dksX8_many_1 15 rfl rfl)
theorem dX8_many_40 : decode cX8_many 40 = .ok (.goto 24, 3) := dk_167 0 24 (dk_at dksX8_many_1 16 rfl rfl)
theorem dX8_many_43 : decode cX8_many 43 = .ok (.iload_n 1, 1) := dk_27 (dk_at dksX8_many_1 19 rfl rfl)
theorem dX8_many_44 : decode cX8_many 44 = .ok (.bipush 9, 2) := dk_16 9 (dk_at dksX8_many_1 20 rfl rfl)
theorem dX8_many_46 : decode cX8_many 46 = .ok (.if_icmp .ge 14, 3) := dk_162 0 14 (dk_at dksX8_many_2 0 rfl rfl)
theorem dX8_many_49 : decode cX8_many 49 = .ok (.aload_n 0, 1) := dk_42 (dk_at dksX8_many_2 3 rfl rfl)
theorem dX8_many_50 : decode cX8_many 50 = .ok (.iload_n 1, 1) := dk_27 (dk_at dksX8_many_2 4 rfl rfl)
theorem dX8_many_51 : decode cX8_many 51 = .ok (.bipush 6, 2) := dk_16 6 (dk_at dksX8_many_2 5 rfl rfl)
theorem dX8_many_53 : decode cX8_many 53 = .ok (.isub, 1) := dk_100 (dk_at dksX8_many_2 7 rfl rfl)
theorem dX8_many_54 : decode cX8_many 54 = .ok (.invokevirtual 319, 3) := dk_182 1 63 (dk_at dksX8_many_2 8 rfl rfl)
theorem dX8_many_57 : decode cX8_many 57 = .ok (.goto 7, 3) := dk_167 0 7 (dk_at dksX8_many_2 11 rfl rfl)
theorem dX8_many_60 : decode cX8_many 60 = .ok (.aload_n 0, 1) := dk_42 (dk_at dksX8_many_2 14 rfl rfl)
theorem dX8_many_61 : decode cX8_many 61 = .ok (.invokevirtual 330, 3) := dk_182 1 74 (dk_at dksX8_many_2 15 rfl rfl)
theorem dX8_many_64 : decode cX8_many 64 = .ok (.ireturn, 1) := dk_172 (dk_at dksX8_many_2 18 rfl rfl)
abbrev cX8_refuse : ByteArray := prog_14_method_6_code
def yX8_refuse : MethodName := ⟨RX8, "refuse", "(I)I"⟩
def dkwX8_refuse_0 : List UInt8 := [42, 27, 181, 0, 73, 2, 172]
abbrev dktX8_refuse_0 : List UInt8 := dkwX8_refuse_0 ++ []
theorem dksX8_refuse_0 : cX8_refuse.data.toList.drop 0 = dktX8_refuse_0 := by decide +kernel
theorem dX8_refuse_0 : decode cX8_refuse 0 = .ok (.aload_n 0, 1) := dk_42 (dk_at dksX8_refuse_0 0 rfl rfl)
theorem dX8_refuse_1 : decode cX8_refuse 1 = .ok (.iload_n 1, 1) := dk_27 (dk_at dksX8_refuse_0 1 rfl rfl)
theorem dX8_refuse_2 : decode cX8_refuse 2 = .ok (.putfield 73, 3) := dk_181 0 73 (dk_at dksX8_refuse_0 2 rfl rfl)
theorem dX8_refuse_5 : decode cX8_refuse 5 = .ok (.iconst (-1), 1) := dk_2 (dk_at dksX8_refuse_0 5 rfl rfl)
theorem dX8_refuse_6 : decode cX8_refuse 6 = .ok (.ireturn, 1) := dk_172 (dk_at dksX8_refuse_0 6 rfl rfl)
abbrev cX8_tinsThat : ByteArray := prog_14_method_79_code
def yX8_tinsThat : MethodName := ⟨RX8, "tinsThat", "(I)I"⟩
def dkwX8_tinsThat_2 : List UInt8 := [46, 4, 160, 0, 9, 4, 29, 120, 167, 0, 4, 3, 128, 61, 132, 3, 1, 167, 255, 195, 28, 172]
abbrev dktX8_tinsThat_2 : List UInt8 := dkwX8_tinsThat_2 ++ []
def dkwX8_tinsThat_1 : List UInt8 := [153, 0, 35, 167, 0, 26, 42, 180, 0, 35, 27, 4, 160, 0, 8, 16, 60, 167, 0, 5, 16, 51, 29, 96]
abbrev dktX8_tinsThat_1 : List UInt8 := dkwX8_tinsThat_1 ++ dktX8_tinsThat_2
def dkwX8_tinsThat_0 : List UInt8 := [3, 61, 3, 62, 29, 42, 180, 0, 35, 6, 46, 162, 0, 57, 28, 27, 154, 0, 14, 42, 29, 182, 1, 54]
abbrev dktX8_tinsThat_0 : List UInt8 := dkwX8_tinsThat_0 ++ dktX8_tinsThat_1
theorem dksX8_tinsThat_0 : cX8_tinsThat.data.toList.drop 0 = dktX8_tinsThat_0 := by decide +kernel
theorem dksX8_tinsThat_1 : cX8_tinsThat.data.toList.drop 24 = dktX8_tinsThat_1 := dk_seg dksX8_tinsThat_0 24 rfl rfl
theorem dksX8_tinsThat_2 : cX8_tinsThat.data.toList.drop 48 = dktX8_tinsThat_2 := dk_seg dksX8_tinsThat_1 24 rfl rfl
theorem dX8_tinsThat_0 : decode cX8_tinsThat 0 = .ok (.iconst 0, 1) := dk_3 (dk_at dksX8_tinsThat_0 0 rfl rfl)
theorem dX8_tinsThat_1 : decode cX8_tinsThat 1 = .ok (.istore_n 2, 1) := dk_61 (dk_at dksX8_tinsThat_0 1 rfl rfl)
theorem dX8_tinsThat_2 : decode cX8_tinsThat 2 = .ok (.iconst 0, 1) := dk_3 (dk_at dksX8_tinsThat_0 2 rfl rfl)
theorem dX8_tinsThat_3 : decode cX8_tinsThat 3 = .ok (.istore_n 3, 1) := dk_62 (dk_at dksX8_tinsThat_0 3 rfl rfl)
theorem dX8_tinsThat_4 : decode cX8_tinsThat 4 = .ok (.iload_n 3, 1) := dk_29 (dk_at dksX8_tinsThat_0 4 rfl rfl)
theorem dX8_tinsThat_5 : decode cX8_tinsThat 5 = .ok (.aload_n 0, 1) := dk_42 (dk_at dksX8_tinsThat_0 5 rfl rfl)
theorem dX8_tinsThat_6 : decode cX8_tinsThat 6 = .ok (.getfield 35, 3) := dk_180 0 35 (dk_at dksX8_tinsThat_0 6 rfl rfl)
theorem dX8_tinsThat_9 : decode cX8_tinsThat 9 = .ok (.iconst 3, 1) := dk_6 (dk_at dksX8_tinsThat_0 9 rfl rfl)
theorem dX8_tinsThat_10 : decode cX8_tinsThat 10 = .ok (.iaload, 1) := dk_46 (dk_at dksX8_tinsThat_0 10 rfl rfl)
theorem dX8_tinsThat_11 : decode cX8_tinsThat 11 = .ok (.if_icmp .ge 57, 3) := dk_162 0 57 (dk_at dksX8_tinsThat_0 11 rfl rfl)
theorem dX8_tinsThat_14 : decode cX8_tinsThat 14 = .ok (.iload_n 2, 1) := dk_28 (dk_at dksX8_tinsThat_0 14 rfl rfl)
theorem dX8_tinsThat_15 : decode cX8_tinsThat 15 = .ok (.iload_n 1, 1) := dk_27 (dk_at dksX8_tinsThat_0 15 rfl rfl)
theorem dX8_tinsThat_16 : decode cX8_tinsThat 16 = .ok (.ifCond .ne 14, 3) := dk_154 0 14 (dk_at dksX8_tinsThat_0 16 rfl rfl)
theorem dX8_tinsThat_19 : decode cX8_tinsThat 19 = .ok (.aload_n 0, 1) := dk_42 (dk_at dksX8_tinsThat_0 19 rfl rfl)
theorem dX8_tinsThat_20 : decode cX8_tinsThat 20 = .ok (.iload_n 3, 1) := dk_29 (dk_at dksX8_tinsThat_0 20 rfl rfl)
theorem dX8_tinsThat_21 : decode cX8_tinsThat 21 = .ok (.invokevirtual 310, 3) := dk_182 1 54 (dk_at dksX8_tinsThat_0 21 rfl rfl)
theorem dX8_tinsThat_24 : decode cX8_tinsThat 24 = .ok (.ifCond .eq 35, 3) := dk_153 0 35 (dk_at dksX8_tinsThat_1 0 rfl rfl)
theorem dX8_tinsThat_27 : decode cX8_tinsThat 27 = .ok (.goto 26, 3) := dk_167 0 26 (dk_at dksX8_tinsThat_1 3 rfl rfl)
theorem dX8_tinsThat_30 : decode cX8_tinsThat 30 = .ok (.aload_n 0, 1) := dk_42 (dk_at dksX8_tinsThat_1 6 rfl rfl)
theorem dX8_tinsThat_31 : decode cX8_tinsThat 31 = .ok (.getfield 35, 3) := dk_180 0 35 (dk_at dksX8_tinsThat_1 7 rfl rfl)
theorem dX8_tinsThat_34 : decode cX8_tinsThat 34 = .ok (.iload_n 1, 1) := dk_27 (dk_at dksX8_tinsThat_1 10 rfl rfl)
theorem dX8_tinsThat_35 : decode cX8_tinsThat 35 = .ok (.iconst 1, 1) := dk_4 (dk_at dksX8_tinsThat_1 11 rfl rfl)
theorem dX8_tinsThat_36 : decode cX8_tinsThat 36 = .ok (.if_icmp .ne 8, 3) := dk_160 0 8 (dk_at dksX8_tinsThat_1 12 rfl rfl)
theorem dX8_tinsThat_39 : decode cX8_tinsThat 39 = .ok (.bipush 60, 2) := dk_16 60 (dk_at dksX8_tinsThat_1 15 rfl rfl)
theorem dX8_tinsThat_41 : decode cX8_tinsThat 41 = .ok (.goto 5, 3) := dk_167 0 5 (dk_at dksX8_tinsThat_1 17 rfl rfl)
theorem dX8_tinsThat_44 : decode cX8_tinsThat 44 = .ok (.bipush 51, 2) := dk_16 51 (dk_at dksX8_tinsThat_1 20 rfl rfl)
theorem dX8_tinsThat_46 : decode cX8_tinsThat 46 = .ok (.iload_n 3, 1) := dk_29 (dk_at dksX8_tinsThat_1 22 rfl rfl)
theorem dX8_tinsThat_47 : decode cX8_tinsThat 47 = .ok (.iadd, 1) := dk_96 (dk_at dksX8_tinsThat_1 23 rfl rfl)
theorem dX8_tinsThat_48 : decode cX8_tinsThat 48 = .ok (.iaload, 1) := dk_46 (dk_at dksX8_tinsThat_2 0 rfl rfl)
theorem dX8_tinsThat_49 : decode cX8_tinsThat 49 = .ok (.iconst 1, 1) := dk_4 (dk_at dksX8_tinsThat_2 1 rfl rfl)
theorem dX8_tinsThat_50 : decode cX8_tinsThat 50 = .ok (.if_icmp .ne 9, 3) := dk_160 0 9 (dk_at dksX8_tinsThat_2 2 rfl rfl)
theorem dX8_tinsThat_53 : decode cX8_tinsThat 53 = .ok (.iconst 1, 1) := dk_4 (dk_at dksX8_tinsThat_2 5 rfl rfl)
theorem dX8_tinsThat_54 : decode cX8_tinsThat 54 = .ok (.iload_n 3, 1) := dk_29 (dk_at dksX8_tinsThat_2 6 rfl rfl)
theorem dX8_tinsThat_55 : decode cX8_tinsThat 55 = .ok (.ishl, 1) := dk_120 (dk_at dksX8_tinsThat_2 7 rfl rfl)
theorem dX8_tinsThat_56 : decode cX8_tinsThat 56 = .ok (.goto 4, 3) := dk_167 0 4 (dk_at dksX8_tinsThat_2 8 rfl rfl)
theorem dX8_tinsThat_59 : decode cX8_tinsThat 59 = .ok (.iconst 0, 1) := dk_3 (dk_at dksX8_tinsThat_2 11 rfl rfl)
theorem dX8_tinsThat_60 : decode cX8_tinsThat 60 = .ok (.ior, 1) := dk_128 (dk_at dksX8_tinsThat_2 12 rfl rfl)
theorem dX8_tinsThat_61 : decode cX8_tinsThat 61 = .ok (.istore_n 2, 1) := dk_61 (dk_at dksX8_tinsThat_2 13 rfl rfl)
theorem dX8_tinsThat_62 : decode cX8_tinsThat 62 = .ok (.iinc 3 1, 3) := dk_132 3 1 (dk_at dksX8_tinsThat_2 14 rfl rfl)
theorem dX8_tinsThat_65 : decode cX8_tinsThat 65 = .ok (.goto (-61), 3) := dk_167 255 195 (dk_at dksX8_tinsThat_2 17 rfl rfl)
theorem dX8_tinsThat_68 : decode cX8_tinsThat 68 = .ok (.iload_n 2, 1) := dk_28 (dk_at dksX8_tinsThat_2 20 rfl rfl)
theorem dX8_tinsThat_69 : decode cX8_tinsThat 69 = .ok (.ireturn, 1) := dk_172 (dk_at dksX8_tinsThat_2 21 rfl rfl)
abbrev cX8_isGone : ByteArray := prog_14_method_76_code
def yX8_isGone : MethodName := ⟨RX8, "isGone", "(I)Z"⟩
def dkwX8_isGone_0 : List UInt8 := [42, 180, 0, 35, 16, 42, 27, 96, 46, 156, 0, 7, 4, 167, 0, 4, 3, 172]
abbrev dktX8_isGone_0 : List UInt8 := dkwX8_isGone_0 ++ []
theorem dksX8_isGone_0 : cX8_isGone.data.toList.drop 0 = dktX8_isGone_0 := by decide +kernel
theorem dX8_isGone_0 : decode cX8_isGone 0 = .ok (.aload_n 0, 1) := dk_42 (dk_at dksX8_isGone_0 0 rfl rfl)
theorem dX8_isGone_1 : decode cX8_isGone 1 = .ok (.getfield 35, 3) := dk_180 0 35 (dk_at dksX8_isGone_0 1 rfl rfl)
theorem dX8_isGone_4 : decode cX8_isGone 4 = .ok (.bipush 42, 2) := dk_16 42 (dk_at dksX8_isGone_0 4 rfl rfl)
theorem dX8_isGone_6 : decode cX8_isGone 6 = .ok (.iload_n 1, 1) := dk_27 (dk_at dksX8_isGone_0 6 rfl rfl)
theorem dX8_isGone_7 : decode cX8_isGone 7 = .ok (.iadd, 1) := dk_96 (dk_at dksX8_isGone_0 7 rfl rfl)
theorem dX8_isGone_8 : decode cX8_isGone 8 = .ok (.iaload, 1) := dk_46 (dk_at dksX8_isGone_0 8 rfl rfl)
theorem dX8_isGone_9 : decode cX8_isGone 9 = .ok (.ifCond .ge 7, 3) := dk_156 0 7 (dk_at dksX8_isGone_0 9 rfl rfl)
theorem dX8_isGone_12 : decode cX8_isGone 12 = .ok (.iconst 1, 1) := dk_4 (dk_at dksX8_isGone_0 12 rfl rfl)
theorem dX8_isGone_13 : decode cX8_isGone 13 = .ok (.goto 4, 3) := dk_167 0 4 (dk_at dksX8_isGone_0 13 rfl rfl)
theorem dX8_isGone_16 : decode cX8_isGone 16 = .ok (.iconst 0, 1) := dk_3 (dk_at dksX8_isGone_0 16 rfl rfl)
theorem dX8_isGone_17 : decode cX8_isGone 17 = .ok (.ireturn, 1) := dk_172 (dk_at dksX8_isGone_0 17 rfl rfl)
abbrev cX8_allThere : ByteArray := prog_14_method_83_code
def yX8_allThere : MethodName := ⟨RX8, "allThere", "()I"⟩
def dkwX8_allThere_0 : List UInt8 := [42, 42, 182, 1, 60, 42, 3, 182, 1, 63, 2, 130, 126, 182, 1, 66, 172]
abbrev dktX8_allThere_0 : List UInt8 := dkwX8_allThere_0 ++ []
theorem dksX8_allThere_0 : cX8_allThere.data.toList.drop 0 = dktX8_allThere_0 := by decide +kernel
theorem dX8_allThere_0 : decode cX8_allThere 0 = .ok (.aload_n 0, 1) := dk_42 (dk_at dksX8_allThere_0 0 rfl rfl)
theorem dX8_allThere_1 : decode cX8_allThere 1 = .ok (.aload_n 0, 1) := dk_42 (dk_at dksX8_allThere_0 1 rfl rfl)
theorem dX8_allThere_2 : decode cX8_allThere 2 = .ok (.invokevirtual 316, 3) := dk_182 1 60 (dk_at dksX8_allThere_0 2 rfl rfl)
theorem dX8_allThere_5 : decode cX8_allThere 5 = .ok (.aload_n 0, 1) := dk_42 (dk_at dksX8_allThere_0 5 rfl rfl)
theorem dX8_allThere_6 : decode cX8_allThere 6 = .ok (.iconst 0, 1) := dk_3 (dk_at dksX8_allThere_0 6 rfl rfl)
theorem dX8_allThere_7 : decode cX8_allThere 7 = .ok (.invokevirtual 319, 3) := dk_182 1 63 (dk_at dksX8_allThere_0 7 rfl rfl)
theorem dX8_allThere_10 : decode cX8_allThere 10 = .ok (.iconst (-1), 1) := dk_2 (dk_at dksX8_allThere_0 10 rfl rfl)
theorem dX8_allThere_11 : decode cX8_allThere 11 = .ok (.ixor, 1) := dk_130 (dk_at dksX8_allThere_0 11 rfl rfl)
theorem dX8_allThere_12 : decode cX8_allThere 12 = .ok (.iand, 1) := dk_126 (dk_at dksX8_allThere_0 12 rfl rfl)
theorem dX8_allThere_13 : decode cX8_allThere 13 = .ok (.invokevirtual 322, 3) := dk_182 1 66 (dk_at dksX8_allThere_0 13 rfl rfl)
theorem dX8_allThere_16 : decode cX8_allThere 16 = .ok (.ireturn, 1) := dk_172 (dk_at dksX8_allThere_0 16 rfl rfl)
abbrev cX8_allTins : ByteArray := prog_14_method_82_code
def yX8_allTins : MethodName := ⟨RX8, "allTins", "()I"⟩
def dkwX8_allTins_0 : List UInt8 := [4, 42, 180, 0, 35, 6, 46, 120, 4, 100, 172]
abbrev dktX8_allTins_0 : List UInt8 := dkwX8_allTins_0 ++ []
theorem dksX8_allTins_0 : cX8_allTins.data.toList.drop 0 = dktX8_allTins_0 := by decide +kernel
theorem dX8_allTins_0 : decode cX8_allTins 0 = .ok (.iconst 1, 1) := dk_4 (dk_at dksX8_allTins_0 0 rfl rfl)
theorem dX8_allTins_1 : decode cX8_allTins 1 = .ok (.aload_n 0, 1) := dk_42 (dk_at dksX8_allTins_0 1 rfl rfl)
theorem dX8_allTins_2 : decode cX8_allTins 2 = .ok (.getfield 35, 3) := dk_180 0 35 (dk_at dksX8_allTins_0 2 rfl rfl)
theorem dX8_allTins_5 : decode cX8_allTins 5 = .ok (.iconst 3, 1) := dk_6 (dk_at dksX8_allTins_0 5 rfl rfl)
theorem dX8_allTins_6 : decode cX8_allTins 6 = .ok (.iaload, 1) := dk_46 (dk_at dksX8_allTins_0 6 rfl rfl)
theorem dX8_allTins_7 : decode cX8_allTins 7 = .ok (.ishl, 1) := dk_120 (dk_at dksX8_allTins_0 7 rfl rfl)
theorem dX8_allTins_8 : decode cX8_allTins 8 = .ok (.iconst 1, 1) := dk_4 (dk_at dksX8_allTins_0 8 rfl rfl)
theorem dX8_allTins_9 : decode cX8_allTins 9 = .ok (.isub, 1) := dk_100 (dk_at dksX8_allTins_0 9 rfl rfl)
theorem dX8_allTins_10 : decode cX8_allTins 10 = .ok (.ireturn, 1) := dk_172 (dk_at dksX8_allTins_0 10 rfl rfl)
abbrev cX8_worthAll : ByteArray := prog_14_method_81_code
def yX8_worthAll : MethodName := ⟨RX8, "worthAll", "(I)I"⟩
def dkwX8_worthAll_1 : List UInt8 := [29, 182, 1, 57, 167, 0, 4, 3, 96, 61, 132, 3, 1, 167, 255, 223, 28, 172]
abbrev dktX8_worthAll_1 : List UInt8 := dkwX8_worthAll_1 ++ []
def dkwX8_worthAll_0 : List UInt8 := [3, 61, 3, 62, 29, 42, 180, 0, 35, 6, 46, 162, 0, 29, 28, 27, 29, 184, 0, 109, 153, 0, 11, 42]
abbrev dktX8_worthAll_0 : List UInt8 := dkwX8_worthAll_0 ++ dktX8_worthAll_1
theorem dksX8_worthAll_0 : cX8_worthAll.data.toList.drop 0 = dktX8_worthAll_0 := by decide +kernel
theorem dksX8_worthAll_1 : cX8_worthAll.data.toList.drop 24 = dktX8_worthAll_1 := dk_seg dksX8_worthAll_0 24 rfl rfl
theorem dX8_worthAll_0 : decode cX8_worthAll 0 = .ok (.iconst 0, 1) := dk_3 (dk_at dksX8_worthAll_0 0 rfl rfl)
theorem dX8_worthAll_1 : decode cX8_worthAll 1 = .ok (.istore_n 2, 1) := dk_61 (dk_at dksX8_worthAll_0 1 rfl rfl)
theorem dX8_worthAll_2 : decode cX8_worthAll 2 = .ok (.iconst 0, 1) := dk_3 (dk_at dksX8_worthAll_0 2 rfl rfl)
theorem dX8_worthAll_3 : decode cX8_worthAll 3 = .ok (.istore_n 3, 1) := dk_62 (dk_at dksX8_worthAll_0 3 rfl rfl)
theorem dX8_worthAll_4 : decode cX8_worthAll 4 = .ok (.iload_n 3, 1) := dk_29 (dk_at dksX8_worthAll_0 4 rfl rfl)
theorem dX8_worthAll_5 : decode cX8_worthAll 5 = .ok (.aload_n 0, 1) := dk_42 (dk_at dksX8_worthAll_0 5 rfl rfl)
theorem dX8_worthAll_6 : decode cX8_worthAll 6 = .ok (.getfield 35, 3) := dk_180 0 35 (dk_at dksX8_worthAll_0 6 rfl rfl)
theorem dX8_worthAll_9 : decode cX8_worthAll 9 = .ok (.iconst 3, 1) := dk_6 (dk_at dksX8_worthAll_0 9 rfl rfl)
theorem dX8_worthAll_10 : decode cX8_worthAll 10 = .ok (.iaload, 1) := dk_46 (dk_at dksX8_worthAll_0 10 rfl rfl)
theorem dX8_worthAll_11 : decode cX8_worthAll 11 = .ok (.if_icmp .ge 29, 3) := dk_162 0 29 (dk_at dksX8_worthAll_0 11 rfl rfl)
theorem dX8_worthAll_14 : decode cX8_worthAll 14 = .ok (.iload_n 2, 1) := dk_28 (dk_at dksX8_worthAll_0 14 rfl rfl)
theorem dX8_worthAll_15 : decode cX8_worthAll 15 = .ok (.iload_n 1, 1) := dk_27 (dk_at dksX8_worthAll_0 15 rfl rfl)
theorem dX8_worthAll_16 : decode cX8_worthAll 16 = .ok (.iload_n 3, 1) := dk_29 (dk_at dksX8_worthAll_0 16 rfl rfl)
theorem dX8_worthAll_17 : decode cX8_worthAll 17 = .ok (.invokestatic 109, 3) := dk_184 0 109 (dk_at dksX8_worthAll_0 17 rfl rfl)
theorem dX8_worthAll_20 : decode cX8_worthAll 20 = .ok (.ifCond .eq 11, 3) := dk_153 0 11 (dk_at dksX8_worthAll_0 20 rfl rfl)
theorem dX8_worthAll_23 : decode cX8_worthAll 23 = .ok (.aload_n 0, 1) := dk_42 (dk_at dksX8_worthAll_0 23 rfl rfl)
theorem dX8_worthAll_24 : decode cX8_worthAll 24 = .ok (.iload_n 3, 1) := dk_29 (dk_at dksX8_worthAll_1 0 rfl rfl)
theorem dX8_worthAll_25 : decode cX8_worthAll 25 = .ok (.invokevirtual 313, 3) := dk_182 1 57 (dk_at dksX8_worthAll_1 1 rfl rfl)
theorem dX8_worthAll_28 : decode cX8_worthAll 28 = .ok (.goto 4, 3) := dk_167 0 4 (dk_at dksX8_worthAll_1 4 rfl rfl)
theorem dX8_worthAll_31 : decode cX8_worthAll 31 = .ok (.iconst 0, 1) := dk_3 (dk_at dksX8_worthAll_1 7 rfl rfl)
theorem dX8_worthAll_32 : decode cX8_worthAll 32 = .ok (.iadd, 1) := dk_96 (dk_at dksX8_worthAll_1 8 rfl rfl)
theorem dX8_worthAll_33 : decode cX8_worthAll 33 = .ok (.istore_n 2, 1) := dk_61 (dk_at dksX8_worthAll_1 9 rfl rfl)
theorem dX8_worthAll_34 : decode cX8_worthAll 34 = .ok (.iinc 3 1, 3) := dk_132 3 1 (dk_at dksX8_worthAll_1 10 rfl rfl)
theorem dX8_worthAll_37 : decode cX8_worthAll 37 = .ok (.goto (-33), 3) := dk_167 255 223 (dk_at dksX8_worthAll_1 13 rfl rfl)
theorem dX8_worthAll_40 : decode cX8_worthAll 40 = .ok (.iload_n 2, 1) := dk_28 (dk_at dksX8_worthAll_1 16 rfl rfl)
theorem dX8_worthAll_41 : decode cX8_worthAll 41 = .ok (.ireturn, 1) := dk_172 (dk_at dksX8_worthAll_1 17 rfl rfl)
abbrev cX8_worthOf : ByteArray := prog_14_method_77_code
def yX8_worthOf : MethodName := ⟨RX8, "worthOf", "(I)I"⟩
def dkwX8_worthOf_0 : List UInt8 := [42, 180, 0, 35, 16, 6, 42, 180, 0, 35, 16, 33, 27, 96, 46, 96, 46, 172]
abbrev dktX8_worthOf_0 : List UInt8 := dkwX8_worthOf_0 ++ []
theorem dksX8_worthOf_0 : cX8_worthOf.data.toList.drop 0 = dktX8_worthOf_0 := by decide +kernel
theorem dX8_worthOf_0 : decode cX8_worthOf 0 = .ok (.aload_n 0, 1) := dk_42 (dk_at dksX8_worthOf_0 0 rfl rfl)
theorem dX8_worthOf_1 : decode cX8_worthOf 1 = .ok (.getfield 35, 3) := dk_180 0 35 (dk_at dksX8_worthOf_0 1 rfl rfl)
theorem dX8_worthOf_4 : decode cX8_worthOf 4 = .ok (.bipush 6, 2) := dk_16 6 (dk_at dksX8_worthOf_0 4 rfl rfl)
theorem dX8_worthOf_6 : decode cX8_worthOf 6 = .ok (.aload_n 0, 1) := dk_42 (dk_at dksX8_worthOf_0 6 rfl rfl)
theorem dX8_worthOf_7 : decode cX8_worthOf 7 = .ok (.getfield 35, 3) := dk_180 0 35 (dk_at dksX8_worthOf_0 7 rfl rfl)
theorem dX8_worthOf_10 : decode cX8_worthOf 10 = .ok (.bipush 33, 2) := dk_16 33 (dk_at dksX8_worthOf_0 10 rfl rfl)
theorem dX8_worthOf_12 : decode cX8_worthOf 12 = .ok (.iload_n 1, 1) := dk_27 (dk_at dksX8_worthOf_0 12 rfl rfl)
theorem dX8_worthOf_13 : decode cX8_worthOf 13 = .ok (.iadd, 1) := dk_96 (dk_at dksX8_worthOf_0 13 rfl rfl)
theorem dX8_worthOf_14 : decode cX8_worthOf 14 = .ok (.iaload, 1) := dk_46 (dk_at dksX8_worthOf_0 14 rfl rfl)
theorem dX8_worthOf_15 : decode cX8_worthOf 15 = .ok (.iadd, 1) := dk_96 (dk_at dksX8_worthOf_0 15 rfl rfl)
theorem dX8_worthOf_16 : decode cX8_worthOf 16 = .ok (.iaload, 1) := dk_46 (dk_at dksX8_worthOf_0 16 rfl rfl)
theorem dX8_worthOf_17 : decode cX8_worthOf 17 = .ok (.ireturn, 1) := dk_172 (dk_at dksX8_worthOf_0 17 rfl rfl)
abbrev cX8_worth : ByteArray := prog_14_method_85_code
def yX8_worth : MethodName := ⟨RX8, "worth", "(I)I"⟩
def dkwX8_worth_1 : List UInt8 := [27, 96, 46, 167, 0, 8, 42, 5, 182, 1, 71, 172]
abbrev dktX8_worth_1 : List UInt8 := dkwX8_worth_1 ++ []
def dkwX8_worth_0 : List UInt8 := [42, 3, 181, 0, 70, 42, 3, 181, 0, 73, 42, 27, 182, 1, 77, 153, 0, 15, 42, 180, 0, 35, 16, 6]
abbrev dktX8_worth_0 : List UInt8 := dkwX8_worth_0 ++ dktX8_worth_1
theorem dksX8_worth_0 : cX8_worth.data.toList.drop 0 = dktX8_worth_0 := by decide +kernel
theorem dksX8_worth_1 : cX8_worth.data.toList.drop 24 = dktX8_worth_1 := dk_seg dksX8_worth_0 24 rfl rfl
theorem dX8_worth_0 : decode cX8_worth 0 = .ok (.aload_n 0, 1) := dk_42 (dk_at dksX8_worth_0 0 rfl rfl)
theorem dX8_worth_1 : decode cX8_worth 1 = .ok (.iconst 0, 1) := dk_3 (dk_at dksX8_worth_0 1 rfl rfl)
theorem dX8_worth_2 : decode cX8_worth 2 = .ok (.putfield 70, 3) := dk_181 0 70 (dk_at dksX8_worth_0 2 rfl rfl)
theorem dX8_worth_5 : decode cX8_worth 5 = .ok (.aload_n 0, 1) := dk_42 (dk_at dksX8_worth_0 5 rfl rfl)
theorem dX8_worth_6 : decode cX8_worth 6 = .ok (.iconst 0, 1) := dk_3 (dk_at dksX8_worth_0 6 rfl rfl)
theorem dX8_worth_7 : decode cX8_worth 7 = .ok (.putfield 73, 3) := dk_181 0 73 (dk_at dksX8_worth_0 7 rfl rfl)
theorem dX8_worth_10 : decode cX8_worth 10 = .ok (.aload_n 0, 1) := dk_42 (dk_at dksX8_worth_0 10 rfl rfl)
theorem dX8_worth_11 : decode cX8_worth 11 = .ok (.iload_n 1, 1) := dk_27 (dk_at dksX8_worth_0 11 rfl rfl)
theorem dX8_worth_12 : decode cX8_worth 12 = .ok (.invokevirtual 333, 3) := dk_182 1 77 (dk_at dksX8_worth_0 12 rfl rfl)
theorem dX8_worth_15 : decode cX8_worth 15 = .ok (.ifCond .eq 15, 3) := dk_153 0 15 (dk_at dksX8_worth_0 15 rfl rfl)
theorem dX8_worth_18 : decode cX8_worth 18 = .ok (.aload_n 0, 1) := dk_42 (dk_at dksX8_worth_0 18 rfl rfl)
theorem dX8_worth_19 : decode cX8_worth 19 = .ok (.getfield 35, 3) := dk_180 0 35 (dk_at dksX8_worth_0 19 rfl rfl)
theorem dX8_worth_22 : decode cX8_worth 22 = .ok (.bipush 6, 2) := dk_16 6 (dk_at dksX8_worth_0 22 rfl rfl)
theorem dX8_worth_24 : decode cX8_worth 24 = .ok (.iload_n 1, 1) := dk_27 (dk_at dksX8_worth_1 0 rfl rfl)
theorem dX8_worth_25 : decode cX8_worth 25 = .ok (.iadd, 1) := dk_96 (dk_at dksX8_worth_1 1 rfl rfl)
theorem dX8_worth_26 : decode cX8_worth 26 = .ok (.iaload, 1) := dk_46 (dk_at dksX8_worth_1 2 rfl rfl)
theorem dX8_worth_27 : decode cX8_worth 27 = .ok (.goto 8, 3) := dk_167 0 8 (dk_at dksX8_worth_1 3 rfl rfl)
theorem dX8_worth_30 : decode cX8_worth 30 = .ok (.aload_n 0, 1) := dk_42 (dk_at dksX8_worth_1 6 rfl rfl)
theorem dX8_worth_31 : decode cX8_worth 31 = .ok (.iconst 2, 1) := dk_5 (dk_at dksX8_worth_1 7 rfl rfl)
theorem dX8_worth_32 : decode cX8_worth 32 = .ok (.invokevirtual 327, 3) := dk_182 1 71 (dk_at dksX8_worth_1 8 rfl rfl)
theorem dX8_worth_35 : decode cX8_worth 35 = .ok (.ireturn, 1) := dk_172 (dk_at dksX8_worth_1 11 rfl rfl)
abbrev cX8_isTraitAt : ByteArray := prog_14_method_73_code
def yX8_isTraitAt : MethodName := ⟨RX8, "isTraitAt", "(I)Z"⟩
def dkwX8_isTraitAt_0 : List UInt8 := [27, 133, 9, 42, 180, 0, 35, 3, 46, 4, 100, 133, 184, 0, 105, 172]
abbrev dktX8_isTraitAt_0 : List UInt8 := dkwX8_isTraitAt_0 ++ []
theorem dksX8_isTraitAt_0 : cX8_isTraitAt.data.toList.drop 0 = dktX8_isTraitAt_0 := by decide +kernel
theorem dX8_isTraitAt_0 : decode cX8_isTraitAt 0 = .ok (.iload_n 1, 1) := dk_27 (dk_at dksX8_isTraitAt_0 0 rfl rfl)
theorem dX8_isTraitAt_1 : decode cX8_isTraitAt 1 = .ok (.i2l, 1) := dk_133 (dk_at dksX8_isTraitAt_0 1 rfl rfl)
theorem dX8_isTraitAt_2 : decode cX8_isTraitAt 2 = .ok (.lconst 0, 1) := dk_9 (dk_at dksX8_isTraitAt_0 2 rfl rfl)
theorem dX8_isTraitAt_3 : decode cX8_isTraitAt 3 = .ok (.aload_n 0, 1) := dk_42 (dk_at dksX8_isTraitAt_0 3 rfl rfl)
theorem dX8_isTraitAt_4 : decode cX8_isTraitAt 4 = .ok (.getfield 35, 3) := dk_180 0 35 (dk_at dksX8_isTraitAt_0 4 rfl rfl)
theorem dX8_isTraitAt_7 : decode cX8_isTraitAt 7 = .ok (.iconst 0, 1) := dk_3 (dk_at dksX8_isTraitAt_0 7 rfl rfl)
theorem dX8_isTraitAt_8 : decode cX8_isTraitAt 8 = .ok (.iaload, 1) := dk_46 (dk_at dksX8_isTraitAt_0 8 rfl rfl)
theorem dX8_isTraitAt_9 : decode cX8_isTraitAt 9 = .ok (.iconst 1, 1) := dk_4 (dk_at dksX8_isTraitAt_0 9 rfl rfl)
theorem dX8_isTraitAt_10 : decode cX8_isTraitAt 10 = .ok (.isub, 1) := dk_100 (dk_at dksX8_isTraitAt_0 10 rfl rfl)
theorem dX8_isTraitAt_11 : decode cX8_isTraitAt 11 = .ok (.i2l, 1) := dk_133 (dk_at dksX8_isTraitAt_0 11 rfl rfl)
theorem dX8_isTraitAt_12 : decode cX8_isTraitAt 12 = .ok (.invokestatic 105, 3) := dk_184 0 105 (dk_at dksX8_isTraitAt_0 12 rfl rfl)
theorem dX8_isTraitAt_15 : decode cX8_isTraitAt 15 = .ok (.ireturn, 1) := dk_172 (dk_at dksX8_isTraitAt_0 15 rfl rfl)
abbrev cX8_person : ByteArray := prog_14_method_86_code
def yX8_person : MethodName := ⟨RX8, "person", "(II)I"⟩
def dkwX8_person_4 : List UInt8 := [27, 96, 46, 172]
abbrev dktX8_person_4 : List UInt8 := dkwX8_person_4 ++ []
def dkwX8_person_3 : List UInt8 := [180, 0, 35, 28, 154, 0, 8, 16, 12, 167, 0, 15, 28, 4, 160, 0, 8, 16, 19, 167, 0, 5, 16, 26]
abbrev dktX8_person_3 : List UInt8 := dkwX8_person_3 ++ dktX8_person_4
def dkwX8_person_2 : List UInt8 := [42, 27, 182, 1, 85, 172, 28, 7, 160, 0, 13, 42, 42, 27, 182, 1, 85, 182, 1, 66, 172, 42]
abbrev dktX8_person_2 : List UInt8 := dkwX8_person_2 ++ dktX8_person_3
def dkwX8_person_1 : List UInt8 := [172, 28, 133, 9, 20, 1, 83, 184, 0, 105, 154, 0, 9, 42, 8, 182, 1, 71, 172, 28, 5, 160, 0, 9]
abbrev dktX8_person_1 : List UInt8 := dkwX8_person_1 ++ dktX8_person_2
def dkwX8_person_0 : List UInt8 := [42, 3, 181, 0, 70, 42, 3, 181, 0, 73, 42, 27, 133, 182, 1, 80, 154, 0, 9, 42, 5, 182, 1, 71]
abbrev dktX8_person_0 : List UInt8 := dkwX8_person_0 ++ dktX8_person_1
theorem dksX8_person_0 : cX8_person.data.toList.drop 0 = dktX8_person_0 := by decide +kernel
theorem dksX8_person_1 : cX8_person.data.toList.drop 24 = dktX8_person_1 := dk_seg dksX8_person_0 24 rfl rfl
theorem dksX8_person_2 : cX8_person.data.toList.drop 48 = dktX8_person_2 := dk_seg dksX8_person_1 24 rfl rfl
theorem dksX8_person_3 : cX8_person.data.toList.drop 70 = dktX8_person_3 := dk_seg dksX8_person_2 22 rfl rfl
theorem dksX8_person_4 : cX8_person.data.toList.drop 94 = dktX8_person_4 := dk_seg dksX8_person_3 24 rfl rfl
theorem dX8_person_0 : decode cX8_person 0 = .ok (.aload_n 0, 1) := dk_42 (dk_at dksX8_person_0 0 rfl rfl)
theorem dX8_person_1 : decode cX8_person 1 = .ok (.iconst 0, 1) := dk_3 (dk_at dksX8_person_0 1 rfl rfl)
theorem dX8_person_2 : decode cX8_person 2 = .ok (.putfield 70, 3) := dk_181 0 70 (dk_at dksX8_person_0 2 rfl rfl)
theorem dX8_person_5 : decode cX8_person 5 = .ok (.aload_n 0, 1) := dk_42 (dk_at dksX8_person_0 5 rfl rfl)
theorem dX8_person_6 : decode cX8_person 6 = .ok (.iconst 0, 1) := dk_3 (dk_at dksX8_person_0 6 rfl rfl)
theorem dX8_person_7 : decode cX8_person 7 = .ok (.putfield 73, 3) := dk_181 0 73 (dk_at dksX8_person_0 7 rfl rfl)
theorem dX8_person_10 : decode cX8_person 10 = .ok (.aload_n 0, 1) := dk_42 (dk_at dksX8_person_0 10 rfl rfl)
theorem dX8_person_11 : decode cX8_person 11 = .ok (.iload_n 1, 1) := dk_27 (dk_at dksX8_person_0 11 rfl rfl)
theorem dX8_person_12 : decode cX8_person 12 = .ok (.i2l, 1) := dk_133 (dk_at dksX8_person_0 12 rfl rfl)
theorem dX8_person_13 : decode cX8_person 13 = .ok (.invokevirtual 336, 3) := dk_182 1 80 (dk_at dksX8_person_0 13 rfl rfl)
theorem dX8_person_16 : decode cX8_person 16 = .ok (.ifCond .ne 9, 3) := dk_154 0 9 (dk_at dksX8_person_0 16 rfl rfl)
theorem dX8_person_19 : decode cX8_person 19 = .ok (.aload_n 0, 1) := dk_42 (dk_at dksX8_person_0 19 rfl rfl)
theorem dX8_person_20 : decode cX8_person 20 = .ok (.iconst 2, 1) := dk_5 (dk_at dksX8_person_0 20 rfl rfl)
theorem dX8_person_21 : decode cX8_person 21 = .ok (.invokevirtual 327, 3) := dk_182 1 71 (dk_at dksX8_person_0 21 rfl rfl)
theorem dX8_person_24 : decode cX8_person 24 = .ok (.ireturn, 1) := dk_172 (dk_at dksX8_person_1 0 rfl rfl)
theorem dX8_person_25 : decode cX8_person 25 = .ok (.iload_n 2, 1) := dk_28 (dk_at dksX8_person_1 1 rfl rfl)
theorem dX8_person_26 : decode cX8_person 26 = .ok (.i2l, 1) := dk_133 (dk_at dksX8_person_1 2 rfl rfl)
theorem dX8_person_27 : decode cX8_person 27 = .ok (.lconst 0, 1) := dk_9 (dk_at dksX8_person_1 3 rfl rfl)
theorem dX8_person_28 : decode cX8_person 28 = .ok (.ldc2_w 339, 3) := dk_20 1 83 (dk_at dksX8_person_1 4 rfl rfl)
theorem dX8_person_31 : decode cX8_person 31 = .ok (.invokestatic 105, 3) := dk_184 0 105 (dk_at dksX8_person_1 7 rfl rfl)
theorem dX8_person_34 : decode cX8_person 34 = .ok (.ifCond .ne 9, 3) := dk_154 0 9 (dk_at dksX8_person_1 10 rfl rfl)
theorem dX8_person_37 : decode cX8_person 37 = .ok (.aload_n 0, 1) := dk_42 (dk_at dksX8_person_1 13 rfl rfl)
theorem dX8_person_38 : decode cX8_person 38 = .ok (.iconst 5, 1) := dk_8 (dk_at dksX8_person_1 14 rfl rfl)
theorem dX8_person_39 : decode cX8_person 39 = .ok (.invokevirtual 327, 3) := dk_182 1 71 (dk_at dksX8_person_1 15 rfl rfl)
theorem dX8_person_42 : decode cX8_person 42 = .ok (.ireturn, 1) := dk_172 (dk_at dksX8_person_1 18 rfl rfl)
theorem dX8_person_43 : decode cX8_person 43 = .ok (.iload_n 2, 1) := dk_28 (dk_at dksX8_person_1 19 rfl rfl)
theorem dX8_person_44 : decode cX8_person 44 = .ok (.iconst 2, 1) := dk_5 (dk_at dksX8_person_1 20 rfl rfl)
theorem dX8_person_45 : decode cX8_person 45 = .ok (.if_icmp .ne 9, 3) := dk_160 0 9 (dk_at dksX8_person_1 21 rfl rfl)
theorem dX8_person_48 : decode cX8_person 48 = .ok (.aload_n 0, 1) := dk_42 (dk_at dksX8_person_2 0 rfl rfl)
theorem dX8_person_49 : decode cX8_person 49 = .ok (.iload_n 1, 1) := dk_27 (dk_at dksX8_person_2 1 rfl rfl)
theorem dX8_person_50 : decode cX8_person 50 = .ok (.invokevirtual 341, 3) := dk_182 1 85 (dk_at dksX8_person_2 2 rfl rfl)
theorem dX8_person_53 : decode cX8_person 53 = .ok (.ireturn, 1) := dk_172 (dk_at dksX8_person_2 5 rfl rfl)
theorem dX8_person_54 : decode cX8_person 54 = .ok (.iload_n 2, 1) := dk_28 (dk_at dksX8_person_2 6 rfl rfl)
theorem dX8_person_55 : decode cX8_person 55 = .ok (.iconst 4, 1) := dk_7 (dk_at dksX8_person_2 7 rfl rfl)
theorem dX8_person_56 : decode cX8_person 56 = .ok (.if_icmp .ne 13, 3) := dk_160 0 13 (dk_at dksX8_person_2 8 rfl rfl)
theorem dX8_person_59 : decode cX8_person 59 = .ok (.aload_n 0, 1) := dk_42 (dk_at dksX8_person_2 11 rfl rfl)
theorem dX8_person_60 : decode cX8_person 60 = .ok (.aload_n 0, 1) := dk_42 (dk_at dksX8_person_2 12 rfl rfl)
theorem dX8_person_61 : decode cX8_person 61 = .ok (.iload_n 1, 1) := dk_27 (dk_at dksX8_person_2 13 rfl rfl)
theorem dX8_person_62 : decode cX8_person 62 = .ok (.invokevirtual 341, 3) := dk_182 1 85 (dk_at dksX8_person_2 14 rfl rfl)
theorem dX8_person_65 : decode cX8_person 65 = .ok (.invokevirtual 322, 3) := dk_182 1 66 (dk_at dksX8_person_2 17 rfl rfl)
theorem dX8_person_68 : decode cX8_person 68 = .ok (.ireturn, 1) := dk_172 (dk_at dksX8_person_2 20 rfl rfl)
theorem dX8_person_69 : decode cX8_person 69 = .ok (.aload_n 0, 1) := dk_42 (dk_at dksX8_person_2 21 rfl rfl)
theorem dX8_person_70 : decode cX8_person 70 = .ok (.getfield 35, 3) := dk_180 0 35 (dk_at dksX8_person_3 0 rfl rfl)
theorem dX8_person_73 : decode cX8_person 73 = .ok (.iload_n 2, 1) := dk_28 (dk_at dksX8_person_3 3 rfl rfl)
theorem dX8_person_74 : decode cX8_person 74 = .ok (.ifCond .ne 8, 3) := dk_154 0 8 (dk_at dksX8_person_3 4 rfl rfl)
theorem dX8_person_77 : decode cX8_person 77 = .ok (.bipush 12, 2) := dk_16 12 (dk_at dksX8_person_3 7 rfl rfl)
theorem dX8_person_79 : decode cX8_person 79 = .ok (.goto 15, 3) := dk_167 0 15 (dk_at dksX8_person_3 9 rfl rfl)
theorem dX8_person_82 : decode cX8_person 82 = .ok (.iload_n 2, 1) := dk_28 (dk_at dksX8_person_3 12 rfl rfl)
theorem dX8_person_83 : decode cX8_person 83 = .ok (.iconst 1, 1) := dk_4 (dk_at dksX8_person_3 13 rfl rfl)
theorem dX8_person_84 : decode cX8_person 84 = .ok (.if_icmp .ne 8, 3) := dk_160 0 8 (dk_at dksX8_person_3 14 rfl rfl)
theorem dX8_person_87 : decode cX8_person 87 = .ok (.bipush 19, 2) := dk_16 19 (dk_at dksX8_person_3 17 rfl rfl)
theorem dX8_person_89 : decode cX8_person 89 = .ok (.goto 5, 3) := dk_167 0 5 (dk_at dksX8_person_3 19 rfl rfl)
theorem dX8_person_92 : decode cX8_person 92 = .ok (.bipush 26, 2) := dk_16 26 (dk_at dksX8_person_3 22 rfl rfl)
theorem dX8_person_94 : decode cX8_person 94 = .ok (.iload_n 1, 1) := dk_27 (dk_at dksX8_person_4 0 rfl rfl)
theorem dX8_person_95 : decode cX8_person 95 = .ok (.iadd, 1) := dk_96 (dk_at dksX8_person_4 1 rfl rfl)
theorem dX8_person_96 : decode cX8_person 96 = .ok (.iaload, 1) := dk_46 (dk_at dksX8_person_4 2 rfl rfl)
theorem dX8_person_97 : decode cX8_person 97 = .ok (.ireturn, 1) := dk_172 (dk_at dksX8_person_4 3 rfl rfl)
abbrev cX8_isPersonAt : ByteArray := prog_14_method_74_code
def yX8_isPersonAt : MethodName := ⟨RX8, "isPersonAt", "(J)Z"⟩
def dkwX8_isPersonAt_0 : List UInt8 := [31, 9, 42, 180, 0, 35, 4, 46, 4, 100, 133, 184, 0, 105, 172]
abbrev dktX8_isPersonAt_0 : List UInt8 := dkwX8_isPersonAt_0 ++ []
theorem dksX8_isPersonAt_0 : cX8_isPersonAt.data.toList.drop 0 = dktX8_isPersonAt_0 := by decide +kernel
theorem dX8_isPersonAt_0 : decode cX8_isPersonAt 0 = .ok (.lload_n 1, 1) := dk_31 (dk_at dksX8_isPersonAt_0 0 rfl rfl)
theorem dX8_isPersonAt_1 : decode cX8_isPersonAt 1 = .ok (.lconst 0, 1) := dk_9 (dk_at dksX8_isPersonAt_0 1 rfl rfl)
theorem dX8_isPersonAt_2 : decode cX8_isPersonAt 2 = .ok (.aload_n 0, 1) := dk_42 (dk_at dksX8_isPersonAt_0 2 rfl rfl)
theorem dX8_isPersonAt_3 : decode cX8_isPersonAt 3 = .ok (.getfield 35, 3) := dk_180 0 35 (dk_at dksX8_isPersonAt_0 3 rfl rfl)
theorem dX8_isPersonAt_6 : decode cX8_isPersonAt 6 = .ok (.iconst 1, 1) := dk_4 (dk_at dksX8_isPersonAt_0 6 rfl rfl)
theorem dX8_isPersonAt_7 : decode cX8_isPersonAt 7 = .ok (.iaload, 1) := dk_46 (dk_at dksX8_isPersonAt_0 7 rfl rfl)
theorem dX8_isPersonAt_8 : decode cX8_isPersonAt 8 = .ok (.iconst 1, 1) := dk_4 (dk_at dksX8_isPersonAt_0 8 rfl rfl)
theorem dX8_isPersonAt_9 : decode cX8_isPersonAt 9 = .ok (.isub, 1) := dk_100 (dk_at dksX8_isPersonAt_0 9 rfl rfl)
theorem dX8_isPersonAt_10 : decode cX8_isPersonAt 10 = .ok (.i2l, 1) := dk_133 (dk_at dksX8_isPersonAt_0 10 rfl rfl)
theorem dX8_isPersonAt_11 : decode cX8_isPersonAt 11 = .ok (.invokestatic 105, 3) := dk_184 0 105 (dk_at dksX8_isPersonAt_0 11 rfl rfl)
theorem dX8_isPersonAt_14 : decode cX8_isPersonAt 14 = .ok (.ireturn, 1) := dk_172 (dk_at dksX8_isPersonAt_0 14 rfl rfl)
abbrev cX8_tinsOn : ByteArray := prog_14_method_80_code
def yX8_tinsOn : MethodName := ⟨RX8, "tinsOn", "(I)I"⟩
def dkwX8_tinsOn_1 : List UInt8 := [27, 160, 0, 9, 4, 29, 120, 167, 0, 4, 3, 128, 61, 132, 3, 1, 167, 255, 220, 28, 172]
abbrev dktX8_tinsOn_1 : List UInt8 := dkwX8_tinsOn_1 ++ []
def dkwX8_tinsOn_0 : List UInt8 := [3, 61, 3, 62, 29, 42, 180, 0, 35, 6, 46, 162, 0, 32, 28, 42, 180, 0, 35, 16, 42, 29, 96, 46]
abbrev dktX8_tinsOn_0 : List UInt8 := dkwX8_tinsOn_0 ++ dktX8_tinsOn_1
theorem dksX8_tinsOn_0 : cX8_tinsOn.data.toList.drop 0 = dktX8_tinsOn_0 := by decide +kernel
theorem dksX8_tinsOn_1 : cX8_tinsOn.data.toList.drop 24 = dktX8_tinsOn_1 := dk_seg dksX8_tinsOn_0 24 rfl rfl
theorem dX8_tinsOn_0 : decode cX8_tinsOn 0 = .ok (.iconst 0, 1) := dk_3 (dk_at dksX8_tinsOn_0 0 rfl rfl)
theorem dX8_tinsOn_1 : decode cX8_tinsOn 1 = .ok (.istore_n 2, 1) := dk_61 (dk_at dksX8_tinsOn_0 1 rfl rfl)
theorem dX8_tinsOn_2 : decode cX8_tinsOn 2 = .ok (.iconst 0, 1) := dk_3 (dk_at dksX8_tinsOn_0 2 rfl rfl)
theorem dX8_tinsOn_3 : decode cX8_tinsOn 3 = .ok (.istore_n 3, 1) := dk_62 (dk_at dksX8_tinsOn_0 3 rfl rfl)
theorem dX8_tinsOn_4 : decode cX8_tinsOn 4 = .ok (.iload_n 3, 1) := dk_29 (dk_at dksX8_tinsOn_0 4 rfl rfl)
theorem dX8_tinsOn_5 : decode cX8_tinsOn 5 = .ok (.aload_n 0, 1) := dk_42 (dk_at dksX8_tinsOn_0 5 rfl rfl)
theorem dX8_tinsOn_6 : decode cX8_tinsOn 6 = .ok (.getfield 35, 3) := dk_180 0 35 (dk_at dksX8_tinsOn_0 6 rfl rfl)
theorem dX8_tinsOn_9 : decode cX8_tinsOn 9 = .ok (.iconst 3, 1) := dk_6 (dk_at dksX8_tinsOn_0 9 rfl rfl)
theorem dX8_tinsOn_10 : decode cX8_tinsOn 10 = .ok (.iaload, 1) := dk_46 (dk_at dksX8_tinsOn_0 10 rfl rfl)
theorem dX8_tinsOn_11 : decode cX8_tinsOn 11 = .ok (.if_icmp .ge 32, 3) := dk_162 0 32 (dk_at dksX8_tinsOn_0 11 rfl rfl)
theorem dX8_tinsOn_14 : decode cX8_tinsOn 14 = .ok (.iload_n 2, 1) := dk_28 (dk_at dksX8_tinsOn_0 14 rfl rfl)
theorem dX8_tinsOn_15 : decode cX8_tinsOn 15 = .ok (.aload_n 0, 1) := dk_42 (dk_at dksX8_tinsOn_0 15 rfl rfl)
theorem dX8_tinsOn_16 : decode cX8_tinsOn 16 = .ok (.getfield 35, 3) := dk_180 0 35 (dk_at dksX8_tinsOn_0 16 rfl rfl)
theorem dX8_tinsOn_19 : decode cX8_tinsOn 19 = .ok (.bipush 42, 2) := dk_16 42 (dk_at dksX8_tinsOn_0 19 rfl rfl)
theorem dX8_tinsOn_21 : decode cX8_tinsOn 21 = .ok (.iload_n 3, 1) := dk_29 (dk_at dksX8_tinsOn_0 21 rfl rfl)
theorem dX8_tinsOn_22 : decode cX8_tinsOn 22 = .ok (.iadd, 1) := dk_96 (dk_at dksX8_tinsOn_0 22 rfl rfl)
theorem dX8_tinsOn_23 : decode cX8_tinsOn 23 = .ok (.iaload, 1) := dk_46 (dk_at dksX8_tinsOn_0 23 rfl rfl)
theorem dX8_tinsOn_24 : decode cX8_tinsOn 24 = .ok (.iload_n 1, 1) := dk_27 (dk_at dksX8_tinsOn_1 0 rfl rfl)
theorem dX8_tinsOn_25 : decode cX8_tinsOn 25 = .ok (.if_icmp .ne 9, 3) := dk_160 0 9 (dk_at dksX8_tinsOn_1 1 rfl rfl)
theorem dX8_tinsOn_28 : decode cX8_tinsOn 28 = .ok (.iconst 1, 1) := dk_4 (dk_at dksX8_tinsOn_1 4 rfl rfl)
theorem dX8_tinsOn_29 : decode cX8_tinsOn 29 = .ok (.iload_n 3, 1) := dk_29 (dk_at dksX8_tinsOn_1 5 rfl rfl)
theorem dX8_tinsOn_30 : decode cX8_tinsOn 30 = .ok (.ishl, 1) := dk_120 (dk_at dksX8_tinsOn_1 6 rfl rfl)
theorem dX8_tinsOn_31 : decode cX8_tinsOn 31 = .ok (.goto 4, 3) := dk_167 0 4 (dk_at dksX8_tinsOn_1 7 rfl rfl)
theorem dX8_tinsOn_34 : decode cX8_tinsOn 34 = .ok (.iconst 0, 1) := dk_3 (dk_at dksX8_tinsOn_1 10 rfl rfl)
theorem dX8_tinsOn_35 : decode cX8_tinsOn 35 = .ok (.ior, 1) := dk_128 (dk_at dksX8_tinsOn_1 11 rfl rfl)
theorem dX8_tinsOn_36 : decode cX8_tinsOn 36 = .ok (.istore_n 2, 1) := dk_61 (dk_at dksX8_tinsOn_1 12 rfl rfl)
theorem dX8_tinsOn_37 : decode cX8_tinsOn 37 = .ok (.iinc 3 1, 3) := dk_132 3 1 (dk_at dksX8_tinsOn_1 13 rfl rfl)
theorem dX8_tinsOn_40 : decode cX8_tinsOn 40 = .ok (.goto (-36), 3) := dk_167 255 220 (dk_at dksX8_tinsOn_1 16 rfl rfl)
theorem dX8_tinsOn_43 : decode cX8_tinsOn 43 = .ok (.iload_n 2, 1) := dk_28 (dk_at dksX8_tinsOn_1 19 rfl rfl)
theorem dX8_tinsOn_44 : decode cX8_tinsOn 44 = .ok (.ireturn, 1) := dk_172 (dk_at dksX8_tinsOn_1 20 rfl rfl)
abbrev cX8_tin : ByteArray := prog_14_method_87_code
def yX8_tin : MethodName := ⟨RX8, "tin", "(II)I"⟩
def dkwX8_tin_4 : List UInt8 := [167, 0, 15, 28, 6, 160, 0, 8, 16, 69, 167, 0, 5, 16, 78, 27, 96, 46, 172]
abbrev dktX8_tin_4 : List UInt8 := dkwX8_tin_4 ++ []
def dkwX8_tin_3 : List UInt8 := [46, 172, 42, 180, 0, 35, 28, 154, 0, 8, 16, 33, 167, 0, 25, 28, 5, 160, 0, 8, 16, 51]
abbrev dktX8_tin_3 : List UInt8 := dkwX8_tin_3 ++ dktX8_tin_4
def dkwX8_tin_2 : List UInt8 := [27, 182, 1, 54, 153, 0, 12, 42, 16, 8, 182, 1, 71, 167, 0, 12, 42, 180, 0, 35, 16, 42, 27, 96]
abbrev dktX8_tin_2 : List UInt8 := dkwX8_tin_2 ++ dktX8_tin_3
def dkwX8_tin_1 : List UInt8 := [28, 133, 9, 20, 1, 83, 184, 0, 105, 154, 0, 9, 42, 8, 182, 1, 71, 172, 28, 4, 160, 0, 30, 42]
abbrev dktX8_tin_1 : List UInt8 := dkwX8_tin_1 ++ dktX8_tin_2
def dkwX8_tin_0 : List UInt8 := [42, 3, 181, 0, 70, 42, 3, 181, 0, 73, 42, 27, 182, 1, 88, 154, 0, 9, 42, 5, 182, 1, 71, 172]
abbrev dktX8_tin_0 : List UInt8 := dkwX8_tin_0 ++ dktX8_tin_1
theorem dksX8_tin_0 : cX8_tin.data.toList.drop 0 = dktX8_tin_0 := by decide +kernel
theorem dksX8_tin_1 : cX8_tin.data.toList.drop 24 = dktX8_tin_1 := dk_seg dksX8_tin_0 24 rfl rfl
theorem dksX8_tin_2 : cX8_tin.data.toList.drop 48 = dktX8_tin_2 := dk_seg dksX8_tin_1 24 rfl rfl
theorem dksX8_tin_3 : cX8_tin.data.toList.drop 72 = dktX8_tin_3 := dk_seg dksX8_tin_2 24 rfl rfl
theorem dksX8_tin_4 : cX8_tin.data.toList.drop 94 = dktX8_tin_4 := dk_seg dksX8_tin_3 22 rfl rfl
theorem dX8_tin_0 : decode cX8_tin 0 = .ok (.aload_n 0, 1) := dk_42 (dk_at dksX8_tin_0 0 rfl rfl)
theorem dX8_tin_1 : decode cX8_tin 1 = .ok (.iconst 0, 1) := dk_3 (dk_at dksX8_tin_0 1 rfl rfl)
theorem dX8_tin_2 : decode cX8_tin 2 = .ok (.putfield 70, 3) := dk_181 0 70 (dk_at dksX8_tin_0 2 rfl rfl)
theorem dX8_tin_5 : decode cX8_tin 5 = .ok (.aload_n 0, 1) := dk_42 (dk_at dksX8_tin_0 5 rfl rfl)
theorem dX8_tin_6 : decode cX8_tin 6 = .ok (.iconst 0, 1) := dk_3 (dk_at dksX8_tin_0 6 rfl rfl)
theorem dX8_tin_7 : decode cX8_tin 7 = .ok (.putfield 73, 3) := dk_181 0 73 (dk_at dksX8_tin_0 7 rfl rfl)
theorem dX8_tin_10 : decode cX8_tin 10 = .ok (.aload_n 0, 1) := dk_42 (dk_at dksX8_tin_0 10 rfl rfl)
theorem dX8_tin_11 : decode cX8_tin 11 = .ok (.iload_n 1, 1) := dk_27 (dk_at dksX8_tin_0 11 rfl rfl)
theorem dX8_tin_12 : decode cX8_tin 12 = .ok (.invokevirtual 344, 3) := dk_182 1 88 (dk_at dksX8_tin_0 12 rfl rfl)
theorem dX8_tin_15 : decode cX8_tin 15 = .ok (.ifCond .ne 9, 3) := dk_154 0 9 (dk_at dksX8_tin_0 15 rfl rfl)
theorem dX8_tin_18 : decode cX8_tin 18 = .ok (.aload_n 0, 1) := dk_42 (dk_at dksX8_tin_0 18 rfl rfl)
theorem dX8_tin_19 : decode cX8_tin 19 = .ok (.iconst 2, 1) := dk_5 (dk_at dksX8_tin_0 19 rfl rfl)
theorem dX8_tin_20 : decode cX8_tin 20 = .ok (.invokevirtual 327, 3) := dk_182 1 71 (dk_at dksX8_tin_0 20 rfl rfl)
theorem dX8_tin_23 : decode cX8_tin 23 = .ok (.ireturn, 1) := dk_172 (dk_at dksX8_tin_0 23 rfl rfl)
theorem dX8_tin_24 : decode cX8_tin 24 = .ok (.iload_n 2, 1) := dk_28 (dk_at dksX8_tin_1 0 rfl rfl)
theorem dX8_tin_25 : decode cX8_tin 25 = .ok (.i2l, 1) := dk_133 (dk_at dksX8_tin_1 1 rfl rfl)
theorem dX8_tin_26 : decode cX8_tin 26 = .ok (.lconst 0, 1) := dk_9 (dk_at dksX8_tin_1 2 rfl rfl)
theorem dX8_tin_27 : decode cX8_tin 27 = .ok (.ldc2_w 339, 3) := dk_20 1 83 (dk_at dksX8_tin_1 3 rfl rfl)
theorem dX8_tin_30 : decode cX8_tin 30 = .ok (.invokestatic 105, 3) := dk_184 0 105 (dk_at dksX8_tin_1 6 rfl rfl)
theorem dX8_tin_33 : decode cX8_tin 33 = .ok (.ifCond .ne 9, 3) := dk_154 0 9 (dk_at dksX8_tin_1 9 rfl rfl)
theorem dX8_tin_36 : decode cX8_tin 36 = .ok (.aload_n 0, 1) := dk_42 (dk_at dksX8_tin_1 12 rfl rfl)
theorem dX8_tin_37 : decode cX8_tin 37 = .ok (.iconst 5, 1) := dk_8 (dk_at dksX8_tin_1 13 rfl rfl)
theorem dX8_tin_38 : decode cX8_tin 38 = .ok (.invokevirtual 327, 3) := dk_182 1 71 (dk_at dksX8_tin_1 14 rfl rfl)
theorem dX8_tin_41 : decode cX8_tin 41 = .ok (.ireturn, 1) := dk_172 (dk_at dksX8_tin_1 17 rfl rfl)
theorem dX8_tin_42 : decode cX8_tin 42 = .ok (.iload_n 2, 1) := dk_28 (dk_at dksX8_tin_1 18 rfl rfl)
theorem dX8_tin_43 : decode cX8_tin 43 = .ok (.iconst 1, 1) := dk_4 (dk_at dksX8_tin_1 19 rfl rfl)
theorem dX8_tin_44 : decode cX8_tin 44 = .ok (.if_icmp .ne 30, 3) := dk_160 0 30 (dk_at dksX8_tin_1 20 rfl rfl)
theorem dX8_tin_47 : decode cX8_tin 47 = .ok (.aload_n 0, 1) := dk_42 (dk_at dksX8_tin_1 23 rfl rfl)
theorem dX8_tin_48 : decode cX8_tin 48 = .ok (.iload_n 1, 1) := dk_27 (dk_at dksX8_tin_2 0 rfl rfl)
theorem dX8_tin_49 : decode cX8_tin 49 = .ok (.invokevirtual 310, 3) := dk_182 1 54 (dk_at dksX8_tin_2 1 rfl rfl)
theorem dX8_tin_52 : decode cX8_tin 52 = .ok (.ifCond .eq 12, 3) := dk_153 0 12 (dk_at dksX8_tin_2 4 rfl rfl)
theorem dX8_tin_55 : decode cX8_tin 55 = .ok (.aload_n 0, 1) := dk_42 (dk_at dksX8_tin_2 7 rfl rfl)
theorem dX8_tin_56 : decode cX8_tin 56 = .ok (.bipush 8, 2) := dk_16 8 (dk_at dksX8_tin_2 8 rfl rfl)
theorem dX8_tin_58 : decode cX8_tin 58 = .ok (.invokevirtual 327, 3) := dk_182 1 71 (dk_at dksX8_tin_2 10 rfl rfl)
theorem dX8_tin_61 : decode cX8_tin 61 = .ok (.goto 12, 3) := dk_167 0 12 (dk_at dksX8_tin_2 13 rfl rfl)
theorem dX8_tin_64 : decode cX8_tin 64 = .ok (.aload_n 0, 1) := dk_42 (dk_at dksX8_tin_2 16 rfl rfl)
theorem dX8_tin_65 : decode cX8_tin 65 = .ok (.getfield 35, 3) := dk_180 0 35 (dk_at dksX8_tin_2 17 rfl rfl)
theorem dX8_tin_68 : decode cX8_tin 68 = .ok (.bipush 42, 2) := dk_16 42 (dk_at dksX8_tin_2 20 rfl rfl)
theorem dX8_tin_70 : decode cX8_tin 70 = .ok (.iload_n 1, 1) := dk_27 (dk_at dksX8_tin_2 22 rfl rfl)
theorem dX8_tin_71 : decode cX8_tin 71 = .ok (.iadd, 1) := dk_96 (dk_at dksX8_tin_2 23 rfl rfl)
theorem dX8_tin_72 : decode cX8_tin 72 = .ok (.iaload, 1) := dk_46 (dk_at dksX8_tin_3 0 rfl rfl)
theorem dX8_tin_73 : decode cX8_tin 73 = .ok (.ireturn, 1) := dk_172 (dk_at dksX8_tin_3 1 rfl rfl)
theorem dX8_tin_74 : decode cX8_tin 74 = .ok (.aload_n 0, 1) := dk_42 (dk_at dksX8_tin_3 2 rfl rfl)
theorem dX8_tin_75 : decode cX8_tin 75 = .ok (.getfield 35, 3) := dk_180 0 35 (dk_at dksX8_tin_3 3 rfl rfl)
theorem dX8_tin_78 : decode cX8_tin 78 = .ok (.iload_n 2, 1) := dk_28 (dk_at dksX8_tin_3 6 rfl rfl)
theorem dX8_tin_79 : decode cX8_tin 79 = .ok (.ifCond .ne 8, 3) := dk_154 0 8 (dk_at dksX8_tin_3 7 rfl rfl)
theorem dX8_tin_82 : decode cX8_tin 82 = .ok (.bipush 33, 2) := dk_16 33 (dk_at dksX8_tin_3 10 rfl rfl)
theorem dX8_tin_84 : decode cX8_tin 84 = .ok (.goto 25, 3) := dk_167 0 25 (dk_at dksX8_tin_3 12 rfl rfl)
theorem dX8_tin_87 : decode cX8_tin 87 = .ok (.iload_n 2, 1) := dk_28 (dk_at dksX8_tin_3 15 rfl rfl)
theorem dX8_tin_88 : decode cX8_tin 88 = .ok (.iconst 2, 1) := dk_5 (dk_at dksX8_tin_3 16 rfl rfl)
theorem dX8_tin_89 : decode cX8_tin 89 = .ok (.if_icmp .ne 8, 3) := dk_160 0 8 (dk_at dksX8_tin_3 17 rfl rfl)
theorem dX8_tin_92 : decode cX8_tin 92 = .ok (.bipush 51, 2) := dk_16 51 (dk_at dksX8_tin_3 20 rfl rfl)
theorem dX8_tin_94 : decode cX8_tin 94 = .ok (.goto 15, 3) := dk_167 0 15 (dk_at dksX8_tin_4 0 rfl rfl)
theorem dX8_tin_97 : decode cX8_tin 97 = .ok (.iload_n 2, 1) := dk_28 (dk_at dksX8_tin_4 3 rfl rfl)
theorem dX8_tin_98 : decode cX8_tin 98 = .ok (.iconst 3, 1) := dk_6 (dk_at dksX8_tin_4 4 rfl rfl)
theorem dX8_tin_99 : decode cX8_tin 99 = .ok (.if_icmp .ne 8, 3) := dk_160 0 8 (dk_at dksX8_tin_4 5 rfl rfl)
theorem dX8_tin_102 : decode cX8_tin 102 = .ok (.bipush 69, 2) := dk_16 69 (dk_at dksX8_tin_4 8 rfl rfl)
theorem dX8_tin_104 : decode cX8_tin 104 = .ok (.goto 5, 3) := dk_167 0 5 (dk_at dksX8_tin_4 10 rfl rfl)
theorem dX8_tin_107 : decode cX8_tin 107 = .ok (.bipush 78, 2) := dk_16 78 (dk_at dksX8_tin_4 13 rfl rfl)
theorem dX8_tin_109 : decode cX8_tin 109 = .ok (.iload_n 1, 1) := dk_27 (dk_at dksX8_tin_4 15 rfl rfl)
theorem dX8_tin_110 : decode cX8_tin 110 = .ok (.iadd, 1) := dk_96 (dk_at dksX8_tin_4 16 rfl rfl)
theorem dX8_tin_111 : decode cX8_tin 111 = .ok (.iaload, 1) := dk_46 (dk_at dksX8_tin_4 17 rfl rfl)
theorem dX8_tin_112 : decode cX8_tin 112 = .ok (.ireturn, 1) := dk_172 (dk_at dksX8_tin_4 18 rfl rfl)
abbrev cX8_isTinAt : ByteArray := prog_14_method_75_code
def yX8_isTinAt : MethodName := ⟨RX8, "isTinAt", "(I)Z"⟩
def dkwX8_isTinAt_0 : List UInt8 := [27, 133, 9, 42, 180, 0, 35, 6, 46, 4, 100, 133, 184, 0, 105, 172]
abbrev dktX8_isTinAt_0 : List UInt8 := dkwX8_isTinAt_0 ++ []
theorem dksX8_isTinAt_0 : cX8_isTinAt.data.toList.drop 0 = dktX8_isTinAt_0 := by decide +kernel
theorem dX8_isTinAt_0 : decode cX8_isTinAt 0 = .ok (.iload_n 1, 1) := dk_27 (dk_at dksX8_isTinAt_0 0 rfl rfl)
theorem dX8_isTinAt_1 : decode cX8_isTinAt 1 = .ok (.i2l, 1) := dk_133 (dk_at dksX8_isTinAt_0 1 rfl rfl)
theorem dX8_isTinAt_2 : decode cX8_isTinAt 2 = .ok (.lconst 0, 1) := dk_9 (dk_at dksX8_isTinAt_0 2 rfl rfl)
theorem dX8_isTinAt_3 : decode cX8_isTinAt 3 = .ok (.aload_n 0, 1) := dk_42 (dk_at dksX8_isTinAt_0 3 rfl rfl)
theorem dX8_isTinAt_4 : decode cX8_isTinAt 4 = .ok (.getfield 35, 3) := dk_180 0 35 (dk_at dksX8_isTinAt_0 4 rfl rfl)
theorem dX8_isTinAt_7 : decode cX8_isTinAt 7 = .ok (.iconst 3, 1) := dk_6 (dk_at dksX8_isTinAt_0 7 rfl rfl)
theorem dX8_isTinAt_8 : decode cX8_isTinAt 8 = .ok (.iaload, 1) := dk_46 (dk_at dksX8_isTinAt_0 8 rfl rfl)
theorem dX8_isTinAt_9 : decode cX8_isTinAt 9 = .ok (.iconst 1, 1) := dk_4 (dk_at dksX8_isTinAt_0 9 rfl rfl)
theorem dX8_isTinAt_10 : decode cX8_isTinAt 10 = .ok (.isub, 1) := dk_100 (dk_at dksX8_isTinAt_0 10 rfl rfl)
theorem dX8_isTinAt_11 : decode cX8_isTinAt 11 = .ok (.i2l, 1) := dk_133 (dk_at dksX8_isTinAt_0 11 rfl rfl)
theorem dX8_isTinAt_12 : decode cX8_isTinAt 12 = .ok (.invokestatic 105, 3) := dk_184 0 105 (dk_at dksX8_isTinAt_0 12 rfl rfl)
theorem dX8_isTinAt_15 : decode cX8_isTinAt 15 = .ok (.ireturn, 1) := dk_172 (dk_at dksX8_isTinAt_0 15 rfl rfl)
abbrev cX8_copyGot : ByteArray := prog_14_method_88_code
def yX8_copyGot : MethodName := ⟨RX8, "copyGot", "(I)I"⟩
def dkwX8_copyGot_4 : List UInt8 := [167, 255, 226, 42, 180, 0, 35, 4, 46, 172]
abbrev dktX8_copyGot_4 : List UInt8 := dkwX8_copyGot_4 ++ []
def dkwX8_copyGot_3 : List UInt8 := [162, 0, 26, 42, 27, 28, 42, 180, 0, 35, 16, 26, 28, 96, 46, 133, 182, 1, 94, 87, 132, 2, 1]
abbrev dktX8_copyGot_3 : List UInt8 := dkwX8_copyGot_3 ++ dktX8_copyGot_4
def dkwX8_copyGot_2 : List UInt8 := [180, 0, 35, 4, 46, 162, 0, 9, 42, 7, 182, 1, 71, 172, 3, 61, 28, 42, 180, 0, 35, 4, 46]
abbrev dktX8_copyGot_2 : List UInt8 := dkwX8_copyGot_2 ++ dktX8_copyGot_3
def dkwX8_copyGot_1 : List UInt8 := [42, 180, 0, 17, 27, 46, 156, 0, 9, 42, 6, 182, 1, 71, 172, 42, 180, 0, 17, 27, 46, 42]
abbrev dktX8_copyGot_1 : List UInt8 := dkwX8_copyGot_1 ++ dktX8_copyGot_2
def dkwX8_copyGot_0 : List UInt8 := [42, 3, 181, 0, 70, 42, 3, 181, 0, 73, 42, 27, 182, 1, 91, 154, 0, 9, 42, 4, 182, 1, 71, 172]
abbrev dktX8_copyGot_0 : List UInt8 := dkwX8_copyGot_0 ++ dktX8_copyGot_1
theorem dksX8_copyGot_0 : cX8_copyGot.data.toList.drop 0 = dktX8_copyGot_0 := by decide +kernel
theorem dksX8_copyGot_1 : cX8_copyGot.data.toList.drop 24 = dktX8_copyGot_1 := dk_seg dksX8_copyGot_0 24 rfl rfl
theorem dksX8_copyGot_2 : cX8_copyGot.data.toList.drop 46 = dktX8_copyGot_2 := dk_seg dksX8_copyGot_1 22 rfl rfl
theorem dksX8_copyGot_3 : cX8_copyGot.data.toList.drop 69 = dktX8_copyGot_3 := dk_seg dksX8_copyGot_2 23 rfl rfl
theorem dksX8_copyGot_4 : cX8_copyGot.data.toList.drop 92 = dktX8_copyGot_4 := dk_seg dksX8_copyGot_3 23 rfl rfl
theorem dX8_copyGot_0 : decode cX8_copyGot 0 = .ok (.aload_n 0, 1) := dk_42 (dk_at dksX8_copyGot_0 0 rfl rfl)
theorem dX8_copyGot_1 : decode cX8_copyGot 1 = .ok (.iconst 0, 1) := dk_3 (dk_at dksX8_copyGot_0 1 rfl rfl)
theorem dX8_copyGot_2 : decode cX8_copyGot 2 = .ok (.putfield 70, 3) := dk_181 0 70 (dk_at dksX8_copyGot_0 2 rfl rfl)
theorem dX8_copyGot_5 : decode cX8_copyGot 5 = .ok (.aload_n 0, 1) := dk_42 (dk_at dksX8_copyGot_0 5 rfl rfl)
theorem dX8_copyGot_6 : decode cX8_copyGot 6 = .ok (.iconst 0, 1) := dk_3 (dk_at dksX8_copyGot_0 6 rfl rfl)
theorem dX8_copyGot_7 : decode cX8_copyGot 7 = .ok (.putfield 73, 3) := dk_181 0 73 (dk_at dksX8_copyGot_0 7 rfl rfl)
theorem dX8_copyGot_10 : decode cX8_copyGot 10 = .ok (.aload_n 0, 1) := dk_42 (dk_at dksX8_copyGot_0 10 rfl rfl)
theorem dX8_copyGot_11 : decode cX8_copyGot 11 = .ok (.iload_n 1, 1) := dk_27 (dk_at dksX8_copyGot_0 11 rfl rfl)
theorem dX8_copyGot_12 : decode cX8_copyGot 12 = .ok (.invokevirtual 347, 3) := dk_182 1 91 (dk_at dksX8_copyGot_0 12 rfl rfl)
theorem dX8_copyGot_15 : decode cX8_copyGot 15 = .ok (.ifCond .ne 9, 3) := dk_154 0 9 (dk_at dksX8_copyGot_0 15 rfl rfl)
theorem dX8_copyGot_18 : decode cX8_copyGot 18 = .ok (.aload_n 0, 1) := dk_42 (dk_at dksX8_copyGot_0 18 rfl rfl)
theorem dX8_copyGot_19 : decode cX8_copyGot 19 = .ok (.iconst 1, 1) := dk_4 (dk_at dksX8_copyGot_0 19 rfl rfl)
theorem dX8_copyGot_20 : decode cX8_copyGot 20 = .ok (.invokevirtual 327, 3) := dk_182 1 71 (dk_at dksX8_copyGot_0 20 rfl rfl)
theorem dX8_copyGot_23 : decode cX8_copyGot 23 = .ok (.ireturn, 1) := dk_172 (dk_at dksX8_copyGot_0 23 rfl rfl)
theorem dX8_copyGot_24 : decode cX8_copyGot 24 = .ok (.aload_n 0, 1) := dk_42 (dk_at dksX8_copyGot_1 0 rfl rfl)
theorem dX8_copyGot_25 : decode cX8_copyGot 25 = .ok (.getfield 17, 3) := dk_180 0 17 (dk_at dksX8_copyGot_1 1 rfl rfl)
theorem dX8_copyGot_28 : decode cX8_copyGot 28 = .ok (.iload_n 1, 1) := dk_27 (dk_at dksX8_copyGot_1 4 rfl rfl)
theorem dX8_copyGot_29 : decode cX8_copyGot 29 = .ok (.iaload, 1) := dk_46 (dk_at dksX8_copyGot_1 5 rfl rfl)
theorem dX8_copyGot_30 : decode cX8_copyGot 30 = .ok (.ifCond .ge 9, 3) := dk_156 0 9 (dk_at dksX8_copyGot_1 6 rfl rfl)
theorem dX8_copyGot_33 : decode cX8_copyGot 33 = .ok (.aload_n 0, 1) := dk_42 (dk_at dksX8_copyGot_1 9 rfl rfl)
theorem dX8_copyGot_34 : decode cX8_copyGot 34 = .ok (.iconst 3, 1) := dk_6 (dk_at dksX8_copyGot_1 10 rfl rfl)
theorem dX8_copyGot_35 : decode cX8_copyGot 35 = .ok (.invokevirtual 327, 3) := dk_182 1 71 (dk_at dksX8_copyGot_1 11 rfl rfl)
theorem dX8_copyGot_38 : decode cX8_copyGot 38 = .ok (.ireturn, 1) := dk_172 (dk_at dksX8_copyGot_1 14 rfl rfl)
theorem dX8_copyGot_39 : decode cX8_copyGot 39 = .ok (.aload_n 0, 1) := dk_42 (dk_at dksX8_copyGot_1 15 rfl rfl)
theorem dX8_copyGot_40 : decode cX8_copyGot 40 = .ok (.getfield 17, 3) := dk_180 0 17 (dk_at dksX8_copyGot_1 16 rfl rfl)
theorem dX8_copyGot_43 : decode cX8_copyGot 43 = .ok (.iload_n 1, 1) := dk_27 (dk_at dksX8_copyGot_1 19 rfl rfl)
theorem dX8_copyGot_44 : decode cX8_copyGot 44 = .ok (.iaload, 1) := dk_46 (dk_at dksX8_copyGot_1 20 rfl rfl)
theorem dX8_copyGot_45 : decode cX8_copyGot 45 = .ok (.aload_n 0, 1) := dk_42 (dk_at dksX8_copyGot_1 21 rfl rfl)
theorem dX8_copyGot_46 : decode cX8_copyGot 46 = .ok (.getfield 35, 3) := dk_180 0 35 (dk_at dksX8_copyGot_2 0 rfl rfl)
theorem dX8_copyGot_49 : decode cX8_copyGot 49 = .ok (.iconst 1, 1) := dk_4 (dk_at dksX8_copyGot_2 3 rfl rfl)
theorem dX8_copyGot_50 : decode cX8_copyGot 50 = .ok (.iaload, 1) := dk_46 (dk_at dksX8_copyGot_2 4 rfl rfl)
theorem dX8_copyGot_51 : decode cX8_copyGot 51 = .ok (.if_icmp .ge 9, 3) := dk_162 0 9 (dk_at dksX8_copyGot_2 5 rfl rfl)
theorem dX8_copyGot_54 : decode cX8_copyGot 54 = .ok (.aload_n 0, 1) := dk_42 (dk_at dksX8_copyGot_2 8 rfl rfl)
theorem dX8_copyGot_55 : decode cX8_copyGot 55 = .ok (.iconst 4, 1) := dk_7 (dk_at dksX8_copyGot_2 9 rfl rfl)
theorem dX8_copyGot_56 : decode cX8_copyGot 56 = .ok (.invokevirtual 327, 3) := dk_182 1 71 (dk_at dksX8_copyGot_2 10 rfl rfl)
theorem dX8_copyGot_59 : decode cX8_copyGot 59 = .ok (.ireturn, 1) := dk_172 (dk_at dksX8_copyGot_2 13 rfl rfl)
theorem dX8_copyGot_60 : decode cX8_copyGot 60 = .ok (.iconst 0, 1) := dk_3 (dk_at dksX8_copyGot_2 14 rfl rfl)
theorem dX8_copyGot_61 : decode cX8_copyGot 61 = .ok (.istore_n 2, 1) := dk_61 (dk_at dksX8_copyGot_2 15 rfl rfl)
theorem dX8_copyGot_62 : decode cX8_copyGot 62 = .ok (.iload_n 2, 1) := dk_28 (dk_at dksX8_copyGot_2 16 rfl rfl)
theorem dX8_copyGot_63 : decode cX8_copyGot 63 = .ok (.aload_n 0, 1) := dk_42 (dk_at dksX8_copyGot_2 17 rfl rfl)
theorem dX8_copyGot_64 : decode cX8_copyGot 64 = .ok (.getfield 35, 3) := dk_180 0 35 (dk_at dksX8_copyGot_2 18 rfl rfl)
theorem dX8_copyGot_67 : decode cX8_copyGot 67 = .ok (.iconst 1, 1) := dk_4 (dk_at dksX8_copyGot_2 21 rfl rfl)
theorem dX8_copyGot_68 : decode cX8_copyGot 68 = .ok (.iaload, 1) := dk_46 (dk_at dksX8_copyGot_2 22 rfl rfl)
theorem dX8_copyGot_69 : decode cX8_copyGot 69 = .ok (.if_icmp .ge 26, 3) := dk_162 0 26 (dk_at dksX8_copyGot_3 0 rfl rfl)
theorem dX8_copyGot_72 : decode cX8_copyGot 72 = .ok (.aload_n 0, 1) := dk_42 (dk_at dksX8_copyGot_3 3 rfl rfl)
theorem dX8_copyGot_73 : decode cX8_copyGot 73 = .ok (.iload_n 1, 1) := dk_27 (dk_at dksX8_copyGot_3 4 rfl rfl)
theorem dX8_copyGot_74 : decode cX8_copyGot 74 = .ok (.iload_n 2, 1) := dk_28 (dk_at dksX8_copyGot_3 5 rfl rfl)
theorem dX8_copyGot_75 : decode cX8_copyGot 75 = .ok (.aload_n 0, 1) := dk_42 (dk_at dksX8_copyGot_3 6 rfl rfl)
theorem dX8_copyGot_76 : decode cX8_copyGot 76 = .ok (.getfield 35, 3) := dk_180 0 35 (dk_at dksX8_copyGot_3 7 rfl rfl)
theorem dX8_copyGot_79 : decode cX8_copyGot 79 = .ok (.bipush 26, 2) := dk_16 26 (dk_at dksX8_copyGot_3 10 rfl rfl)
theorem dX8_copyGot_81 : decode cX8_copyGot 81 = .ok (.iload_n 2, 1) := dk_28 (dk_at dksX8_copyGot_3 12 rfl rfl)
theorem dX8_copyGot_82 : decode cX8_copyGot 82 = .ok (.iadd, 1) := dk_96 (dk_at dksX8_copyGot_3 13 rfl rfl)
theorem dX8_copyGot_83 : decode cX8_copyGot 83 = .ok (.iaload, 1) := dk_46 (dk_at dksX8_copyGot_3 14 rfl rfl)
theorem dX8_copyGot_84 : decode cX8_copyGot 84 = .ok (.i2l, 1) := dk_133 (dk_at dksX8_copyGot_3 15 rfl rfl)
theorem dX8_copyGot_85 : decode cX8_copyGot 85 = .ok (.invokevirtual 350, 3) := dk_182 1 94 (dk_at dksX8_copyGot_3 16 rfl rfl)
theorem dX8_copyGot_88 : decode cX8_copyGot 88 = .ok (.pop, 1) := dk_87 (dk_at dksX8_copyGot_3 19 rfl rfl)
theorem dX8_copyGot_89 : decode cX8_copyGot 89 = .ok (.iinc 2 1, 3) := dk_132 2 1 (dk_at dksX8_copyGot_3 20 rfl rfl)
theorem dX8_copyGot_92 : decode cX8_copyGot 92 = .ok (.goto (-30), 3) := dk_167 255 226 (dk_at dksX8_copyGot_4 0 rfl rfl)
theorem dX8_copyGot_95 : decode cX8_copyGot 95 = .ok (.aload_n 0, 1) := dk_42 (dk_at dksX8_copyGot_4 3 rfl rfl)
theorem dX8_copyGot_96 : decode cX8_copyGot 96 = .ok (.getfield 35, 3) := dk_180 0 35 (dk_at dksX8_copyGot_4 4 rfl rfl)
theorem dX8_copyGot_99 : decode cX8_copyGot 99 = .ok (.iconst 1, 1) := dk_4 (dk_at dksX8_copyGot_4 7 rfl rfl)
theorem dX8_copyGot_100 : decode cX8_copyGot 100 = .ok (.iaload, 1) := dk_46 (dk_at dksX8_copyGot_4 8 rfl rfl)
theorem dX8_copyGot_101 : decode cX8_copyGot 101 = .ok (.ireturn, 1) := dk_172 (dk_at dksX8_copyGot_4 9 rfl rfl)
abbrev cX8_isTray : ByteArray := prog_14_method_18_code
def yX8_isTray : MethodName := ⟨RX8, "isTray", "(I)Z"⟩
def dkwX8_isTray_0 : List UInt8 := [27, 133, 9, 20, 0, 103, 184, 0, 105, 172]
abbrev dktX8_isTray_0 : List UInt8 := dkwX8_isTray_0 ++ []
theorem dksX8_isTray_0 : cX8_isTray.data.toList.drop 0 = dktX8_isTray_0 := by decide +kernel
theorem dX8_isTray_0 : decode cX8_isTray 0 = .ok (.iload_n 1, 1) := dk_27 (dk_at dksX8_isTray_0 0 rfl rfl)
theorem dX8_isTray_1 : decode cX8_isTray 1 = .ok (.i2l, 1) := dk_133 (dk_at dksX8_isTray_0 1 rfl rfl)
theorem dX8_isTray_2 : decode cX8_isTray 2 = .ok (.lconst 0, 1) := dk_9 (dk_at dksX8_isTray_0 2 rfl rfl)
theorem dX8_isTray_3 : decode cX8_isTray 3 = .ok (.ldc2_w 103, 3) := dk_20 0 103 (dk_at dksX8_isTray_0 3 rfl rfl)
theorem dX8_isTray_6 : decode cX8_isTray 6 = .ok (.invokestatic 105, 3) := dk_184 0 105 (dk_at dksX8_isTray_0 6 rfl rfl)
theorem dX8_isTray_9 : decode cX8_isTray 9 = .ok (.ireturn, 1) := dk_172 (dk_at dksX8_isTray_0 9 rfl rfl)
abbrev cX8_pass : ByteArray := prog_14_method_91_code
def yX8_pass : MethodName := ⟨RX8, "pass", "(II)I"⟩
def dkwX8_pass_3 : List UInt8 := [172]
abbrev dktX8_pass_3 : List UInt8 := dkwX8_pass_3 ++ []
def dkwX8_pass_2 : List UInt8 := [182, 1, 104, 153, 0, 15, 42, 180, 0, 35, 16, 26, 29, 96, 46, 167, 0, 9, 42, 16, 9, 182, 1, 71]
abbrev dktX8_pass_2 : List UInt8 := dkwX8_pass_2 ++ dktX8_pass_3
def dkwX8_pass_1 : List UInt8 := [154, 0, 9, 42, 5, 182, 1, 71, 172, 42, 180, 0, 35, 16, 42, 27, 96, 46, 62, 42, 27, 28]
abbrev dktX8_pass_1 : List UInt8 := dkwX8_pass_1 ++ dktX8_pass_2
def dkwX8_pass_0 : List UInt8 := [42, 3, 181, 0, 70, 42, 3, 181, 0, 73, 42, 27, 182, 1, 88, 153, 0, 12, 42, 28, 133, 182, 1, 80]
abbrev dktX8_pass_0 : List UInt8 := dkwX8_pass_0 ++ dktX8_pass_1
theorem dksX8_pass_0 : cX8_pass.data.toList.drop 0 = dktX8_pass_0 := by decide +kernel
theorem dksX8_pass_1 : cX8_pass.data.toList.drop 24 = dktX8_pass_1 := dk_seg dksX8_pass_0 24 rfl rfl
theorem dksX8_pass_2 : cX8_pass.data.toList.drop 46 = dktX8_pass_2 := dk_seg dksX8_pass_1 22 rfl rfl
theorem dksX8_pass_3 : cX8_pass.data.toList.drop 70 = dktX8_pass_3 := dk_seg dksX8_pass_2 24 rfl rfl
theorem dX8_pass_0 : decode cX8_pass 0 = .ok (.aload_n 0, 1) := dk_42 (dk_at dksX8_pass_0 0 rfl rfl)
theorem dX8_pass_1 : decode cX8_pass 1 = .ok (.iconst 0, 1) := dk_3 (dk_at dksX8_pass_0 1 rfl rfl)
theorem dX8_pass_2 : decode cX8_pass 2 = .ok (.putfield 70, 3) := dk_181 0 70 (dk_at dksX8_pass_0 2 rfl rfl)
theorem dX8_pass_5 : decode cX8_pass 5 = .ok (.aload_n 0, 1) := dk_42 (dk_at dksX8_pass_0 5 rfl rfl)
theorem dX8_pass_6 : decode cX8_pass 6 = .ok (.iconst 0, 1) := dk_3 (dk_at dksX8_pass_0 6 rfl rfl)
theorem dX8_pass_7 : decode cX8_pass 7 = .ok (.putfield 73, 3) := dk_181 0 73 (dk_at dksX8_pass_0 7 rfl rfl)
theorem dX8_pass_10 : decode cX8_pass 10 = .ok (.aload_n 0, 1) := dk_42 (dk_at dksX8_pass_0 10 rfl rfl)
theorem dX8_pass_11 : decode cX8_pass 11 = .ok (.iload_n 1, 1) := dk_27 (dk_at dksX8_pass_0 11 rfl rfl)
theorem dX8_pass_12 : decode cX8_pass 12 = .ok (.invokevirtual 344, 3) := dk_182 1 88 (dk_at dksX8_pass_0 12 rfl rfl)
theorem dX8_pass_15 : decode cX8_pass 15 = .ok (.ifCond .eq 12, 3) := dk_153 0 12 (dk_at dksX8_pass_0 15 rfl rfl)
theorem dX8_pass_18 : decode cX8_pass 18 = .ok (.aload_n 0, 1) := dk_42 (dk_at dksX8_pass_0 18 rfl rfl)
theorem dX8_pass_19 : decode cX8_pass 19 = .ok (.iload_n 2, 1) := dk_28 (dk_at dksX8_pass_0 19 rfl rfl)
theorem dX8_pass_20 : decode cX8_pass 20 = .ok (.i2l, 1) := dk_133 (dk_at dksX8_pass_0 20 rfl rfl)
theorem dX8_pass_21 : decode cX8_pass 21 = .ok (.invokevirtual 336, 3) := dk_182 1 80 (dk_at dksX8_pass_0 21 rfl rfl)
theorem dX8_pass_24 : decode cX8_pass 24 = .ok (.ifCond .ne 9, 3) := dk_154 0 9 (dk_at dksX8_pass_1 0 rfl rfl)
theorem dX8_pass_27 : decode cX8_pass 27 = .ok (.aload_n 0, 1) := dk_42 (dk_at dksX8_pass_1 3 rfl rfl)
theorem dX8_pass_28 : decode cX8_pass 28 = .ok (.iconst 2, 1) := dk_5 (dk_at dksX8_pass_1 4 rfl rfl)
theorem dX8_pass_29 : decode cX8_pass 29 = .ok (.invokevirtual 327, 3) := dk_182 1 71 (dk_at dksX8_pass_1 5 rfl rfl)
theorem dX8_pass_32 : decode cX8_pass 32 = .ok (.ireturn, 1) := dk_172 (dk_at dksX8_pass_1 8 rfl rfl)
theorem dX8_pass_33 : decode cX8_pass 33 = .ok (.aload_n 0, 1) := dk_42 (dk_at dksX8_pass_1 9 rfl rfl)
theorem dX8_pass_34 : decode cX8_pass 34 = .ok (.getfield 35, 3) := dk_180 0 35 (dk_at dksX8_pass_1 10 rfl rfl)
theorem dX8_pass_37 : decode cX8_pass 37 = .ok (.bipush 42, 2) := dk_16 42 (dk_at dksX8_pass_1 13 rfl rfl)
theorem dX8_pass_39 : decode cX8_pass 39 = .ok (.iload_n 1, 1) := dk_27 (dk_at dksX8_pass_1 15 rfl rfl)
theorem dX8_pass_40 : decode cX8_pass 40 = .ok (.iadd, 1) := dk_96 (dk_at dksX8_pass_1 16 rfl rfl)
theorem dX8_pass_41 : decode cX8_pass 41 = .ok (.iaload, 1) := dk_46 (dk_at dksX8_pass_1 17 rfl rfl)
theorem dX8_pass_42 : decode cX8_pass 42 = .ok (.istore_n 3, 1) := dk_62 (dk_at dksX8_pass_1 18 rfl rfl)
theorem dX8_pass_43 : decode cX8_pass 43 = .ok (.aload_n 0, 1) := dk_42 (dk_at dksX8_pass_1 19 rfl rfl)
theorem dX8_pass_44 : decode cX8_pass 44 = .ok (.iload_n 1, 1) := dk_27 (dk_at dksX8_pass_1 20 rfl rfl)
theorem dX8_pass_45 : decode cX8_pass 45 = .ok (.iload_n 2, 1) := dk_28 (dk_at dksX8_pass_1 21 rfl rfl)
theorem dX8_pass_46 : decode cX8_pass 46 = .ok (.invokevirtual 360, 3) := dk_182 1 104 (dk_at dksX8_pass_2 0 rfl rfl)
theorem dX8_pass_49 : decode cX8_pass 49 = .ok (.ifCond .eq 15, 3) := dk_153 0 15 (dk_at dksX8_pass_2 3 rfl rfl)
theorem dX8_pass_52 : decode cX8_pass 52 = .ok (.aload_n 0, 1) := dk_42 (dk_at dksX8_pass_2 6 rfl rfl)
theorem dX8_pass_53 : decode cX8_pass 53 = .ok (.getfield 35, 3) := dk_180 0 35 (dk_at dksX8_pass_2 7 rfl rfl)
theorem dX8_pass_56 : decode cX8_pass 56 = .ok (.bipush 26, 2) := dk_16 26 (dk_at dksX8_pass_2 10 rfl rfl)
theorem dX8_pass_58 : decode cX8_pass 58 = .ok (.iload_n 3, 1) := dk_29 (dk_at dksX8_pass_2 12 rfl rfl)
theorem dX8_pass_59 : decode cX8_pass 59 = .ok (.iadd, 1) := dk_96 (dk_at dksX8_pass_2 13 rfl rfl)
theorem dX8_pass_60 : decode cX8_pass 60 = .ok (.iaload, 1) := dk_46 (dk_at dksX8_pass_2 14 rfl rfl)
theorem dX8_pass_61 : decode cX8_pass 61 = .ok (.goto 9, 3) := dk_167 0 9 (dk_at dksX8_pass_2 15 rfl rfl)
theorem dX8_pass_64 : decode cX8_pass 64 = .ok (.aload_n 0, 1) := dk_42 (dk_at dksX8_pass_2 18 rfl rfl)
theorem dX8_pass_65 : decode cX8_pass 65 = .ok (.bipush 9, 2) := dk_16 9 (dk_at dksX8_pass_2 19 rfl rfl)
theorem dX8_pass_67 : decode cX8_pass 67 = .ok (.invokevirtual 327, 3) := dk_182 1 71 (dk_at dksX8_pass_2 21 rfl rfl)
theorem dX8_pass_70 : decode cX8_pass 70 = .ok (.ireturn, 1) := dk_172 (dk_at dksX8_pass_3 0 rfl rfl)
abbrev cX8_passes : ByteArray := prog_14_method_90_code
def yX8_passes : MethodName := ⟨RX8, "passes", "(II)Z"⟩
def dkwX8_passes_4 : List UInt8 := [172]
abbrev dktX8_passes_4 : List UInt8 := dkwX8_passes_4 ++ []
def dkwX8_passes_3 : List UInt8 := [42, 180, 0, 35, 16, 78, 27, 96, 92, 46, 4, 96, 79, 42, 180, 0, 35, 8, 92, 46, 4, 96, 79, 4]
abbrev dktX8_passes_3 : List UInt8 := dkwX8_passes_3 ++ dktX8_passes_4
def dkwX8_passes_2 : List UInt8 := [180, 0, 35, 16, 42, 27, 96, 28, 79, 42, 180, 0, 35, 16, 69, 27, 96, 92, 46, 4, 28, 120, 128, 79]
abbrev dktX8_passes_2 : List UInt8 := dkwX8_passes_2 ++ dktX8_passes_3
def dkwX8_passes_1 : List UInt8 := [154, 0, 5, 3, 172, 42, 180, 0, 35, 16, 26, 29, 96, 92, 46, 42, 27, 182, 1, 57, 96, 79, 42]
abbrev dktX8_passes_1 : List UInt8 := dkwX8_passes_1 ++ dktX8_passes_2
def dkwX8_passes_0 : List UInt8 := [42, 180, 0, 35, 16, 42, 27, 96, 46, 62, 29, 155, 0, 16, 42, 27, 29, 182, 1, 101, 28, 184, 0, 109]
abbrev dktX8_passes_0 : List UInt8 := dkwX8_passes_0 ++ dktX8_passes_1
theorem dksX8_passes_0 : cX8_passes.data.toList.drop 0 = dktX8_passes_0 := by decide +kernel
theorem dksX8_passes_1 : cX8_passes.data.toList.drop 24 = dktX8_passes_1 := dk_seg dksX8_passes_0 24 rfl rfl
theorem dksX8_passes_2 : cX8_passes.data.toList.drop 47 = dktX8_passes_2 := dk_seg dksX8_passes_1 23 rfl rfl
theorem dksX8_passes_3 : cX8_passes.data.toList.drop 71 = dktX8_passes_3 := dk_seg dksX8_passes_2 24 rfl rfl
theorem dksX8_passes_4 : cX8_passes.data.toList.drop 95 = dktX8_passes_4 := dk_seg dksX8_passes_3 24 rfl rfl
theorem dX8_passes_0 : decode cX8_passes 0 = .ok (.aload_n 0, 1) := dk_42 (dk_at dksX8_passes_0 0 rfl rfl)
theorem dX8_passes_1 : decode cX8_passes 1 = .ok (.getfield 35, 3) := dk_180 0 35 (dk_at dksX8_passes_0 1 rfl rfl)
theorem dX8_passes_4 : decode cX8_passes 4 = .ok (.bipush 42, 2) := dk_16 42 (dk_at dksX8_passes_0 4 rfl rfl)
theorem dX8_passes_6 : decode cX8_passes 6 = .ok (.iload_n 1, 1) := dk_27 (dk_at dksX8_passes_0 6 rfl rfl)
theorem dX8_passes_7 : decode cX8_passes 7 = .ok (.iadd, 1) := dk_96 (dk_at dksX8_passes_0 7 rfl rfl)
theorem dX8_passes_8 : decode cX8_passes 8 = .ok (.iaload, 1) := dk_46 (dk_at dksX8_passes_0 8 rfl rfl)
theorem dX8_passes_9 : decode cX8_passes 9 = .ok (.istore_n 3, 1) := dk_62 (dk_at dksX8_passes_0 9 rfl rfl)
theorem dX8_passes_10 : decode cX8_passes 10 = .ok (.iload_n 3, 1) := dk_29 (dk_at dksX8_passes_0 10 rfl rfl)
theorem dX8_passes_11 : decode cX8_passes 11 = .ok (.ifCond .lt 16, 3) := dk_155 0 16 (dk_at dksX8_passes_0 11 rfl rfl)
theorem dX8_passes_14 : decode cX8_passes 14 = .ok (.aload_n 0, 1) := dk_42 (dk_at dksX8_passes_0 14 rfl rfl)
theorem dX8_passes_15 : decode cX8_passes 15 = .ok (.iload_n 1, 1) := dk_27 (dk_at dksX8_passes_0 15 rfl rfl)
theorem dX8_passes_16 : decode cX8_passes 16 = .ok (.iload_n 3, 1) := dk_29 (dk_at dksX8_passes_0 16 rfl rfl)
theorem dX8_passes_17 : decode cX8_passes 17 = .ok (.invokevirtual 357, 3) := dk_182 1 101 (dk_at dksX8_passes_0 17 rfl rfl)
theorem dX8_passes_20 : decode cX8_passes 20 = .ok (.iload_n 2, 1) := dk_28 (dk_at dksX8_passes_0 20 rfl rfl)
theorem dX8_passes_21 : decode cX8_passes 21 = .ok (.invokestatic 109, 3) := dk_184 0 109 (dk_at dksX8_passes_0 21 rfl rfl)
theorem dX8_passes_24 : decode cX8_passes 24 = .ok (.ifCond .ne 5, 3) := dk_154 0 5 (dk_at dksX8_passes_1 0 rfl rfl)
theorem dX8_passes_27 : decode cX8_passes 27 = .ok (.iconst 0, 1) := dk_3 (dk_at dksX8_passes_1 3 rfl rfl)
theorem dX8_passes_28 : decode cX8_passes 28 = .ok (.ireturn, 1) := dk_172 (dk_at dksX8_passes_1 4 rfl rfl)
theorem dX8_passes_29 : decode cX8_passes 29 = .ok (.aload_n 0, 1) := dk_42 (dk_at dksX8_passes_1 5 rfl rfl)
theorem dX8_passes_30 : decode cX8_passes 30 = .ok (.getfield 35, 3) := dk_180 0 35 (dk_at dksX8_passes_1 6 rfl rfl)
theorem dX8_passes_33 : decode cX8_passes 33 = .ok (.bipush 26, 2) := dk_16 26 (dk_at dksX8_passes_1 9 rfl rfl)
theorem dX8_passes_35 : decode cX8_passes 35 = .ok (.iload_n 3, 1) := dk_29 (dk_at dksX8_passes_1 11 rfl rfl)
theorem dX8_passes_36 : decode cX8_passes 36 = .ok (.iadd, 1) := dk_96 (dk_at dksX8_passes_1 12 rfl rfl)
theorem dX8_passes_37 : decode cX8_passes 37 = .ok (.dup2, 1) := dk_92 (dk_at dksX8_passes_1 13 rfl rfl)
theorem dX8_passes_38 : decode cX8_passes 38 = .ok (.iaload, 1) := dk_46 (dk_at dksX8_passes_1 14 rfl rfl)
theorem dX8_passes_39 : decode cX8_passes 39 = .ok (.aload_n 0, 1) := dk_42 (dk_at dksX8_passes_1 15 rfl rfl)
theorem dX8_passes_40 : decode cX8_passes 40 = .ok (.iload_n 1, 1) := dk_27 (dk_at dksX8_passes_1 16 rfl rfl)
theorem dX8_passes_41 : decode cX8_passes 41 = .ok (.invokevirtual 313, 3) := dk_182 1 57 (dk_at dksX8_passes_1 17 rfl rfl)
theorem dX8_passes_44 : decode cX8_passes 44 = .ok (.iadd, 1) := dk_96 (dk_at dksX8_passes_1 20 rfl rfl)
theorem dX8_passes_45 : decode cX8_passes 45 = .ok (.iastore, 1) := dk_79 (dk_at dksX8_passes_1 21 rfl rfl)
theorem dX8_passes_46 : decode cX8_passes 46 = .ok (.aload_n 0, 1) := dk_42 (dk_at dksX8_passes_1 22 rfl rfl)
theorem dX8_passes_47 : decode cX8_passes 47 = .ok (.getfield 35, 3) := dk_180 0 35 (dk_at dksX8_passes_2 0 rfl rfl)
theorem dX8_passes_50 : decode cX8_passes 50 = .ok (.bipush 42, 2) := dk_16 42 (dk_at dksX8_passes_2 3 rfl rfl)
theorem dX8_passes_52 : decode cX8_passes 52 = .ok (.iload_n 1, 1) := dk_27 (dk_at dksX8_passes_2 5 rfl rfl)
theorem dX8_passes_53 : decode cX8_passes 53 = .ok (.iadd, 1) := dk_96 (dk_at dksX8_passes_2 6 rfl rfl)
theorem dX8_passes_54 : decode cX8_passes 54 = .ok (.iload_n 2, 1) := dk_28 (dk_at dksX8_passes_2 7 rfl rfl)
theorem dX8_passes_55 : decode cX8_passes 55 = .ok (.iastore, 1) := dk_79 (dk_at dksX8_passes_2 8 rfl rfl)
theorem dX8_passes_56 : decode cX8_passes 56 = .ok (.aload_n 0, 1) := dk_42 (dk_at dksX8_passes_2 9 rfl rfl)
theorem dX8_passes_57 : decode cX8_passes 57 = .ok (.getfield 35, 3) := dk_180 0 35 (dk_at dksX8_passes_2 10 rfl rfl)
theorem dX8_passes_60 : decode cX8_passes 60 = .ok (.bipush 69, 2) := dk_16 69 (dk_at dksX8_passes_2 13 rfl rfl)
theorem dX8_passes_62 : decode cX8_passes 62 = .ok (.iload_n 1, 1) := dk_27 (dk_at dksX8_passes_2 15 rfl rfl)
theorem dX8_passes_63 : decode cX8_passes 63 = .ok (.iadd, 1) := dk_96 (dk_at dksX8_passes_2 16 rfl rfl)
theorem dX8_passes_64 : decode cX8_passes 64 = .ok (.dup2, 1) := dk_92 (dk_at dksX8_passes_2 17 rfl rfl)
theorem dX8_passes_65 : decode cX8_passes 65 = .ok (.iaload, 1) := dk_46 (dk_at dksX8_passes_2 18 rfl rfl)
theorem dX8_passes_66 : decode cX8_passes 66 = .ok (.iconst 1, 1) := dk_4 (dk_at dksX8_passes_2 19 rfl rfl)
theorem dX8_passes_67 : decode cX8_passes 67 = .ok (.iload_n 2, 1) := dk_28 (dk_at dksX8_passes_2 20 rfl rfl)
theorem dX8_passes_68 : decode cX8_passes 68 = .ok (.ishl, 1) := dk_120 (dk_at dksX8_passes_2 21 rfl rfl)
theorem dX8_passes_69 : decode cX8_passes 69 = .ok (.ior, 1) := dk_128 (dk_at dksX8_passes_2 22 rfl rfl)
theorem dX8_passes_70 : decode cX8_passes 70 = .ok (.iastore, 1) := dk_79 (dk_at dksX8_passes_2 23 rfl rfl)
theorem dX8_passes_71 : decode cX8_passes 71 = .ok (.aload_n 0, 1) := dk_42 (dk_at dksX8_passes_3 0 rfl rfl)
theorem dX8_passes_72 : decode cX8_passes 72 = .ok (.getfield 35, 3) := dk_180 0 35 (dk_at dksX8_passes_3 1 rfl rfl)
theorem dX8_passes_75 : decode cX8_passes 75 = .ok (.bipush 78, 2) := dk_16 78 (dk_at dksX8_passes_3 4 rfl rfl)
theorem dX8_passes_77 : decode cX8_passes 77 = .ok (.iload_n 1, 1) := dk_27 (dk_at dksX8_passes_3 6 rfl rfl)
theorem dX8_passes_78 : decode cX8_passes 78 = .ok (.iadd, 1) := dk_96 (dk_at dksX8_passes_3 7 rfl rfl)
theorem dX8_passes_79 : decode cX8_passes 79 = .ok (.dup2, 1) := dk_92 (dk_at dksX8_passes_3 8 rfl rfl)
theorem dX8_passes_80 : decode cX8_passes 80 = .ok (.iaload, 1) := dk_46 (dk_at dksX8_passes_3 9 rfl rfl)
theorem dX8_passes_81 : decode cX8_passes 81 = .ok (.iconst 1, 1) := dk_4 (dk_at dksX8_passes_3 10 rfl rfl)
theorem dX8_passes_82 : decode cX8_passes 82 = .ok (.iadd, 1) := dk_96 (dk_at dksX8_passes_3 11 rfl rfl)
theorem dX8_passes_83 : decode cX8_passes 83 = .ok (.iastore, 1) := dk_79 (dk_at dksX8_passes_3 12 rfl rfl)
theorem dX8_passes_84 : decode cX8_passes 84 = .ok (.aload_n 0, 1) := dk_42 (dk_at dksX8_passes_3 13 rfl rfl)
theorem dX8_passes_85 : decode cX8_passes 85 = .ok (.getfield 35, 3) := dk_180 0 35 (dk_at dksX8_passes_3 14 rfl rfl)
theorem dX8_passes_88 : decode cX8_passes 88 = .ok (.iconst 5, 1) := dk_8 (dk_at dksX8_passes_3 17 rfl rfl)
theorem dX8_passes_89 : decode cX8_passes 89 = .ok (.dup2, 1) := dk_92 (dk_at dksX8_passes_3 18 rfl rfl)
theorem dX8_passes_90 : decode cX8_passes 90 = .ok (.iaload, 1) := dk_46 (dk_at dksX8_passes_3 19 rfl rfl)
theorem dX8_passes_91 : decode cX8_passes 91 = .ok (.iconst 1, 1) := dk_4 (dk_at dksX8_passes_3 20 rfl rfl)
theorem dX8_passes_92 : decode cX8_passes 92 = .ok (.iadd, 1) := dk_96 (dk_at dksX8_passes_3 21 rfl rfl)
theorem dX8_passes_93 : decode cX8_passes 93 = .ok (.iastore, 1) := dk_79 (dk_at dksX8_passes_3 22 rfl rfl)
theorem dX8_passes_94 : decode cX8_passes 94 = .ok (.iconst 1, 1) := dk_4 (dk_at dksX8_passes_3 23 rfl rfl)
theorem dX8_passes_95 : decode cX8_passes 95 = .ok (.ireturn, 1) := dk_172 (dk_at dksX8_passes_4 0 rfl rfl)
abbrev cX8_nextOf : ByteArray := prog_14_method_89_code
def yX8_nextOf : MethodName := ⟨RX8, "nextOf", "(II)I"⟩
def dkwX8_nextOf_2 : List UInt8 := [167, 0, 4, 3, 128, 62, 132, 4, 1, 167, 255, 204, 29, 172]
abbrev dktX8_nextOf_2 : List UInt8 := dkwX8_nextOf_2 ++ []
def dkwX8_nextOf_1 : List UInt8 := [96, 46, 21, 4, 184, 0, 109, 153, 0, 20, 42, 27, 21, 4, 182, 1, 98, 153, 0, 10, 4, 21, 4, 120]
abbrev dktX8_nextOf_1 : List UInt8 := dkwX8_nextOf_1 ++ dktX8_nextOf_2
def dkwX8_nextOf_0 : List UInt8 := [3, 62, 3, 54, 4, 21, 4, 42, 180, 0, 35, 4, 46, 162, 0, 47, 29, 42, 180, 0, 35, 16, 19, 28]
abbrev dktX8_nextOf_0 : List UInt8 := dkwX8_nextOf_0 ++ dktX8_nextOf_1
theorem dksX8_nextOf_0 : cX8_nextOf.data.toList.drop 0 = dktX8_nextOf_0 := by decide +kernel
theorem dksX8_nextOf_1 : cX8_nextOf.data.toList.drop 24 = dktX8_nextOf_1 := dk_seg dksX8_nextOf_0 24 rfl rfl
theorem dksX8_nextOf_2 : cX8_nextOf.data.toList.drop 48 = dktX8_nextOf_2 := dk_seg dksX8_nextOf_1 24 rfl rfl
theorem dX8_nextOf_0 : decode cX8_nextOf 0 = .ok (.iconst 0, 1) := dk_3 (dk_at dksX8_nextOf_0 0 rfl rfl)
theorem dX8_nextOf_1 : decode cX8_nextOf 1 = .ok (.istore_n 3, 1) := dk_62 (dk_at dksX8_nextOf_0 1 rfl rfl)
theorem dX8_nextOf_2 : decode cX8_nextOf 2 = .ok (.iconst 0, 1) := dk_3 (dk_at dksX8_nextOf_0 2 rfl rfl)
theorem dX8_nextOf_3 : decode cX8_nextOf 3 = .ok (.istore 4, 2) := dk_54 4 (dk_at dksX8_nextOf_0 3 rfl rfl)
theorem dX8_nextOf_5 : decode cX8_nextOf 5 = .ok (.iload 4, 2) := dk_21 4 (dk_at dksX8_nextOf_0 5 rfl rfl)
theorem dX8_nextOf_7 : decode cX8_nextOf 7 = .ok (.aload_n 0, 1) := dk_42 (dk_at dksX8_nextOf_0 7 rfl rfl)
theorem dX8_nextOf_8 : decode cX8_nextOf 8 = .ok (.getfield 35, 3) := dk_180 0 35 (dk_at dksX8_nextOf_0 8 rfl rfl)
theorem dX8_nextOf_11 : decode cX8_nextOf 11 = .ok (.iconst 1, 1) := dk_4 (dk_at dksX8_nextOf_0 11 rfl rfl)
theorem dX8_nextOf_12 : decode cX8_nextOf 12 = .ok (.iaload, 1) := dk_46 (dk_at dksX8_nextOf_0 12 rfl rfl)
theorem dX8_nextOf_13 : decode cX8_nextOf 13 = .ok (.if_icmp .ge 47, 3) := dk_162 0 47 (dk_at dksX8_nextOf_0 13 rfl rfl)
theorem dX8_nextOf_16 : decode cX8_nextOf 16 = .ok (.iload_n 3, 1) := dk_29 (dk_at dksX8_nextOf_0 16 rfl rfl)
theorem dX8_nextOf_17 : decode cX8_nextOf 17 = .ok (.aload_n 0, 1) := dk_42 (dk_at dksX8_nextOf_0 17 rfl rfl)
theorem dX8_nextOf_18 : decode cX8_nextOf 18 = .ok (.getfield 35, 3) := dk_180 0 35 (dk_at dksX8_nextOf_0 18 rfl rfl)
theorem dX8_nextOf_21 : decode cX8_nextOf 21 = .ok (.bipush 19, 2) := dk_16 19 (dk_at dksX8_nextOf_0 21 rfl rfl)
theorem dX8_nextOf_23 : decode cX8_nextOf 23 = .ok (.iload_n 2, 1) := dk_28 (dk_at dksX8_nextOf_0 23 rfl rfl)
theorem dX8_nextOf_24 : decode cX8_nextOf 24 = .ok (.iadd, 1) := dk_96 (dk_at dksX8_nextOf_1 0 rfl rfl)
theorem dX8_nextOf_25 : decode cX8_nextOf 25 = .ok (.iaload, 1) := dk_46 (dk_at dksX8_nextOf_1 1 rfl rfl)
theorem dX8_nextOf_26 : decode cX8_nextOf 26 = .ok (.iload 4, 2) := dk_21 4 (dk_at dksX8_nextOf_1 2 rfl rfl)
theorem dX8_nextOf_28 : decode cX8_nextOf 28 = .ok (.invokestatic 109, 3) := dk_184 0 109 (dk_at dksX8_nextOf_1 4 rfl rfl)
theorem dX8_nextOf_31 : decode cX8_nextOf 31 = .ok (.ifCond .eq 20, 3) := dk_153 0 20 (dk_at dksX8_nextOf_1 7 rfl rfl)
theorem dX8_nextOf_34 : decode cX8_nextOf 34 = .ok (.aload_n 0, 1) := dk_42 (dk_at dksX8_nextOf_1 10 rfl rfl)
theorem dX8_nextOf_35 : decode cX8_nextOf 35 = .ok (.iload_n 1, 1) := dk_27 (dk_at dksX8_nextOf_1 11 rfl rfl)
theorem dX8_nextOf_36 : decode cX8_nextOf 36 = .ok (.iload 4, 2) := dk_21 4 (dk_at dksX8_nextOf_1 12 rfl rfl)
theorem dX8_nextOf_38 : decode cX8_nextOf 38 = .ok (.invokevirtual 354, 3) := dk_182 1 98 (dk_at dksX8_nextOf_1 14 rfl rfl)
theorem dX8_nextOf_41 : decode cX8_nextOf 41 = .ok (.ifCond .eq 10, 3) := dk_153 0 10 (dk_at dksX8_nextOf_1 17 rfl rfl)
theorem dX8_nextOf_44 : decode cX8_nextOf 44 = .ok (.iconst 1, 1) := dk_4 (dk_at dksX8_nextOf_1 20 rfl rfl)
theorem dX8_nextOf_45 : decode cX8_nextOf 45 = .ok (.iload 4, 2) := dk_21 4 (dk_at dksX8_nextOf_1 21 rfl rfl)
theorem dX8_nextOf_47 : decode cX8_nextOf 47 = .ok (.ishl, 1) := dk_120 (dk_at dksX8_nextOf_1 23 rfl rfl)
theorem dX8_nextOf_48 : decode cX8_nextOf 48 = .ok (.goto 4, 3) := dk_167 0 4 (dk_at dksX8_nextOf_2 0 rfl rfl)
theorem dX8_nextOf_51 : decode cX8_nextOf 51 = .ok (.iconst 0, 1) := dk_3 (dk_at dksX8_nextOf_2 3 rfl rfl)
theorem dX8_nextOf_52 : decode cX8_nextOf 52 = .ok (.ior, 1) := dk_128 (dk_at dksX8_nextOf_2 4 rfl rfl)
theorem dX8_nextOf_53 : decode cX8_nextOf 53 = .ok (.istore_n 3, 1) := dk_62 (dk_at dksX8_nextOf_2 5 rfl rfl)
theorem dX8_nextOf_54 : decode cX8_nextOf 54 = .ok (.iinc 4 1, 3) := dk_132 4 1 (dk_at dksX8_nextOf_2 6 rfl rfl)
theorem dX8_nextOf_57 : decode cX8_nextOf 57 = .ok (.goto (-52), 3) := dk_167 255 204 (dk_at dksX8_nextOf_2 9 rfl rfl)
theorem dX8_nextOf_60 : decode cX8_nextOf 60 = .ok (.iload_n 3, 1) := dk_29 (dk_at dksX8_nextOf_2 12 rfl rfl)
theorem dX8_nextOf_61 : decode cX8_nextOf 61 = .ok (.ireturn, 1) := dk_172 (dk_at dksX8_nextOf_2 13 rfl rfl)
abbrev cX8_isTrue : ByteArray := prog_14_method_78_code
def yX8_isTrue : MethodName := ⟨RX8, "isTrue", "(II)Z"⟩
def dkwX8_isTrue_0 : List UInt8 := [42, 180, 0, 35, 16, 12, 28, 96, 46, 42, 180, 0, 35, 16, 33, 27, 96, 46, 184, 0, 109, 172]
abbrev dktX8_isTrue_0 : List UInt8 := dkwX8_isTrue_0 ++ []
theorem dksX8_isTrue_0 : cX8_isTrue.data.toList.drop 0 = dktX8_isTrue_0 := by decide +kernel
theorem dX8_isTrue_0 : decode cX8_isTrue 0 = .ok (.aload_n 0, 1) := dk_42 (dk_at dksX8_isTrue_0 0 rfl rfl)
theorem dX8_isTrue_1 : decode cX8_isTrue 1 = .ok (.getfield 35, 3) := dk_180 0 35 (dk_at dksX8_isTrue_0 1 rfl rfl)
theorem dX8_isTrue_4 : decode cX8_isTrue 4 = .ok (.bipush 12, 2) := dk_16 12 (dk_at dksX8_isTrue_0 4 rfl rfl)
theorem dX8_isTrue_6 : decode cX8_isTrue 6 = .ok (.iload_n 2, 1) := dk_28 (dk_at dksX8_isTrue_0 6 rfl rfl)
theorem dX8_isTrue_7 : decode cX8_isTrue 7 = .ok (.iadd, 1) := dk_96 (dk_at dksX8_isTrue_0 7 rfl rfl)
theorem dX8_isTrue_8 : decode cX8_isTrue 8 = .ok (.iaload, 1) := dk_46 (dk_at dksX8_isTrue_0 8 rfl rfl)
theorem dX8_isTrue_9 : decode cX8_isTrue 9 = .ok (.aload_n 0, 1) := dk_42 (dk_at dksX8_isTrue_0 9 rfl rfl)
theorem dX8_isTrue_10 : decode cX8_isTrue 10 = .ok (.getfield 35, 3) := dk_180 0 35 (dk_at dksX8_isTrue_0 10 rfl rfl)
theorem dX8_isTrue_13 : decode cX8_isTrue 13 = .ok (.bipush 33, 2) := dk_16 33 (dk_at dksX8_isTrue_0 13 rfl rfl)
theorem dX8_isTrue_15 : decode cX8_isTrue 15 = .ok (.iload_n 1, 1) := dk_27 (dk_at dksX8_isTrue_0 15 rfl rfl)
theorem dX8_isTrue_16 : decode cX8_isTrue 16 = .ok (.iadd, 1) := dk_96 (dk_at dksX8_isTrue_0 16 rfl rfl)
theorem dX8_isTrue_17 : decode cX8_isTrue 17 = .ok (.iaload, 1) := dk_46 (dk_at dksX8_isTrue_0 17 rfl rfl)
theorem dX8_isTrue_18 : decode cX8_isTrue 18 = .ok (.invokestatic 109, 3) := dk_184 0 109 (dk_at dksX8_isTrue_0 18 rfl rfl)
theorem dX8_isTrue_21 : decode cX8_isTrue 21 = .ok (.ireturn, 1) := dk_172 (dk_at dksX8_isTrue_0 21 rfl rfl)
abbrev cX8_bite : ByteArray := prog_14_method_92_code
def yX8_bite : MethodName := ⟨RX8, "bite", "(I)I"⟩
def dkwX8_bite_2 : List UInt8 := [4, 160, 0, 8, 42, 27, 182, 1, 107, 42, 180, 0, 35, 16, 60, 27, 96, 46, 172]
abbrev dktX8_bite_2 : List UInt8 := dkwX8_bite_2 ++ []
def dkwX8_bite_1 : List UInt8 := [42, 27, 182, 1, 54, 153, 0, 10, 42, 16, 9, 182, 1, 71, 172, 42, 180, 0, 35, 16, 51, 27, 96, 46]
abbrev dktX8_bite_1 : List UInt8 := dkwX8_bite_1 ++ dktX8_bite_2
def dkwX8_bite_0 : List UInt8 := [42, 3, 181, 0, 70, 42, 3, 181, 0, 73, 42, 27, 182, 1, 88, 154, 0, 9, 42, 5, 182, 1, 71, 172]
abbrev dktX8_bite_0 : List UInt8 := dkwX8_bite_0 ++ dktX8_bite_1
theorem dksX8_bite_0 : cX8_bite.data.toList.drop 0 = dktX8_bite_0 := by decide +kernel
theorem dksX8_bite_1 : cX8_bite.data.toList.drop 24 = dktX8_bite_1 := dk_seg dksX8_bite_0 24 rfl rfl
theorem dksX8_bite_2 : cX8_bite.data.toList.drop 48 = dktX8_bite_2 := dk_seg dksX8_bite_1 24 rfl rfl
theorem dX8_bite_0 : decode cX8_bite 0 = .ok (.aload_n 0, 1) := dk_42 (dk_at dksX8_bite_0 0 rfl rfl)
theorem dX8_bite_1 : decode cX8_bite 1 = .ok (.iconst 0, 1) := dk_3 (dk_at dksX8_bite_0 1 rfl rfl)
theorem dX8_bite_2 : decode cX8_bite 2 = .ok (.putfield 70, 3) := dk_181 0 70 (dk_at dksX8_bite_0 2 rfl rfl)
theorem dX8_bite_5 : decode cX8_bite 5 = .ok (.aload_n 0, 1) := dk_42 (dk_at dksX8_bite_0 5 rfl rfl)
theorem dX8_bite_6 : decode cX8_bite 6 = .ok (.iconst 0, 1) := dk_3 (dk_at dksX8_bite_0 6 rfl rfl)
theorem dX8_bite_7 : decode cX8_bite 7 = .ok (.putfield 73, 3) := dk_181 0 73 (dk_at dksX8_bite_0 7 rfl rfl)
theorem dX8_bite_10 : decode cX8_bite 10 = .ok (.aload_n 0, 1) := dk_42 (dk_at dksX8_bite_0 10 rfl rfl)
theorem dX8_bite_11 : decode cX8_bite 11 = .ok (.iload_n 1, 1) := dk_27 (dk_at dksX8_bite_0 11 rfl rfl)
theorem dX8_bite_12 : decode cX8_bite 12 = .ok (.invokevirtual 344, 3) := dk_182 1 88 (dk_at dksX8_bite_0 12 rfl rfl)
theorem dX8_bite_15 : decode cX8_bite 15 = .ok (.ifCond .ne 9, 3) := dk_154 0 9 (dk_at dksX8_bite_0 15 rfl rfl)
theorem dX8_bite_18 : decode cX8_bite 18 = .ok (.aload_n 0, 1) := dk_42 (dk_at dksX8_bite_0 18 rfl rfl)
theorem dX8_bite_19 : decode cX8_bite 19 = .ok (.iconst 2, 1) := dk_5 (dk_at dksX8_bite_0 19 rfl rfl)
theorem dX8_bite_20 : decode cX8_bite 20 = .ok (.invokevirtual 327, 3) := dk_182 1 71 (dk_at dksX8_bite_0 20 rfl rfl)
theorem dX8_bite_23 : decode cX8_bite 23 = .ok (.ireturn, 1) := dk_172 (dk_at dksX8_bite_0 23 rfl rfl)
theorem dX8_bite_24 : decode cX8_bite 24 = .ok (.aload_n 0, 1) := dk_42 (dk_at dksX8_bite_1 0 rfl rfl)
theorem dX8_bite_25 : decode cX8_bite 25 = .ok (.iload_n 1, 1) := dk_27 (dk_at dksX8_bite_1 1 rfl rfl)
theorem dX8_bite_26 : decode cX8_bite 26 = .ok (.invokevirtual 310, 3) := dk_182 1 54 (dk_at dksX8_bite_1 2 rfl rfl)
theorem dX8_bite_29 : decode cX8_bite 29 = .ok (.ifCond .eq 10, 3) := dk_153 0 10 (dk_at dksX8_bite_1 5 rfl rfl)
theorem dX8_bite_32 : decode cX8_bite 32 = .ok (.aload_n 0, 1) := dk_42 (dk_at dksX8_bite_1 8 rfl rfl)
theorem dX8_bite_33 : decode cX8_bite 33 = .ok (.bipush 9, 2) := dk_16 9 (dk_at dksX8_bite_1 9 rfl rfl)
theorem dX8_bite_35 : decode cX8_bite 35 = .ok (.invokevirtual 327, 3) := dk_182 1 71 (dk_at dksX8_bite_1 11 rfl rfl)
theorem dX8_bite_38 : decode cX8_bite 38 = .ok (.ireturn, 1) := dk_172 (dk_at dksX8_bite_1 14 rfl rfl)
theorem dX8_bite_39 : decode cX8_bite 39 = .ok (.aload_n 0, 1) := dk_42 (dk_at dksX8_bite_1 15 rfl rfl)
theorem dX8_bite_40 : decode cX8_bite 40 = .ok (.getfield 35, 3) := dk_180 0 35 (dk_at dksX8_bite_1 16 rfl rfl)
theorem dX8_bite_43 : decode cX8_bite 43 = .ok (.bipush 51, 2) := dk_16 51 (dk_at dksX8_bite_1 19 rfl rfl)
theorem dX8_bite_45 : decode cX8_bite 45 = .ok (.iload_n 1, 1) := dk_27 (dk_at dksX8_bite_1 21 rfl rfl)
theorem dX8_bite_46 : decode cX8_bite 46 = .ok (.iadd, 1) := dk_96 (dk_at dksX8_bite_1 22 rfl rfl)
theorem dX8_bite_47 : decode cX8_bite 47 = .ok (.iaload, 1) := dk_46 (dk_at dksX8_bite_1 23 rfl rfl)
theorem dX8_bite_48 : decode cX8_bite 48 = .ok (.iconst 1, 1) := dk_4 (dk_at dksX8_bite_2 0 rfl rfl)
theorem dX8_bite_49 : decode cX8_bite 49 = .ok (.if_icmp .ne 8, 3) := dk_160 0 8 (dk_at dksX8_bite_2 1 rfl rfl)
theorem dX8_bite_52 : decode cX8_bite 52 = .ok (.aload_n 0, 1) := dk_42 (dk_at dksX8_bite_2 4 rfl rfl)
theorem dX8_bite_53 : decode cX8_bite 53 = .ok (.iload_n 1, 1) := dk_27 (dk_at dksX8_bite_2 5 rfl rfl)
theorem dX8_bite_54 : decode cX8_bite 54 = .ok (.invokevirtual 363, 3) := dk_182 1 107 (dk_at dksX8_bite_2 6 rfl rfl)
theorem dX8_bite_57 : decode cX8_bite 57 = .ok (.aload_n 0, 1) := dk_42 (dk_at dksX8_bite_2 9 rfl rfl)
theorem dX8_bite_58 : decode cX8_bite 58 = .ok (.getfield 35, 3) := dk_180 0 35 (dk_at dksX8_bite_2 10 rfl rfl)
theorem dX8_bite_61 : decode cX8_bite 61 = .ok (.bipush 60, 2) := dk_16 60 (dk_at dksX8_bite_2 13 rfl rfl)
theorem dX8_bite_63 : decode cX8_bite 63 = .ok (.iload_n 1, 1) := dk_27 (dk_at dksX8_bite_2 15 rfl rfl)
theorem dX8_bite_64 : decode cX8_bite 64 = .ok (.iadd, 1) := dk_96 (dk_at dksX8_bite_2 16 rfl rfl)
theorem dX8_bite_65 : decode cX8_bite 65 = .ok (.iaload, 1) := dk_46 (dk_at dksX8_bite_2 17 rfl rfl)
theorem dX8_bite_66 : decode cX8_bite 66 = .ok (.ireturn, 1) := dk_172 (dk_at dksX8_bite_2 18 rfl rfl)
abbrev cX8_finds : ByteArray := prog_14_method_93_code
def yX8_finds : MethodName := ⟨RX8, "finds", "(I)V"⟩
def dkwX8_finds_0 : List UInt8 := [42, 180, 0, 35, 16, 60, 27, 96, 4, 79, 42, 180, 0, 35, 16, 42, 27, 96, 2, 79, 177]
abbrev dktX8_finds_0 : List UInt8 := dkwX8_finds_0 ++ []
theorem dksX8_finds_0 : cX8_finds.data.toList.drop 0 = dktX8_finds_0 := by decide +kernel
theorem dX8_finds_0 : decode cX8_finds 0 = .ok (.aload_n 0, 1) := dk_42 (dk_at dksX8_finds_0 0 rfl rfl)
theorem dX8_finds_1 : decode cX8_finds 1 = .ok (.getfield 35, 3) := dk_180 0 35 (dk_at dksX8_finds_0 1 rfl rfl)
theorem dX8_finds_4 : decode cX8_finds 4 = .ok (.bipush 60, 2) := dk_16 60 (dk_at dksX8_finds_0 4 rfl rfl)
theorem dX8_finds_6 : decode cX8_finds 6 = .ok (.iload_n 1, 1) := dk_27 (dk_at dksX8_finds_0 6 rfl rfl)
theorem dX8_finds_7 : decode cX8_finds 7 = .ok (.iadd, 1) := dk_96 (dk_at dksX8_finds_0 7 rfl rfl)
theorem dX8_finds_8 : decode cX8_finds 8 = .ok (.iconst 1, 1) := dk_4 (dk_at dksX8_finds_0 8 rfl rfl)
theorem dX8_finds_9 : decode cX8_finds 9 = .ok (.iastore, 1) := dk_79 (dk_at dksX8_finds_0 9 rfl rfl)
theorem dX8_finds_10 : decode cX8_finds 10 = .ok (.aload_n 0, 1) := dk_42 (dk_at dksX8_finds_0 10 rfl rfl)
theorem dX8_finds_11 : decode cX8_finds 11 = .ok (.getfield 35, 3) := dk_180 0 35 (dk_at dksX8_finds_0 11 rfl rfl)
theorem dX8_finds_14 : decode cX8_finds 14 = .ok (.bipush 42, 2) := dk_16 42 (dk_at dksX8_finds_0 14 rfl rfl)
theorem dX8_finds_16 : decode cX8_finds 16 = .ok (.iload_n 1, 1) := dk_27 (dk_at dksX8_finds_0 16 rfl rfl)
theorem dX8_finds_17 : decode cX8_finds 17 = .ok (.iadd, 1) := dk_96 (dk_at dksX8_finds_0 17 rfl rfl)
theorem dX8_finds_18 : decode cX8_finds 18 = .ok (.iconst (-1), 1) := dk_2 (dk_at dksX8_finds_0 18 rfl rfl)
theorem dX8_finds_19 : decode cX8_finds 19 = .ok (.iastore, 1) := dk_79 (dk_at dksX8_finds_0 19 rfl rfl)
theorem dX8_finds_20 : decode cX8_finds 20 = .ok (.return_, 1) := dk_177 (dk_at dksX8_finds_0 20 rfl rfl)
abbrev cX8_recite : ByteArray := prog_14_method_94_code
def yX8_recite : MethodName := ⟨RX8, "recite", "(II)Z"⟩
def dkwX8_recite_4 : List UInt8 := [4, 28, 120, 128, 79, 4, 172]
abbrev dktX8_recite_4 : List UInt8 := dkwX8_recite_4 ++ []
def dkwX8_recite_3 : List UInt8 := [182, 0, 85, 172, 42, 180, 0, 35, 16, 42, 27, 96, 28, 79, 42, 180, 0, 35, 16, 69, 27, 96, 92, 46]
abbrev dktX8_recite_3 : List UInt8 := dkwX8_recite_3 ++ dktX8_recite_4
def dkwX8_recite_2 : List UInt8 := [28, 182, 1, 98, 153, 0, 16, 42, 180, 0, 35, 16, 42, 27, 96, 46, 28, 160, 0, 10, 42, 16, 9]
abbrev dktX8_recite_2 : List UInt8 := dkwX8_recite_2 ++ dktX8_recite_3
def dkwX8_recite_1 : List UInt8 := [154, 0, 9, 42, 5, 182, 0, 85, 172, 42, 180, 0, 35, 16, 60, 27, 96, 46, 4, 159, 0, 25, 42, 27]
abbrev dktX8_recite_1 : List UInt8 := dkwX8_recite_1 ++ dktX8_recite_2
def dkwX8_recite_0 : List UInt8 := [42, 3, 181, 0, 70, 42, 3, 181, 0, 73, 42, 27, 182, 1, 88, 153, 0, 12, 42, 28, 133, 182, 1, 80]
abbrev dktX8_recite_0 : List UInt8 := dkwX8_recite_0 ++ dktX8_recite_1
theorem dksX8_recite_0 : cX8_recite.data.toList.drop 0 = dktX8_recite_0 := by decide +kernel
theorem dksX8_recite_1 : cX8_recite.data.toList.drop 24 = dktX8_recite_1 := dk_seg dksX8_recite_0 24 rfl rfl
theorem dksX8_recite_2 : cX8_recite.data.toList.drop 48 = dktX8_recite_2 := dk_seg dksX8_recite_1 24 rfl rfl
theorem dksX8_recite_3 : cX8_recite.data.toList.drop 71 = dktX8_recite_3 := dk_seg dksX8_recite_2 23 rfl rfl
theorem dksX8_recite_4 : cX8_recite.data.toList.drop 95 = dktX8_recite_4 := dk_seg dksX8_recite_3 24 rfl rfl
theorem dX8_recite_0 : decode cX8_recite 0 = .ok (.aload_n 0, 1) := dk_42 (dk_at dksX8_recite_0 0 rfl rfl)
theorem dX8_recite_1 : decode cX8_recite 1 = .ok (.iconst 0, 1) := dk_3 (dk_at dksX8_recite_0 1 rfl rfl)
theorem dX8_recite_2 : decode cX8_recite 2 = .ok (.putfield 70, 3) := dk_181 0 70 (dk_at dksX8_recite_0 2 rfl rfl)
theorem dX8_recite_5 : decode cX8_recite 5 = .ok (.aload_n 0, 1) := dk_42 (dk_at dksX8_recite_0 5 rfl rfl)
theorem dX8_recite_6 : decode cX8_recite 6 = .ok (.iconst 0, 1) := dk_3 (dk_at dksX8_recite_0 6 rfl rfl)
theorem dX8_recite_7 : decode cX8_recite 7 = .ok (.putfield 73, 3) := dk_181 0 73 (dk_at dksX8_recite_0 7 rfl rfl)
theorem dX8_recite_10 : decode cX8_recite 10 = .ok (.aload_n 0, 1) := dk_42 (dk_at dksX8_recite_0 10 rfl rfl)
theorem dX8_recite_11 : decode cX8_recite 11 = .ok (.iload_n 1, 1) := dk_27 (dk_at dksX8_recite_0 11 rfl rfl)
theorem dX8_recite_12 : decode cX8_recite 12 = .ok (.invokevirtual 344, 3) := dk_182 1 88 (dk_at dksX8_recite_0 12 rfl rfl)
theorem dX8_recite_15 : decode cX8_recite 15 = .ok (.ifCond .eq 12, 3) := dk_153 0 12 (dk_at dksX8_recite_0 15 rfl rfl)
theorem dX8_recite_18 : decode cX8_recite 18 = .ok (.aload_n 0, 1) := dk_42 (dk_at dksX8_recite_0 18 rfl rfl)
theorem dX8_recite_19 : decode cX8_recite 19 = .ok (.iload_n 2, 1) := dk_28 (dk_at dksX8_recite_0 19 rfl rfl)
theorem dX8_recite_20 : decode cX8_recite 20 = .ok (.i2l, 1) := dk_133 (dk_at dksX8_recite_0 20 rfl rfl)
theorem dX8_recite_21 : decode cX8_recite 21 = .ok (.invokevirtual 336, 3) := dk_182 1 80 (dk_at dksX8_recite_0 21 rfl rfl)
theorem dX8_recite_24 : decode cX8_recite 24 = .ok (.ifCond .ne 9, 3) := dk_154 0 9 (dk_at dksX8_recite_1 0 rfl rfl)
theorem dX8_recite_27 : decode cX8_recite 27 = .ok (.aload_n 0, 1) := dk_42 (dk_at dksX8_recite_1 3 rfl rfl)
theorem dX8_recite_28 : decode cX8_recite 28 = .ok (.iconst 2, 1) := dk_5 (dk_at dksX8_recite_1 4 rfl rfl)
theorem dX8_recite_29 : decode cX8_recite 29 = .ok (.invokevirtual 85, 3) := dk_182 0 85 (dk_at dksX8_recite_1 5 rfl rfl)
theorem dX8_recite_32 : decode cX8_recite 32 = .ok (.ireturn, 1) := dk_172 (dk_at dksX8_recite_1 8 rfl rfl)
theorem dX8_recite_33 : decode cX8_recite 33 = .ok (.aload_n 0, 1) := dk_42 (dk_at dksX8_recite_1 9 rfl rfl)
theorem dX8_recite_34 : decode cX8_recite 34 = .ok (.getfield 35, 3) := dk_180 0 35 (dk_at dksX8_recite_1 10 rfl rfl)
theorem dX8_recite_37 : decode cX8_recite 37 = .ok (.bipush 60, 2) := dk_16 60 (dk_at dksX8_recite_1 13 rfl rfl)
theorem dX8_recite_39 : decode cX8_recite 39 = .ok (.iload_n 1, 1) := dk_27 (dk_at dksX8_recite_1 15 rfl rfl)
theorem dX8_recite_40 : decode cX8_recite 40 = .ok (.iadd, 1) := dk_96 (dk_at dksX8_recite_1 16 rfl rfl)
theorem dX8_recite_41 : decode cX8_recite 41 = .ok (.iaload, 1) := dk_46 (dk_at dksX8_recite_1 17 rfl rfl)
theorem dX8_recite_42 : decode cX8_recite 42 = .ok (.iconst 1, 1) := dk_4 (dk_at dksX8_recite_1 18 rfl rfl)
theorem dX8_recite_43 : decode cX8_recite 43 = .ok (.if_icmp .eq 25, 3) := dk_159 0 25 (dk_at dksX8_recite_1 19 rfl rfl)
theorem dX8_recite_46 : decode cX8_recite 46 = .ok (.aload_n 0, 1) := dk_42 (dk_at dksX8_recite_1 22 rfl rfl)
theorem dX8_recite_47 : decode cX8_recite 47 = .ok (.iload_n 1, 1) := dk_27 (dk_at dksX8_recite_1 23 rfl rfl)
theorem dX8_recite_48 : decode cX8_recite 48 = .ok (.iload_n 2, 1) := dk_28 (dk_at dksX8_recite_2 0 rfl rfl)
theorem dX8_recite_49 : decode cX8_recite 49 = .ok (.invokevirtual 354, 3) := dk_182 1 98 (dk_at dksX8_recite_2 1 rfl rfl)
theorem dX8_recite_52 : decode cX8_recite 52 = .ok (.ifCond .eq 16, 3) := dk_153 0 16 (dk_at dksX8_recite_2 4 rfl rfl)
theorem dX8_recite_55 : decode cX8_recite 55 = .ok (.aload_n 0, 1) := dk_42 (dk_at dksX8_recite_2 7 rfl rfl)
theorem dX8_recite_56 : decode cX8_recite 56 = .ok (.getfield 35, 3) := dk_180 0 35 (dk_at dksX8_recite_2 8 rfl rfl)
theorem dX8_recite_59 : decode cX8_recite 59 = .ok (.bipush 42, 2) := dk_16 42 (dk_at dksX8_recite_2 11 rfl rfl)
theorem dX8_recite_61 : decode cX8_recite 61 = .ok (.iload_n 1, 1) := dk_27 (dk_at dksX8_recite_2 13 rfl rfl)
theorem dX8_recite_62 : decode cX8_recite 62 = .ok (.iadd, 1) := dk_96 (dk_at dksX8_recite_2 14 rfl rfl)
theorem dX8_recite_63 : decode cX8_recite 63 = .ok (.iaload, 1) := dk_46 (dk_at dksX8_recite_2 15 rfl rfl)
theorem dX8_recite_64 : decode cX8_recite 64 = .ok (.iload_n 2, 1) := dk_28 (dk_at dksX8_recite_2 16 rfl rfl)
theorem dX8_recite_65 : decode cX8_recite 65 = .ok (.if_icmp .ne 10, 3) := dk_160 0 10 (dk_at dksX8_recite_2 17 rfl rfl)
theorem dX8_recite_68 : decode cX8_recite 68 = .ok (.aload_n 0, 1) := dk_42 (dk_at dksX8_recite_2 20 rfl rfl)
theorem dX8_recite_69 : decode cX8_recite 69 = .ok (.bipush 9, 2) := dk_16 9 (dk_at dksX8_recite_2 21 rfl rfl)
theorem dX8_recite_71 : decode cX8_recite 71 = .ok (.invokevirtual 85, 3) := dk_182 0 85 (dk_at dksX8_recite_3 0 rfl rfl)
theorem dX8_recite_74 : decode cX8_recite 74 = .ok (.ireturn, 1) := dk_172 (dk_at dksX8_recite_3 3 rfl rfl)
theorem dX8_recite_75 : decode cX8_recite 75 = .ok (.aload_n 0, 1) := dk_42 (dk_at dksX8_recite_3 4 rfl rfl)
theorem dX8_recite_76 : decode cX8_recite 76 = .ok (.getfield 35, 3) := dk_180 0 35 (dk_at dksX8_recite_3 5 rfl rfl)
theorem dX8_recite_79 : decode cX8_recite 79 = .ok (.bipush 42, 2) := dk_16 42 (dk_at dksX8_recite_3 8 rfl rfl)
theorem dX8_recite_81 : decode cX8_recite 81 = .ok (.iload_n 1, 1) := dk_27 (dk_at dksX8_recite_3 10 rfl rfl)
theorem dX8_recite_82 : decode cX8_recite 82 = .ok (.iadd, 1) := dk_96 (dk_at dksX8_recite_3 11 rfl rfl)
theorem dX8_recite_83 : decode cX8_recite 83 = .ok (.iload_n 2, 1) := dk_28 (dk_at dksX8_recite_3 12 rfl rfl)
theorem dX8_recite_84 : decode cX8_recite 84 = .ok (.iastore, 1) := dk_79 (dk_at dksX8_recite_3 13 rfl rfl)
theorem dX8_recite_85 : decode cX8_recite 85 = .ok (.aload_n 0, 1) := dk_42 (dk_at dksX8_recite_3 14 rfl rfl)
theorem dX8_recite_86 : decode cX8_recite 86 = .ok (.getfield 35, 3) := dk_180 0 35 (dk_at dksX8_recite_3 15 rfl rfl)
theorem dX8_recite_89 : decode cX8_recite 89 = .ok (.bipush 69, 2) := dk_16 69 (dk_at dksX8_recite_3 18 rfl rfl)
theorem dX8_recite_91 : decode cX8_recite 91 = .ok (.iload_n 1, 1) := dk_27 (dk_at dksX8_recite_3 20 rfl rfl)
theorem dX8_recite_92 : decode cX8_recite 92 = .ok (.iadd, 1) := dk_96 (dk_at dksX8_recite_3 21 rfl rfl)
theorem dX8_recite_93 : decode cX8_recite 93 = .ok (.dup2, 1) := dk_92 (dk_at dksX8_recite_3 22 rfl rfl)
theorem dX8_recite_94 : decode cX8_recite 94 = .ok (.iaload, 1) := dk_46 (dk_at dksX8_recite_3 23 rfl rfl)
theorem dX8_recite_95 : decode cX8_recite 95 = .ok (.iconst 1, 1) := dk_4 (dk_at dksX8_recite_4 0 rfl rfl)
theorem dX8_recite_96 : decode cX8_recite 96 = .ok (.iload_n 2, 1) := dk_28 (dk_at dksX8_recite_4 1 rfl rfl)
theorem dX8_recite_97 : decode cX8_recite 97 = .ok (.ishl, 1) := dk_120 (dk_at dksX8_recite_4 2 rfl rfl)
theorem dX8_recite_98 : decode cX8_recite 98 = .ok (.ior, 1) := dk_128 (dk_at dksX8_recite_4 3 rfl rfl)
theorem dX8_recite_99 : decode cX8_recite 99 = .ok (.iastore, 1) := dk_79 (dk_at dksX8_recite_4 4 rfl rfl)
theorem dX8_recite_100 : decode cX8_recite 100 = .ok (.iconst 1, 1) := dk_4 (dk_at dksX8_recite_4 5 rfl rfl)
theorem dX8_recite_101 : decode cX8_recite 101 = .ok (.ireturn, 1) := dk_172 (dk_at dksX8_recite_4 6 rfl rfl)
abbrev cX8_drop : ByteArray := prog_14_method_95_code
def yX8_drop : MethodName := ⟨RX8, "drop", "(I)I"⟩
def dkwX8_drop_2 : List UInt8 := [61, 42, 180, 0, 35, 16, 42, 27, 96, 2, 79, 28, 172]
abbrev dktX8_drop_2 : List UInt8 := dkwX8_drop_2 ++ []
def dkwX8_drop_1 : List UInt8 := [42, 27, 182, 1, 54, 153, 0, 10, 42, 16, 9, 182, 1, 71, 172, 42, 180, 0, 35, 16, 42, 27, 96, 46]
abbrev dktX8_drop_1 : List UInt8 := dkwX8_drop_1 ++ dktX8_drop_2
def dkwX8_drop_0 : List UInt8 := [42, 3, 181, 0, 70, 42, 3, 181, 0, 73, 42, 27, 182, 1, 88, 154, 0, 9, 42, 5, 182, 1, 71, 172]
abbrev dktX8_drop_0 : List UInt8 := dkwX8_drop_0 ++ dktX8_drop_1
theorem dksX8_drop_0 : cX8_drop.data.toList.drop 0 = dktX8_drop_0 := by decide +kernel
theorem dksX8_drop_1 : cX8_drop.data.toList.drop 24 = dktX8_drop_1 := dk_seg dksX8_drop_0 24 rfl rfl
theorem dksX8_drop_2 : cX8_drop.data.toList.drop 48 = dktX8_drop_2 := dk_seg dksX8_drop_1 24 rfl rfl
theorem dX8_drop_0 : decode cX8_drop 0 = .ok (.aload_n 0, 1) := dk_42 (dk_at dksX8_drop_0 0 rfl rfl)
theorem dX8_drop_1 : decode cX8_drop 1 = .ok (.iconst 0, 1) := dk_3 (dk_at dksX8_drop_0 1 rfl rfl)
theorem dX8_drop_2 : decode cX8_drop 2 = .ok (.putfield 70, 3) := dk_181 0 70 (dk_at dksX8_drop_0 2 rfl rfl)
theorem dX8_drop_5 : decode cX8_drop 5 = .ok (.aload_n 0, 1) := dk_42 (dk_at dksX8_drop_0 5 rfl rfl)
theorem dX8_drop_6 : decode cX8_drop 6 = .ok (.iconst 0, 1) := dk_3 (dk_at dksX8_drop_0 6 rfl rfl)
theorem dX8_drop_7 : decode cX8_drop 7 = .ok (.putfield 73, 3) := dk_181 0 73 (dk_at dksX8_drop_0 7 rfl rfl)
theorem dX8_drop_10 : decode cX8_drop 10 = .ok (.aload_n 0, 1) := dk_42 (dk_at dksX8_drop_0 10 rfl rfl)
theorem dX8_drop_11 : decode cX8_drop 11 = .ok (.iload_n 1, 1) := dk_27 (dk_at dksX8_drop_0 11 rfl rfl)
theorem dX8_drop_12 : decode cX8_drop 12 = .ok (.invokevirtual 344, 3) := dk_182 1 88 (dk_at dksX8_drop_0 12 rfl rfl)
theorem dX8_drop_15 : decode cX8_drop 15 = .ok (.ifCond .ne 9, 3) := dk_154 0 9 (dk_at dksX8_drop_0 15 rfl rfl)
theorem dX8_drop_18 : decode cX8_drop 18 = .ok (.aload_n 0, 1) := dk_42 (dk_at dksX8_drop_0 18 rfl rfl)
theorem dX8_drop_19 : decode cX8_drop 19 = .ok (.iconst 2, 1) := dk_5 (dk_at dksX8_drop_0 19 rfl rfl)
theorem dX8_drop_20 : decode cX8_drop 20 = .ok (.invokevirtual 327, 3) := dk_182 1 71 (dk_at dksX8_drop_0 20 rfl rfl)
theorem dX8_drop_23 : decode cX8_drop 23 = .ok (.ireturn, 1) := dk_172 (dk_at dksX8_drop_0 23 rfl rfl)
theorem dX8_drop_24 : decode cX8_drop 24 = .ok (.aload_n 0, 1) := dk_42 (dk_at dksX8_drop_1 0 rfl rfl)
theorem dX8_drop_25 : decode cX8_drop 25 = .ok (.iload_n 1, 1) := dk_27 (dk_at dksX8_drop_1 1 rfl rfl)
theorem dX8_drop_26 : decode cX8_drop 26 = .ok (.invokevirtual 310, 3) := dk_182 1 54 (dk_at dksX8_drop_1 2 rfl rfl)
theorem dX8_drop_29 : decode cX8_drop 29 = .ok (.ifCond .eq 10, 3) := dk_153 0 10 (dk_at dksX8_drop_1 5 rfl rfl)
theorem dX8_drop_32 : decode cX8_drop 32 = .ok (.aload_n 0, 1) := dk_42 (dk_at dksX8_drop_1 8 rfl rfl)
theorem dX8_drop_33 : decode cX8_drop 33 = .ok (.bipush 9, 2) := dk_16 9 (dk_at dksX8_drop_1 9 rfl rfl)
theorem dX8_drop_35 : decode cX8_drop 35 = .ok (.invokevirtual 327, 3) := dk_182 1 71 (dk_at dksX8_drop_1 11 rfl rfl)
theorem dX8_drop_38 : decode cX8_drop 38 = .ok (.ireturn, 1) := dk_172 (dk_at dksX8_drop_1 14 rfl rfl)
theorem dX8_drop_39 : decode cX8_drop 39 = .ok (.aload_n 0, 1) := dk_42 (dk_at dksX8_drop_1 15 rfl rfl)
theorem dX8_drop_40 : decode cX8_drop 40 = .ok (.getfield 35, 3) := dk_180 0 35 (dk_at dksX8_drop_1 16 rfl rfl)
theorem dX8_drop_43 : decode cX8_drop 43 = .ok (.bipush 42, 2) := dk_16 42 (dk_at dksX8_drop_1 19 rfl rfl)
theorem dX8_drop_45 : decode cX8_drop 45 = .ok (.iload_n 1, 1) := dk_27 (dk_at dksX8_drop_1 21 rfl rfl)
theorem dX8_drop_46 : decode cX8_drop 46 = .ok (.iadd, 1) := dk_96 (dk_at dksX8_drop_1 22 rfl rfl)
theorem dX8_drop_47 : decode cX8_drop 47 = .ok (.iaload, 1) := dk_46 (dk_at dksX8_drop_1 23 rfl rfl)
theorem dX8_drop_48 : decode cX8_drop 48 = .ok (.istore_n 2, 1) := dk_61 (dk_at dksX8_drop_2 0 rfl rfl)
theorem dX8_drop_49 : decode cX8_drop 49 = .ok (.aload_n 0, 1) := dk_42 (dk_at dksX8_drop_2 1 rfl rfl)
theorem dX8_drop_50 : decode cX8_drop 50 = .ok (.getfield 35, 3) := dk_180 0 35 (dk_at dksX8_drop_2 2 rfl rfl)
theorem dX8_drop_53 : decode cX8_drop 53 = .ok (.bipush 42, 2) := dk_16 42 (dk_at dksX8_drop_2 5 rfl rfl)
theorem dX8_drop_55 : decode cX8_drop 55 = .ok (.iload_n 1, 1) := dk_27 (dk_at dksX8_drop_2 7 rfl rfl)
theorem dX8_drop_56 : decode cX8_drop 56 = .ok (.iadd, 1) := dk_96 (dk_at dksX8_drop_2 8 rfl rfl)
theorem dX8_drop_57 : decode cX8_drop 57 = .ok (.iconst (-1), 1) := dk_2 (dk_at dksX8_drop_2 9 rfl rfl)
theorem dX8_drop_58 : decode cX8_drop 58 = .ok (.iastore, 1) := dk_79 (dk_at dksX8_drop_2 10 rfl rfl)
theorem dX8_drop_59 : decode cX8_drop 59 = .ok (.iload_n 2, 1) := dk_28 (dk_at dksX8_drop_2 11 rfl rfl)
theorem dX8_drop_60 : decode cX8_drop 60 = .ok (.ireturn, 1) := dk_172 (dk_at dksX8_drop_2 12 rfl rfl)
abbrev cX8_strike : ByteArray := prog_14_method_96_code
def yX8_strike : MethodName := ⟨RX8, "strike", "(IIZ)I"⟩
def dkwX8_strike_3 : List UInt8 := [27, 28, 29, 153, 0, 7, 4, 167, 0, 4, 3, 182, 1, 8, 21, 4, 172]
abbrev dktX8_strike_3 : List UInt8 := dkwX8_strike_3 ++ []
def dkwX8_strike_2 : List UInt8 := [42, 16, 7, 182, 1, 71, 172, 42, 180, 0, 41, 6, 184, 0, 224, 21, 4, 96, 9, 80, 42, 3, 21, 4]
abbrev dktX8_strike_2 : List UInt8 := dkwX8_strike_2 ++ dktX8_strike_3
def dkwX8_strike_1 : List UInt8 := [154, 0, 9, 42, 5, 182, 1, 71, 172, 42, 180, 0, 35, 6, 46, 54, 4, 21, 4, 16, 9, 160, 0, 10]
abbrev dktX8_strike_1 : List UInt8 := dkwX8_strike_1 ++ dktX8_strike_2
def dkwX8_strike_0 : List UInt8 := [42, 3, 181, 0, 70, 42, 3, 181, 0, 73, 42, 27, 182, 1, 77, 153, 0, 12, 42, 28, 133, 182, 1, 80]
abbrev dktX8_strike_0 : List UInt8 := dkwX8_strike_0 ++ dktX8_strike_1
theorem dksX8_strike_0 : cX8_strike.data.toList.drop 0 = dktX8_strike_0 := by decide +kernel
theorem dksX8_strike_1 : cX8_strike.data.toList.drop 24 = dktX8_strike_1 := dk_seg dksX8_strike_0 24 rfl rfl
theorem dksX8_strike_2 : cX8_strike.data.toList.drop 48 = dktX8_strike_2 := dk_seg dksX8_strike_1 24 rfl rfl
theorem dksX8_strike_3 : cX8_strike.data.toList.drop 72 = dktX8_strike_3 := dk_seg dksX8_strike_2 24 rfl rfl
theorem dX8_strike_0 : decode cX8_strike 0 = .ok (.aload_n 0, 1) := dk_42 (dk_at dksX8_strike_0 0 rfl rfl)
theorem dX8_strike_1 : decode cX8_strike 1 = .ok (.iconst 0, 1) := dk_3 (dk_at dksX8_strike_0 1 rfl rfl)
theorem dX8_strike_2 : decode cX8_strike 2 = .ok (.putfield 70, 3) := dk_181 0 70 (dk_at dksX8_strike_0 2 rfl rfl)
theorem dX8_strike_5 : decode cX8_strike 5 = .ok (.aload_n 0, 1) := dk_42 (dk_at dksX8_strike_0 5 rfl rfl)
theorem dX8_strike_6 : decode cX8_strike 6 = .ok (.iconst 0, 1) := dk_3 (dk_at dksX8_strike_0 6 rfl rfl)
theorem dX8_strike_7 : decode cX8_strike 7 = .ok (.putfield 73, 3) := dk_181 0 73 (dk_at dksX8_strike_0 7 rfl rfl)
theorem dX8_strike_10 : decode cX8_strike 10 = .ok (.aload_n 0, 1) := dk_42 (dk_at dksX8_strike_0 10 rfl rfl)
theorem dX8_strike_11 : decode cX8_strike 11 = .ok (.iload_n 1, 1) := dk_27 (dk_at dksX8_strike_0 11 rfl rfl)
theorem dX8_strike_12 : decode cX8_strike 12 = .ok (.invokevirtual 333, 3) := dk_182 1 77 (dk_at dksX8_strike_0 12 rfl rfl)
theorem dX8_strike_15 : decode cX8_strike 15 = .ok (.ifCond .eq 12, 3) := dk_153 0 12 (dk_at dksX8_strike_0 15 rfl rfl)
theorem dX8_strike_18 : decode cX8_strike 18 = .ok (.aload_n 0, 1) := dk_42 (dk_at dksX8_strike_0 18 rfl rfl)
theorem dX8_strike_19 : decode cX8_strike 19 = .ok (.iload_n 2, 1) := dk_28 (dk_at dksX8_strike_0 19 rfl rfl)
theorem dX8_strike_20 : decode cX8_strike 20 = .ok (.i2l, 1) := dk_133 (dk_at dksX8_strike_0 20 rfl rfl)
theorem dX8_strike_21 : decode cX8_strike 21 = .ok (.invokevirtual 336, 3) := dk_182 1 80 (dk_at dksX8_strike_0 21 rfl rfl)
theorem dX8_strike_24 : decode cX8_strike 24 = .ok (.ifCond .ne 9, 3) := dk_154 0 9 (dk_at dksX8_strike_1 0 rfl rfl)
theorem dX8_strike_27 : decode cX8_strike 27 = .ok (.aload_n 0, 1) := dk_42 (dk_at dksX8_strike_1 3 rfl rfl)
theorem dX8_strike_28 : decode cX8_strike 28 = .ok (.iconst 2, 1) := dk_5 (dk_at dksX8_strike_1 4 rfl rfl)
theorem dX8_strike_29 : decode cX8_strike 29 = .ok (.invokevirtual 327, 3) := dk_182 1 71 (dk_at dksX8_strike_1 5 rfl rfl)
theorem dX8_strike_32 : decode cX8_strike 32 = .ok (.ireturn, 1) := dk_172 (dk_at dksX8_strike_1 8 rfl rfl)
theorem dX8_strike_33 : decode cX8_strike 33 = .ok (.aload_n 0, 1) := dk_42 (dk_at dksX8_strike_1 9 rfl rfl)
theorem dX8_strike_34 : decode cX8_strike 34 = .ok (.getfield 35, 3) := dk_180 0 35 (dk_at dksX8_strike_1 10 rfl rfl)
theorem dX8_strike_37 : decode cX8_strike 37 = .ok (.iconst 3, 1) := dk_6 (dk_at dksX8_strike_1 13 rfl rfl)
theorem dX8_strike_38 : decode cX8_strike 38 = .ok (.iaload, 1) := dk_46 (dk_at dksX8_strike_1 14 rfl rfl)
theorem dX8_strike_39 : decode cX8_strike 39 = .ok (.istore 4, 2) := dk_54 4 (dk_at dksX8_strike_1 15 rfl rfl)
theorem dX8_strike_41 : decode cX8_strike 41 = .ok (.iload 4, 2) := dk_21 4 (dk_at dksX8_strike_1 17 rfl rfl)
theorem dX8_strike_43 : decode cX8_strike 43 = .ok (.bipush 9, 2) := dk_16 9 (dk_at dksX8_strike_1 19 rfl rfl)
theorem dX8_strike_45 : decode cX8_strike 45 = .ok (.if_icmp .ne 10, 3) := dk_160 0 10 (dk_at dksX8_strike_1 21 rfl rfl)
theorem dX8_strike_48 : decode cX8_strike 48 = .ok (.aload_n 0, 1) := dk_42 (dk_at dksX8_strike_2 0 rfl rfl)
theorem dX8_strike_49 : decode cX8_strike 49 = .ok (.bipush 7, 2) := dk_16 7 (dk_at dksX8_strike_2 1 rfl rfl)
theorem dX8_strike_51 : decode cX8_strike 51 = .ok (.invokevirtual 327, 3) := dk_182 1 71 (dk_at dksX8_strike_2 3 rfl rfl)
theorem dX8_strike_54 : decode cX8_strike 54 = .ok (.ireturn, 1) := dk_172 (dk_at dksX8_strike_2 6 rfl rfl)
theorem dX8_strike_55 : decode cX8_strike 55 = .ok (.aload_n 0, 1) := dk_42 (dk_at dksX8_strike_2 7 rfl rfl)
theorem dX8_strike_56 : decode cX8_strike 56 = .ok (.getfield 41, 3) := dk_180 0 41 (dk_at dksX8_strike_2 8 rfl rfl)
theorem dX8_strike_59 : decode cX8_strike 59 = .ok (.iconst 3, 1) := dk_6 (dk_at dksX8_strike_2 11 rfl rfl)
theorem dX8_strike_60 : decode cX8_strike 60 = .ok (.invokestatic 224, 3) := dk_184 0 224 (dk_at dksX8_strike_2 12 rfl rfl)
theorem dX8_strike_63 : decode cX8_strike 63 = .ok (.iload 4, 2) := dk_21 4 (dk_at dksX8_strike_2 15 rfl rfl)
theorem dX8_strike_65 : decode cX8_strike 65 = .ok (.iadd, 1) := dk_96 (dk_at dksX8_strike_2 17 rfl rfl)
theorem dX8_strike_66 : decode cX8_strike 66 = .ok (.lconst 0, 1) := dk_9 (dk_at dksX8_strike_2 18 rfl rfl)
theorem dX8_strike_67 : decode cX8_strike 67 = .ok (.lastore, 1) := dk_80 (dk_at dksX8_strike_2 19 rfl rfl)
theorem dX8_strike_68 : decode cX8_strike 68 = .ok (.aload_n 0, 1) := dk_42 (dk_at dksX8_strike_2 20 rfl rfl)
theorem dX8_strike_69 : decode cX8_strike 69 = .ok (.iconst 0, 1) := dk_3 (dk_at dksX8_strike_2 21 rfl rfl)
theorem dX8_strike_70 : decode cX8_strike 70 = .ok (.iload 4, 2) := dk_21 4 (dk_at dksX8_strike_2 22 rfl rfl)
theorem dX8_strike_72 : decode cX8_strike 72 = .ok (.iload_n 1, 1) := dk_27 (dk_at dksX8_strike_3 0 rfl rfl)
theorem dX8_strike_73 : decode cX8_strike 73 = .ok (.iload_n 2, 1) := dk_28 (dk_at dksX8_strike_3 1 rfl rfl)
theorem dX8_strike_74 : decode cX8_strike 74 = .ok (.iload_n 3, 1) := dk_29 (dk_at dksX8_strike_3 2 rfl rfl)
theorem dX8_strike_75 : decode cX8_strike 75 = .ok (.ifCond .eq 7, 3) := dk_153 0 7 (dk_at dksX8_strike_3 3 rfl rfl)
theorem dX8_strike_78 : decode cX8_strike 78 = .ok (.iconst 1, 1) := dk_4 (dk_at dksX8_strike_3 6 rfl rfl)
theorem dX8_strike_79 : decode cX8_strike 79 = .ok (.goto 4, 3) := dk_167 0 4 (dk_at dksX8_strike_3 7 rfl rfl)
theorem dX8_strike_82 : decode cX8_strike 82 = .ok (.iconst 0, 1) := dk_3 (dk_at dksX8_strike_3 10 rfl rfl)
theorem dX8_strike_83 : decode cX8_strike 83 = .ok (.invokevirtual 264, 3) := dk_182 1 8 (dk_at dksX8_strike_3 11 rfl rfl)
theorem dX8_strike_86 : decode cX8_strike 86 = .ok (.iload 4, 2) := dk_21 4 (dk_at dksX8_strike_3 14 rfl rfl)
theorem dX8_strike_88 : decode cX8_strike 88 = .ok (.ireturn, 1) := dk_172 (dk_at dksX8_strike_3 16 rfl rfl)
abbrev cX8_teach : ByteArray := prog_14_method_98_code
def yX8_teach : MethodName := ⟨RX8, "teach", "(IIZ)Z"⟩
def dkwX8_teach_2 : List UInt8 := [182, 0, 85, 153, 0, 7, 4, 167, 0, 4, 3, 172]
abbrev dktX8_teach_2 : List UInt8 := dkwX8_teach_2 ++ []
def dkwX8_teach_1 : List UInt8 := [154, 0, 9, 42, 5, 182, 0, 85, 172, 42, 27, 28, 29, 182, 1, 110, 154, 0, 12, 42, 16, 9]
abbrev dktX8_teach_1 : List UInt8 := dkwX8_teach_1 ++ dktX8_teach_2
def dkwX8_teach_0 : List UInt8 := [42, 3, 181, 0, 70, 42, 3, 181, 0, 73, 42, 27, 133, 182, 1, 80, 153, 0, 11, 42, 28, 182, 1, 77]
abbrev dktX8_teach_0 : List UInt8 := dkwX8_teach_0 ++ dktX8_teach_1
theorem dksX8_teach_0 : cX8_teach.data.toList.drop 0 = dktX8_teach_0 := by decide +kernel
theorem dksX8_teach_1 : cX8_teach.data.toList.drop 24 = dktX8_teach_1 := dk_seg dksX8_teach_0 24 rfl rfl
theorem dksX8_teach_2 : cX8_teach.data.toList.drop 46 = dktX8_teach_2 := dk_seg dksX8_teach_1 22 rfl rfl
theorem dX8_teach_0 : decode cX8_teach 0 = .ok (.aload_n 0, 1) := dk_42 (dk_at dksX8_teach_0 0 rfl rfl)
theorem dX8_teach_1 : decode cX8_teach 1 = .ok (.iconst 0, 1) := dk_3 (dk_at dksX8_teach_0 1 rfl rfl)
theorem dX8_teach_2 : decode cX8_teach 2 = .ok (.putfield 70, 3) := dk_181 0 70 (dk_at dksX8_teach_0 2 rfl rfl)
theorem dX8_teach_5 : decode cX8_teach 5 = .ok (.aload_n 0, 1) := dk_42 (dk_at dksX8_teach_0 5 rfl rfl)
theorem dX8_teach_6 : decode cX8_teach 6 = .ok (.iconst 0, 1) := dk_3 (dk_at dksX8_teach_0 6 rfl rfl)
theorem dX8_teach_7 : decode cX8_teach 7 = .ok (.putfield 73, 3) := dk_181 0 73 (dk_at dksX8_teach_0 7 rfl rfl)
theorem dX8_teach_10 : decode cX8_teach 10 = .ok (.aload_n 0, 1) := dk_42 (dk_at dksX8_teach_0 10 rfl rfl)
theorem dX8_teach_11 : decode cX8_teach 11 = .ok (.iload_n 1, 1) := dk_27 (dk_at dksX8_teach_0 11 rfl rfl)
theorem dX8_teach_12 : decode cX8_teach 12 = .ok (.i2l, 1) := dk_133 (dk_at dksX8_teach_0 12 rfl rfl)
theorem dX8_teach_13 : decode cX8_teach 13 = .ok (.invokevirtual 336, 3) := dk_182 1 80 (dk_at dksX8_teach_0 13 rfl rfl)
theorem dX8_teach_16 : decode cX8_teach 16 = .ok (.ifCond .eq 11, 3) := dk_153 0 11 (dk_at dksX8_teach_0 16 rfl rfl)
theorem dX8_teach_19 : decode cX8_teach 19 = .ok (.aload_n 0, 1) := dk_42 (dk_at dksX8_teach_0 19 rfl rfl)
theorem dX8_teach_20 : decode cX8_teach 20 = .ok (.iload_n 2, 1) := dk_28 (dk_at dksX8_teach_0 20 rfl rfl)
theorem dX8_teach_21 : decode cX8_teach 21 = .ok (.invokevirtual 333, 3) := dk_182 1 77 (dk_at dksX8_teach_0 21 rfl rfl)
theorem dX8_teach_24 : decode cX8_teach 24 = .ok (.ifCond .ne 9, 3) := dk_154 0 9 (dk_at dksX8_teach_1 0 rfl rfl)
theorem dX8_teach_27 : decode cX8_teach 27 = .ok (.aload_n 0, 1) := dk_42 (dk_at dksX8_teach_1 3 rfl rfl)
theorem dX8_teach_28 : decode cX8_teach 28 = .ok (.iconst 2, 1) := dk_5 (dk_at dksX8_teach_1 4 rfl rfl)
theorem dX8_teach_29 : decode cX8_teach 29 = .ok (.invokevirtual 85, 3) := dk_182 0 85 (dk_at dksX8_teach_1 5 rfl rfl)
theorem dX8_teach_32 : decode cX8_teach 32 = .ok (.ireturn, 1) := dk_172 (dk_at dksX8_teach_1 8 rfl rfl)
theorem dX8_teach_33 : decode cX8_teach 33 = .ok (.aload_n 0, 1) := dk_42 (dk_at dksX8_teach_1 9 rfl rfl)
theorem dX8_teach_34 : decode cX8_teach 34 = .ok (.iload_n 1, 1) := dk_27 (dk_at dksX8_teach_1 10 rfl rfl)
theorem dX8_teach_35 : decode cX8_teach 35 = .ok (.iload_n 2, 1) := dk_28 (dk_at dksX8_teach_1 11 rfl rfl)
theorem dX8_teach_36 : decode cX8_teach 36 = .ok (.iload_n 3, 1) := dk_29 (dk_at dksX8_teach_1 12 rfl rfl)
theorem dX8_teach_37 : decode cX8_teach 37 = .ok (.invokevirtual 366, 3) := dk_182 1 110 (dk_at dksX8_teach_1 13 rfl rfl)
theorem dX8_teach_40 : decode cX8_teach 40 = .ok (.ifCond .ne 12, 3) := dk_154 0 12 (dk_at dksX8_teach_1 16 rfl rfl)
theorem dX8_teach_43 : decode cX8_teach 43 = .ok (.aload_n 0, 1) := dk_42 (dk_at dksX8_teach_1 19 rfl rfl)
theorem dX8_teach_44 : decode cX8_teach 44 = .ok (.bipush 9, 2) := dk_16 9 (dk_at dksX8_teach_1 20 rfl rfl)
theorem dX8_teach_46 : decode cX8_teach 46 = .ok (.invokevirtual 85, 3) := dk_182 0 85 (dk_at dksX8_teach_2 0 rfl rfl)
theorem dX8_teach_49 : decode cX8_teach 49 = .ok (.ifCond .eq 7, 3) := dk_153 0 7 (dk_at dksX8_teach_2 3 rfl rfl)
theorem dX8_teach_52 : decode cX8_teach 52 = .ok (.iconst 1, 1) := dk_4 (dk_at dksX8_teach_2 6 rfl rfl)
theorem dX8_teach_53 : decode cX8_teach 53 = .ok (.goto 4, 3) := dk_167 0 4 (dk_at dksX8_teach_2 7 rfl rfl)
theorem dX8_teach_56 : decode cX8_teach 56 = .ok (.iconst 0, 1) := dk_3 (dk_at dksX8_teach_2 10 rfl rfl)
theorem dX8_teach_57 : decode cX8_teach 57 = .ok (.ireturn, 1) := dk_172 (dk_at dksX8_teach_2 11 rfl rfl)
abbrev cX8_teaches : ByteArray := prog_14_method_97_code
def yX8_teaches : MethodName := ⟨RX8, "teaches", "(IIZ)Z"⟩
def dkwX8_teaches_1 : List UInt8 := [16, 12, 27, 96, 92, 46, 4, 28, 120, 130, 79, 4, 172]
abbrev dktX8_teaches_1 : List UInt8 := dkwX8_teaches_1 ++ []
def dkwX8_teaches_0 : List UInt8 := [42, 180, 0, 35, 16, 12, 27, 96, 46, 28, 184, 0, 109, 29, 160, 0, 5, 3, 172, 42, 180, 0, 35]
abbrev dktX8_teaches_0 : List UInt8 := dkwX8_teaches_0 ++ dktX8_teaches_1
theorem dksX8_teaches_0 : cX8_teaches.data.toList.drop 0 = dktX8_teaches_0 := by decide +kernel
theorem dksX8_teaches_1 : cX8_teaches.data.toList.drop 23 = dktX8_teaches_1 := dk_seg dksX8_teaches_0 23 rfl rfl
theorem dX8_teaches_0 : decode cX8_teaches 0 = .ok (.aload_n 0, 1) := dk_42 (dk_at dksX8_teaches_0 0 rfl rfl)
theorem dX8_teaches_1 : decode cX8_teaches 1 = .ok (.getfield 35, 3) := dk_180 0 35 (dk_at dksX8_teaches_0 1 rfl rfl)
theorem dX8_teaches_4 : decode cX8_teaches 4 = .ok (.bipush 12, 2) := dk_16 12 (dk_at dksX8_teaches_0 4 rfl rfl)
theorem dX8_teaches_6 : decode cX8_teaches 6 = .ok (.iload_n 1, 1) := dk_27 (dk_at dksX8_teaches_0 6 rfl rfl)
theorem dX8_teaches_7 : decode cX8_teaches 7 = .ok (.iadd, 1) := dk_96 (dk_at dksX8_teaches_0 7 rfl rfl)
theorem dX8_teaches_8 : decode cX8_teaches 8 = .ok (.iaload, 1) := dk_46 (dk_at dksX8_teaches_0 8 rfl rfl)
theorem dX8_teaches_9 : decode cX8_teaches 9 = .ok (.iload_n 2, 1) := dk_28 (dk_at dksX8_teaches_0 9 rfl rfl)
theorem dX8_teaches_10 : decode cX8_teaches 10 = .ok (.invokestatic 109, 3) := dk_184 0 109 (dk_at dksX8_teaches_0 10 rfl rfl)
theorem dX8_teaches_13 : decode cX8_teaches 13 = .ok (.iload_n 3, 1) := dk_29 (dk_at dksX8_teaches_0 13 rfl rfl)
theorem dX8_teaches_14 : decode cX8_teaches 14 = .ok (.if_icmp .ne 5, 3) := dk_160 0 5 (dk_at dksX8_teaches_0 14 rfl rfl)
theorem dX8_teaches_17 : decode cX8_teaches 17 = .ok (.iconst 0, 1) := dk_3 (dk_at dksX8_teaches_0 17 rfl rfl)
theorem dX8_teaches_18 : decode cX8_teaches 18 = .ok (.ireturn, 1) := dk_172 (dk_at dksX8_teaches_0 18 rfl rfl)
theorem dX8_teaches_19 : decode cX8_teaches 19 = .ok (.aload_n 0, 1) := dk_42 (dk_at dksX8_teaches_0 19 rfl rfl)
theorem dX8_teaches_20 : decode cX8_teaches 20 = .ok (.getfield 35, 3) := dk_180 0 35 (dk_at dksX8_teaches_0 20 rfl rfl)
theorem dX8_teaches_23 : decode cX8_teaches 23 = .ok (.bipush 12, 2) := dk_16 12 (dk_at dksX8_teaches_1 0 rfl rfl)
theorem dX8_teaches_25 : decode cX8_teaches 25 = .ok (.iload_n 1, 1) := dk_27 (dk_at dksX8_teaches_1 2 rfl rfl)
theorem dX8_teaches_26 : decode cX8_teaches 26 = .ok (.iadd, 1) := dk_96 (dk_at dksX8_teaches_1 3 rfl rfl)
theorem dX8_teaches_27 : decode cX8_teaches 27 = .ok (.dup2, 1) := dk_92 (dk_at dksX8_teaches_1 4 rfl rfl)
theorem dX8_teaches_28 : decode cX8_teaches 28 = .ok (.iaload, 1) := dk_46 (dk_at dksX8_teaches_1 5 rfl rfl)
theorem dX8_teaches_29 : decode cX8_teaches 29 = .ok (.iconst 1, 1) := dk_4 (dk_at dksX8_teaches_1 6 rfl rfl)
theorem dX8_teaches_30 : decode cX8_teaches 30 = .ok (.iload_n 2, 1) := dk_28 (dk_at dksX8_teaches_1 7 rfl rfl)
theorem dX8_teaches_31 : decode cX8_teaches 31 = .ok (.ishl, 1) := dk_120 (dk_at dksX8_teaches_1 8 rfl rfl)
theorem dX8_teaches_32 : decode cX8_teaches 32 = .ok (.ixor, 1) := dk_130 (dk_at dksX8_teaches_1 9 rfl rfl)
theorem dX8_teaches_33 : decode cX8_teaches 33 = .ok (.iastore, 1) := dk_79 (dk_at dksX8_teaches_1 10 rfl rfl)
theorem dX8_teaches_34 : decode cX8_teaches 34 = .ok (.iconst 1, 1) := dk_4 (dk_at dksX8_teaches_1 11 rfl rfl)
theorem dX8_teaches_35 : decode cX8_teaches 35 = .ok (.ireturn, 1) := dk_172 (dk_at dksX8_teaches_1 12 rfl rfl)
abbrev cX8_lane : ByteArray := prog_14_method_99_code
def yX8_lane : MethodName := ⟨RX8, "lane", "(II)I"⟩
def dkwX8_lane_3 : List UInt8 := [42, 180, 0, 35, 5, 46, 172]
abbrev dktX8_lane_3 : List UInt8 := dkwX8_lane_3 ++ []
def dkwX8_lane_2 : List UInt8 := [180, 0, 35, 5, 46, 16, 12, 160, 0, 10, 42, 16, 7, 182, 1, 71, 172, 42, 3, 27, 28, 182, 1, 4]
abbrev dktX8_lane_2 : List UInt8 := dkwX8_lane_2 ++ dktX8_lane_3
def dkwX8_lane_1 : List UInt8 := [182, 1, 80, 154, 0, 9, 42, 5, 182, 1, 71, 172, 27, 28, 160, 0, 9, 42, 8, 182, 1, 71, 172, 42]
abbrev dktX8_lane_1 : List UInt8 := dkwX8_lane_1 ++ dktX8_lane_2
def dkwX8_lane_0 : List UInt8 := [42, 3, 181, 0, 70, 42, 3, 181, 0, 73, 42, 27, 133, 182, 1, 80, 153, 0, 12, 42, 28, 133]
abbrev dktX8_lane_0 : List UInt8 := dkwX8_lane_0 ++ dktX8_lane_1
theorem dksX8_lane_0 : cX8_lane.data.toList.drop 0 = dktX8_lane_0 := by decide +kernel
theorem dksX8_lane_1 : cX8_lane.data.toList.drop 22 = dktX8_lane_1 := dk_seg dksX8_lane_0 22 rfl rfl
theorem dksX8_lane_2 : cX8_lane.data.toList.drop 46 = dktX8_lane_2 := dk_seg dksX8_lane_1 24 rfl rfl
theorem dksX8_lane_3 : cX8_lane.data.toList.drop 70 = dktX8_lane_3 := dk_seg dksX8_lane_2 24 rfl rfl
theorem dX8_lane_0 : decode cX8_lane 0 = .ok (.aload_n 0, 1) := dk_42 (dk_at dksX8_lane_0 0 rfl rfl)
theorem dX8_lane_1 : decode cX8_lane 1 = .ok (.iconst 0, 1) := dk_3 (dk_at dksX8_lane_0 1 rfl rfl)
theorem dX8_lane_2 : decode cX8_lane 2 = .ok (.putfield 70, 3) := dk_181 0 70 (dk_at dksX8_lane_0 2 rfl rfl)
theorem dX8_lane_5 : decode cX8_lane 5 = .ok (.aload_n 0, 1) := dk_42 (dk_at dksX8_lane_0 5 rfl rfl)
theorem dX8_lane_6 : decode cX8_lane 6 = .ok (.iconst 0, 1) := dk_3 (dk_at dksX8_lane_0 6 rfl rfl)
theorem dX8_lane_7 : decode cX8_lane 7 = .ok (.putfield 73, 3) := dk_181 0 73 (dk_at dksX8_lane_0 7 rfl rfl)
theorem dX8_lane_10 : decode cX8_lane 10 = .ok (.aload_n 0, 1) := dk_42 (dk_at dksX8_lane_0 10 rfl rfl)
theorem dX8_lane_11 : decode cX8_lane 11 = .ok (.iload_n 1, 1) := dk_27 (dk_at dksX8_lane_0 11 rfl rfl)
theorem dX8_lane_12 : decode cX8_lane 12 = .ok (.i2l, 1) := dk_133 (dk_at dksX8_lane_0 12 rfl rfl)
theorem dX8_lane_13 : decode cX8_lane 13 = .ok (.invokevirtual 336, 3) := dk_182 1 80 (dk_at dksX8_lane_0 13 rfl rfl)
theorem dX8_lane_16 : decode cX8_lane 16 = .ok (.ifCond .eq 12, 3) := dk_153 0 12 (dk_at dksX8_lane_0 16 rfl rfl)
theorem dX8_lane_19 : decode cX8_lane 19 = .ok (.aload_n 0, 1) := dk_42 (dk_at dksX8_lane_0 19 rfl rfl)
theorem dX8_lane_20 : decode cX8_lane 20 = .ok (.iload_n 2, 1) := dk_28 (dk_at dksX8_lane_0 20 rfl rfl)
theorem dX8_lane_21 : decode cX8_lane 21 = .ok (.i2l, 1) := dk_133 (dk_at dksX8_lane_0 21 rfl rfl)
theorem dX8_lane_22 : decode cX8_lane 22 = .ok (.invokevirtual 336, 3) := dk_182 1 80 (dk_at dksX8_lane_1 0 rfl rfl)
theorem dX8_lane_25 : decode cX8_lane 25 = .ok (.ifCond .ne 9, 3) := dk_154 0 9 (dk_at dksX8_lane_1 3 rfl rfl)
theorem dX8_lane_28 : decode cX8_lane 28 = .ok (.aload_n 0, 1) := dk_42 (dk_at dksX8_lane_1 6 rfl rfl)
theorem dX8_lane_29 : decode cX8_lane 29 = .ok (.iconst 2, 1) := dk_5 (dk_at dksX8_lane_1 7 rfl rfl)
theorem dX8_lane_30 : decode cX8_lane 30 = .ok (.invokevirtual 327, 3) := dk_182 1 71 (dk_at dksX8_lane_1 8 rfl rfl)
theorem dX8_lane_33 : decode cX8_lane 33 = .ok (.ireturn, 1) := dk_172 (dk_at dksX8_lane_1 11 rfl rfl)
theorem dX8_lane_34 : decode cX8_lane 34 = .ok (.iload_n 1, 1) := dk_27 (dk_at dksX8_lane_1 12 rfl rfl)
theorem dX8_lane_35 : decode cX8_lane 35 = .ok (.iload_n 2, 1) := dk_28 (dk_at dksX8_lane_1 13 rfl rfl)
theorem dX8_lane_36 : decode cX8_lane 36 = .ok (.if_icmp .ne 9, 3) := dk_160 0 9 (dk_at dksX8_lane_1 14 rfl rfl)
theorem dX8_lane_39 : decode cX8_lane 39 = .ok (.aload_n 0, 1) := dk_42 (dk_at dksX8_lane_1 17 rfl rfl)
theorem dX8_lane_40 : decode cX8_lane 40 = .ok (.iconst 5, 1) := dk_8 (dk_at dksX8_lane_1 18 rfl rfl)
theorem dX8_lane_41 : decode cX8_lane 41 = .ok (.invokevirtual 327, 3) := dk_182 1 71 (dk_at dksX8_lane_1 19 rfl rfl)
theorem dX8_lane_44 : decode cX8_lane 44 = .ok (.ireturn, 1) := dk_172 (dk_at dksX8_lane_1 22 rfl rfl)
theorem dX8_lane_45 : decode cX8_lane 45 = .ok (.aload_n 0, 1) := dk_42 (dk_at dksX8_lane_1 23 rfl rfl)
theorem dX8_lane_46 : decode cX8_lane 46 = .ok (.getfield 35, 3) := dk_180 0 35 (dk_at dksX8_lane_2 0 rfl rfl)
theorem dX8_lane_49 : decode cX8_lane 49 = .ok (.iconst 2, 1) := dk_5 (dk_at dksX8_lane_2 3 rfl rfl)
theorem dX8_lane_50 : decode cX8_lane 50 = .ok (.iaload, 1) := dk_46 (dk_at dksX8_lane_2 4 rfl rfl)
theorem dX8_lane_51 : decode cX8_lane 51 = .ok (.bipush 12, 2) := dk_16 12 (dk_at dksX8_lane_2 5 rfl rfl)
theorem dX8_lane_53 : decode cX8_lane 53 = .ok (.if_icmp .ne 10, 3) := dk_160 0 10 (dk_at dksX8_lane_2 7 rfl rfl)
theorem dX8_lane_56 : decode cX8_lane 56 = .ok (.aload_n 0, 1) := dk_42 (dk_at dksX8_lane_2 10 rfl rfl)
theorem dX8_lane_57 : decode cX8_lane 57 = .ok (.bipush 7, 2) := dk_16 7 (dk_at dksX8_lane_2 11 rfl rfl)
theorem dX8_lane_59 : decode cX8_lane 59 = .ok (.invokevirtual 327, 3) := dk_182 1 71 (dk_at dksX8_lane_2 13 rfl rfl)
theorem dX8_lane_62 : decode cX8_lane 62 = .ok (.ireturn, 1) := dk_172 (dk_at dksX8_lane_2 16 rfl rfl)
theorem dX8_lane_63 : decode cX8_lane 63 = .ok (.aload_n 0, 1) := dk_42 (dk_at dksX8_lane_2 17 rfl rfl)
theorem dX8_lane_64 : decode cX8_lane 64 = .ok (.iconst 0, 1) := dk_3 (dk_at dksX8_lane_2 18 rfl rfl)
theorem dX8_lane_65 : decode cX8_lane 65 = .ok (.iload_n 1, 1) := dk_27 (dk_at dksX8_lane_2 19 rfl rfl)
theorem dX8_lane_66 : decode cX8_lane 66 = .ok (.iload_n 2, 1) := dk_28 (dk_at dksX8_lane_2 20 rfl rfl)
theorem dX8_lane_67 : decode cX8_lane 67 = .ok (.invokevirtual 260, 3) := dk_182 1 4 (dk_at dksX8_lane_2 21 rfl rfl)
theorem dX8_lane_70 : decode cX8_lane 70 = .ok (.aload_n 0, 1) := dk_42 (dk_at dksX8_lane_3 0 rfl rfl)
theorem dX8_lane_71 : decode cX8_lane 71 = .ok (.getfield 35, 3) := dk_180 0 35 (dk_at dksX8_lane_3 1 rfl rfl)
theorem dX8_lane_74 : decode cX8_lane 74 = .ok (.iconst 2, 1) := dk_5 (dk_at dksX8_lane_3 4 rfl rfl)
theorem dX8_lane_75 : decode cX8_lane 75 = .ok (.iaload, 1) := dk_46 (dk_at dksX8_lane_3 5 rfl rfl)
theorem dX8_lane_76 : decode cX8_lane 76 = .ok (.ireturn, 1) := dk_172 (dk_at dksX8_lane_3 6 rfl rfl)
abbrev cX8_price : ByteArray := prog_14_method_100_code
def yX8_price : MethodName := ⟨RX8, "price", "(II)Z"⟩
def dkwX8_price_2 : List UInt8 := [27, 96, 28, 79, 4, 172]
abbrev dktX8_price_2 : List UInt8 := dkwX8_price_2 ++ []
def dkwX8_price_1 : List UInt8 := [28, 133, 9, 20, 1, 114, 184, 0, 105, 154, 0, 9, 42, 8, 182, 0, 85, 172, 42, 180, 0, 35, 16, 6]
abbrev dktX8_price_1 : List UInt8 := dkwX8_price_1 ++ dktX8_price_2
def dkwX8_price_0 : List UInt8 := [42, 3, 181, 0, 70, 42, 3, 181, 0, 73, 42, 27, 182, 1, 77, 154, 0, 9, 42, 5, 182, 0, 85, 172]
abbrev dktX8_price_0 : List UInt8 := dkwX8_price_0 ++ dktX8_price_1
theorem dksX8_price_0 : cX8_price.data.toList.drop 0 = dktX8_price_0 := by decide +kernel
theorem dksX8_price_1 : cX8_price.data.toList.drop 24 = dktX8_price_1 := dk_seg dksX8_price_0 24 rfl rfl
theorem dksX8_price_2 : cX8_price.data.toList.drop 48 = dktX8_price_2 := dk_seg dksX8_price_1 24 rfl rfl
theorem dX8_price_0 : decode cX8_price 0 = .ok (.aload_n 0, 1) := dk_42 (dk_at dksX8_price_0 0 rfl rfl)
theorem dX8_price_1 : decode cX8_price 1 = .ok (.iconst 0, 1) := dk_3 (dk_at dksX8_price_0 1 rfl rfl)
theorem dX8_price_2 : decode cX8_price 2 = .ok (.putfield 70, 3) := dk_181 0 70 (dk_at dksX8_price_0 2 rfl rfl)
theorem dX8_price_5 : decode cX8_price 5 = .ok (.aload_n 0, 1) := dk_42 (dk_at dksX8_price_0 5 rfl rfl)
theorem dX8_price_6 : decode cX8_price 6 = .ok (.iconst 0, 1) := dk_3 (dk_at dksX8_price_0 6 rfl rfl)
theorem dX8_price_7 : decode cX8_price 7 = .ok (.putfield 73, 3) := dk_181 0 73 (dk_at dksX8_price_0 7 rfl rfl)
theorem dX8_price_10 : decode cX8_price 10 = .ok (.aload_n 0, 1) := dk_42 (dk_at dksX8_price_0 10 rfl rfl)
theorem dX8_price_11 : decode cX8_price 11 = .ok (.iload_n 1, 1) := dk_27 (dk_at dksX8_price_0 11 rfl rfl)
theorem dX8_price_12 : decode cX8_price 12 = .ok (.invokevirtual 333, 3) := dk_182 1 77 (dk_at dksX8_price_0 12 rfl rfl)
theorem dX8_price_15 : decode cX8_price 15 = .ok (.ifCond .ne 9, 3) := dk_154 0 9 (dk_at dksX8_price_0 15 rfl rfl)
theorem dX8_price_18 : decode cX8_price 18 = .ok (.aload_n 0, 1) := dk_42 (dk_at dksX8_price_0 18 rfl rfl)
theorem dX8_price_19 : decode cX8_price 19 = .ok (.iconst 2, 1) := dk_5 (dk_at dksX8_price_0 19 rfl rfl)
theorem dX8_price_20 : decode cX8_price 20 = .ok (.invokevirtual 85, 3) := dk_182 0 85 (dk_at dksX8_price_0 20 rfl rfl)
theorem dX8_price_23 : decode cX8_price 23 = .ok (.ireturn, 1) := dk_172 (dk_at dksX8_price_0 23 rfl rfl)
theorem dX8_price_24 : decode cX8_price 24 = .ok (.iload_n 2, 1) := dk_28 (dk_at dksX8_price_1 0 rfl rfl)
theorem dX8_price_25 : decode cX8_price 25 = .ok (.i2l, 1) := dk_133 (dk_at dksX8_price_1 1 rfl rfl)
theorem dX8_price_26 : decode cX8_price 26 = .ok (.lconst 0, 1) := dk_9 (dk_at dksX8_price_1 2 rfl rfl)
theorem dX8_price_27 : decode cX8_price 27 = .ok (.ldc2_w 370, 3) := dk_20 1 114 (dk_at dksX8_price_1 3 rfl rfl)
theorem dX8_price_30 : decode cX8_price 30 = .ok (.invokestatic 105, 3) := dk_184 0 105 (dk_at dksX8_price_1 6 rfl rfl)
theorem dX8_price_33 : decode cX8_price 33 = .ok (.ifCond .ne 9, 3) := dk_154 0 9 (dk_at dksX8_price_1 9 rfl rfl)
theorem dX8_price_36 : decode cX8_price 36 = .ok (.aload_n 0, 1) := dk_42 (dk_at dksX8_price_1 12 rfl rfl)
theorem dX8_price_37 : decode cX8_price 37 = .ok (.iconst 5, 1) := dk_8 (dk_at dksX8_price_1 13 rfl rfl)
theorem dX8_price_38 : decode cX8_price 38 = .ok (.invokevirtual 85, 3) := dk_182 0 85 (dk_at dksX8_price_1 14 rfl rfl)
theorem dX8_price_41 : decode cX8_price 41 = .ok (.ireturn, 1) := dk_172 (dk_at dksX8_price_1 17 rfl rfl)
theorem dX8_price_42 : decode cX8_price 42 = .ok (.aload_n 0, 1) := dk_42 (dk_at dksX8_price_1 18 rfl rfl)
theorem dX8_price_43 : decode cX8_price 43 = .ok (.getfield 35, 3) := dk_180 0 35 (dk_at dksX8_price_1 19 rfl rfl)
theorem dX8_price_46 : decode cX8_price 46 = .ok (.bipush 6, 2) := dk_16 6 (dk_at dksX8_price_1 22 rfl rfl)
theorem dX8_price_48 : decode cX8_price 48 = .ok (.iload_n 1, 1) := dk_27 (dk_at dksX8_price_2 0 rfl rfl)
theorem dX8_price_49 : decode cX8_price 49 = .ok (.iadd, 1) := dk_96 (dk_at dksX8_price_2 1 rfl rfl)
theorem dX8_price_50 : decode cX8_price 50 = .ok (.iload_n 2, 1) := dk_28 (dk_at dksX8_price_2 2 rfl rfl)
theorem dX8_price_51 : decode cX8_price 51 = .ok (.iastore, 1) := dk_79 (dk_at dksX8_price_2 3 rfl rfl)
theorem dX8_price_52 : decode cX8_price 52 = .ok (.iconst 1, 1) := dk_4 (dk_at dksX8_price_2 4 rfl rfl)
theorem dX8_price_53 : decode cX8_price 53 = .ok (.ireturn, 1) := dk_172 (dk_at dksX8_price_2 5 rfl rfl)
abbrev cX8_rule : ByteArray := prog_14_method_101_code
def yX8_rule : MethodName := ⟨RX8, "rule", "(I)Z"⟩
def dkwX8_rule_1 : List UInt8 := [182, 0, 85, 172, 42, 180, 0, 35, 7, 27, 79, 4, 172]
abbrev dktX8_rule_1 : List UInt8 := dkwX8_rule_1 ++ []
def dkwX8_rule_0 : List UInt8 := [42, 3, 181, 0, 70, 42, 3, 181, 0, 73, 27, 133, 9, 20, 1, 116, 184, 0, 105, 154, 0, 9, 42, 8]
abbrev dktX8_rule_0 : List UInt8 := dkwX8_rule_0 ++ dktX8_rule_1
theorem dksX8_rule_0 : cX8_rule.data.toList.drop 0 = dktX8_rule_0 := by decide +kernel
theorem dksX8_rule_1 : cX8_rule.data.toList.drop 24 = dktX8_rule_1 := dk_seg dksX8_rule_0 24 rfl rfl
theorem dX8_rule_0 : decode cX8_rule 0 = .ok (.aload_n 0, 1) := dk_42 (dk_at dksX8_rule_0 0 rfl rfl)
theorem dX8_rule_1 : decode cX8_rule 1 = .ok (.iconst 0, 1) := dk_3 (dk_at dksX8_rule_0 1 rfl rfl)
theorem dX8_rule_2 : decode cX8_rule 2 = .ok (.putfield 70, 3) := dk_181 0 70 (dk_at dksX8_rule_0 2 rfl rfl)
theorem dX8_rule_5 : decode cX8_rule 5 = .ok (.aload_n 0, 1) := dk_42 (dk_at dksX8_rule_0 5 rfl rfl)
theorem dX8_rule_6 : decode cX8_rule 6 = .ok (.iconst 0, 1) := dk_3 (dk_at dksX8_rule_0 6 rfl rfl)
theorem dX8_rule_7 : decode cX8_rule 7 = .ok (.putfield 73, 3) := dk_181 0 73 (dk_at dksX8_rule_0 7 rfl rfl)
theorem dX8_rule_10 : decode cX8_rule 10 = .ok (.iload_n 1, 1) := dk_27 (dk_at dksX8_rule_0 10 rfl rfl)
theorem dX8_rule_11 : decode cX8_rule 11 = .ok (.i2l, 1) := dk_133 (dk_at dksX8_rule_0 11 rfl rfl)
theorem dX8_rule_12 : decode cX8_rule 12 = .ok (.lconst 0, 1) := dk_9 (dk_at dksX8_rule_0 12 rfl rfl)
theorem dX8_rule_13 : decode cX8_rule 13 = .ok (.ldc2_w 372, 3) := dk_20 1 116 (dk_at dksX8_rule_0 13 rfl rfl)
theorem dX8_rule_16 : decode cX8_rule 16 = .ok (.invokestatic 105, 3) := dk_184 0 105 (dk_at dksX8_rule_0 16 rfl rfl)
theorem dX8_rule_19 : decode cX8_rule 19 = .ok (.ifCond .ne 9, 3) := dk_154 0 9 (dk_at dksX8_rule_0 19 rfl rfl)
theorem dX8_rule_22 : decode cX8_rule 22 = .ok (.aload_n 0, 1) := dk_42 (dk_at dksX8_rule_0 22 rfl rfl)
theorem dX8_rule_23 : decode cX8_rule 23 = .ok (.iconst 5, 1) := dk_8 (dk_at dksX8_rule_0 23 rfl rfl)
theorem dX8_rule_24 : decode cX8_rule 24 = .ok (.invokevirtual 85, 3) := dk_182 0 85 (dk_at dksX8_rule_1 0 rfl rfl)
theorem dX8_rule_27 : decode cX8_rule 27 = .ok (.ireturn, 1) := dk_172 (dk_at dksX8_rule_1 3 rfl rfl)
theorem dX8_rule_28 : decode cX8_rule 28 = .ok (.aload_n 0, 1) := dk_42 (dk_at dksX8_rule_1 4 rfl rfl)
theorem dX8_rule_29 : decode cX8_rule 29 = .ok (.getfield 35, 3) := dk_180 0 35 (dk_at dksX8_rule_1 5 rfl rfl)
theorem dX8_rule_32 : decode cX8_rule 32 = .ok (.iconst 4, 1) := dk_7 (dk_at dksX8_rule_1 8 rfl rfl)
theorem dX8_rule_33 : decode cX8_rule 33 = .ok (.iload_n 1, 1) := dk_27 (dk_at dksX8_rule_1 9 rfl rfl)
theorem dX8_rule_34 : decode cX8_rule 34 = .ok (.iastore, 1) := dk_79 (dk_at dksX8_rule_1 10 rfl rfl)
theorem dX8_rule_35 : decode cX8_rule 35 = .ok (.iconst 1, 1) := dk_4 (dk_at dksX8_rule_1 11 rfl rfl)
theorem dX8_rule_36 : decode cX8_rule 36 = .ok (.ireturn, 1) := dk_172 (dk_at dksX8_rule_1 12 rfl rfl)
abbrev cX8_way : ByteArray := prog_14_method_104_code
def yX8_way : MethodName := ⟨RX8, "way", "(II)I"⟩
def dkwX8_way_2 : List UInt8 := [162, 0, 7, 29, 167, 0, 9, 42, 16, 8, 182, 1, 71, 172]
abbrev dktX8_way_2 : List UInt8 := dkwX8_way_2 ++ []
def dkwX8_way_1 : List UInt8 := [42, 27, 28, 182, 1, 121, 42, 180, 0, 44, 42, 180, 0, 35, 16, 42, 27, 96, 46, 46, 62, 29, 16, 99]
abbrev dktX8_way_1 : List UInt8 := dkwX8_way_1 ++ dktX8_way_2
def dkwX8_way_0 : List UInt8 := [42, 3, 181, 0, 70, 42, 42, 27, 28, 182, 1, 118, 181, 0, 73, 42, 180, 0, 73, 158, 0, 5, 2, 172]
abbrev dktX8_way_0 : List UInt8 := dkwX8_way_0 ++ dktX8_way_1
theorem dksX8_way_0 : cX8_way.data.toList.drop 0 = dktX8_way_0 := by decide +kernel
theorem dksX8_way_1 : cX8_way.data.toList.drop 24 = dktX8_way_1 := dk_seg dksX8_way_0 24 rfl rfl
theorem dksX8_way_2 : cX8_way.data.toList.drop 48 = dktX8_way_2 := dk_seg dksX8_way_1 24 rfl rfl
theorem dX8_way_0 : decode cX8_way 0 = .ok (.aload_n 0, 1) := dk_42 (dk_at dksX8_way_0 0 rfl rfl)
theorem dX8_way_1 : decode cX8_way 1 = .ok (.iconst 0, 1) := dk_3 (dk_at dksX8_way_0 1 rfl rfl)
theorem dX8_way_2 : decode cX8_way 2 = .ok (.putfield 70, 3) := dk_181 0 70 (dk_at dksX8_way_0 2 rfl rfl)
theorem dX8_way_5 : decode cX8_way 5 = .ok (.aload_n 0, 1) := dk_42 (dk_at dksX8_way_0 5 rfl rfl)
theorem dX8_way_6 : decode cX8_way 6 = .ok (.aload_n 0, 1) := dk_42 (dk_at dksX8_way_0 6 rfl rfl)
theorem dX8_way_7 : decode cX8_way 7 = .ok (.iload_n 1, 1) := dk_27 (dk_at dksX8_way_0 7 rfl rfl)
theorem dX8_way_8 : decode cX8_way 8 = .ok (.iload_n 2, 1) := dk_28 (dk_at dksX8_way_0 8 rfl rfl)
theorem dX8_way_9 : decode cX8_way 9 = .ok (.invokevirtual 374, 3) := dk_182 1 118 (dk_at dksX8_way_0 9 rfl rfl)
theorem dX8_way_12 : decode cX8_way 12 = .ok (.putfield 73, 3) := dk_181 0 73 (dk_at dksX8_way_0 12 rfl rfl)
theorem dX8_way_15 : decode cX8_way 15 = .ok (.aload_n 0, 1) := dk_42 (dk_at dksX8_way_0 15 rfl rfl)
theorem dX8_way_16 : decode cX8_way 16 = .ok (.getfield 73, 3) := dk_180 0 73 (dk_at dksX8_way_0 16 rfl rfl)
theorem dX8_way_19 : decode cX8_way 19 = .ok (.ifCond .le 5, 3) := dk_158 0 5 (dk_at dksX8_way_0 19 rfl rfl)
theorem dX8_way_22 : decode cX8_way 22 = .ok (.iconst (-1), 1) := dk_2 (dk_at dksX8_way_0 22 rfl rfl)
theorem dX8_way_23 : decode cX8_way 23 = .ok (.ireturn, 1) := dk_172 (dk_at dksX8_way_0 23 rfl rfl)
theorem dX8_way_24 : decode cX8_way 24 = .ok (.aload_n 0, 1) := dk_42 (dk_at dksX8_way_1 0 rfl rfl)
theorem dX8_way_25 : decode cX8_way 25 = .ok (.iload_n 1, 1) := dk_27 (dk_at dksX8_way_1 1 rfl rfl)
theorem dX8_way_26 : decode cX8_way 26 = .ok (.iload_n 2, 1) := dk_28 (dk_at dksX8_way_1 2 rfl rfl)
theorem dX8_way_27 : decode cX8_way 27 = .ok (.invokevirtual 377, 3) := dk_182 1 121 (dk_at dksX8_way_1 3 rfl rfl)
theorem dX8_way_30 : decode cX8_way 30 = .ok (.aload_n 0, 1) := dk_42 (dk_at dksX8_way_1 6 rfl rfl)
theorem dX8_way_31 : decode cX8_way 31 = .ok (.getfield 44, 3) := dk_180 0 44 (dk_at dksX8_way_1 7 rfl rfl)
theorem dX8_way_34 : decode cX8_way 34 = .ok (.aload_n 0, 1) := dk_42 (dk_at dksX8_way_1 10 rfl rfl)
theorem dX8_way_35 : decode cX8_way 35 = .ok (.getfield 35, 3) := dk_180 0 35 (dk_at dksX8_way_1 11 rfl rfl)
theorem dX8_way_38 : decode cX8_way 38 = .ok (.bipush 42, 2) := dk_16 42 (dk_at dksX8_way_1 14 rfl rfl)
theorem dX8_way_40 : decode cX8_way 40 = .ok (.iload_n 1, 1) := dk_27 (dk_at dksX8_way_1 16 rfl rfl)
theorem dX8_way_41 : decode cX8_way 41 = .ok (.iadd, 1) := dk_96 (dk_at dksX8_way_1 17 rfl rfl)
theorem dX8_way_42 : decode cX8_way 42 = .ok (.iaload, 1) := dk_46 (dk_at dksX8_way_1 18 rfl rfl)
theorem dX8_way_43 : decode cX8_way 43 = .ok (.iaload, 1) := dk_46 (dk_at dksX8_way_1 19 rfl rfl)
theorem dX8_way_44 : decode cX8_way 44 = .ok (.istore_n 3, 1) := dk_62 (dk_at dksX8_way_1 20 rfl rfl)
theorem dX8_way_45 : decode cX8_way 45 = .ok (.iload_n 3, 1) := dk_29 (dk_at dksX8_way_1 21 rfl rfl)
theorem dX8_way_46 : decode cX8_way 46 = .ok (.bipush 99, 2) := dk_16 99 (dk_at dksX8_way_1 22 rfl rfl)
theorem dX8_way_48 : decode cX8_way 48 = .ok (.if_icmp .ge 7, 3) := dk_162 0 7 (dk_at dksX8_way_2 0 rfl rfl)
theorem dX8_way_51 : decode cX8_way 51 = .ok (.iload_n 3, 1) := dk_29 (dk_at dksX8_way_2 3 rfl rfl)
theorem dX8_way_52 : decode cX8_way 52 = .ok (.goto 9, 3) := dk_167 0 9 (dk_at dksX8_way_2 4 rfl rfl)
theorem dX8_way_55 : decode cX8_way 55 = .ok (.aload_n 0, 1) := dk_42 (dk_at dksX8_way_2 7 rfl rfl)
theorem dX8_way_56 : decode cX8_way 56 = .ok (.bipush 8, 2) := dk_16 8 (dk_at dksX8_way_2 8 rfl rfl)
theorem dX8_way_58 : decode cX8_way 58 = .ok (.invokevirtual 327, 3) := dk_182 1 71 (dk_at dksX8_way_2 10 rfl rfl)
theorem dX8_way_61 : decode cX8_way 61 = .ok (.ireturn, 1) := dk_172 (dk_at dksX8_way_2 13 rfl rfl)
abbrev cX8_whyNoWay : ByteArray := prog_14_method_103_code
def yX8_whyNoWay : MethodName := ⟨RX8, "whyNoWay", "(II)I"⟩
def dkwX8_whyNoWay_1 : List UInt8 := [182, 1, 54, 153, 0, 8, 16, 9, 167, 0, 4, 3, 172]
abbrev dktX8_whyNoWay_1 : List UInt8 := dkwX8_whyNoWay_1 ++ []
def dkwX8_whyNoWay_0 : List UInt8 := [42, 27, 182, 1, 88, 153, 0, 12, 42, 28, 133, 182, 1, 80, 154, 0, 7, 5, 167, 0, 17, 42, 27]
abbrev dktX8_whyNoWay_0 : List UInt8 := dkwX8_whyNoWay_0 ++ dktX8_whyNoWay_1
theorem dksX8_whyNoWay_0 : cX8_whyNoWay.data.toList.drop 0 = dktX8_whyNoWay_0 := by decide +kernel
theorem dksX8_whyNoWay_1 : cX8_whyNoWay.data.toList.drop 23 = dktX8_whyNoWay_1 := dk_seg dksX8_whyNoWay_0 23 rfl rfl
theorem dX8_whyNoWay_0 : decode cX8_whyNoWay 0 = .ok (.aload_n 0, 1) := dk_42 (dk_at dksX8_whyNoWay_0 0 rfl rfl)
theorem dX8_whyNoWay_1 : decode cX8_whyNoWay 1 = .ok (.iload_n 1, 1) := dk_27 (dk_at dksX8_whyNoWay_0 1 rfl rfl)
theorem dX8_whyNoWay_2 : decode cX8_whyNoWay 2 = .ok (.invokevirtual 344, 3) := dk_182 1 88 (dk_at dksX8_whyNoWay_0 2 rfl rfl)
theorem dX8_whyNoWay_5 : decode cX8_whyNoWay 5 = .ok (.ifCond .eq 12, 3) := dk_153 0 12 (dk_at dksX8_whyNoWay_0 5 rfl rfl)
theorem dX8_whyNoWay_8 : decode cX8_whyNoWay 8 = .ok (.aload_n 0, 1) := dk_42 (dk_at dksX8_whyNoWay_0 8 rfl rfl)
theorem dX8_whyNoWay_9 : decode cX8_whyNoWay 9 = .ok (.iload_n 2, 1) := dk_28 (dk_at dksX8_whyNoWay_0 9 rfl rfl)
theorem dX8_whyNoWay_10 : decode cX8_whyNoWay 10 = .ok (.i2l, 1) := dk_133 (dk_at dksX8_whyNoWay_0 10 rfl rfl)
theorem dX8_whyNoWay_11 : decode cX8_whyNoWay 11 = .ok (.invokevirtual 336, 3) := dk_182 1 80 (dk_at dksX8_whyNoWay_0 11 rfl rfl)
theorem dX8_whyNoWay_14 : decode cX8_whyNoWay 14 = .ok (.ifCond .ne 7, 3) := dk_154 0 7 (dk_at dksX8_whyNoWay_0 14 rfl rfl)
theorem dX8_whyNoWay_17 : decode cX8_whyNoWay 17 = .ok (.iconst 2, 1) := dk_5 (dk_at dksX8_whyNoWay_0 17 rfl rfl)
theorem dX8_whyNoWay_18 : decode cX8_whyNoWay 18 = .ok (.goto 17, 3) := dk_167 0 17 (dk_at dksX8_whyNoWay_0 18 rfl rfl)
theorem dX8_whyNoWay_21 : decode cX8_whyNoWay 21 = .ok (.aload_n 0, 1) := dk_42 (dk_at dksX8_whyNoWay_0 21 rfl rfl)
theorem dX8_whyNoWay_22 : decode cX8_whyNoWay 22 = .ok (.iload_n 1, 1) := dk_27 (dk_at dksX8_whyNoWay_0 22 rfl rfl)
theorem dX8_whyNoWay_23 : decode cX8_whyNoWay 23 = .ok (.invokevirtual 310, 3) := dk_182 1 54 (dk_at dksX8_whyNoWay_1 0 rfl rfl)
theorem dX8_whyNoWay_26 : decode cX8_whyNoWay 26 = .ok (.ifCond .eq 8, 3) := dk_153 0 8 (dk_at dksX8_whyNoWay_1 3 rfl rfl)
theorem dX8_whyNoWay_29 : decode cX8_whyNoWay 29 = .ok (.bipush 9, 2) := dk_16 9 (dk_at dksX8_whyNoWay_1 6 rfl rfl)
theorem dX8_whyNoWay_31 : decode cX8_whyNoWay 31 = .ok (.goto 4, 3) := dk_167 0 4 (dk_at dksX8_whyNoWay_1 8 rfl rfl)
theorem dX8_whyNoWay_34 : decode cX8_whyNoWay 34 = .ok (.iconst 0, 1) := dk_3 (dk_at dksX8_whyNoWay_1 11 rfl rfl)
theorem dX8_whyNoWay_35 : decode cX8_whyNoWay 35 = .ok (.ireturn, 1) := dk_172 (dk_at dksX8_whyNoWay_1 12 rfl rfl)
abbrev cX8_laysFar : ByteArray := prog_14_method_102_code
def yX8_laysFar : MethodName := ⟨RX8, "laysFar", "(II)V"⟩
def dkwX8_laysFar_5 : List UInt8 := [132, 6, 1, 167, 255, 215, 132, 4, 1, 167, 255, 170, 132, 3, 1, 167, 255, 155, 177]
abbrev dktX8_laysFar_5 : List UInt8 := dkwX8_laysFar_5 ++ []
def dkwX8_laysFar_4 : List UInt8 := [153, 0, 24, 42, 180, 0, 44, 21, 6, 46, 29, 160, 0, 13, 42, 180, 0, 44, 21, 4, 29, 4, 96, 79]
abbrev dktX8_laysFar_4 : List UInt8 := dkwX8_laysFar_4 ++ dktX8_laysFar_5
def dkwX8_laysFar_3 : List UInt8 := [21, 4, 182, 1, 101, 54, 5, 3, 54, 6, 21, 6, 16, 7, 162, 0, 40, 21, 5, 21, 6, 184, 0, 109]
abbrev dktX8_laysFar_3 : List UInt8 := dkwX8_laysFar_3 ++ dktX8_laysFar_4
def dkwX8_laysFar_2 : List UInt8 := [4, 46, 162, 0, 81, 42, 180, 0, 44, 21, 4, 46, 16, 99, 162, 0, 7, 3, 167, 0, 10, 42, 27]
abbrev dktX8_laysFar_2 : List UInt8 := dkwX8_laysFar_2 ++ dktX8_laysFar_3
def dkwX8_laysFar_1 : List UInt8 := [79, 132, 3, 1, 167, 255, 230, 3, 62, 29, 16, 7, 162, 0, 101, 3, 54, 4, 21, 4, 42, 180, 0, 35]
abbrev dktX8_laysFar_1 : List UInt8 := dkwX8_laysFar_1 ++ dktX8_laysFar_2
def dkwX8_laysFar_0 : List UInt8 := [3, 62, 29, 16, 7, 162, 0, 26, 42, 180, 0, 44, 29, 29, 28, 160, 0, 7, 3, 167, 0, 5, 16, 99]
abbrev dktX8_laysFar_0 : List UInt8 := dkwX8_laysFar_0 ++ dktX8_laysFar_1
theorem dksX8_laysFar_0 : cX8_laysFar.data.toList.drop 0 = dktX8_laysFar_0 := by decide +kernel
theorem dksX8_laysFar_1 : cX8_laysFar.data.toList.drop 24 = dktX8_laysFar_1 := dk_seg dksX8_laysFar_0 24 rfl rfl
theorem dksX8_laysFar_2 : cX8_laysFar.data.toList.drop 48 = dktX8_laysFar_2 := dk_seg dksX8_laysFar_1 24 rfl rfl
theorem dksX8_laysFar_3 : cX8_laysFar.data.toList.drop 71 = dktX8_laysFar_3 := dk_seg dksX8_laysFar_2 23 rfl rfl
theorem dksX8_laysFar_4 : cX8_laysFar.data.toList.drop 95 = dktX8_laysFar_4 := dk_seg dksX8_laysFar_3 24 rfl rfl
theorem dksX8_laysFar_5 : cX8_laysFar.data.toList.drop 119 = dktX8_laysFar_5 := dk_seg dksX8_laysFar_4 24 rfl rfl
theorem dX8_laysFar_0 : decode cX8_laysFar 0 = .ok (.iconst 0, 1) := dk_3 (dk_at dksX8_laysFar_0 0 rfl rfl)
theorem dX8_laysFar_1 : decode cX8_laysFar 1 = .ok (.istore_n 3, 1) := dk_62 (dk_at dksX8_laysFar_0 1 rfl rfl)
theorem dX8_laysFar_2 : decode cX8_laysFar 2 = .ok (.iload_n 3, 1) := dk_29 (dk_at dksX8_laysFar_0 2 rfl rfl)
theorem dX8_laysFar_3 : decode cX8_laysFar 3 = .ok (.bipush 7, 2) := dk_16 7 (dk_at dksX8_laysFar_0 3 rfl rfl)
theorem dX8_laysFar_5 : decode cX8_laysFar 5 = .ok (.if_icmp .ge 26, 3) := dk_162 0 26 (dk_at dksX8_laysFar_0 5 rfl rfl)
theorem dX8_laysFar_8 : decode cX8_laysFar 8 = .ok (.aload_n 0, 1) := dk_42 (dk_at dksX8_laysFar_0 8 rfl rfl)
theorem dX8_laysFar_9 : decode cX8_laysFar 9 = .ok (.getfield 44, 3) := dk_180 0 44 (dk_at dksX8_laysFar_0 9 rfl rfl)
theorem dX8_laysFar_12 : decode cX8_laysFar 12 = .ok (.iload_n 3, 1) := dk_29 (dk_at dksX8_laysFar_0 12 rfl rfl)
theorem dX8_laysFar_13 : decode cX8_laysFar 13 = .ok (.iload_n 3, 1) := dk_29 (dk_at dksX8_laysFar_0 13 rfl rfl)
theorem dX8_laysFar_14 : decode cX8_laysFar 14 = .ok (.iload_n 2, 1) := dk_28 (dk_at dksX8_laysFar_0 14 rfl rfl)
theorem dX8_laysFar_15 : decode cX8_laysFar 15 = .ok (.if_icmp .ne 7, 3) := dk_160 0 7 (dk_at dksX8_laysFar_0 15 rfl rfl)
theorem dX8_laysFar_18 : decode cX8_laysFar 18 = .ok (.iconst 0, 1) := dk_3 (dk_at dksX8_laysFar_0 18 rfl rfl)
theorem dX8_laysFar_19 : decode cX8_laysFar 19 = .ok (.goto 5, 3) := dk_167 0 5 (dk_at dksX8_laysFar_0 19 rfl rfl)
theorem dX8_laysFar_22 : decode cX8_laysFar 22 = .ok (.bipush 99, 2) := dk_16 99 (dk_at dksX8_laysFar_0 22 rfl rfl)
theorem dX8_laysFar_24 : decode cX8_laysFar 24 = .ok (.iastore, 1) := dk_79 (dk_at dksX8_laysFar_1 0 rfl rfl)
theorem dX8_laysFar_25 : decode cX8_laysFar 25 = .ok (.iinc 3 1, 3) := dk_132 3 1 (dk_at dksX8_laysFar_1 1 rfl rfl)
theorem dX8_laysFar_28 : decode cX8_laysFar 28 = .ok (.goto (-26), 3) := dk_167 255 230 (dk_at dksX8_laysFar_1 4 rfl rfl)
theorem dX8_laysFar_31 : decode cX8_laysFar 31 = .ok (.iconst 0, 1) := dk_3 (dk_at dksX8_laysFar_1 7 rfl rfl)
theorem dX8_laysFar_32 : decode cX8_laysFar 32 = .ok (.istore_n 3, 1) := dk_62 (dk_at dksX8_laysFar_1 8 rfl rfl)
theorem dX8_laysFar_33 : decode cX8_laysFar 33 = .ok (.iload_n 3, 1) := dk_29 (dk_at dksX8_laysFar_1 9 rfl rfl)
theorem dX8_laysFar_34 : decode cX8_laysFar 34 = .ok (.bipush 7, 2) := dk_16 7 (dk_at dksX8_laysFar_1 10 rfl rfl)
theorem dX8_laysFar_36 : decode cX8_laysFar 36 = .ok (.if_icmp .ge 101, 3) := dk_162 0 101 (dk_at dksX8_laysFar_1 12 rfl rfl)
theorem dX8_laysFar_39 : decode cX8_laysFar 39 = .ok (.iconst 0, 1) := dk_3 (dk_at dksX8_laysFar_1 15 rfl rfl)
theorem dX8_laysFar_40 : decode cX8_laysFar 40 = .ok (.istore 4, 2) := dk_54 4 (dk_at dksX8_laysFar_1 16 rfl rfl)
theorem dX8_laysFar_42 : decode cX8_laysFar 42 = .ok (.iload 4, 2) := dk_21 4 (dk_at dksX8_laysFar_1 18 rfl rfl)
theorem dX8_laysFar_44 : decode cX8_laysFar 44 = .ok (.aload_n 0, 1) := dk_42 (dk_at dksX8_laysFar_1 20 rfl rfl)
theorem dX8_laysFar_45 : decode cX8_laysFar 45 = .ok (.getfield 35, 3) := dk_180 0 35 (dk_at dksX8_laysFar_1 21 rfl rfl)
theorem dX8_laysFar_48 : decode cX8_laysFar 48 = .ok (.iconst 1, 1) := dk_4 (dk_at dksX8_laysFar_2 0 rfl rfl)
theorem dX8_laysFar_49 : decode cX8_laysFar 49 = .ok (.iaload, 1) := dk_46 (dk_at dksX8_laysFar_2 1 rfl rfl)
theorem dX8_laysFar_50 : decode cX8_laysFar 50 = .ok (.if_icmp .ge 81, 3) := dk_162 0 81 (dk_at dksX8_laysFar_2 2 rfl rfl)
theorem dX8_laysFar_53 : decode cX8_laysFar 53 = .ok (.aload_n 0, 1) := dk_42 (dk_at dksX8_laysFar_2 5 rfl rfl)
theorem dX8_laysFar_54 : decode cX8_laysFar 54 = .ok (.getfield 44, 3) := dk_180 0 44 (dk_at dksX8_laysFar_2 6 rfl rfl)
theorem dX8_laysFar_57 : decode cX8_laysFar 57 = .ok (.iload 4, 2) := dk_21 4 (dk_at dksX8_laysFar_2 9 rfl rfl)
theorem dX8_laysFar_59 : decode cX8_laysFar 59 = .ok (.iaload, 1) := dk_46 (dk_at dksX8_laysFar_2 11 rfl rfl)
theorem dX8_laysFar_60 : decode cX8_laysFar 60 = .ok (.bipush 99, 2) := dk_16 99 (dk_at dksX8_laysFar_2 12 rfl rfl)
theorem dX8_laysFar_62 : decode cX8_laysFar 62 = .ok (.if_icmp .ge 7, 3) := dk_162 0 7 (dk_at dksX8_laysFar_2 14 rfl rfl)
theorem dX8_laysFar_65 : decode cX8_laysFar 65 = .ok (.iconst 0, 1) := dk_3 (dk_at dksX8_laysFar_2 17 rfl rfl)
theorem dX8_laysFar_66 : decode cX8_laysFar 66 = .ok (.goto 10, 3) := dk_167 0 10 (dk_at dksX8_laysFar_2 18 rfl rfl)
theorem dX8_laysFar_69 : decode cX8_laysFar 69 = .ok (.aload_n 0, 1) := dk_42 (dk_at dksX8_laysFar_2 21 rfl rfl)
theorem dX8_laysFar_70 : decode cX8_laysFar 70 = .ok (.iload_n 1, 1) := dk_27 (dk_at dksX8_laysFar_2 22 rfl rfl)
theorem dX8_laysFar_71 : decode cX8_laysFar 71 = .ok (.iload 4, 2) := dk_21 4 (dk_at dksX8_laysFar_3 0 rfl rfl)
theorem dX8_laysFar_73 : decode cX8_laysFar 73 = .ok (.invokevirtual 357, 3) := dk_182 1 101 (dk_at dksX8_laysFar_3 2 rfl rfl)
theorem dX8_laysFar_76 : decode cX8_laysFar 76 = .ok (.istore 5, 2) := dk_54 5 (dk_at dksX8_laysFar_3 5 rfl rfl)
theorem dX8_laysFar_78 : decode cX8_laysFar 78 = .ok (.iconst 0, 1) := dk_3 (dk_at dksX8_laysFar_3 7 rfl rfl)
theorem dX8_laysFar_79 : decode cX8_laysFar 79 = .ok (.istore 6, 2) := dk_54 6 (dk_at dksX8_laysFar_3 8 rfl rfl)
theorem dX8_laysFar_81 : decode cX8_laysFar 81 = .ok (.iload 6, 2) := dk_21 6 (dk_at dksX8_laysFar_3 10 rfl rfl)
theorem dX8_laysFar_83 : decode cX8_laysFar 83 = .ok (.bipush 7, 2) := dk_16 7 (dk_at dksX8_laysFar_3 12 rfl rfl)
theorem dX8_laysFar_85 : decode cX8_laysFar 85 = .ok (.if_icmp .ge 40, 3) := dk_162 0 40 (dk_at dksX8_laysFar_3 14 rfl rfl)
theorem dX8_laysFar_88 : decode cX8_laysFar 88 = .ok (.iload 5, 2) := dk_21 5 (dk_at dksX8_laysFar_3 17 rfl rfl)
theorem dX8_laysFar_90 : decode cX8_laysFar 90 = .ok (.iload 6, 2) := dk_21 6 (dk_at dksX8_laysFar_3 19 rfl rfl)
theorem dX8_laysFar_92 : decode cX8_laysFar 92 = .ok (.invokestatic 109, 3) := dk_184 0 109 (dk_at dksX8_laysFar_3 21 rfl rfl)
theorem dX8_laysFar_95 : decode cX8_laysFar 95 = .ok (.ifCond .eq 24, 3) := dk_153 0 24 (dk_at dksX8_laysFar_4 0 rfl rfl)
theorem dX8_laysFar_98 : decode cX8_laysFar 98 = .ok (.aload_n 0, 1) := dk_42 (dk_at dksX8_laysFar_4 3 rfl rfl)
theorem dX8_laysFar_99 : decode cX8_laysFar 99 = .ok (.getfield 44, 3) := dk_180 0 44 (dk_at dksX8_laysFar_4 4 rfl rfl)
theorem dX8_laysFar_102 : decode cX8_laysFar 102 = .ok (.iload 6, 2) := dk_21 6 (dk_at dksX8_laysFar_4 7 rfl rfl)
theorem dX8_laysFar_104 : decode cX8_laysFar 104 = .ok (.iaload, 1) := dk_46 (dk_at dksX8_laysFar_4 9 rfl rfl)
theorem dX8_laysFar_105 : decode cX8_laysFar 105 = .ok (.iload_n 3, 1) := dk_29 (dk_at dksX8_laysFar_4 10 rfl rfl)
theorem dX8_laysFar_106 : decode cX8_laysFar 106 = .ok (.if_icmp .ne 13, 3) := dk_160 0 13 (dk_at dksX8_laysFar_4 11 rfl rfl)
theorem dX8_laysFar_109 : decode cX8_laysFar 109 = .ok (.aload_n 0, 1) := dk_42 (dk_at dksX8_laysFar_4 14 rfl rfl)
theorem dX8_laysFar_110 : decode cX8_laysFar 110 = .ok (.getfield 44, 3) := dk_180 0 44 (dk_at dksX8_laysFar_4 15 rfl rfl)
theorem dX8_laysFar_113 : decode cX8_laysFar 113 = .ok (.iload 4, 2) := dk_21 4 (dk_at dksX8_laysFar_4 18 rfl rfl)
theorem dX8_laysFar_115 : decode cX8_laysFar 115 = .ok (.iload_n 3, 1) := dk_29 (dk_at dksX8_laysFar_4 20 rfl rfl)
theorem dX8_laysFar_116 : decode cX8_laysFar 116 = .ok (.iconst 1, 1) := dk_4 (dk_at dksX8_laysFar_4 21 rfl rfl)
theorem dX8_laysFar_117 : decode cX8_laysFar 117 = .ok (.iadd, 1) := dk_96 (dk_at dksX8_laysFar_4 22 rfl rfl)
theorem dX8_laysFar_118 : decode cX8_laysFar 118 = .ok (.iastore, 1) := dk_79 (dk_at dksX8_laysFar_4 23 rfl rfl)
theorem dX8_laysFar_119 : decode cX8_laysFar 119 = .ok (.iinc 6 1, 3) := dk_132 6 1 (dk_at dksX8_laysFar_5 0 rfl rfl)
theorem dX8_laysFar_122 : decode cX8_laysFar 122 = .ok (.goto (-41), 3) := dk_167 255 215 (dk_at dksX8_laysFar_5 3 rfl rfl)
theorem dX8_laysFar_125 : decode cX8_laysFar 125 = .ok (.iinc 4 1, 3) := dk_132 4 1 (dk_at dksX8_laysFar_5 6 rfl rfl)
theorem dX8_laysFar_128 : decode cX8_laysFar 128 = .ok (.goto (-86), 3) := dk_167 255 170 (dk_at dksX8_laysFar_5 9 rfl rfl)
theorem dX8_laysFar_131 : decode cX8_laysFar 131 = .ok (.iinc 3 1, 3) := dk_132 3 1 (dk_at dksX8_laysFar_5 12 rfl rfl)
theorem dX8_laysFar_134 : decode cX8_laysFar 134 = .ok (.goto (-101), 3) := dk_167 255 155 (dk_at dksX8_laysFar_5 15 rfl rfl)
theorem dX8_laysFar_137 : decode cX8_laysFar 137 = .ok (.return_, 1) := dk_177 (dk_at dksX8_laysFar_5 18 rfl rfl)
abbrev cX8_wayAt : ByteArray := prog_14_method_105_code
def yX8_wayAt : MethodName := ⟨RX8, "wayAt", "(III)I"⟩
def dkwX8_wayAt_6 : List UInt8 := [21, 4, 172]
abbrev dktX8_wayAt_6 : List UInt8 := dkwX8_wayAt_6 ++ []
def dkwX8_wayAt_5 : List UInt8 := [21, 4, 46, 4, 100, 159, 0, 9, 132, 7, 1, 167, 255, 224, 21, 7, 54, 4, 132, 5, 1, 167, 255, 196]
abbrev dktX8_wayAt_5 : List UInt8 := dkwX8_wayAt_5 ++ dktX8_wayAt_6
def dkwX8_wayAt_4 : List UInt8 := [3, 54, 7, 21, 6, 21, 7, 184, 0, 109, 153, 0, 22, 42, 180, 0, 44, 21, 7, 46, 42, 180, 0, 44]
abbrev dktX8_wayAt_4 : List UInt8 := dkwX8_wayAt_4 ++ dktX8_wayAt_5
def dkwX8_wayAt_3 : List UInt8 := [16, 8, 182, 1, 71, 172, 3, 54, 5, 21, 5, 29, 162, 0, 60, 42, 27, 21, 4, 182, 1, 101, 54, 6]
abbrev dktX8_wayAt_3 : List UInt8 := dkwX8_wayAt_3 ++ dktX8_wayAt_4
def dkwX8_wayAt_2 : List UInt8 := [16, 99, 162, 0, 20, 29, 133, 9, 42, 180, 0, 44, 21, 4, 46, 133, 184, 0, 105, 154, 0, 10, 42]
abbrev dktX8_wayAt_2 : List UInt8 := dkwX8_wayAt_2 ++ dktX8_wayAt_3
def dkwX8_wayAt_1 : List UInt8 := [42, 27, 28, 182, 1, 121, 42, 180, 0, 35, 16, 42, 27, 96, 46, 54, 4, 42, 180, 0, 44, 21, 4, 46]
abbrev dktX8_wayAt_1 : List UInt8 := dkwX8_wayAt_1 ++ dktX8_wayAt_2
def dkwX8_wayAt_0 : List UInt8 := [42, 3, 181, 0, 70, 42, 42, 27, 28, 182, 1, 118, 181, 0, 73, 42, 180, 0, 73, 158, 0, 5, 2, 172]
abbrev dktX8_wayAt_0 : List UInt8 := dkwX8_wayAt_0 ++ dktX8_wayAt_1
theorem dksX8_wayAt_0 : cX8_wayAt.data.toList.drop 0 = dktX8_wayAt_0 := by decide +kernel
theorem dksX8_wayAt_1 : cX8_wayAt.data.toList.drop 24 = dktX8_wayAt_1 := dk_seg dksX8_wayAt_0 24 rfl rfl
theorem dksX8_wayAt_2 : cX8_wayAt.data.toList.drop 48 = dktX8_wayAt_2 := dk_seg dksX8_wayAt_1 24 rfl rfl
theorem dksX8_wayAt_3 : cX8_wayAt.data.toList.drop 71 = dktX8_wayAt_3 := dk_seg dksX8_wayAt_2 23 rfl rfl
theorem dksX8_wayAt_4 : cX8_wayAt.data.toList.drop 95 = dktX8_wayAt_4 := dk_seg dksX8_wayAt_3 24 rfl rfl
theorem dksX8_wayAt_5 : cX8_wayAt.data.toList.drop 119 = dktX8_wayAt_5 := dk_seg dksX8_wayAt_4 24 rfl rfl
theorem dksX8_wayAt_6 : cX8_wayAt.data.toList.drop 143 = dktX8_wayAt_6 := dk_seg dksX8_wayAt_5 24 rfl rfl
theorem dX8_wayAt_0 : decode cX8_wayAt 0 = .ok (.aload_n 0, 1) := dk_42 (dk_at dksX8_wayAt_0 0 rfl rfl)
theorem dX8_wayAt_1 : decode cX8_wayAt 1 = .ok (.iconst 0, 1) := dk_3 (dk_at dksX8_wayAt_0 1 rfl rfl)
theorem dX8_wayAt_2 : decode cX8_wayAt 2 = .ok (.putfield 70, 3) := dk_181 0 70 (dk_at dksX8_wayAt_0 2 rfl rfl)
theorem dX8_wayAt_5 : decode cX8_wayAt 5 = .ok (.aload_n 0, 1) := dk_42 (dk_at dksX8_wayAt_0 5 rfl rfl)
theorem dX8_wayAt_6 : decode cX8_wayAt 6 = .ok (.aload_n 0, 1) := dk_42 (dk_at dksX8_wayAt_0 6 rfl rfl)
theorem dX8_wayAt_7 : decode cX8_wayAt 7 = .ok (.iload_n 1, 1) := dk_27 (dk_at dksX8_wayAt_0 7 rfl rfl)
theorem dX8_wayAt_8 : decode cX8_wayAt 8 = .ok (.iload_n 2, 1) := dk_28 (dk_at dksX8_wayAt_0 8 rfl rfl)
theorem dX8_wayAt_9 : decode cX8_wayAt 9 = .ok (.invokevirtual 374, 3) := dk_182 1 118 (dk_at dksX8_wayAt_0 9 rfl rfl)
theorem dX8_wayAt_12 : decode cX8_wayAt 12 = .ok (.putfield 73, 3) := dk_181 0 73 (dk_at dksX8_wayAt_0 12 rfl rfl)
theorem dX8_wayAt_15 : decode cX8_wayAt 15 = .ok (.aload_n 0, 1) := dk_42 (dk_at dksX8_wayAt_0 15 rfl rfl)
theorem dX8_wayAt_16 : decode cX8_wayAt 16 = .ok (.getfield 73, 3) := dk_180 0 73 (dk_at dksX8_wayAt_0 16 rfl rfl)
theorem dX8_wayAt_19 : decode cX8_wayAt 19 = .ok (.ifCond .le 5, 3) := dk_158 0 5 (dk_at dksX8_wayAt_0 19 rfl rfl)
theorem dX8_wayAt_22 : decode cX8_wayAt 22 = .ok (.iconst (-1), 1) := dk_2 (dk_at dksX8_wayAt_0 22 rfl rfl)
theorem dX8_wayAt_23 : decode cX8_wayAt 23 = .ok (.ireturn, 1) := dk_172 (dk_at dksX8_wayAt_0 23 rfl rfl)
theorem dX8_wayAt_24 : decode cX8_wayAt 24 = .ok (.aload_n 0, 1) := dk_42 (dk_at dksX8_wayAt_1 0 rfl rfl)
theorem dX8_wayAt_25 : decode cX8_wayAt 25 = .ok (.iload_n 1, 1) := dk_27 (dk_at dksX8_wayAt_1 1 rfl rfl)
theorem dX8_wayAt_26 : decode cX8_wayAt 26 = .ok (.iload_n 2, 1) := dk_28 (dk_at dksX8_wayAt_1 2 rfl rfl)
theorem dX8_wayAt_27 : decode cX8_wayAt 27 = .ok (.invokevirtual 377, 3) := dk_182 1 121 (dk_at dksX8_wayAt_1 3 rfl rfl)
theorem dX8_wayAt_30 : decode cX8_wayAt 30 = .ok (.aload_n 0, 1) := dk_42 (dk_at dksX8_wayAt_1 6 rfl rfl)
theorem dX8_wayAt_31 : decode cX8_wayAt 31 = .ok (.getfield 35, 3) := dk_180 0 35 (dk_at dksX8_wayAt_1 7 rfl rfl)
theorem dX8_wayAt_34 : decode cX8_wayAt 34 = .ok (.bipush 42, 2) := dk_16 42 (dk_at dksX8_wayAt_1 10 rfl rfl)
theorem dX8_wayAt_36 : decode cX8_wayAt 36 = .ok (.iload_n 1, 1) := dk_27 (dk_at dksX8_wayAt_1 12 rfl rfl)
theorem dX8_wayAt_37 : decode cX8_wayAt 37 = .ok (.iadd, 1) := dk_96 (dk_at dksX8_wayAt_1 13 rfl rfl)
theorem dX8_wayAt_38 : decode cX8_wayAt 38 = .ok (.iaload, 1) := dk_46 (dk_at dksX8_wayAt_1 14 rfl rfl)
theorem dX8_wayAt_39 : decode cX8_wayAt 39 = .ok (.istore 4, 2) := dk_54 4 (dk_at dksX8_wayAt_1 15 rfl rfl)
theorem dX8_wayAt_41 : decode cX8_wayAt 41 = .ok (.aload_n 0, 1) := dk_42 (dk_at dksX8_wayAt_1 17 rfl rfl)
theorem dX8_wayAt_42 : decode cX8_wayAt 42 = .ok (.getfield 44, 3) := dk_180 0 44 (dk_at dksX8_wayAt_1 18 rfl rfl)
theorem dX8_wayAt_45 : decode cX8_wayAt 45 = .ok (.iload 4, 2) := dk_21 4 (dk_at dksX8_wayAt_1 21 rfl rfl)
theorem dX8_wayAt_47 : decode cX8_wayAt 47 = .ok (.iaload, 1) := dk_46 (dk_at dksX8_wayAt_1 23 rfl rfl)
theorem dX8_wayAt_48 : decode cX8_wayAt 48 = .ok (.bipush 99, 2) := dk_16 99 (dk_at dksX8_wayAt_2 0 rfl rfl)
theorem dX8_wayAt_50 : decode cX8_wayAt 50 = .ok (.if_icmp .ge 20, 3) := dk_162 0 20 (dk_at dksX8_wayAt_2 2 rfl rfl)
theorem dX8_wayAt_53 : decode cX8_wayAt 53 = .ok (.iload_n 3, 1) := dk_29 (dk_at dksX8_wayAt_2 5 rfl rfl)
theorem dX8_wayAt_54 : decode cX8_wayAt 54 = .ok (.i2l, 1) := dk_133 (dk_at dksX8_wayAt_2 6 rfl rfl)
theorem dX8_wayAt_55 : decode cX8_wayAt 55 = .ok (.lconst 0, 1) := dk_9 (dk_at dksX8_wayAt_2 7 rfl rfl)
theorem dX8_wayAt_56 : decode cX8_wayAt 56 = .ok (.aload_n 0, 1) := dk_42 (dk_at dksX8_wayAt_2 8 rfl rfl)
theorem dX8_wayAt_57 : decode cX8_wayAt 57 = .ok (.getfield 44, 3) := dk_180 0 44 (dk_at dksX8_wayAt_2 9 rfl rfl)
theorem dX8_wayAt_60 : decode cX8_wayAt 60 = .ok (.iload 4, 2) := dk_21 4 (dk_at dksX8_wayAt_2 12 rfl rfl)
theorem dX8_wayAt_62 : decode cX8_wayAt 62 = .ok (.iaload, 1) := dk_46 (dk_at dksX8_wayAt_2 14 rfl rfl)
theorem dX8_wayAt_63 : decode cX8_wayAt 63 = .ok (.i2l, 1) := dk_133 (dk_at dksX8_wayAt_2 15 rfl rfl)
theorem dX8_wayAt_64 : decode cX8_wayAt 64 = .ok (.invokestatic 105, 3) := dk_184 0 105 (dk_at dksX8_wayAt_2 16 rfl rfl)
theorem dX8_wayAt_67 : decode cX8_wayAt 67 = .ok (.ifCond .ne 10, 3) := dk_154 0 10 (dk_at dksX8_wayAt_2 19 rfl rfl)
theorem dX8_wayAt_70 : decode cX8_wayAt 70 = .ok (.aload_n 0, 1) := dk_42 (dk_at dksX8_wayAt_2 22 rfl rfl)
theorem dX8_wayAt_71 : decode cX8_wayAt 71 = .ok (.bipush 8, 2) := dk_16 8 (dk_at dksX8_wayAt_3 0 rfl rfl)
theorem dX8_wayAt_73 : decode cX8_wayAt 73 = .ok (.invokevirtual 327, 3) := dk_182 1 71 (dk_at dksX8_wayAt_3 2 rfl rfl)
theorem dX8_wayAt_76 : decode cX8_wayAt 76 = .ok (.ireturn, 1) := dk_172 (dk_at dksX8_wayAt_3 5 rfl rfl)
theorem dX8_wayAt_77 : decode cX8_wayAt 77 = .ok (.iconst 0, 1) := dk_3 (dk_at dksX8_wayAt_3 6 rfl rfl)
theorem dX8_wayAt_78 : decode cX8_wayAt 78 = .ok (.istore 5, 2) := dk_54 5 (dk_at dksX8_wayAt_3 7 rfl rfl)
theorem dX8_wayAt_80 : decode cX8_wayAt 80 = .ok (.iload 5, 2) := dk_21 5 (dk_at dksX8_wayAt_3 9 rfl rfl)
theorem dX8_wayAt_82 : decode cX8_wayAt 82 = .ok (.iload_n 3, 1) := dk_29 (dk_at dksX8_wayAt_3 11 rfl rfl)
theorem dX8_wayAt_83 : decode cX8_wayAt 83 = .ok (.if_icmp .ge 60, 3) := dk_162 0 60 (dk_at dksX8_wayAt_3 12 rfl rfl)
theorem dX8_wayAt_86 : decode cX8_wayAt 86 = .ok (.aload_n 0, 1) := dk_42 (dk_at dksX8_wayAt_3 15 rfl rfl)
theorem dX8_wayAt_87 : decode cX8_wayAt 87 = .ok (.iload_n 1, 1) := dk_27 (dk_at dksX8_wayAt_3 16 rfl rfl)
theorem dX8_wayAt_88 : decode cX8_wayAt 88 = .ok (.iload 4, 2) := dk_21 4 (dk_at dksX8_wayAt_3 17 rfl rfl)
theorem dX8_wayAt_90 : decode cX8_wayAt 90 = .ok (.invokevirtual 357, 3) := dk_182 1 101 (dk_at dksX8_wayAt_3 19 rfl rfl)
theorem dX8_wayAt_93 : decode cX8_wayAt 93 = .ok (.istore 6, 2) := dk_54 6 (dk_at dksX8_wayAt_3 22 rfl rfl)
theorem dX8_wayAt_95 : decode cX8_wayAt 95 = .ok (.iconst 0, 1) := dk_3 (dk_at dksX8_wayAt_4 0 rfl rfl)
theorem dX8_wayAt_96 : decode cX8_wayAt 96 = .ok (.istore 7, 2) := dk_54 7 (dk_at dksX8_wayAt_4 1 rfl rfl)
theorem dX8_wayAt_98 : decode cX8_wayAt 98 = .ok (.iload 6, 2) := dk_21 6 (dk_at dksX8_wayAt_4 3 rfl rfl)
theorem dX8_wayAt_100 : decode cX8_wayAt 100 = .ok (.iload 7, 2) := dk_21 7 (dk_at dksX8_wayAt_4 5 rfl rfl)
theorem dX8_wayAt_102 : decode cX8_wayAt 102 = .ok (.invokestatic 109, 3) := dk_184 0 109 (dk_at dksX8_wayAt_4 7 rfl rfl)
theorem dX8_wayAt_105 : decode cX8_wayAt 105 = .ok (.ifCond .eq 22, 3) := dk_153 0 22 (dk_at dksX8_wayAt_4 10 rfl rfl)
theorem dX8_wayAt_108 : decode cX8_wayAt 108 = .ok (.aload_n 0, 1) := dk_42 (dk_at dksX8_wayAt_4 13 rfl rfl)
theorem dX8_wayAt_109 : decode cX8_wayAt 109 = .ok (.getfield 44, 3) := dk_180 0 44 (dk_at dksX8_wayAt_4 14 rfl rfl)
theorem dX8_wayAt_112 : decode cX8_wayAt 112 = .ok (.iload 7, 2) := dk_21 7 (dk_at dksX8_wayAt_4 17 rfl rfl)
theorem dX8_wayAt_114 : decode cX8_wayAt 114 = .ok (.iaload, 1) := dk_46 (dk_at dksX8_wayAt_4 19 rfl rfl)
theorem dX8_wayAt_115 : decode cX8_wayAt 115 = .ok (.aload_n 0, 1) := dk_42 (dk_at dksX8_wayAt_4 20 rfl rfl)
theorem dX8_wayAt_116 : decode cX8_wayAt 116 = .ok (.getfield 44, 3) := dk_180 0 44 (dk_at dksX8_wayAt_4 21 rfl rfl)
theorem dX8_wayAt_119 : decode cX8_wayAt 119 = .ok (.iload 4, 2) := dk_21 4 (dk_at dksX8_wayAt_5 0 rfl rfl)
theorem dX8_wayAt_121 : decode cX8_wayAt 121 = .ok (.iaload, 1) := dk_46 (dk_at dksX8_wayAt_5 2 rfl rfl)
theorem dX8_wayAt_122 : decode cX8_wayAt 122 = .ok (.iconst 1, 1) := dk_4 (dk_at dksX8_wayAt_5 3 rfl rfl)
theorem dX8_wayAt_123 : decode cX8_wayAt 123 = .ok (.isub, 1) := dk_100 (dk_at dksX8_wayAt_5 4 rfl rfl)
theorem dX8_wayAt_124 : decode cX8_wayAt 124 = .ok (.if_icmp .eq 9, 3) := dk_159 0 9 (dk_at dksX8_wayAt_5 5 rfl rfl)
theorem dX8_wayAt_127 : decode cX8_wayAt 127 = .ok (.iinc 7 1, 3) := dk_132 7 1 (dk_at dksX8_wayAt_5 8 rfl rfl)
theorem dX8_wayAt_130 : decode cX8_wayAt 130 = .ok (.goto (-32), 3) := dk_167 255 224 (dk_at dksX8_wayAt_5 11 rfl rfl)
theorem dX8_wayAt_133 : decode cX8_wayAt 133 = .ok (.iload 7, 2) := dk_21 7 (dk_at dksX8_wayAt_5 14 rfl rfl)
theorem dX8_wayAt_135 : decode cX8_wayAt 135 = .ok (.istore 4, 2) := dk_54 4 (dk_at dksX8_wayAt_5 16 rfl rfl)
theorem dX8_wayAt_137 : decode cX8_wayAt 137 = .ok (.iinc 5 1, 3) := dk_132 5 1 (dk_at dksX8_wayAt_5 18 rfl rfl)
theorem dX8_wayAt_140 : decode cX8_wayAt 140 = .ok (.goto (-60), 3) := dk_167 255 196 (dk_at dksX8_wayAt_5 21 rfl rfl)
theorem dX8_wayAt_143 : decode cX8_wayAt 143 = .ok (.iload 4, 2) := dk_21 4 (dk_at dksX8_wayAt_6 0 rfl rfl)
theorem dX8_wayAt_145 : decode cX8_wayAt 145 = .ok (.ireturn, 1) := dk_172 (dk_at dksX8_wayAt_6 2 rfl rfl)
abbrev cX8_reach : ByteArray := prog_14_method_107_code
def yX8_reach : MethodName := ⟨RX8, "reach", "(I)I"⟩
def dkwX8_reach_3 : List UInt8 := [182, 1, 101, 167, 0, 4, 3, 128, 61, 132, 4, 1, 167, 255, 219, 132, 3, 1, 167, 255, 204, 28, 172]
abbrev dktX8_reach_3 : List UInt8 := dkwX8_reach_3 ++ []
def dkwX8_reach_2 : List UInt8 := [42, 180, 0, 35, 4, 46, 162, 0, 32, 28, 28, 21, 4, 184, 0, 109, 153, 0, 13, 42, 27, 21, 4]
abbrev dktX8_reach_2 : List UInt8 := dkwX8_reach_2 ++ dktX8_reach_3
def dkwX8_reach_1 : List UInt8 := [42, 180, 0, 35, 16, 42, 27, 96, 46, 120, 61, 3, 62, 29, 16, 7, 162, 0, 52, 3, 54, 4, 21, 4]
abbrev dktX8_reach_1 : List UInt8 := dkwX8_reach_1 ++ dktX8_reach_2
def dkwX8_reach_0 : List UInt8 := [42, 3, 181, 0, 70, 42, 42, 27, 182, 1, 124, 181, 0, 73, 42, 180, 0, 73, 158, 0, 5, 2, 172, 4]
abbrev dktX8_reach_0 : List UInt8 := dkwX8_reach_0 ++ dktX8_reach_1
theorem dksX8_reach_0 : cX8_reach.data.toList.drop 0 = dktX8_reach_0 := by decide +kernel
theorem dksX8_reach_1 : cX8_reach.data.toList.drop 24 = dktX8_reach_1 := dk_seg dksX8_reach_0 24 rfl rfl
theorem dksX8_reach_2 : cX8_reach.data.toList.drop 48 = dktX8_reach_2 := dk_seg dksX8_reach_1 24 rfl rfl
theorem dksX8_reach_3 : cX8_reach.data.toList.drop 71 = dktX8_reach_3 := dk_seg dksX8_reach_2 23 rfl rfl
theorem dX8_reach_0 : decode cX8_reach 0 = .ok (.aload_n 0, 1) := dk_42 (dk_at dksX8_reach_0 0 rfl rfl)
theorem dX8_reach_1 : decode cX8_reach 1 = .ok (.iconst 0, 1) := dk_3 (dk_at dksX8_reach_0 1 rfl rfl)
theorem dX8_reach_2 : decode cX8_reach 2 = .ok (.putfield 70, 3) := dk_181 0 70 (dk_at dksX8_reach_0 2 rfl rfl)
theorem dX8_reach_5 : decode cX8_reach 5 = .ok (.aload_n 0, 1) := dk_42 (dk_at dksX8_reach_0 5 rfl rfl)
theorem dX8_reach_6 : decode cX8_reach 6 = .ok (.aload_n 0, 1) := dk_42 (dk_at dksX8_reach_0 6 rfl rfl)
theorem dX8_reach_7 : decode cX8_reach 7 = .ok (.iload_n 1, 1) := dk_27 (dk_at dksX8_reach_0 7 rfl rfl)
theorem dX8_reach_8 : decode cX8_reach 8 = .ok (.invokevirtual 380, 3) := dk_182 1 124 (dk_at dksX8_reach_0 8 rfl rfl)
theorem dX8_reach_11 : decode cX8_reach 11 = .ok (.putfield 73, 3) := dk_181 0 73 (dk_at dksX8_reach_0 11 rfl rfl)
theorem dX8_reach_14 : decode cX8_reach 14 = .ok (.aload_n 0, 1) := dk_42 (dk_at dksX8_reach_0 14 rfl rfl)
theorem dX8_reach_15 : decode cX8_reach 15 = .ok (.getfield 73, 3) := dk_180 0 73 (dk_at dksX8_reach_0 15 rfl rfl)
theorem dX8_reach_18 : decode cX8_reach 18 = .ok (.ifCond .le 5, 3) := dk_158 0 5 (dk_at dksX8_reach_0 18 rfl rfl)
theorem dX8_reach_21 : decode cX8_reach 21 = .ok (.iconst (-1), 1) := dk_2 (dk_at dksX8_reach_0 21 rfl rfl)
theorem dX8_reach_22 : decode cX8_reach 22 = .ok (.ireturn, 1) := dk_172 (dk_at dksX8_reach_0 22 rfl rfl)
theorem dX8_reach_23 : decode cX8_reach 23 = .ok (.iconst 1, 1) := dk_4 (dk_at dksX8_reach_0 23 rfl rfl)
theorem dX8_reach_24 : decode cX8_reach 24 = .ok (.aload_n 0, 1) := dk_42 (dk_at dksX8_reach_1 0 rfl rfl)
theorem dX8_reach_25 : decode cX8_reach 25 = .ok (.getfield 35, 3) := dk_180 0 35 (dk_at dksX8_reach_1 1 rfl rfl)
theorem dX8_reach_28 : decode cX8_reach 28 = .ok (.bipush 42, 2) := dk_16 42 (dk_at dksX8_reach_1 4 rfl rfl)
theorem dX8_reach_30 : decode cX8_reach 30 = .ok (.iload_n 1, 1) := dk_27 (dk_at dksX8_reach_1 6 rfl rfl)
theorem dX8_reach_31 : decode cX8_reach 31 = .ok (.iadd, 1) := dk_96 (dk_at dksX8_reach_1 7 rfl rfl)
theorem dX8_reach_32 : decode cX8_reach 32 = .ok (.iaload, 1) := dk_46 (dk_at dksX8_reach_1 8 rfl rfl)
theorem dX8_reach_33 : decode cX8_reach 33 = .ok (.ishl, 1) := dk_120 (dk_at dksX8_reach_1 9 rfl rfl)
theorem dX8_reach_34 : decode cX8_reach 34 = .ok (.istore_n 2, 1) := dk_61 (dk_at dksX8_reach_1 10 rfl rfl)
theorem dX8_reach_35 : decode cX8_reach 35 = .ok (.iconst 0, 1) := dk_3 (dk_at dksX8_reach_1 11 rfl rfl)
theorem dX8_reach_36 : decode cX8_reach 36 = .ok (.istore_n 3, 1) := dk_62 (dk_at dksX8_reach_1 12 rfl rfl)
theorem dX8_reach_37 : decode cX8_reach 37 = .ok (.iload_n 3, 1) := dk_29 (dk_at dksX8_reach_1 13 rfl rfl)
theorem dX8_reach_38 : decode cX8_reach 38 = .ok (.bipush 7, 2) := dk_16 7 (dk_at dksX8_reach_1 14 rfl rfl)
theorem dX8_reach_40 : decode cX8_reach 40 = .ok (.if_icmp .ge 52, 3) := dk_162 0 52 (dk_at dksX8_reach_1 16 rfl rfl)
theorem dX8_reach_43 : decode cX8_reach 43 = .ok (.iconst 0, 1) := dk_3 (dk_at dksX8_reach_1 19 rfl rfl)
theorem dX8_reach_44 : decode cX8_reach 44 = .ok (.istore 4, 2) := dk_54 4 (dk_at dksX8_reach_1 20 rfl rfl)
theorem dX8_reach_46 : decode cX8_reach 46 = .ok (.iload 4, 2) := dk_21 4 (dk_at dksX8_reach_1 22 rfl rfl)
theorem dX8_reach_48 : decode cX8_reach 48 = .ok (.aload_n 0, 1) := dk_42 (dk_at dksX8_reach_2 0 rfl rfl)
theorem dX8_reach_49 : decode cX8_reach 49 = .ok (.getfield 35, 3) := dk_180 0 35 (dk_at dksX8_reach_2 1 rfl rfl)
theorem dX8_reach_52 : decode cX8_reach 52 = .ok (.iconst 1, 1) := dk_4 (dk_at dksX8_reach_2 4 rfl rfl)
theorem dX8_reach_53 : decode cX8_reach 53 = .ok (.iaload, 1) := dk_46 (dk_at dksX8_reach_2 5 rfl rfl)
theorem dX8_reach_54 : decode cX8_reach 54 = .ok (.if_icmp .ge 32, 3) := dk_162 0 32 (dk_at dksX8_reach_2 6 rfl rfl)
theorem dX8_reach_57 : decode cX8_reach 57 = .ok (.iload_n 2, 1) := dk_28 (dk_at dksX8_reach_2 9 rfl rfl)
theorem dX8_reach_58 : decode cX8_reach 58 = .ok (.iload_n 2, 1) := dk_28 (dk_at dksX8_reach_2 10 rfl rfl)
theorem dX8_reach_59 : decode cX8_reach 59 = .ok (.iload 4, 2) := dk_21 4 (dk_at dksX8_reach_2 11 rfl rfl)
theorem dX8_reach_61 : decode cX8_reach 61 = .ok (.invokestatic 109, 3) := dk_184 0 109 (dk_at dksX8_reach_2 13 rfl rfl)
theorem dX8_reach_64 : decode cX8_reach 64 = .ok (.ifCond .eq 13, 3) := dk_153 0 13 (dk_at dksX8_reach_2 16 rfl rfl)
theorem dX8_reach_67 : decode cX8_reach 67 = .ok (.aload_n 0, 1) := dk_42 (dk_at dksX8_reach_2 19 rfl rfl)
theorem dX8_reach_68 : decode cX8_reach 68 = .ok (.iload_n 1, 1) := dk_27 (dk_at dksX8_reach_2 20 rfl rfl)
theorem dX8_reach_69 : decode cX8_reach 69 = .ok (.iload 4, 2) := dk_21 4 (dk_at dksX8_reach_2 21 rfl rfl)
theorem dX8_reach_71 : decode cX8_reach 71 = .ok (.invokevirtual 357, 3) := dk_182 1 101 (dk_at dksX8_reach_3 0 rfl rfl)
theorem dX8_reach_74 : decode cX8_reach 74 = .ok (.goto 4, 3) := dk_167 0 4 (dk_at dksX8_reach_3 3 rfl rfl)
theorem dX8_reach_77 : decode cX8_reach 77 = .ok (.iconst 0, 1) := dk_3 (dk_at dksX8_reach_3 6 rfl rfl)
theorem dX8_reach_78 : decode cX8_reach 78 = .ok (.ior, 1) := dk_128 (dk_at dksX8_reach_3 7 rfl rfl)
theorem dX8_reach_79 : decode cX8_reach 79 = .ok (.istore_n 2, 1) := dk_61 (dk_at dksX8_reach_3 8 rfl rfl)
theorem dX8_reach_80 : decode cX8_reach 80 = .ok (.iinc 4 1, 3) := dk_132 4 1 (dk_at dksX8_reach_3 9 rfl rfl)
theorem dX8_reach_83 : decode cX8_reach 83 = .ok (.goto (-37), 3) := dk_167 255 219 (dk_at dksX8_reach_3 12 rfl rfl)
theorem dX8_reach_86 : decode cX8_reach 86 = .ok (.iinc 3 1, 3) := dk_132 3 1 (dk_at dksX8_reach_3 15 rfl rfl)
theorem dX8_reach_89 : decode cX8_reach 89 = .ok (.goto (-52), 3) := dk_167 255 204 (dk_at dksX8_reach_3 18 rfl rfl)
theorem dX8_reach_92 : decode cX8_reach 92 = .ok (.iload_n 2, 1) := dk_28 (dk_at dksX8_reach_3 21 rfl rfl)
theorem dX8_reach_93 : decode cX8_reach 93 = .ok (.ireturn, 1) := dk_172 (dk_at dksX8_reach_3 22 rfl rfl)
abbrev cX8_whyNoTin : ByteArray := prog_14_method_106_code
def yX8_whyNoTin : MethodName := ⟨RX8, "whyNoTin", "(I)I"⟩
def dkwX8_whyNoTin_1 : List UInt8 := [167, 0, 4, 3, 172]
abbrev dktX8_whyNoTin_1 : List UInt8 := dkwX8_whyNoTin_1 ++ []
def dkwX8_whyNoTin_0 : List UInt8 := [42, 27, 182, 1, 88, 154, 0, 7, 5, 167, 0, 17, 42, 27, 182, 1, 54, 153, 0, 8, 16, 9]
abbrev dktX8_whyNoTin_0 : List UInt8 := dkwX8_whyNoTin_0 ++ dktX8_whyNoTin_1
theorem dksX8_whyNoTin_0 : cX8_whyNoTin.data.toList.drop 0 = dktX8_whyNoTin_0 := by decide +kernel
theorem dksX8_whyNoTin_1 : cX8_whyNoTin.data.toList.drop 22 = dktX8_whyNoTin_1 := dk_seg dksX8_whyNoTin_0 22 rfl rfl
theorem dX8_whyNoTin_0 : decode cX8_whyNoTin 0 = .ok (.aload_n 0, 1) := dk_42 (dk_at dksX8_whyNoTin_0 0 rfl rfl)
theorem dX8_whyNoTin_1 : decode cX8_whyNoTin 1 = .ok (.iload_n 1, 1) := dk_27 (dk_at dksX8_whyNoTin_0 1 rfl rfl)
theorem dX8_whyNoTin_2 : decode cX8_whyNoTin 2 = .ok (.invokevirtual 344, 3) := dk_182 1 88 (dk_at dksX8_whyNoTin_0 2 rfl rfl)
theorem dX8_whyNoTin_5 : decode cX8_whyNoTin 5 = .ok (.ifCond .ne 7, 3) := dk_154 0 7 (dk_at dksX8_whyNoTin_0 5 rfl rfl)
theorem dX8_whyNoTin_8 : decode cX8_whyNoTin 8 = .ok (.iconst 2, 1) := dk_5 (dk_at dksX8_whyNoTin_0 8 rfl rfl)
theorem dX8_whyNoTin_9 : decode cX8_whyNoTin 9 = .ok (.goto 17, 3) := dk_167 0 17 (dk_at dksX8_whyNoTin_0 9 rfl rfl)
theorem dX8_whyNoTin_12 : decode cX8_whyNoTin 12 = .ok (.aload_n 0, 1) := dk_42 (dk_at dksX8_whyNoTin_0 12 rfl rfl)
theorem dX8_whyNoTin_13 : decode cX8_whyNoTin 13 = .ok (.iload_n 1, 1) := dk_27 (dk_at dksX8_whyNoTin_0 13 rfl rfl)
theorem dX8_whyNoTin_14 : decode cX8_whyNoTin 14 = .ok (.invokevirtual 310, 3) := dk_182 1 54 (dk_at dksX8_whyNoTin_0 14 rfl rfl)
theorem dX8_whyNoTin_17 : decode cX8_whyNoTin 17 = .ok (.ifCond .eq 8, 3) := dk_153 0 8 (dk_at dksX8_whyNoTin_0 17 rfl rfl)
theorem dX8_whyNoTin_20 : decode cX8_whyNoTin 20 = .ok (.bipush 9, 2) := dk_16 9 (dk_at dksX8_whyNoTin_0 20 rfl rfl)
theorem dX8_whyNoTin_22 : decode cX8_whyNoTin 22 = .ok (.goto 4, 3) := dk_167 0 4 (dk_at dksX8_whyNoTin_1 0 rfl rfl)
theorem dX8_whyNoTin_25 : decode cX8_whyNoTin 25 = .ok (.iconst 0, 1) := dk_3 (dk_at dksX8_whyNoTin_1 3 rfl rfl)
theorem dX8_whyNoTin_26 : decode cX8_whyNoTin 26 = .ok (.ireturn, 1) := dk_172 (dk_at dksX8_whyNoTin_1 4 rfl rfl)
abbrev cX8_next : ByteArray := prog_14_method_108_code
def yX8_next : MethodName := ⟨RX8, "next", "(I)I"⟩
def dkwX8_next_1 : List UInt8 := [167, 0, 17, 42, 27, 42, 180, 0, 35, 16, 42, 27, 96, 46, 182, 1, 101, 172]
abbrev dktX8_next_1 : List UInt8 := dkwX8_next_1 ++ []
def dkwX8_next_0 : List UInt8 := [42, 3, 181, 0, 70, 42, 42, 27, 182, 1, 124, 181, 0, 73, 42, 180, 0, 73, 158, 0, 7, 2]
abbrev dktX8_next_0 : List UInt8 := dkwX8_next_0 ++ dktX8_next_1
theorem dksX8_next_0 : cX8_next.data.toList.drop 0 = dktX8_next_0 := by decide +kernel
theorem dksX8_next_1 : cX8_next.data.toList.drop 22 = dktX8_next_1 := dk_seg dksX8_next_0 22 rfl rfl
theorem dX8_next_0 : decode cX8_next 0 = .ok (.aload_n 0, 1) := dk_42 (dk_at dksX8_next_0 0 rfl rfl)
theorem dX8_next_1 : decode cX8_next 1 = .ok (.iconst 0, 1) := dk_3 (dk_at dksX8_next_0 1 rfl rfl)
theorem dX8_next_2 : decode cX8_next 2 = .ok (.putfield 70, 3) := dk_181 0 70 (dk_at dksX8_next_0 2 rfl rfl)
theorem dX8_next_5 : decode cX8_next 5 = .ok (.aload_n 0, 1) := dk_42 (dk_at dksX8_next_0 5 rfl rfl)
theorem dX8_next_6 : decode cX8_next 6 = .ok (.aload_n 0, 1) := dk_42 (dk_at dksX8_next_0 6 rfl rfl)
theorem dX8_next_7 : decode cX8_next 7 = .ok (.iload_n 1, 1) := dk_27 (dk_at dksX8_next_0 7 rfl rfl)
theorem dX8_next_8 : decode cX8_next 8 = .ok (.invokevirtual 380, 3) := dk_182 1 124 (dk_at dksX8_next_0 8 rfl rfl)
theorem dX8_next_11 : decode cX8_next 11 = .ok (.putfield 73, 3) := dk_181 0 73 (dk_at dksX8_next_0 11 rfl rfl)
theorem dX8_next_14 : decode cX8_next 14 = .ok (.aload_n 0, 1) := dk_42 (dk_at dksX8_next_0 14 rfl rfl)
theorem dX8_next_15 : decode cX8_next 15 = .ok (.getfield 73, 3) := dk_180 0 73 (dk_at dksX8_next_0 15 rfl rfl)
theorem dX8_next_18 : decode cX8_next 18 = .ok (.ifCond .le 7, 3) := dk_158 0 7 (dk_at dksX8_next_0 18 rfl rfl)
theorem dX8_next_21 : decode cX8_next 21 = .ok (.iconst (-1), 1) := dk_2 (dk_at dksX8_next_0 21 rfl rfl)
theorem dX8_next_22 : decode cX8_next 22 = .ok (.goto 17, 3) := dk_167 0 17 (dk_at dksX8_next_1 0 rfl rfl)
theorem dX8_next_25 : decode cX8_next 25 = .ok (.aload_n 0, 1) := dk_42 (dk_at dksX8_next_1 3 rfl rfl)
theorem dX8_next_26 : decode cX8_next 26 = .ok (.iload_n 1, 1) := dk_27 (dk_at dksX8_next_1 4 rfl rfl)
theorem dX8_next_27 : decode cX8_next 27 = .ok (.aload_n 0, 1) := dk_42 (dk_at dksX8_next_1 5 rfl rfl)
theorem dX8_next_28 : decode cX8_next 28 = .ok (.getfield 35, 3) := dk_180 0 35 (dk_at dksX8_next_1 6 rfl rfl)
theorem dX8_next_31 : decode cX8_next 31 = .ok (.bipush 42, 2) := dk_16 42 (dk_at dksX8_next_1 9 rfl rfl)
theorem dX8_next_33 : decode cX8_next 33 = .ok (.iload_n 1, 1) := dk_27 (dk_at dksX8_next_1 11 rfl rfl)
theorem dX8_next_34 : decode cX8_next 34 = .ok (.iadd, 1) := dk_96 (dk_at dksX8_next_1 12 rfl rfl)
theorem dX8_next_35 : decode cX8_next 35 = .ok (.iaload, 1) := dk_46 (dk_at dksX8_next_1 13 rfl rfl)
theorem dX8_next_36 : decode cX8_next 36 = .ok (.invokevirtual 357, 3) := dk_182 1 101 (dk_at dksX8_next_1 14 rfl rfl)
theorem dX8_next_39 : decode cX8_next 39 = .ok (.ireturn, 1) := dk_172 (dk_at dksX8_next_1 17 rfl rfl)
abbrev cX8_round : ByteArray := prog_14_method_111_code
def yX8_round : MethodName := ⟨RX8, "round", "(I)I"⟩
def dkwX8_round_1 : List UInt8 := [27, 182, 1, 133, 42, 180, 1, 127, 172]
abbrev dktX8_round_1 : List UInt8 := dkwX8_round_1 ++ []
def dkwX8_round_0 : List UInt8 := [42, 3, 181, 0, 70, 42, 42, 27, 182, 1, 124, 181, 0, 73, 42, 180, 0, 73, 158, 0, 5, 2, 172, 42]
abbrev dktX8_round_0 : List UInt8 := dkwX8_round_0 ++ dktX8_round_1
theorem dksX8_round_0 : cX8_round.data.toList.drop 0 = dktX8_round_0 := by decide +kernel
theorem dksX8_round_1 : cX8_round.data.toList.drop 24 = dktX8_round_1 := dk_seg dksX8_round_0 24 rfl rfl
theorem dX8_round_0 : decode cX8_round 0 = .ok (.aload_n 0, 1) := dk_42 (dk_at dksX8_round_0 0 rfl rfl)
theorem dX8_round_1 : decode cX8_round 1 = .ok (.iconst 0, 1) := dk_3 (dk_at dksX8_round_0 1 rfl rfl)
theorem dX8_round_2 : decode cX8_round 2 = .ok (.putfield 70, 3) := dk_181 0 70 (dk_at dksX8_round_0 2 rfl rfl)
theorem dX8_round_5 : decode cX8_round 5 = .ok (.aload_n 0, 1) := dk_42 (dk_at dksX8_round_0 5 rfl rfl)
theorem dX8_round_6 : decode cX8_round 6 = .ok (.aload_n 0, 1) := dk_42 (dk_at dksX8_round_0 6 rfl rfl)
theorem dX8_round_7 : decode cX8_round 7 = .ok (.iload_n 1, 1) := dk_27 (dk_at dksX8_round_0 7 rfl rfl)
theorem dX8_round_8 : decode cX8_round 8 = .ok (.invokevirtual 380, 3) := dk_182 1 124 (dk_at dksX8_round_0 8 rfl rfl)
theorem dX8_round_11 : decode cX8_round 11 = .ok (.putfield 73, 3) := dk_181 0 73 (dk_at dksX8_round_0 11 rfl rfl)
theorem dX8_round_14 : decode cX8_round 14 = .ok (.aload_n 0, 1) := dk_42 (dk_at dksX8_round_0 14 rfl rfl)
theorem dX8_round_15 : decode cX8_round 15 = .ok (.getfield 73, 3) := dk_180 0 73 (dk_at dksX8_round_0 15 rfl rfl)
theorem dX8_round_18 : decode cX8_round 18 = .ok (.ifCond .le 5, 3) := dk_158 0 5 (dk_at dksX8_round_0 18 rfl rfl)
theorem dX8_round_21 : decode cX8_round 21 = .ok (.iconst (-1), 1) := dk_2 (dk_at dksX8_round_0 21 rfl rfl)
theorem dX8_round_22 : decode cX8_round 22 = .ok (.ireturn, 1) := dk_172 (dk_at dksX8_round_0 22 rfl rfl)
theorem dX8_round_23 : decode cX8_round 23 = .ok (.aload_n 0, 1) := dk_42 (dk_at dksX8_round_0 23 rfl rfl)
theorem dX8_round_24 : decode cX8_round 24 = .ok (.iload_n 1, 1) := dk_27 (dk_at dksX8_round_1 0 rfl rfl)
theorem dX8_round_25 : decode cX8_round 25 = .ok (.invokevirtual 389, 3) := dk_182 1 133 (dk_at dksX8_round_1 1 rfl rfl)
theorem dX8_round_28 : decode cX8_round 28 = .ok (.aload_n 0, 1) := dk_42 (dk_at dksX8_round_1 4 rfl rfl)
theorem dX8_round_29 : decode cX8_round 29 = .ok (.getfield 383, 3) := dk_180 1 127 (dk_at dksX8_round_1 5 rfl rfl)
theorem dX8_round_32 : decode cX8_round 32 = .ok (.ireturn, 1) := dk_172 (dk_at dksX8_round_1 8 rfl rfl)
abbrev cX8_laysRound : ByteArray := prog_14_method_110_code
def yX8_laysRound : MethodName := ⟨RX8, "laysRound", "(I)V"⟩
def dkwX8_laysRound_1 : List UInt8 := [42, 180, 0, 47, 3, 46, 120, 182, 1, 130, 177]
abbrev dktX8_laysRound_1 : List UInt8 := dkwX8_laysRound_1 ++ []
def dkwX8_laysRound_0 : List UInt8 := [42, 3, 181, 1, 127, 42, 180, 0, 47, 3, 42, 180, 0, 35, 16, 42, 27, 96, 46, 79, 42, 27, 4, 4]
abbrev dktX8_laysRound_0 : List UInt8 := dkwX8_laysRound_0 ++ dktX8_laysRound_1
theorem dksX8_laysRound_0 : cX8_laysRound.data.toList.drop 0 = dktX8_laysRound_0 := by decide +kernel
theorem dksX8_laysRound_1 : cX8_laysRound.data.toList.drop 24 = dktX8_laysRound_1 := dk_seg dksX8_laysRound_0 24 rfl rfl
theorem dX8_laysRound_0 : decode cX8_laysRound 0 = .ok (.aload_n 0, 1) := dk_42 (dk_at dksX8_laysRound_0 0 rfl rfl)
theorem dX8_laysRound_1 : decode cX8_laysRound 1 = .ok (.iconst 0, 1) := dk_3 (dk_at dksX8_laysRound_0 1 rfl rfl)
theorem dX8_laysRound_2 : decode cX8_laysRound 2 = .ok (.putfield 383, 3) := dk_181 1 127 (dk_at dksX8_laysRound_0 2 rfl rfl)
theorem dX8_laysRound_5 : decode cX8_laysRound 5 = .ok (.aload_n 0, 1) := dk_42 (dk_at dksX8_laysRound_0 5 rfl rfl)
theorem dX8_laysRound_6 : decode cX8_laysRound 6 = .ok (.getfield 47, 3) := dk_180 0 47 (dk_at dksX8_laysRound_0 6 rfl rfl)
theorem dX8_laysRound_9 : decode cX8_laysRound 9 = .ok (.iconst 0, 1) := dk_3 (dk_at dksX8_laysRound_0 9 rfl rfl)
theorem dX8_laysRound_10 : decode cX8_laysRound 10 = .ok (.aload_n 0, 1) := dk_42 (dk_at dksX8_laysRound_0 10 rfl rfl)
theorem dX8_laysRound_11 : decode cX8_laysRound 11 = .ok (.getfield 35, 3) := dk_180 0 35 (dk_at dksX8_laysRound_0 11 rfl rfl)
theorem dX8_laysRound_14 : decode cX8_laysRound 14 = .ok (.bipush 42, 2) := dk_16 42 (dk_at dksX8_laysRound_0 14 rfl rfl)
theorem dX8_laysRound_16 : decode cX8_laysRound 16 = .ok (.iload_n 1, 1) := dk_27 (dk_at dksX8_laysRound_0 16 rfl rfl)
theorem dX8_laysRound_17 : decode cX8_laysRound 17 = .ok (.iadd, 1) := dk_96 (dk_at dksX8_laysRound_0 17 rfl rfl)
theorem dX8_laysRound_18 : decode cX8_laysRound 18 = .ok (.iaload, 1) := dk_46 (dk_at dksX8_laysRound_0 18 rfl rfl)
theorem dX8_laysRound_19 : decode cX8_laysRound 19 = .ok (.iastore, 1) := dk_79 (dk_at dksX8_laysRound_0 19 rfl rfl)
theorem dX8_laysRound_20 : decode cX8_laysRound 20 = .ok (.aload_n 0, 1) := dk_42 (dk_at dksX8_laysRound_0 20 rfl rfl)
theorem dX8_laysRound_21 : decode cX8_laysRound 21 = .ok (.iload_n 1, 1) := dk_27 (dk_at dksX8_laysRound_0 21 rfl rfl)
theorem dX8_laysRound_22 : decode cX8_laysRound 22 = .ok (.iconst 1, 1) := dk_4 (dk_at dksX8_laysRound_0 22 rfl rfl)
theorem dX8_laysRound_23 : decode cX8_laysRound 23 = .ok (.iconst 1, 1) := dk_4 (dk_at dksX8_laysRound_0 23 rfl rfl)
theorem dX8_laysRound_24 : decode cX8_laysRound 24 = .ok (.aload_n 0, 1) := dk_42 (dk_at dksX8_laysRound_1 0 rfl rfl)
theorem dX8_laysRound_25 : decode cX8_laysRound 25 = .ok (.getfield 47, 3) := dk_180 0 47 (dk_at dksX8_laysRound_1 1 rfl rfl)
theorem dX8_laysRound_28 : decode cX8_laysRound 28 = .ok (.iconst 0, 1) := dk_3 (dk_at dksX8_laysRound_1 4 rfl rfl)
theorem dX8_laysRound_29 : decode cX8_laysRound 29 = .ok (.iaload, 1) := dk_46 (dk_at dksX8_laysRound_1 5 rfl rfl)
theorem dX8_laysRound_30 : decode cX8_laysRound 30 = .ok (.ishl, 1) := dk_120 (dk_at dksX8_laysRound_1 6 rfl rfl)
theorem dX8_laysRound_31 : decode cX8_laysRound 31 = .ok (.invokevirtual 386, 3) := dk_182 1 130 (dk_at dksX8_laysRound_1 7 rfl rfl)
theorem dX8_laysRound_34 : decode cX8_laysRound 34 = .ok (.return_, 1) := dk_177 (dk_at dksX8_laysRound_1 10 rfl rfl)
abbrev cX8_goesRound : ByteArray := prog_14_method_109_code
def yX8_goesRound : MethodName := ⟨RX8, "goesRound", "(III)V"⟩
def dkwX8_goesRound_4 : List UInt8 := [4, 96, 29, 4, 21, 5, 120, 128, 182, 1, 130, 132, 5, 1, 167, 255, 211, 177]
abbrev dktX8_goesRound_4 : List UInt8 := dkwX8_goesRound_4 ++ []
def dkwX8_goesRound_3 : List UInt8 := [21, 4, 21, 5, 184, 0, 109, 154, 0, 6, 167, 0, 25, 42, 180, 0, 47, 28, 21, 5, 79, 42, 27, 28]
abbrev dktX8_goesRound_3 : List UInt8 := dkwX8_goesRound_3 ++ dktX8_goesRound_4
def dkwX8_goesRound_2 : List UInt8 := [180, 0, 47, 21, 5, 46, 79, 132, 5, 1, 167, 255, 233, 3, 54, 5, 21, 5, 16, 7, 162, 0, 44]
abbrev dktX8_goesRound_2 : List UInt8 := dkwX8_goesRound_2 ++ dktX8_goesRound_3
def dkwX8_goesRound_1 : List UInt8 := [164, 0, 37, 42, 28, 181, 1, 127, 3, 54, 5, 21, 5, 28, 162, 0, 23, 42, 180, 0, 50, 21, 5, 42]
abbrev dktX8_goesRound_1 : List UInt8 := dkwX8_goesRound_1 ++ dktX8_goesRound_2
def dkwX8_goesRound_0 : List UInt8 := [42, 27, 42, 180, 0, 47, 28, 4, 100, 46, 182, 1, 101, 29, 2, 130, 126, 54, 4, 28, 42, 180, 1, 127]
abbrev dktX8_goesRound_0 : List UInt8 := dkwX8_goesRound_0 ++ dktX8_goesRound_1
theorem dksX8_goesRound_0 : cX8_goesRound.data.toList.drop 0 = dktX8_goesRound_0 := by decide +kernel
theorem dksX8_goesRound_1 : cX8_goesRound.data.toList.drop 24 = dktX8_goesRound_1 := dk_seg dksX8_goesRound_0 24 rfl rfl
theorem dksX8_goesRound_2 : cX8_goesRound.data.toList.drop 48 = dktX8_goesRound_2 := dk_seg dksX8_goesRound_1 24 rfl rfl
theorem dksX8_goesRound_3 : cX8_goesRound.data.toList.drop 71 = dktX8_goesRound_3 := dk_seg dksX8_goesRound_2 23 rfl rfl
theorem dksX8_goesRound_4 : cX8_goesRound.data.toList.drop 95 = dktX8_goesRound_4 := dk_seg dksX8_goesRound_3 24 rfl rfl
theorem dX8_goesRound_0 : decode cX8_goesRound 0 = .ok (.aload_n 0, 1) := dk_42 (dk_at dksX8_goesRound_0 0 rfl rfl)
theorem dX8_goesRound_1 : decode cX8_goesRound 1 = .ok (.iload_n 1, 1) := dk_27 (dk_at dksX8_goesRound_0 1 rfl rfl)
theorem dX8_goesRound_2 : decode cX8_goesRound 2 = .ok (.aload_n 0, 1) := dk_42 (dk_at dksX8_goesRound_0 2 rfl rfl)
theorem dX8_goesRound_3 : decode cX8_goesRound 3 = .ok (.getfield 47, 3) := dk_180 0 47 (dk_at dksX8_goesRound_0 3 rfl rfl)
theorem dX8_goesRound_6 : decode cX8_goesRound 6 = .ok (.iload_n 2, 1) := dk_28 (dk_at dksX8_goesRound_0 6 rfl rfl)
theorem dX8_goesRound_7 : decode cX8_goesRound 7 = .ok (.iconst 1, 1) := dk_4 (dk_at dksX8_goesRound_0 7 rfl rfl)
theorem dX8_goesRound_8 : decode cX8_goesRound 8 = .ok (.isub, 1) := dk_100 (dk_at dksX8_goesRound_0 8 rfl rfl)
theorem dX8_goesRound_9 : decode cX8_goesRound 9 = .ok (.iaload, 1) := dk_46 (dk_at dksX8_goesRound_0 9 rfl rfl)
theorem dX8_goesRound_10 : decode cX8_goesRound 10 = .ok (.invokevirtual 357, 3) := dk_182 1 101 (dk_at dksX8_goesRound_0 10 rfl rfl)
theorem dX8_goesRound_13 : decode cX8_goesRound 13 = .ok (.iload_n 3, 1) := dk_29 (dk_at dksX8_goesRound_0 13 rfl rfl)
theorem dX8_goesRound_14 : decode cX8_goesRound 14 = .ok (.iconst (-1), 1) := dk_2 (dk_at dksX8_goesRound_0 14 rfl rfl)
theorem dX8_goesRound_15 : decode cX8_goesRound 15 = .ok (.ixor, 1) := dk_130 (dk_at dksX8_goesRound_0 15 rfl rfl)
theorem dX8_goesRound_16 : decode cX8_goesRound 16 = .ok (.iand, 1) := dk_126 (dk_at dksX8_goesRound_0 16 rfl rfl)
theorem dX8_goesRound_17 : decode cX8_goesRound 17 = .ok (.istore 4, 2) := dk_54 4 (dk_at dksX8_goesRound_0 17 rfl rfl)
theorem dX8_goesRound_19 : decode cX8_goesRound 19 = .ok (.iload_n 2, 1) := dk_28 (dk_at dksX8_goesRound_0 19 rfl rfl)
theorem dX8_goesRound_20 : decode cX8_goesRound 20 = .ok (.aload_n 0, 1) := dk_42 (dk_at dksX8_goesRound_0 20 rfl rfl)
theorem dX8_goesRound_21 : decode cX8_goesRound 21 = .ok (.getfield 383, 3) := dk_180 1 127 (dk_at dksX8_goesRound_0 21 rfl rfl)
theorem dX8_goesRound_24 : decode cX8_goesRound 24 = .ok (.if_icmp .le 37, 3) := dk_164 0 37 (dk_at dksX8_goesRound_1 0 rfl rfl)
theorem dX8_goesRound_27 : decode cX8_goesRound 27 = .ok (.aload_n 0, 1) := dk_42 (dk_at dksX8_goesRound_1 3 rfl rfl)
theorem dX8_goesRound_28 : decode cX8_goesRound 28 = .ok (.iload_n 2, 1) := dk_28 (dk_at dksX8_goesRound_1 4 rfl rfl)
theorem dX8_goesRound_29 : decode cX8_goesRound 29 = .ok (.putfield 383, 3) := dk_181 1 127 (dk_at dksX8_goesRound_1 5 rfl rfl)
theorem dX8_goesRound_32 : decode cX8_goesRound 32 = .ok (.iconst 0, 1) := dk_3 (dk_at dksX8_goesRound_1 8 rfl rfl)
theorem dX8_goesRound_33 : decode cX8_goesRound 33 = .ok (.istore 5, 2) := dk_54 5 (dk_at dksX8_goesRound_1 9 rfl rfl)
theorem dX8_goesRound_35 : decode cX8_goesRound 35 = .ok (.iload 5, 2) := dk_21 5 (dk_at dksX8_goesRound_1 11 rfl rfl)
theorem dX8_goesRound_37 : decode cX8_goesRound 37 = .ok (.iload_n 2, 1) := dk_28 (dk_at dksX8_goesRound_1 13 rfl rfl)
theorem dX8_goesRound_38 : decode cX8_goesRound 38 = .ok (.if_icmp .ge 23, 3) := dk_162 0 23 (dk_at dksX8_goesRound_1 14 rfl rfl)
theorem dX8_goesRound_41 : decode cX8_goesRound 41 = .ok (.aload_n 0, 1) := dk_42 (dk_at dksX8_goesRound_1 17 rfl rfl)
theorem dX8_goesRound_42 : decode cX8_goesRound 42 = .ok (.getfield 50, 3) := dk_180 0 50 (dk_at dksX8_goesRound_1 18 rfl rfl)
theorem dX8_goesRound_45 : decode cX8_goesRound 45 = .ok (.iload 5, 2) := dk_21 5 (dk_at dksX8_goesRound_1 21 rfl rfl)
theorem dX8_goesRound_47 : decode cX8_goesRound 47 = .ok (.aload_n 0, 1) := dk_42 (dk_at dksX8_goesRound_1 23 rfl rfl)
theorem dX8_goesRound_48 : decode cX8_goesRound 48 = .ok (.getfield 47, 3) := dk_180 0 47 (dk_at dksX8_goesRound_2 0 rfl rfl)
theorem dX8_goesRound_51 : decode cX8_goesRound 51 = .ok (.iload 5, 2) := dk_21 5 (dk_at dksX8_goesRound_2 3 rfl rfl)
theorem dX8_goesRound_53 : decode cX8_goesRound 53 = .ok (.iaload, 1) := dk_46 (dk_at dksX8_goesRound_2 5 rfl rfl)
theorem dX8_goesRound_54 : decode cX8_goesRound 54 = .ok (.iastore, 1) := dk_79 (dk_at dksX8_goesRound_2 6 rfl rfl)
theorem dX8_goesRound_55 : decode cX8_goesRound 55 = .ok (.iinc 5 1, 3) := dk_132 5 1 (dk_at dksX8_goesRound_2 7 rfl rfl)
theorem dX8_goesRound_58 : decode cX8_goesRound 58 = .ok (.goto (-23), 3) := dk_167 255 233 (dk_at dksX8_goesRound_2 10 rfl rfl)
theorem dX8_goesRound_61 : decode cX8_goesRound 61 = .ok (.iconst 0, 1) := dk_3 (dk_at dksX8_goesRound_2 13 rfl rfl)
theorem dX8_goesRound_62 : decode cX8_goesRound 62 = .ok (.istore 5, 2) := dk_54 5 (dk_at dksX8_goesRound_2 14 rfl rfl)
theorem dX8_goesRound_64 : decode cX8_goesRound 64 = .ok (.iload 5, 2) := dk_21 5 (dk_at dksX8_goesRound_2 16 rfl rfl)
theorem dX8_goesRound_66 : decode cX8_goesRound 66 = .ok (.bipush 7, 2) := dk_16 7 (dk_at dksX8_goesRound_2 18 rfl rfl)
theorem dX8_goesRound_68 : decode cX8_goesRound 68 = .ok (.if_icmp .ge 44, 3) := dk_162 0 44 (dk_at dksX8_goesRound_2 20 rfl rfl)
theorem dX8_goesRound_71 : decode cX8_goesRound 71 = .ok (.iload 4, 2) := dk_21 4 (dk_at dksX8_goesRound_3 0 rfl rfl)
theorem dX8_goesRound_73 : decode cX8_goesRound 73 = .ok (.iload 5, 2) := dk_21 5 (dk_at dksX8_goesRound_3 2 rfl rfl)
theorem dX8_goesRound_75 : decode cX8_goesRound 75 = .ok (.invokestatic 109, 3) := dk_184 0 109 (dk_at dksX8_goesRound_3 4 rfl rfl)
theorem dX8_goesRound_78 : decode cX8_goesRound 78 = .ok (.ifCond .ne 6, 3) := dk_154 0 6 (dk_at dksX8_goesRound_3 7 rfl rfl)
theorem dX8_goesRound_81 : decode cX8_goesRound 81 = .ok (.goto 25, 3) := dk_167 0 25 (dk_at dksX8_goesRound_3 10 rfl rfl)
theorem dX8_goesRound_84 : decode cX8_goesRound 84 = .ok (.aload_n 0, 1) := dk_42 (dk_at dksX8_goesRound_3 13 rfl rfl)
theorem dX8_goesRound_85 : decode cX8_goesRound 85 = .ok (.getfield 47, 3) := dk_180 0 47 (dk_at dksX8_goesRound_3 14 rfl rfl)
theorem dX8_goesRound_88 : decode cX8_goesRound 88 = .ok (.iload_n 2, 1) := dk_28 (dk_at dksX8_goesRound_3 17 rfl rfl)
theorem dX8_goesRound_89 : decode cX8_goesRound 89 = .ok (.iload 5, 2) := dk_21 5 (dk_at dksX8_goesRound_3 18 rfl rfl)
theorem dX8_goesRound_91 : decode cX8_goesRound 91 = .ok (.iastore, 1) := dk_79 (dk_at dksX8_goesRound_3 20 rfl rfl)
theorem dX8_goesRound_92 : decode cX8_goesRound 92 = .ok (.aload_n 0, 1) := dk_42 (dk_at dksX8_goesRound_3 21 rfl rfl)
theorem dX8_goesRound_93 : decode cX8_goesRound 93 = .ok (.iload_n 1, 1) := dk_27 (dk_at dksX8_goesRound_3 22 rfl rfl)
theorem dX8_goesRound_94 : decode cX8_goesRound 94 = .ok (.iload_n 2, 1) := dk_28 (dk_at dksX8_goesRound_3 23 rfl rfl)
theorem dX8_goesRound_95 : decode cX8_goesRound 95 = .ok (.iconst 1, 1) := dk_4 (dk_at dksX8_goesRound_4 0 rfl rfl)
theorem dX8_goesRound_96 : decode cX8_goesRound 96 = .ok (.iadd, 1) := dk_96 (dk_at dksX8_goesRound_4 1 rfl rfl)
theorem dX8_goesRound_97 : decode cX8_goesRound 97 = .ok (.iload_n 3, 1) := dk_29 (dk_at dksX8_goesRound_4 2 rfl rfl)
theorem dX8_goesRound_98 : decode cX8_goesRound 98 = .ok (.iconst 1, 1) := dk_4 (dk_at dksX8_goesRound_4 3 rfl rfl)
theorem dX8_goesRound_99 : decode cX8_goesRound 99 = .ok (.iload 5, 2) := dk_21 5 (dk_at dksX8_goesRound_4 4 rfl rfl)
theorem dX8_goesRound_101 : decode cX8_goesRound 101 = .ok (.ishl, 1) := dk_120 (dk_at dksX8_goesRound_4 6 rfl rfl)
theorem dX8_goesRound_102 : decode cX8_goesRound 102 = .ok (.ior, 1) := dk_128 (dk_at dksX8_goesRound_4 7 rfl rfl)
theorem dX8_goesRound_103 : decode cX8_goesRound 103 = .ok (.invokevirtual 386, 3) := dk_182 1 130 (dk_at dksX8_goesRound_4 8 rfl rfl)
theorem dX8_goesRound_106 : decode cX8_goesRound 106 = .ok (.iinc 5 1, 3) := dk_132 5 1 (dk_at dksX8_goesRound_4 11 rfl rfl)
theorem dX8_goesRound_109 : decode cX8_goesRound 109 = .ok (.goto (-45), 3) := dk_167 255 211 (dk_at dksX8_goesRound_4 14 rfl rfl)
theorem dX8_goesRound_112 : decode cX8_goesRound 112 = .ok (.return_, 1) := dk_177 (dk_at dksX8_goesRound_4 17 rfl rfl)
abbrev cX8_roundAt : ByteArray := prog_14_method_112_code
def yX8_roundAt : MethodName := ⟨RX8, "roundAt", "(II)I"⟩
def dkwX8_roundAt_2 : List UInt8 := [28, 46, 167, 0, 9, 42, 16, 8, 182, 1, 71, 172]
abbrev dktX8_roundAt_2 : List UInt8 := dkwX8_roundAt_2 ++ []
def dkwX8_roundAt_1 : List UInt8 := [27, 182, 1, 133, 28, 133, 9, 42, 180, 1, 127, 4, 100, 133, 184, 0, 105, 153, 0, 12, 42, 180, 0, 50]
abbrev dktX8_roundAt_1 : List UInt8 := dkwX8_roundAt_1 ++ dktX8_roundAt_2
def dkwX8_roundAt_0 : List UInt8 := [42, 3, 181, 0, 70, 42, 42, 27, 182, 1, 124, 181, 0, 73, 42, 180, 0, 73, 158, 0, 5, 2, 172, 42]
abbrev dktX8_roundAt_0 : List UInt8 := dkwX8_roundAt_0 ++ dktX8_roundAt_1
theorem dksX8_roundAt_0 : cX8_roundAt.data.toList.drop 0 = dktX8_roundAt_0 := by decide +kernel
theorem dksX8_roundAt_1 : cX8_roundAt.data.toList.drop 24 = dktX8_roundAt_1 := dk_seg dksX8_roundAt_0 24 rfl rfl
theorem dksX8_roundAt_2 : cX8_roundAt.data.toList.drop 48 = dktX8_roundAt_2 := dk_seg dksX8_roundAt_1 24 rfl rfl
theorem dX8_roundAt_0 : decode cX8_roundAt 0 = .ok (.aload_n 0, 1) := dk_42 (dk_at dksX8_roundAt_0 0 rfl rfl)
theorem dX8_roundAt_1 : decode cX8_roundAt 1 = .ok (.iconst 0, 1) := dk_3 (dk_at dksX8_roundAt_0 1 rfl rfl)
theorem dX8_roundAt_2 : decode cX8_roundAt 2 = .ok (.putfield 70, 3) := dk_181 0 70 (dk_at dksX8_roundAt_0 2 rfl rfl)
theorem dX8_roundAt_5 : decode cX8_roundAt 5 = .ok (.aload_n 0, 1) := dk_42 (dk_at dksX8_roundAt_0 5 rfl rfl)
theorem dX8_roundAt_6 : decode cX8_roundAt 6 = .ok (.aload_n 0, 1) := dk_42 (dk_at dksX8_roundAt_0 6 rfl rfl)
theorem dX8_roundAt_7 : decode cX8_roundAt 7 = .ok (.iload_n 1, 1) := dk_27 (dk_at dksX8_roundAt_0 7 rfl rfl)
theorem dX8_roundAt_8 : decode cX8_roundAt 8 = .ok (.invokevirtual 380, 3) := dk_182 1 124 (dk_at dksX8_roundAt_0 8 rfl rfl)
theorem dX8_roundAt_11 : decode cX8_roundAt 11 = .ok (.putfield 73, 3) := dk_181 0 73 (dk_at dksX8_roundAt_0 11 rfl rfl)
theorem dX8_roundAt_14 : decode cX8_roundAt 14 = .ok (.aload_n 0, 1) := dk_42 (dk_at dksX8_roundAt_0 14 rfl rfl)
theorem dX8_roundAt_15 : decode cX8_roundAt 15 = .ok (.getfield 73, 3) := dk_180 0 73 (dk_at dksX8_roundAt_0 15 rfl rfl)
theorem dX8_roundAt_18 : decode cX8_roundAt 18 = .ok (.ifCond .le 5, 3) := dk_158 0 5 (dk_at dksX8_roundAt_0 18 rfl rfl)
theorem dX8_roundAt_21 : decode cX8_roundAt 21 = .ok (.iconst (-1), 1) := dk_2 (dk_at dksX8_roundAt_0 21 rfl rfl)
theorem dX8_roundAt_22 : decode cX8_roundAt 22 = .ok (.ireturn, 1) := dk_172 (dk_at dksX8_roundAt_0 22 rfl rfl)
theorem dX8_roundAt_23 : decode cX8_roundAt 23 = .ok (.aload_n 0, 1) := dk_42 (dk_at dksX8_roundAt_0 23 rfl rfl)
theorem dX8_roundAt_24 : decode cX8_roundAt 24 = .ok (.iload_n 1, 1) := dk_27 (dk_at dksX8_roundAt_1 0 rfl rfl)
theorem dX8_roundAt_25 : decode cX8_roundAt 25 = .ok (.invokevirtual 389, 3) := dk_182 1 133 (dk_at dksX8_roundAt_1 1 rfl rfl)
theorem dX8_roundAt_28 : decode cX8_roundAt 28 = .ok (.iload_n 2, 1) := dk_28 (dk_at dksX8_roundAt_1 4 rfl rfl)
theorem dX8_roundAt_29 : decode cX8_roundAt 29 = .ok (.i2l, 1) := dk_133 (dk_at dksX8_roundAt_1 5 rfl rfl)
theorem dX8_roundAt_30 : decode cX8_roundAt 30 = .ok (.lconst 0, 1) := dk_9 (dk_at dksX8_roundAt_1 6 rfl rfl)
theorem dX8_roundAt_31 : decode cX8_roundAt 31 = .ok (.aload_n 0, 1) := dk_42 (dk_at dksX8_roundAt_1 7 rfl rfl)
theorem dX8_roundAt_32 : decode cX8_roundAt 32 = .ok (.getfield 383, 3) := dk_180 1 127 (dk_at dksX8_roundAt_1 8 rfl rfl)
theorem dX8_roundAt_35 : decode cX8_roundAt 35 = .ok (.iconst 1, 1) := dk_4 (dk_at dksX8_roundAt_1 11 rfl rfl)
theorem dX8_roundAt_36 : decode cX8_roundAt 36 = .ok (.isub, 1) := dk_100 (dk_at dksX8_roundAt_1 12 rfl rfl)
theorem dX8_roundAt_37 : decode cX8_roundAt 37 = .ok (.i2l, 1) := dk_133 (dk_at dksX8_roundAt_1 13 rfl rfl)
theorem dX8_roundAt_38 : decode cX8_roundAt 38 = .ok (.invokestatic 105, 3) := dk_184 0 105 (dk_at dksX8_roundAt_1 14 rfl rfl)
theorem dX8_roundAt_41 : decode cX8_roundAt 41 = .ok (.ifCond .eq 12, 3) := dk_153 0 12 (dk_at dksX8_roundAt_1 17 rfl rfl)
theorem dX8_roundAt_44 : decode cX8_roundAt 44 = .ok (.aload_n 0, 1) := dk_42 (dk_at dksX8_roundAt_1 20 rfl rfl)
theorem dX8_roundAt_45 : decode cX8_roundAt 45 = .ok (.getfield 50, 3) := dk_180 0 50 (dk_at dksX8_roundAt_1 21 rfl rfl)
theorem dX8_roundAt_48 : decode cX8_roundAt 48 = .ok (.iload_n 2, 1) := dk_28 (dk_at dksX8_roundAt_2 0 rfl rfl)
theorem dX8_roundAt_49 : decode cX8_roundAt 49 = .ok (.iaload, 1) := dk_46 (dk_at dksX8_roundAt_2 1 rfl rfl)
theorem dX8_roundAt_50 : decode cX8_roundAt 50 = .ok (.goto 9, 3) := dk_167 0 9 (dk_at dksX8_roundAt_2 2 rfl rfl)
theorem dX8_roundAt_53 : decode cX8_roundAt 53 = .ok (.aload_n 0, 1) := dk_42 (dk_at dksX8_roundAt_2 5 rfl rfl)
theorem dX8_roundAt_54 : decode cX8_roundAt 54 = .ok (.bipush 8, 2) := dk_16 8 (dk_at dksX8_roundAt_2 6 rfl rfl)
theorem dX8_roundAt_56 : decode cX8_roundAt 56 = .ok (.invokevirtual 327, 3) := dk_182 1 71 (dk_at dksX8_roundAt_2 8 rfl rfl)
theorem dX8_roundAt_59 : decode cX8_roundAt 59 = .ok (.ireturn, 1) := dk_172 (dk_at dksX8_roundAt_2 11 rfl rfl)
abbrev cX8_most : ByteArray := prog_14_method_116_code
def yX8_most : MethodName := ⟨RX8, "most", "(I)I"⟩
def dkwX8_most_1 : List UInt8 := [167, 0, 11, 42, 27, 3, 3, 3, 182, 1, 146, 172]
abbrev dktX8_most_1 : List UInt8 := dkwX8_most_1 ++ []
def dkwX8_most_0 : List UInt8 := [42, 3, 181, 0, 70, 42, 42, 27, 182, 1, 143, 181, 0, 73, 42, 180, 0, 73, 158, 0, 7, 2]
abbrev dktX8_most_0 : List UInt8 := dkwX8_most_0 ++ dktX8_most_1
theorem dksX8_most_0 : cX8_most.data.toList.drop 0 = dktX8_most_0 := by decide +kernel
theorem dksX8_most_1 : cX8_most.data.toList.drop 22 = dktX8_most_1 := dk_seg dksX8_most_0 22 rfl rfl
theorem dX8_most_0 : decode cX8_most 0 = .ok (.aload_n 0, 1) := dk_42 (dk_at dksX8_most_0 0 rfl rfl)
theorem dX8_most_1 : decode cX8_most 1 = .ok (.iconst 0, 1) := dk_3 (dk_at dksX8_most_0 1 rfl rfl)
theorem dX8_most_2 : decode cX8_most 2 = .ok (.putfield 70, 3) := dk_181 0 70 (dk_at dksX8_most_0 2 rfl rfl)
theorem dX8_most_5 : decode cX8_most 5 = .ok (.aload_n 0, 1) := dk_42 (dk_at dksX8_most_0 5 rfl rfl)
theorem dX8_most_6 : decode cX8_most 6 = .ok (.aload_n 0, 1) := dk_42 (dk_at dksX8_most_0 6 rfl rfl)
theorem dX8_most_7 : decode cX8_most 7 = .ok (.iload_n 1, 1) := dk_27 (dk_at dksX8_most_0 7 rfl rfl)
theorem dX8_most_8 : decode cX8_most 8 = .ok (.invokevirtual 399, 3) := dk_182 1 143 (dk_at dksX8_most_0 8 rfl rfl)
theorem dX8_most_11 : decode cX8_most 11 = .ok (.putfield 73, 3) := dk_181 0 73 (dk_at dksX8_most_0 11 rfl rfl)
theorem dX8_most_14 : decode cX8_most 14 = .ok (.aload_n 0, 1) := dk_42 (dk_at dksX8_most_0 14 rfl rfl)
theorem dX8_most_15 : decode cX8_most 15 = .ok (.getfield 73, 3) := dk_180 0 73 (dk_at dksX8_most_0 15 rfl rfl)
theorem dX8_most_18 : decode cX8_most 18 = .ok (.ifCond .le 7, 3) := dk_158 0 7 (dk_at dksX8_most_0 18 rfl rfl)
theorem dX8_most_21 : decode cX8_most 21 = .ok (.iconst (-1), 1) := dk_2 (dk_at dksX8_most_0 21 rfl rfl)
theorem dX8_most_22 : decode cX8_most 22 = .ok (.goto 11, 3) := dk_167 0 11 (dk_at dksX8_most_1 0 rfl rfl)
theorem dX8_most_25 : decode cX8_most 25 = .ok (.aload_n 0, 1) := dk_42 (dk_at dksX8_most_1 3 rfl rfl)
theorem dX8_most_26 : decode cX8_most 26 = .ok (.iload_n 1, 1) := dk_27 (dk_at dksX8_most_1 4 rfl rfl)
theorem dX8_most_27 : decode cX8_most 27 = .ok (.iconst 0, 1) := dk_3 (dk_at dksX8_most_1 5 rfl rfl)
theorem dX8_most_28 : decode cX8_most 28 = .ok (.iconst 0, 1) := dk_3 (dk_at dksX8_most_1 6 rfl rfl)
theorem dX8_most_29 : decode cX8_most 29 = .ok (.iconst 0, 1) := dk_3 (dk_at dksX8_most_1 7 rfl rfl)
theorem dX8_most_30 : decode cX8_most 30 = .ok (.invokevirtual 402, 3) := dk_182 1 146 (dk_at dksX8_most_1 8 rfl rfl)
theorem dX8_most_33 : decode cX8_most 33 = .ok (.ireturn, 1) := dk_172 (dk_at dksX8_most_1 11 rfl rfl)
abbrev cX8_whyNoTins : ByteArray := prog_14_method_115_code
def yX8_whyNoTins : MethodName := ⟨RX8, "whyNoTins", "(I)I"⟩
def dkwX8_whyNoTins_1 : List UInt8 := [126, 153, 0, 8, 16, 9, 167, 0, 4, 3, 172]
abbrev dktX8_whyNoTins_1 : List UInt8 := dkwX8_whyNoTins_1 ++ []
def dkwX8_whyNoTins_0 : List UInt8 := [27, 133, 9, 42, 182, 1, 60, 133, 184, 0, 105, 154, 0, 7, 8, 167, 0, 19, 27, 42, 3, 182, 1, 63]
abbrev dktX8_whyNoTins_0 : List UInt8 := dkwX8_whyNoTins_0 ++ dktX8_whyNoTins_1
theorem dksX8_whyNoTins_0 : cX8_whyNoTins.data.toList.drop 0 = dktX8_whyNoTins_0 := by decide +kernel
theorem dksX8_whyNoTins_1 : cX8_whyNoTins.data.toList.drop 24 = dktX8_whyNoTins_1 := dk_seg dksX8_whyNoTins_0 24 rfl rfl
theorem dX8_whyNoTins_0 : decode cX8_whyNoTins 0 = .ok (.iload_n 1, 1) := dk_27 (dk_at dksX8_whyNoTins_0 0 rfl rfl)
theorem dX8_whyNoTins_1 : decode cX8_whyNoTins 1 = .ok (.i2l, 1) := dk_133 (dk_at dksX8_whyNoTins_0 1 rfl rfl)
theorem dX8_whyNoTins_2 : decode cX8_whyNoTins 2 = .ok (.lconst 0, 1) := dk_9 (dk_at dksX8_whyNoTins_0 2 rfl rfl)
theorem dX8_whyNoTins_3 : decode cX8_whyNoTins 3 = .ok (.aload_n 0, 1) := dk_42 (dk_at dksX8_whyNoTins_0 3 rfl rfl)
theorem dX8_whyNoTins_4 : decode cX8_whyNoTins 4 = .ok (.invokevirtual 316, 3) := dk_182 1 60 (dk_at dksX8_whyNoTins_0 4 rfl rfl)
theorem dX8_whyNoTins_7 : decode cX8_whyNoTins 7 = .ok (.i2l, 1) := dk_133 (dk_at dksX8_whyNoTins_0 7 rfl rfl)
theorem dX8_whyNoTins_8 : decode cX8_whyNoTins 8 = .ok (.invokestatic 105, 3) := dk_184 0 105 (dk_at dksX8_whyNoTins_0 8 rfl rfl)
theorem dX8_whyNoTins_11 : decode cX8_whyNoTins 11 = .ok (.ifCond .ne 7, 3) := dk_154 0 7 (dk_at dksX8_whyNoTins_0 11 rfl rfl)
theorem dX8_whyNoTins_14 : decode cX8_whyNoTins 14 = .ok (.iconst 5, 1) := dk_8 (dk_at dksX8_whyNoTins_0 14 rfl rfl)
theorem dX8_whyNoTins_15 : decode cX8_whyNoTins 15 = .ok (.goto 19, 3) := dk_167 0 19 (dk_at dksX8_whyNoTins_0 15 rfl rfl)
theorem dX8_whyNoTins_18 : decode cX8_whyNoTins 18 = .ok (.iload_n 1, 1) := dk_27 (dk_at dksX8_whyNoTins_0 18 rfl rfl)
theorem dX8_whyNoTins_19 : decode cX8_whyNoTins 19 = .ok (.aload_n 0, 1) := dk_42 (dk_at dksX8_whyNoTins_0 19 rfl rfl)
theorem dX8_whyNoTins_20 : decode cX8_whyNoTins 20 = .ok (.iconst 0, 1) := dk_3 (dk_at dksX8_whyNoTins_0 20 rfl rfl)
theorem dX8_whyNoTins_21 : decode cX8_whyNoTins 21 = .ok (.invokevirtual 319, 3) := dk_182 1 63 (dk_at dksX8_whyNoTins_0 21 rfl rfl)
theorem dX8_whyNoTins_24 : decode cX8_whyNoTins 24 = .ok (.iand, 1) := dk_126 (dk_at dksX8_whyNoTins_1 0 rfl rfl)
theorem dX8_whyNoTins_25 : decode cX8_whyNoTins 25 = .ok (.ifCond .eq 8, 3) := dk_153 0 8 (dk_at dksX8_whyNoTins_1 1 rfl rfl)
theorem dX8_whyNoTins_28 : decode cX8_whyNoTins 28 = .ok (.bipush 9, 2) := dk_16 9 (dk_at dksX8_whyNoTins_1 4 rfl rfl)
theorem dX8_whyNoTins_30 : decode cX8_whyNoTins 30 = .ok (.goto 4, 3) := dk_167 0 4 (dk_at dksX8_whyNoTins_1 6 rfl rfl)
theorem dX8_whyNoTins_33 : decode cX8_whyNoTins 33 = .ok (.iconst 0, 1) := dk_3 (dk_at dksX8_whyNoTins_1 9 rfl rfl)
theorem dX8_whyNoTins_34 : decode cX8_whyNoTins 34 = .ok (.ireturn, 1) := dk_172 (dk_at dksX8_whyNoTins_1 10 rfl rfl)
abbrev cX8_laysGivings : ByteArray := prog_14_method_113_code
def yX8_laysGivings : MethodName := ⟨RX8, "laysGivings", "(IIIZ)I"⟩
def dkwX8_laysGivings_6 : List UInt8 := [167, 255, 196, 21, 5, 172]
abbrev dktX8_laysGivings_6 : List UInt8 := dkwX8_laysGivings_6 ++ []
def dkwX8_laysGivings_5 : List UInt8 := [21, 6, 29, 2, 130, 126, 184, 1, 140, 184, 0, 233, 167, 0, 5, 21, 5, 54, 5, 132, 6, 1]
abbrev dktX8_laysGivings_5 : List UInt8 := dkwX8_laysGivings_5 ++ dktX8_laysGivings_6
def dkwX8_laysGivings_4 : List UInt8 := [42, 180, 0, 53, 21, 6, 46, 96, 167, 0, 32, 42, 180, 0, 53, 21, 6, 46, 158, 0, 20, 21, 5]
abbrev dktX8_laysGivings_4 : List UInt8 := dkwX8_laysGivings_4 ++ dktX8_laysGivings_5
def dkwX8_laysGivings_3 : List UInt8 := [167, 255, 225, 3, 54, 5, 3, 54, 6, 21, 6, 17, 0, 128, 162, 0, 58, 21, 4, 153, 0, 16, 21, 5]
abbrev dktX8_laysGivings_3 : List UInt8 := dkwX8_laysGivings_3 ++ dktX8_laysGivings_4
def dkwX8_laysGivings_2 : List UInt8 := [162, 0, 26, 27, 21, 5, 184, 0, 109, 153, 0, 11, 42, 21, 5, 21, 4, 182, 1, 136, 132, 5, 1]
abbrev dktX8_laysGivings_2 : List UInt8 := dkwX8_laysGivings_2 ++ dktX8_laysGivings_3
def dkwX8_laysGivings_1 : List UInt8 := [167, 0, 4, 3, 79, 132, 5, 1, 167, 255, 227, 28, 54, 5, 21, 5, 42, 180, 0, 35, 6, 46]
abbrev dktX8_laysGivings_1 : List UInt8 := dkwX8_laysGivings_1 ++ dktX8_laysGivings_2
def dkwX8_laysGivings_0 : List UInt8 := [3, 54, 5, 21, 5, 17, 0, 128, 162, 0, 27, 42, 180, 0, 53, 21, 5, 21, 5, 29, 160, 0, 7, 4]
abbrev dktX8_laysGivings_0 : List UInt8 := dkwX8_laysGivings_0 ++ dktX8_laysGivings_1
theorem dksX8_laysGivings_0 : cX8_laysGivings.data.toList.drop 0 = dktX8_laysGivings_0 := by decide +kernel
theorem dksX8_laysGivings_1 : cX8_laysGivings.data.toList.drop 24 = dktX8_laysGivings_1 := dk_seg dksX8_laysGivings_0 24 rfl rfl
theorem dksX8_laysGivings_2 : cX8_laysGivings.data.toList.drop 46 = dktX8_laysGivings_2 := dk_seg dksX8_laysGivings_1 22 rfl rfl
theorem dksX8_laysGivings_3 : cX8_laysGivings.data.toList.drop 69 = dktX8_laysGivings_3 := dk_seg dksX8_laysGivings_2 23 rfl rfl
theorem dksX8_laysGivings_4 : cX8_laysGivings.data.toList.drop 93 = dktX8_laysGivings_4 := dk_seg dksX8_laysGivings_3 24 rfl rfl
theorem dksX8_laysGivings_5 : cX8_laysGivings.data.toList.drop 116 = dktX8_laysGivings_5 := dk_seg dksX8_laysGivings_4 23 rfl rfl
theorem dksX8_laysGivings_6 : cX8_laysGivings.data.toList.drop 138 = dktX8_laysGivings_6 := dk_seg dksX8_laysGivings_5 22 rfl rfl
theorem dX8_laysGivings_0 : decode cX8_laysGivings 0 = .ok (.iconst 0, 1) := dk_3 (dk_at dksX8_laysGivings_0 0 rfl rfl)
theorem dX8_laysGivings_1 : decode cX8_laysGivings 1 = .ok (.istore 5, 2) := dk_54 5 (dk_at dksX8_laysGivings_0 1 rfl rfl)
theorem dX8_laysGivings_3 : decode cX8_laysGivings 3 = .ok (.iload 5, 2) := dk_21 5 (dk_at dksX8_laysGivings_0 3 rfl rfl)
theorem dX8_laysGivings_5 : decode cX8_laysGivings 5 = .ok (.sipush 128, 3) := dk_17 0 128 (dk_at dksX8_laysGivings_0 5 rfl rfl)
theorem dX8_laysGivings_8 : decode cX8_laysGivings 8 = .ok (.if_icmp .ge 27, 3) := dk_162 0 27 (dk_at dksX8_laysGivings_0 8 rfl rfl)
theorem dX8_laysGivings_11 : decode cX8_laysGivings 11 = .ok (.aload_n 0, 1) := dk_42 (dk_at dksX8_laysGivings_0 11 rfl rfl)
theorem dX8_laysGivings_12 : decode cX8_laysGivings 12 = .ok (.getfield 53, 3) := dk_180 0 53 (dk_at dksX8_laysGivings_0 12 rfl rfl)
theorem dX8_laysGivings_15 : decode cX8_laysGivings 15 = .ok (.iload 5, 2) := dk_21 5 (dk_at dksX8_laysGivings_0 15 rfl rfl)
theorem dX8_laysGivings_17 : decode cX8_laysGivings 17 = .ok (.iload 5, 2) := dk_21 5 (dk_at dksX8_laysGivings_0 17 rfl rfl)
theorem dX8_laysGivings_19 : decode cX8_laysGivings 19 = .ok (.iload_n 3, 1) := dk_29 (dk_at dksX8_laysGivings_0 19 rfl rfl)
theorem dX8_laysGivings_20 : decode cX8_laysGivings 20 = .ok (.if_icmp .ne 7, 3) := dk_160 0 7 (dk_at dksX8_laysGivings_0 20 rfl rfl)
theorem dX8_laysGivings_23 : decode cX8_laysGivings 23 = .ok (.iconst 1, 1) := dk_4 (dk_at dksX8_laysGivings_0 23 rfl rfl)
theorem dX8_laysGivings_24 : decode cX8_laysGivings 24 = .ok (.goto 4, 3) := dk_167 0 4 (dk_at dksX8_laysGivings_1 0 rfl rfl)
theorem dX8_laysGivings_27 : decode cX8_laysGivings 27 = .ok (.iconst 0, 1) := dk_3 (dk_at dksX8_laysGivings_1 3 rfl rfl)
theorem dX8_laysGivings_28 : decode cX8_laysGivings 28 = .ok (.iastore, 1) := dk_79 (dk_at dksX8_laysGivings_1 4 rfl rfl)
theorem dX8_laysGivings_29 : decode cX8_laysGivings 29 = .ok (.iinc 5 1, 3) := dk_132 5 1 (dk_at dksX8_laysGivings_1 5 rfl rfl)
theorem dX8_laysGivings_32 : decode cX8_laysGivings 32 = .ok (.goto (-29), 3) := dk_167 255 227 (dk_at dksX8_laysGivings_1 8 rfl rfl)
theorem dX8_laysGivings_35 : decode cX8_laysGivings 35 = .ok (.iload_n 2, 1) := dk_28 (dk_at dksX8_laysGivings_1 11 rfl rfl)
theorem dX8_laysGivings_36 : decode cX8_laysGivings 36 = .ok (.istore 5, 2) := dk_54 5 (dk_at dksX8_laysGivings_1 12 rfl rfl)
theorem dX8_laysGivings_38 : decode cX8_laysGivings 38 = .ok (.iload 5, 2) := dk_21 5 (dk_at dksX8_laysGivings_1 14 rfl rfl)
theorem dX8_laysGivings_40 : decode cX8_laysGivings 40 = .ok (.aload_n 0, 1) := dk_42 (dk_at dksX8_laysGivings_1 16 rfl rfl)
theorem dX8_laysGivings_41 : decode cX8_laysGivings 41 = .ok (.getfield 35, 3) := dk_180 0 35 (dk_at dksX8_laysGivings_1 17 rfl rfl)
theorem dX8_laysGivings_44 : decode cX8_laysGivings 44 = .ok (.iconst 3, 1) := dk_6 (dk_at dksX8_laysGivings_1 20 rfl rfl)
theorem dX8_laysGivings_45 : decode cX8_laysGivings 45 = .ok (.iaload, 1) := dk_46 (dk_at dksX8_laysGivings_1 21 rfl rfl)
theorem dX8_laysGivings_46 : decode cX8_laysGivings 46 = .ok (.if_icmp .ge 26, 3) := dk_162 0 26 (dk_at dksX8_laysGivings_2 0 rfl rfl)
theorem dX8_laysGivings_49 : decode cX8_laysGivings 49 = .ok (.iload_n 1, 1) := dk_27 (dk_at dksX8_laysGivings_2 3 rfl rfl)
theorem dX8_laysGivings_50 : decode cX8_laysGivings 50 = .ok (.iload 5, 2) := dk_21 5 (dk_at dksX8_laysGivings_2 4 rfl rfl)
theorem dX8_laysGivings_52 : decode cX8_laysGivings 52 = .ok (.invokestatic 109, 3) := dk_184 0 109 (dk_at dksX8_laysGivings_2 6 rfl rfl)
theorem dX8_laysGivings_55 : decode cX8_laysGivings 55 = .ok (.ifCond .eq 11, 3) := dk_153 0 11 (dk_at dksX8_laysGivings_2 9 rfl rfl)
theorem dX8_laysGivings_58 : decode cX8_laysGivings 58 = .ok (.aload_n 0, 1) := dk_42 (dk_at dksX8_laysGivings_2 12 rfl rfl)
theorem dX8_laysGivings_59 : decode cX8_laysGivings 59 = .ok (.iload 5, 2) := dk_21 5 (dk_at dksX8_laysGivings_2 13 rfl rfl)
theorem dX8_laysGivings_61 : decode cX8_laysGivings 61 = .ok (.iload 4, 2) := dk_21 4 (dk_at dksX8_laysGivings_2 15 rfl rfl)
theorem dX8_laysGivings_63 : decode cX8_laysGivings 63 = .ok (.invokevirtual 392, 3) := dk_182 1 136 (dk_at dksX8_laysGivings_2 17 rfl rfl)
theorem dX8_laysGivings_66 : decode cX8_laysGivings 66 = .ok (.iinc 5 1, 3) := dk_132 5 1 (dk_at dksX8_laysGivings_2 20 rfl rfl)
theorem dX8_laysGivings_69 : decode cX8_laysGivings 69 = .ok (.goto (-31), 3) := dk_167 255 225 (dk_at dksX8_laysGivings_3 0 rfl rfl)
theorem dX8_laysGivings_72 : decode cX8_laysGivings 72 = .ok (.iconst 0, 1) := dk_3 (dk_at dksX8_laysGivings_3 3 rfl rfl)
theorem dX8_laysGivings_73 : decode cX8_laysGivings 73 = .ok (.istore 5, 2) := dk_54 5 (dk_at dksX8_laysGivings_3 4 rfl rfl)
theorem dX8_laysGivings_75 : decode cX8_laysGivings 75 = .ok (.iconst 0, 1) := dk_3 (dk_at dksX8_laysGivings_3 6 rfl rfl)
theorem dX8_laysGivings_76 : decode cX8_laysGivings 76 = .ok (.istore 6, 2) := dk_54 6 (dk_at dksX8_laysGivings_3 7 rfl rfl)
theorem dX8_laysGivings_78 : decode cX8_laysGivings 78 = .ok (.iload 6, 2) := dk_21 6 (dk_at dksX8_laysGivings_3 9 rfl rfl)
theorem dX8_laysGivings_80 : decode cX8_laysGivings 80 = .ok (.sipush 128, 3) := dk_17 0 128 (dk_at dksX8_laysGivings_3 11 rfl rfl)
theorem dX8_laysGivings_83 : decode cX8_laysGivings 83 = .ok (.if_icmp .ge 58, 3) := dk_162 0 58 (dk_at dksX8_laysGivings_3 14 rfl rfl)
theorem dX8_laysGivings_86 : decode cX8_laysGivings 86 = .ok (.iload 4, 2) := dk_21 4 (dk_at dksX8_laysGivings_3 17 rfl rfl)
theorem dX8_laysGivings_88 : decode cX8_laysGivings 88 = .ok (.ifCond .eq 16, 3) := dk_153 0 16 (dk_at dksX8_laysGivings_3 19 rfl rfl)
theorem dX8_laysGivings_91 : decode cX8_laysGivings 91 = .ok (.iload 5, 2) := dk_21 5 (dk_at dksX8_laysGivings_3 22 rfl rfl)
theorem dX8_laysGivings_93 : decode cX8_laysGivings 93 = .ok (.aload_n 0, 1) := dk_42 (dk_at dksX8_laysGivings_4 0 rfl rfl)
theorem dX8_laysGivings_94 : decode cX8_laysGivings 94 = .ok (.getfield 53, 3) := dk_180 0 53 (dk_at dksX8_laysGivings_4 1 rfl rfl)
theorem dX8_laysGivings_97 : decode cX8_laysGivings 97 = .ok (.iload 6, 2) := dk_21 6 (dk_at dksX8_laysGivings_4 4 rfl rfl)
theorem dX8_laysGivings_99 : decode cX8_laysGivings 99 = .ok (.iaload, 1) := dk_46 (dk_at dksX8_laysGivings_4 6 rfl rfl)
theorem dX8_laysGivings_100 : decode cX8_laysGivings 100 = .ok (.iadd, 1) := dk_96 (dk_at dksX8_laysGivings_4 7 rfl rfl)
theorem dX8_laysGivings_101 : decode cX8_laysGivings 101 = .ok (.goto 32, 3) := dk_167 0 32 (dk_at dksX8_laysGivings_4 8 rfl rfl)
theorem dX8_laysGivings_104 : decode cX8_laysGivings 104 = .ok (.aload_n 0, 1) := dk_42 (dk_at dksX8_laysGivings_4 11 rfl rfl)
theorem dX8_laysGivings_105 : decode cX8_laysGivings 105 = .ok (.getfield 53, 3) := dk_180 0 53 (dk_at dksX8_laysGivings_4 12 rfl rfl)
theorem dX8_laysGivings_108 : decode cX8_laysGivings 108 = .ok (.iload 6, 2) := dk_21 6 (dk_at dksX8_laysGivings_4 15 rfl rfl)
theorem dX8_laysGivings_110 : decode cX8_laysGivings 110 = .ok (.iaload, 1) := dk_46 (dk_at dksX8_laysGivings_4 17 rfl rfl)
theorem dX8_laysGivings_111 : decode cX8_laysGivings 111 = .ok (.ifCond .le 20, 3) := dk_158 0 20 (dk_at dksX8_laysGivings_4 18 rfl rfl)
theorem dX8_laysGivings_114 : decode cX8_laysGivings 114 = .ok (.iload 5, 2) := dk_21 5 (dk_at dksX8_laysGivings_4 21 rfl rfl)
theorem dX8_laysGivings_116 : decode cX8_laysGivings 116 = .ok (.iload 6, 2) := dk_21 6 (dk_at dksX8_laysGivings_5 0 rfl rfl)
theorem dX8_laysGivings_118 : decode cX8_laysGivings 118 = .ok (.iload_n 3, 1) := dk_29 (dk_at dksX8_laysGivings_5 2 rfl rfl)
theorem dX8_laysGivings_119 : decode cX8_laysGivings 119 = .ok (.iconst (-1), 1) := dk_2 (dk_at dksX8_laysGivings_5 3 rfl rfl)
theorem dX8_laysGivings_120 : decode cX8_laysGivings 120 = .ok (.ixor, 1) := dk_130 (dk_at dksX8_laysGivings_5 4 rfl rfl)
theorem dX8_laysGivings_121 : decode cX8_laysGivings 121 = .ok (.iand, 1) := dk_126 (dk_at dksX8_laysGivings_5 5 rfl rfl)
theorem dX8_laysGivings_122 : decode cX8_laysGivings 122 = .ok (.invokestatic 396, 3) := dk_184 1 140 (dk_at dksX8_laysGivings_5 6 rfl rfl)
theorem dX8_laysGivings_125 : decode cX8_laysGivings 125 = .ok (.invokestatic 233, 3) := dk_184 0 233 (dk_at dksX8_laysGivings_5 9 rfl rfl)
theorem dX8_laysGivings_128 : decode cX8_laysGivings 128 = .ok (.goto 5, 3) := dk_167 0 5 (dk_at dksX8_laysGivings_5 12 rfl rfl)
theorem dX8_laysGivings_131 : decode cX8_laysGivings 131 = .ok (.iload 5, 2) := dk_21 5 (dk_at dksX8_laysGivings_5 15 rfl rfl)
theorem dX8_laysGivings_133 : decode cX8_laysGivings 133 = .ok (.istore 5, 2) := dk_54 5 (dk_at dksX8_laysGivings_5 17 rfl rfl)
theorem dX8_laysGivings_135 : decode cX8_laysGivings 135 = .ok (.iinc 6 1, 3) := dk_132 6 1 (dk_at dksX8_laysGivings_5 19 rfl rfl)
theorem dX8_laysGivings_138 : decode cX8_laysGivings 138 = .ok (.goto (-60), 3) := dk_167 255 196 (dk_at dksX8_laysGivings_6 0 rfl rfl)
theorem dX8_laysGivings_141 : decode cX8_laysGivings 141 = .ok (.iload 5, 2) := dk_21 5 (dk_at dksX8_laysGivings_6 3 rfl rfl)
theorem dX8_laysGivings_143 : decode cX8_laysGivings 143 = .ok (.ireturn, 1) := dk_172 (dk_at dksX8_laysGivings_6 5 rfl rfl)
abbrev cX8_laysTin : ByteArray := prog_14_method_114_code
def yX8_laysTin : MethodName := ⟨RX8, "laysTin", "(IZ)V"⟩
def dkwX8_laysTin_4 : List UInt8 := [21, 4, 167, 0, 4, 4, 79, 132, 3, 255, 167, 255, 154, 177]
abbrev dktX8_laysTin_4 : List UInt8 := dkwX8_laysTin_4 ++ []
def dkwX8_laysTin_3 : List UInt8 := [54, 4, 132, 5, 1, 167, 255, 205, 42, 180, 0, 53, 29, 28, 154, 0, 9, 21, 4, 4, 162, 0, 8]
abbrev dktX8_laysTin_3 : List UInt8 := dkwX8_laysTin_3 ++ dktX8_laysTin_4
def dkwX8_laysTin_2 : List UInt8 := [21, 5, 182, 1, 98, 153, 0, 21, 21, 4, 42, 180, 0, 53, 29, 4, 21, 5, 120, 2, 130, 126, 46, 96]
abbrev dktX8_laysTin_2 : List UInt8 := dkwX8_laysTin_2 ++ dktX8_laysTin_3
def dkwX8_laysTin_1 : List UInt8 := [54, 5, 21, 5, 42, 180, 0, 35, 4, 46, 162, 0, 46, 29, 21, 5, 184, 0, 109, 153, 0, 31, 42, 27]
abbrev dktX8_laysTin_1 : List UInt8 := dkwX8_laysTin_1 ++ dktX8_laysTin_2
def dkwX8_laysTin_0 : List UInt8 := [16, 127, 62, 29, 155, 0, 104, 28, 153, 0, 7, 3, 167, 0, 9, 42, 180, 0, 53, 29, 46, 54, 4, 3]
abbrev dktX8_laysTin_0 : List UInt8 := dkwX8_laysTin_0 ++ dktX8_laysTin_1
theorem dksX8_laysTin_0 : cX8_laysTin.data.toList.drop 0 = dktX8_laysTin_0 := by decide +kernel
theorem dksX8_laysTin_1 : cX8_laysTin.data.toList.drop 24 = dktX8_laysTin_1 := dk_seg dksX8_laysTin_0 24 rfl rfl
theorem dksX8_laysTin_2 : cX8_laysTin.data.toList.drop 48 = dktX8_laysTin_2 := dk_seg dksX8_laysTin_1 24 rfl rfl
theorem dksX8_laysTin_3 : cX8_laysTin.data.toList.drop 72 = dktX8_laysTin_3 := dk_seg dksX8_laysTin_2 24 rfl rfl
theorem dksX8_laysTin_4 : cX8_laysTin.data.toList.drop 95 = dktX8_laysTin_4 := dk_seg dksX8_laysTin_3 23 rfl rfl
theorem dX8_laysTin_0 : decode cX8_laysTin 0 = .ok (.bipush 127, 2) := dk_16 127 (dk_at dksX8_laysTin_0 0 rfl rfl)
theorem dX8_laysTin_2 : decode cX8_laysTin 2 = .ok (.istore_n 3, 1) := dk_62 (dk_at dksX8_laysTin_0 2 rfl rfl)
theorem dX8_laysTin_3 : decode cX8_laysTin 3 = .ok (.iload_n 3, 1) := dk_29 (dk_at dksX8_laysTin_0 3 rfl rfl)
theorem dX8_laysTin_4 : decode cX8_laysTin 4 = .ok (.ifCond .lt 104, 3) := dk_155 0 104 (dk_at dksX8_laysTin_0 4 rfl rfl)
theorem dX8_laysTin_7 : decode cX8_laysTin 7 = .ok (.iload_n 2, 1) := dk_28 (dk_at dksX8_laysTin_0 7 rfl rfl)
theorem dX8_laysTin_8 : decode cX8_laysTin 8 = .ok (.ifCond .eq 7, 3) := dk_153 0 7 (dk_at dksX8_laysTin_0 8 rfl rfl)
theorem dX8_laysTin_11 : decode cX8_laysTin 11 = .ok (.iconst 0, 1) := dk_3 (dk_at dksX8_laysTin_0 11 rfl rfl)
theorem dX8_laysTin_12 : decode cX8_laysTin 12 = .ok (.goto 9, 3) := dk_167 0 9 (dk_at dksX8_laysTin_0 12 rfl rfl)
theorem dX8_laysTin_15 : decode cX8_laysTin 15 = .ok (.aload_n 0, 1) := dk_42 (dk_at dksX8_laysTin_0 15 rfl rfl)
theorem dX8_laysTin_16 : decode cX8_laysTin 16 = .ok (.getfield 53, 3) := dk_180 0 53 (dk_at dksX8_laysTin_0 16 rfl rfl)
theorem dX8_laysTin_19 : decode cX8_laysTin 19 = .ok (.iload_n 3, 1) := dk_29 (dk_at dksX8_laysTin_0 19 rfl rfl)
theorem dX8_laysTin_20 : decode cX8_laysTin 20 = .ok (.iaload, 1) := dk_46 (dk_at dksX8_laysTin_0 20 rfl rfl)
theorem dX8_laysTin_21 : decode cX8_laysTin 21 = .ok (.istore 4, 2) := dk_54 4 (dk_at dksX8_laysTin_0 21 rfl rfl)
theorem dX8_laysTin_23 : decode cX8_laysTin 23 = .ok (.iconst 0, 1) := dk_3 (dk_at dksX8_laysTin_0 23 rfl rfl)
theorem dX8_laysTin_24 : decode cX8_laysTin 24 = .ok (.istore 5, 2) := dk_54 5 (dk_at dksX8_laysTin_1 0 rfl rfl)
theorem dX8_laysTin_26 : decode cX8_laysTin 26 = .ok (.iload 5, 2) := dk_21 5 (dk_at dksX8_laysTin_1 2 rfl rfl)
theorem dX8_laysTin_28 : decode cX8_laysTin 28 = .ok (.aload_n 0, 1) := dk_42 (dk_at dksX8_laysTin_1 4 rfl rfl)
theorem dX8_laysTin_29 : decode cX8_laysTin 29 = .ok (.getfield 35, 3) := dk_180 0 35 (dk_at dksX8_laysTin_1 5 rfl rfl)
theorem dX8_laysTin_32 : decode cX8_laysTin 32 = .ok (.iconst 1, 1) := dk_4 (dk_at dksX8_laysTin_1 8 rfl rfl)
theorem dX8_laysTin_33 : decode cX8_laysTin 33 = .ok (.iaload, 1) := dk_46 (dk_at dksX8_laysTin_1 9 rfl rfl)
theorem dX8_laysTin_34 : decode cX8_laysTin 34 = .ok (.if_icmp .ge 46, 3) := dk_162 0 46 (dk_at dksX8_laysTin_1 10 rfl rfl)
theorem dX8_laysTin_37 : decode cX8_laysTin 37 = .ok (.iload_n 3, 1) := dk_29 (dk_at dksX8_laysTin_1 13 rfl rfl)
theorem dX8_laysTin_38 : decode cX8_laysTin 38 = .ok (.iload 5, 2) := dk_21 5 (dk_at dksX8_laysTin_1 14 rfl rfl)
theorem dX8_laysTin_40 : decode cX8_laysTin 40 = .ok (.invokestatic 109, 3) := dk_184 0 109 (dk_at dksX8_laysTin_1 16 rfl rfl)
theorem dX8_laysTin_43 : decode cX8_laysTin 43 = .ok (.ifCond .eq 31, 3) := dk_153 0 31 (dk_at dksX8_laysTin_1 19 rfl rfl)
theorem dX8_laysTin_46 : decode cX8_laysTin 46 = .ok (.aload_n 0, 1) := dk_42 (dk_at dksX8_laysTin_1 22 rfl rfl)
theorem dX8_laysTin_47 : decode cX8_laysTin 47 = .ok (.iload_n 1, 1) := dk_27 (dk_at dksX8_laysTin_1 23 rfl rfl)
theorem dX8_laysTin_48 : decode cX8_laysTin 48 = .ok (.iload 5, 2) := dk_21 5 (dk_at dksX8_laysTin_2 0 rfl rfl)
theorem dX8_laysTin_50 : decode cX8_laysTin 50 = .ok (.invokevirtual 354, 3) := dk_182 1 98 (dk_at dksX8_laysTin_2 2 rfl rfl)
theorem dX8_laysTin_53 : decode cX8_laysTin 53 = .ok (.ifCond .eq 21, 3) := dk_153 0 21 (dk_at dksX8_laysTin_2 5 rfl rfl)
theorem dX8_laysTin_56 : decode cX8_laysTin 56 = .ok (.iload 4, 2) := dk_21 4 (dk_at dksX8_laysTin_2 8 rfl rfl)
theorem dX8_laysTin_58 : decode cX8_laysTin 58 = .ok (.aload_n 0, 1) := dk_42 (dk_at dksX8_laysTin_2 10 rfl rfl)
theorem dX8_laysTin_59 : decode cX8_laysTin 59 = .ok (.getfield 53, 3) := dk_180 0 53 (dk_at dksX8_laysTin_2 11 rfl rfl)
theorem dX8_laysTin_62 : decode cX8_laysTin 62 = .ok (.iload_n 3, 1) := dk_29 (dk_at dksX8_laysTin_2 14 rfl rfl)
theorem dX8_laysTin_63 : decode cX8_laysTin 63 = .ok (.iconst 1, 1) := dk_4 (dk_at dksX8_laysTin_2 15 rfl rfl)
theorem dX8_laysTin_64 : decode cX8_laysTin 64 = .ok (.iload 5, 2) := dk_21 5 (dk_at dksX8_laysTin_2 16 rfl rfl)
theorem dX8_laysTin_66 : decode cX8_laysTin 66 = .ok (.ishl, 1) := dk_120 (dk_at dksX8_laysTin_2 18 rfl rfl)
theorem dX8_laysTin_67 : decode cX8_laysTin 67 = .ok (.iconst (-1), 1) := dk_2 (dk_at dksX8_laysTin_2 19 rfl rfl)
theorem dX8_laysTin_68 : decode cX8_laysTin 68 = .ok (.ixor, 1) := dk_130 (dk_at dksX8_laysTin_2 20 rfl rfl)
theorem dX8_laysTin_69 : decode cX8_laysTin 69 = .ok (.iand, 1) := dk_126 (dk_at dksX8_laysTin_2 21 rfl rfl)
theorem dX8_laysTin_70 : decode cX8_laysTin 70 = .ok (.iaload, 1) := dk_46 (dk_at dksX8_laysTin_2 22 rfl rfl)
theorem dX8_laysTin_71 : decode cX8_laysTin 71 = .ok (.iadd, 1) := dk_96 (dk_at dksX8_laysTin_2 23 rfl rfl)
theorem dX8_laysTin_72 : decode cX8_laysTin 72 = .ok (.istore 4, 2) := dk_54 4 (dk_at dksX8_laysTin_3 0 rfl rfl)
theorem dX8_laysTin_74 : decode cX8_laysTin 74 = .ok (.iinc 5 1, 3) := dk_132 5 1 (dk_at dksX8_laysTin_3 2 rfl rfl)
theorem dX8_laysTin_77 : decode cX8_laysTin 77 = .ok (.goto (-51), 3) := dk_167 255 205 (dk_at dksX8_laysTin_3 5 rfl rfl)
theorem dX8_laysTin_80 : decode cX8_laysTin 80 = .ok (.aload_n 0, 1) := dk_42 (dk_at dksX8_laysTin_3 8 rfl rfl)
theorem dX8_laysTin_81 : decode cX8_laysTin 81 = .ok (.getfield 53, 3) := dk_180 0 53 (dk_at dksX8_laysTin_3 9 rfl rfl)
theorem dX8_laysTin_84 : decode cX8_laysTin 84 = .ok (.iload_n 3, 1) := dk_29 (dk_at dksX8_laysTin_3 12 rfl rfl)
theorem dX8_laysTin_85 : decode cX8_laysTin 85 = .ok (.iload_n 2, 1) := dk_28 (dk_at dksX8_laysTin_3 13 rfl rfl)
theorem dX8_laysTin_86 : decode cX8_laysTin 86 = .ok (.ifCond .ne 9, 3) := dk_154 0 9 (dk_at dksX8_laysTin_3 14 rfl rfl)
theorem dX8_laysTin_89 : decode cX8_laysTin 89 = .ok (.iload 4, 2) := dk_21 4 (dk_at dksX8_laysTin_3 17 rfl rfl)
theorem dX8_laysTin_91 : decode cX8_laysTin 91 = .ok (.iconst 1, 1) := dk_4 (dk_at dksX8_laysTin_3 19 rfl rfl)
theorem dX8_laysTin_92 : decode cX8_laysTin 92 = .ok (.if_icmp .ge 8, 3) := dk_162 0 8 (dk_at dksX8_laysTin_3 20 rfl rfl)
theorem dX8_laysTin_95 : decode cX8_laysTin 95 = .ok (.iload 4, 2) := dk_21 4 (dk_at dksX8_laysTin_4 0 rfl rfl)
theorem dX8_laysTin_97 : decode cX8_laysTin 97 = .ok (.goto 4, 3) := dk_167 0 4 (dk_at dksX8_laysTin_4 2 rfl rfl)
theorem dX8_laysTin_100 : decode cX8_laysTin 100 = .ok (.iconst 1, 1) := dk_4 (dk_at dksX8_laysTin_4 5 rfl rfl)
theorem dX8_laysTin_101 : decode cX8_laysTin 101 = .ok (.iastore, 1) := dk_79 (dk_at dksX8_laysTin_4 6 rfl rfl)
theorem dX8_laysTin_102 : decode cX8_laysTin 102 = .ok (.iinc 3 (-1), 3) := dk_132 3 255 (dk_at dksX8_laysTin_4 7 rfl rfl)
theorem dX8_laysTin_105 : decode cX8_laysTin 105 = .ok (.goto (-102), 3) := dk_167 255 154 (dk_at dksX8_laysTin_4 10 rfl rfl)
theorem dX8_laysTin_108 : decode cX8_laysTin 108 = .ok (.return_, 1) := dk_177 (dk_at dksX8_laysTin_4 13 rfl rfl)
abbrev cX8_sizeOf : ByteArray := prog_14_method_20_code
def yX8_sizeOf : MethodName := ⟨RX8, "sizeOf", "(I)I"⟩
def dkwX8_sizeOf_1 : List UInt8 := [96, 60, 132, 2, 1, 167, 255, 231, 27, 172]
abbrev dktX8_sizeOf_1 : List UInt8 := dkwX8_sizeOf_1 ++ []
def dkwX8_sizeOf_0 : List UInt8 := [3, 60, 3, 61, 28, 16, 9, 162, 0, 25, 27, 26, 28, 184, 0, 109, 153, 0, 7, 4, 167, 0, 4, 3]
abbrev dktX8_sizeOf_0 : List UInt8 := dkwX8_sizeOf_0 ++ dktX8_sizeOf_1
theorem dksX8_sizeOf_0 : cX8_sizeOf.data.toList.drop 0 = dktX8_sizeOf_0 := by decide +kernel
theorem dksX8_sizeOf_1 : cX8_sizeOf.data.toList.drop 24 = dktX8_sizeOf_1 := dk_seg dksX8_sizeOf_0 24 rfl rfl
theorem dX8_sizeOf_0 : decode cX8_sizeOf 0 = .ok (.iconst 0, 1) := dk_3 (dk_at dksX8_sizeOf_0 0 rfl rfl)
theorem dX8_sizeOf_1 : decode cX8_sizeOf 1 = .ok (.istore_n 1, 1) := dk_60 (dk_at dksX8_sizeOf_0 1 rfl rfl)
theorem dX8_sizeOf_2 : decode cX8_sizeOf 2 = .ok (.iconst 0, 1) := dk_3 (dk_at dksX8_sizeOf_0 2 rfl rfl)
theorem dX8_sizeOf_3 : decode cX8_sizeOf 3 = .ok (.istore_n 2, 1) := dk_61 (dk_at dksX8_sizeOf_0 3 rfl rfl)
theorem dX8_sizeOf_4 : decode cX8_sizeOf 4 = .ok (.iload_n 2, 1) := dk_28 (dk_at dksX8_sizeOf_0 4 rfl rfl)
theorem dX8_sizeOf_5 : decode cX8_sizeOf 5 = .ok (.bipush 9, 2) := dk_16 9 (dk_at dksX8_sizeOf_0 5 rfl rfl)
theorem dX8_sizeOf_7 : decode cX8_sizeOf 7 = .ok (.if_icmp .ge 25, 3) := dk_162 0 25 (dk_at dksX8_sizeOf_0 7 rfl rfl)
theorem dX8_sizeOf_10 : decode cX8_sizeOf 10 = .ok (.iload_n 1, 1) := dk_27 (dk_at dksX8_sizeOf_0 10 rfl rfl)
theorem dX8_sizeOf_11 : decode cX8_sizeOf 11 = .ok (.iload_n 0, 1) := dk_26 (dk_at dksX8_sizeOf_0 11 rfl rfl)
theorem dX8_sizeOf_12 : decode cX8_sizeOf 12 = .ok (.iload_n 2, 1) := dk_28 (dk_at dksX8_sizeOf_0 12 rfl rfl)
theorem dX8_sizeOf_13 : decode cX8_sizeOf 13 = .ok (.invokestatic 109, 3) := dk_184 0 109 (dk_at dksX8_sizeOf_0 13 rfl rfl)
theorem dX8_sizeOf_16 : decode cX8_sizeOf 16 = .ok (.ifCond .eq 7, 3) := dk_153 0 7 (dk_at dksX8_sizeOf_0 16 rfl rfl)
theorem dX8_sizeOf_19 : decode cX8_sizeOf 19 = .ok (.iconst 1, 1) := dk_4 (dk_at dksX8_sizeOf_0 19 rfl rfl)
theorem dX8_sizeOf_20 : decode cX8_sizeOf 20 = .ok (.goto 4, 3) := dk_167 0 4 (dk_at dksX8_sizeOf_0 20 rfl rfl)
theorem dX8_sizeOf_23 : decode cX8_sizeOf 23 = .ok (.iconst 0, 1) := dk_3 (dk_at dksX8_sizeOf_0 23 rfl rfl)
theorem dX8_sizeOf_24 : decode cX8_sizeOf 24 = .ok (.iadd, 1) := dk_96 (dk_at dksX8_sizeOf_1 0 rfl rfl)
theorem dX8_sizeOf_25 : decode cX8_sizeOf 25 = .ok (.istore_n 1, 1) := dk_60 (dk_at dksX8_sizeOf_1 1 rfl rfl)
theorem dX8_sizeOf_26 : decode cX8_sizeOf 26 = .ok (.iinc 2 1, 3) := dk_132 2 1 (dk_at dksX8_sizeOf_1 2 rfl rfl)
theorem dX8_sizeOf_29 : decode cX8_sizeOf 29 = .ok (.goto (-25), 3) := dk_167 255 231 (dk_at dksX8_sizeOf_1 5 rfl rfl)
theorem dX8_sizeOf_32 : decode cX8_sizeOf 32 = .ok (.iload_n 1, 1) := dk_27 (dk_at dksX8_sizeOf_1 8 rfl rfl)
theorem dX8_sizeOf_33 : decode cX8_sizeOf 33 = .ok (.ireturn, 1) := dk_172 (dk_at dksX8_sizeOf_1 9 rfl rfl)
abbrev cX8_givings : ByteArray := prog_14_method_117_code
def yX8_givings : MethodName := ⟨RX8, "givings", "(I)I"⟩
def dkwX8_givings_1 : List UInt8 := [167, 0, 11, 42, 27, 3, 3, 4, 182, 1, 146, 172]
abbrev dktX8_givings_1 : List UInt8 := dkwX8_givings_1 ++ []
def dkwX8_givings_0 : List UInt8 := [42, 3, 181, 0, 70, 42, 42, 27, 182, 1, 143, 181, 0, 73, 42, 180, 0, 73, 158, 0, 7, 2]
abbrev dktX8_givings_0 : List UInt8 := dkwX8_givings_0 ++ dktX8_givings_1
theorem dksX8_givings_0 : cX8_givings.data.toList.drop 0 = dktX8_givings_0 := by decide +kernel
theorem dksX8_givings_1 : cX8_givings.data.toList.drop 22 = dktX8_givings_1 := dk_seg dksX8_givings_0 22 rfl rfl
theorem dX8_givings_0 : decode cX8_givings 0 = .ok (.aload_n 0, 1) := dk_42 (dk_at dksX8_givings_0 0 rfl rfl)
theorem dX8_givings_1 : decode cX8_givings 1 = .ok (.iconst 0, 1) := dk_3 (dk_at dksX8_givings_0 1 rfl rfl)
theorem dX8_givings_2 : decode cX8_givings 2 = .ok (.putfield 70, 3) := dk_181 0 70 (dk_at dksX8_givings_0 2 rfl rfl)
theorem dX8_givings_5 : decode cX8_givings 5 = .ok (.aload_n 0, 1) := dk_42 (dk_at dksX8_givings_0 5 rfl rfl)
theorem dX8_givings_6 : decode cX8_givings 6 = .ok (.aload_n 0, 1) := dk_42 (dk_at dksX8_givings_0 6 rfl rfl)
theorem dX8_givings_7 : decode cX8_givings 7 = .ok (.iload_n 1, 1) := dk_27 (dk_at dksX8_givings_0 7 rfl rfl)
theorem dX8_givings_8 : decode cX8_givings 8 = .ok (.invokevirtual 399, 3) := dk_182 1 143 (dk_at dksX8_givings_0 8 rfl rfl)
theorem dX8_givings_11 : decode cX8_givings 11 = .ok (.putfield 73, 3) := dk_181 0 73 (dk_at dksX8_givings_0 11 rfl rfl)
theorem dX8_givings_14 : decode cX8_givings 14 = .ok (.aload_n 0, 1) := dk_42 (dk_at dksX8_givings_0 14 rfl rfl)
theorem dX8_givings_15 : decode cX8_givings 15 = .ok (.getfield 73, 3) := dk_180 0 73 (dk_at dksX8_givings_0 15 rfl rfl)
theorem dX8_givings_18 : decode cX8_givings 18 = .ok (.ifCond .le 7, 3) := dk_158 0 7 (dk_at dksX8_givings_0 18 rfl rfl)
theorem dX8_givings_21 : decode cX8_givings 21 = .ok (.iconst (-1), 1) := dk_2 (dk_at dksX8_givings_0 21 rfl rfl)
theorem dX8_givings_22 : decode cX8_givings 22 = .ok (.goto 11, 3) := dk_167 0 11 (dk_at dksX8_givings_1 0 rfl rfl)
theorem dX8_givings_25 : decode cX8_givings 25 = .ok (.aload_n 0, 1) := dk_42 (dk_at dksX8_givings_1 3 rfl rfl)
theorem dX8_givings_26 : decode cX8_givings 26 = .ok (.iload_n 1, 1) := dk_27 (dk_at dksX8_givings_1 4 rfl rfl)
theorem dX8_givings_27 : decode cX8_givings 27 = .ok (.iconst 0, 1) := dk_3 (dk_at dksX8_givings_1 5 rfl rfl)
theorem dX8_givings_28 : decode cX8_givings 28 = .ok (.iconst 0, 1) := dk_3 (dk_at dksX8_givings_1 6 rfl rfl)
theorem dX8_givings_29 : decode cX8_givings 29 = .ok (.iconst 1, 1) := dk_4 (dk_at dksX8_givings_1 7 rfl rfl)
theorem dX8_givings_30 : decode cX8_givings 30 = .ok (.invokevirtual 402, 3) := dk_182 1 146 (dk_at dksX8_givings_1 8 rfl rfl)
theorem dX8_givings_33 : decode cX8_givings 33 = .ok (.ireturn, 1) := dk_172 (dk_at dksX8_givings_1 11 rfl rfl)
abbrev cX8_given : ByteArray := prog_14_method_118_code
def yX8_given : MethodName := ⟨RX8, "given", "(II)I"⟩
def dkwX8_given_8 : List UInt8 := [172]
abbrev dktX8_given_8 : List UInt8 := dkwX8_given_8 ++ []
def dkwX8_given_7 : List UInt8 := [154, 0, 9, 132, 4, 1, 167, 255, 214, 29, 4, 21, 4, 120, 128, 62, 132, 5, 1, 167, 255, 180, 21, 4]
abbrev dktX8_given_7 : List UInt8 := dkwX8_given_7 ++ dktX8_given_8
def dkwX8_given_6 : List UInt8 := [182, 1, 98, 153, 0, 22, 42, 27, 21, 5, 4, 96, 29, 4, 21, 4, 120, 128, 4, 182, 1, 146]
abbrev dktX8_given_6 : List UInt8 := dkwX8_given_6 ++ dktX8_given_7
def dkwX8_given_5 : List UInt8 := [154, 0, 6, 167, 0, 58, 3, 54, 4, 29, 21, 4, 184, 0, 109, 154, 0, 33, 42, 21, 5, 21, 4]
abbrev dktX8_given_5 : List UInt8 := dkwX8_given_5 ++ dktX8_given_6
def dkwX8_given_4 : List UInt8 := [182, 1, 71, 172, 3, 62, 2, 54, 4, 3, 54, 5, 21, 5, 28, 163, 0, 76, 27, 21, 5, 184, 0, 109]
abbrev dktX8_given_4 : List UInt8 := dkwX8_given_4 ++ dktX8_given_5
def dkwX8_given_3 : List UInt8 := [180, 0, 73, 158, 0, 5, 2, 172, 42, 27, 3, 3, 4, 182, 1, 146, 154, 0, 10, 42, 16, 8]
abbrev dktX8_given_3 : List UInt8 := dkwX8_given_3 ++ dktX8_given_4
def dkwX8_given_2 : List UInt8 := [180, 0, 73, 16, 9, 160, 0, 16, 27, 28, 184, 0, 109, 154, 0, 8, 42, 8, 181, 0, 73, 42]
abbrev dktX8_given_2 : List UInt8 := dkwX8_given_2 ++ dktX8_given_3
def dkwX8_given_1 : List UInt8 := [181, 0, 73, 42, 180, 0, 73, 154, 0, 16, 27, 28, 184, 0, 109, 154, 0, 8, 42, 8, 181, 0, 73, 42]
abbrev dktX8_given_1 : List UInt8 := dkwX8_given_1 ++ dktX8_given_2
def dkwX8_given_0 : List UInt8 := [42, 3, 181, 0, 70, 42, 42, 28, 182, 1, 88, 154, 0, 7, 5, 167, 0, 8, 42, 27, 182, 1, 143]
abbrev dktX8_given_0 : List UInt8 := dkwX8_given_0 ++ dktX8_given_1
theorem dksX8_given_0 : cX8_given.data.toList.drop 0 = dktX8_given_0 := by decide +kernel
theorem dksX8_given_1 : cX8_given.data.toList.drop 23 = dktX8_given_1 := dk_seg dksX8_given_0 23 rfl rfl
theorem dksX8_given_2 : cX8_given.data.toList.drop 47 = dktX8_given_2 := dk_seg dksX8_given_1 24 rfl rfl
theorem dksX8_given_3 : cX8_given.data.toList.drop 69 = dktX8_given_3 := dk_seg dksX8_given_2 22 rfl rfl
theorem dksX8_given_4 : cX8_given.data.toList.drop 91 = dktX8_given_4 := dk_seg dksX8_given_3 22 rfl rfl
theorem dksX8_given_5 : cX8_given.data.toList.drop 115 = dktX8_given_5 := dk_seg dksX8_given_4 24 rfl rfl
theorem dksX8_given_6 : cX8_given.data.toList.drop 138 = dktX8_given_6 := dk_seg dksX8_given_5 23 rfl rfl
theorem dksX8_given_7 : cX8_given.data.toList.drop 160 = dktX8_given_7 := dk_seg dksX8_given_6 22 rfl rfl
theorem dksX8_given_8 : cX8_given.data.toList.drop 184 = dktX8_given_8 := dk_seg dksX8_given_7 24 rfl rfl
theorem dX8_given_0 : decode cX8_given 0 = .ok (.aload_n 0, 1) := dk_42 (dk_at dksX8_given_0 0 rfl rfl)
theorem dX8_given_1 : decode cX8_given 1 = .ok (.iconst 0, 1) := dk_3 (dk_at dksX8_given_0 1 rfl rfl)
theorem dX8_given_2 : decode cX8_given 2 = .ok (.putfield 70, 3) := dk_181 0 70 (dk_at dksX8_given_0 2 rfl rfl)
theorem dX8_given_5 : decode cX8_given 5 = .ok (.aload_n 0, 1) := dk_42 (dk_at dksX8_given_0 5 rfl rfl)
theorem dX8_given_6 : decode cX8_given 6 = .ok (.aload_n 0, 1) := dk_42 (dk_at dksX8_given_0 6 rfl rfl)
theorem dX8_given_7 : decode cX8_given 7 = .ok (.iload_n 2, 1) := dk_28 (dk_at dksX8_given_0 7 rfl rfl)
theorem dX8_given_8 : decode cX8_given 8 = .ok (.invokevirtual 344, 3) := dk_182 1 88 (dk_at dksX8_given_0 8 rfl rfl)
theorem dX8_given_11 : decode cX8_given 11 = .ok (.ifCond .ne 7, 3) := dk_154 0 7 (dk_at dksX8_given_0 11 rfl rfl)
theorem dX8_given_14 : decode cX8_given 14 = .ok (.iconst 2, 1) := dk_5 (dk_at dksX8_given_0 14 rfl rfl)
theorem dX8_given_15 : decode cX8_given 15 = .ok (.goto 8, 3) := dk_167 0 8 (dk_at dksX8_given_0 15 rfl rfl)
theorem dX8_given_18 : decode cX8_given 18 = .ok (.aload_n 0, 1) := dk_42 (dk_at dksX8_given_0 18 rfl rfl)
theorem dX8_given_19 : decode cX8_given 19 = .ok (.iload_n 1, 1) := dk_27 (dk_at dksX8_given_0 19 rfl rfl)
theorem dX8_given_20 : decode cX8_given 20 = .ok (.invokevirtual 399, 3) := dk_182 1 143 (dk_at dksX8_given_0 20 rfl rfl)
theorem dX8_given_23 : decode cX8_given 23 = .ok (.putfield 73, 3) := dk_181 0 73 (dk_at dksX8_given_1 0 rfl rfl)
theorem dX8_given_26 : decode cX8_given 26 = .ok (.aload_n 0, 1) := dk_42 (dk_at dksX8_given_1 3 rfl rfl)
theorem dX8_given_27 : decode cX8_given 27 = .ok (.getfield 73, 3) := dk_180 0 73 (dk_at dksX8_given_1 4 rfl rfl)
theorem dX8_given_30 : decode cX8_given 30 = .ok (.ifCond .ne 16, 3) := dk_154 0 16 (dk_at dksX8_given_1 7 rfl rfl)
theorem dX8_given_33 : decode cX8_given 33 = .ok (.iload_n 1, 1) := dk_27 (dk_at dksX8_given_1 10 rfl rfl)
theorem dX8_given_34 : decode cX8_given 34 = .ok (.iload_n 2, 1) := dk_28 (dk_at dksX8_given_1 11 rfl rfl)
theorem dX8_given_35 : decode cX8_given 35 = .ok (.invokestatic 109, 3) := dk_184 0 109 (dk_at dksX8_given_1 12 rfl rfl)
theorem dX8_given_38 : decode cX8_given 38 = .ok (.ifCond .ne 8, 3) := dk_154 0 8 (dk_at dksX8_given_1 15 rfl rfl)
theorem dX8_given_41 : decode cX8_given 41 = .ok (.aload_n 0, 1) := dk_42 (dk_at dksX8_given_1 18 rfl rfl)
theorem dX8_given_42 : decode cX8_given 42 = .ok (.iconst 5, 1) := dk_8 (dk_at dksX8_given_1 19 rfl rfl)
theorem dX8_given_43 : decode cX8_given 43 = .ok (.putfield 73, 3) := dk_181 0 73 (dk_at dksX8_given_1 20 rfl rfl)
theorem dX8_given_46 : decode cX8_given 46 = .ok (.aload_n 0, 1) := dk_42 (dk_at dksX8_given_1 23 rfl rfl)
theorem dX8_given_47 : decode cX8_given 47 = .ok (.getfield 73, 3) := dk_180 0 73 (dk_at dksX8_given_2 0 rfl rfl)
theorem dX8_given_50 : decode cX8_given 50 = .ok (.bipush 9, 2) := dk_16 9 (dk_at dksX8_given_2 3 rfl rfl)
theorem dX8_given_52 : decode cX8_given 52 = .ok (.if_icmp .ne 16, 3) := dk_160 0 16 (dk_at dksX8_given_2 5 rfl rfl)
theorem dX8_given_55 : decode cX8_given 55 = .ok (.iload_n 1, 1) := dk_27 (dk_at dksX8_given_2 8 rfl rfl)
theorem dX8_given_56 : decode cX8_given 56 = .ok (.iload_n 2, 1) := dk_28 (dk_at dksX8_given_2 9 rfl rfl)
theorem dX8_given_57 : decode cX8_given 57 = .ok (.invokestatic 109, 3) := dk_184 0 109 (dk_at dksX8_given_2 10 rfl rfl)
theorem dX8_given_60 : decode cX8_given 60 = .ok (.ifCond .ne 8, 3) := dk_154 0 8 (dk_at dksX8_given_2 13 rfl rfl)
theorem dX8_given_63 : decode cX8_given 63 = .ok (.aload_n 0, 1) := dk_42 (dk_at dksX8_given_2 16 rfl rfl)
theorem dX8_given_64 : decode cX8_given 64 = .ok (.iconst 5, 1) := dk_8 (dk_at dksX8_given_2 17 rfl rfl)
theorem dX8_given_65 : decode cX8_given 65 = .ok (.putfield 73, 3) := dk_181 0 73 (dk_at dksX8_given_2 18 rfl rfl)
theorem dX8_given_68 : decode cX8_given 68 = .ok (.aload_n 0, 1) := dk_42 (dk_at dksX8_given_2 21 rfl rfl)
theorem dX8_given_69 : decode cX8_given 69 = .ok (.getfield 73, 3) := dk_180 0 73 (dk_at dksX8_given_3 0 rfl rfl)
theorem dX8_given_72 : decode cX8_given 72 = .ok (.ifCond .le 5, 3) := dk_158 0 5 (dk_at dksX8_given_3 3 rfl rfl)
theorem dX8_given_75 : decode cX8_given 75 = .ok (.iconst (-1), 1) := dk_2 (dk_at dksX8_given_3 6 rfl rfl)
theorem dX8_given_76 : decode cX8_given 76 = .ok (.ireturn, 1) := dk_172 (dk_at dksX8_given_3 7 rfl rfl)
theorem dX8_given_77 : decode cX8_given 77 = .ok (.aload_n 0, 1) := dk_42 (dk_at dksX8_given_3 8 rfl rfl)
theorem dX8_given_78 : decode cX8_given 78 = .ok (.iload_n 1, 1) := dk_27 (dk_at dksX8_given_3 9 rfl rfl)
theorem dX8_given_79 : decode cX8_given 79 = .ok (.iconst 0, 1) := dk_3 (dk_at dksX8_given_3 10 rfl rfl)
theorem dX8_given_80 : decode cX8_given 80 = .ok (.iconst 0, 1) := dk_3 (dk_at dksX8_given_3 11 rfl rfl)
theorem dX8_given_81 : decode cX8_given 81 = .ok (.iconst 1, 1) := dk_4 (dk_at dksX8_given_3 12 rfl rfl)
theorem dX8_given_82 : decode cX8_given 82 = .ok (.invokevirtual 402, 3) := dk_182 1 146 (dk_at dksX8_given_3 13 rfl rfl)
theorem dX8_given_85 : decode cX8_given 85 = .ok (.ifCond .ne 10, 3) := dk_154 0 10 (dk_at dksX8_given_3 16 rfl rfl)
theorem dX8_given_88 : decode cX8_given 88 = .ok (.aload_n 0, 1) := dk_42 (dk_at dksX8_given_3 19 rfl rfl)
theorem dX8_given_89 : decode cX8_given 89 = .ok (.bipush 8, 2) := dk_16 8 (dk_at dksX8_given_3 20 rfl rfl)
theorem dX8_given_91 : decode cX8_given 91 = .ok (.invokevirtual 327, 3) := dk_182 1 71 (dk_at dksX8_given_4 0 rfl rfl)
theorem dX8_given_94 : decode cX8_given 94 = .ok (.ireturn, 1) := dk_172 (dk_at dksX8_given_4 3 rfl rfl)
theorem dX8_given_95 : decode cX8_given 95 = .ok (.iconst 0, 1) := dk_3 (dk_at dksX8_given_4 4 rfl rfl)
theorem dX8_given_96 : decode cX8_given 96 = .ok (.istore_n 3, 1) := dk_62 (dk_at dksX8_given_4 5 rfl rfl)
theorem dX8_given_97 : decode cX8_given 97 = .ok (.iconst (-1), 1) := dk_2 (dk_at dksX8_given_4 6 rfl rfl)
theorem dX8_given_98 : decode cX8_given 98 = .ok (.istore 4, 2) := dk_54 4 (dk_at dksX8_given_4 7 rfl rfl)
theorem dX8_given_100 : decode cX8_given 100 = .ok (.iconst 0, 1) := dk_3 (dk_at dksX8_given_4 9 rfl rfl)
theorem dX8_given_101 : decode cX8_given 101 = .ok (.istore 5, 2) := dk_54 5 (dk_at dksX8_given_4 10 rfl rfl)
theorem dX8_given_103 : decode cX8_given 103 = .ok (.iload 5, 2) := dk_21 5 (dk_at dksX8_given_4 12 rfl rfl)
theorem dX8_given_105 : decode cX8_given 105 = .ok (.iload_n 2, 1) := dk_28 (dk_at dksX8_given_4 14 rfl rfl)
theorem dX8_given_106 : decode cX8_given 106 = .ok (.if_icmp .gt 76, 3) := dk_163 0 76 (dk_at dksX8_given_4 15 rfl rfl)
theorem dX8_given_109 : decode cX8_given 109 = .ok (.iload_n 1, 1) := dk_27 (dk_at dksX8_given_4 18 rfl rfl)
theorem dX8_given_110 : decode cX8_given 110 = .ok (.iload 5, 2) := dk_21 5 (dk_at dksX8_given_4 19 rfl rfl)
theorem dX8_given_112 : decode cX8_given 112 = .ok (.invokestatic 109, 3) := dk_184 0 109 (dk_at dksX8_given_4 21 rfl rfl)
theorem dX8_given_115 : decode cX8_given 115 = .ok (.ifCond .ne 6, 3) := dk_154 0 6 (dk_at dksX8_given_5 0 rfl rfl)
theorem dX8_given_118 : decode cX8_given 118 = .ok (.goto 58, 3) := dk_167 0 58 (dk_at dksX8_given_5 3 rfl rfl)
theorem dX8_given_121 : decode cX8_given 121 = .ok (.iconst 0, 1) := dk_3 (dk_at dksX8_given_5 6 rfl rfl)
theorem dX8_given_122 : decode cX8_given 122 = .ok (.istore 4, 2) := dk_54 4 (dk_at dksX8_given_5 7 rfl rfl)
theorem dX8_given_124 : decode cX8_given 124 = .ok (.iload_n 3, 1) := dk_29 (dk_at dksX8_given_5 9 rfl rfl)
theorem dX8_given_125 : decode cX8_given 125 = .ok (.iload 4, 2) := dk_21 4 (dk_at dksX8_given_5 10 rfl rfl)
theorem dX8_given_127 : decode cX8_given 127 = .ok (.invokestatic 109, 3) := dk_184 0 109 (dk_at dksX8_given_5 12 rfl rfl)
theorem dX8_given_130 : decode cX8_given 130 = .ok (.ifCond .ne 33, 3) := dk_154 0 33 (dk_at dksX8_given_5 15 rfl rfl)
theorem dX8_given_133 : decode cX8_given 133 = .ok (.aload_n 0, 1) := dk_42 (dk_at dksX8_given_5 18 rfl rfl)
theorem dX8_given_134 : decode cX8_given 134 = .ok (.iload 5, 2) := dk_21 5 (dk_at dksX8_given_5 19 rfl rfl)
theorem dX8_given_136 : decode cX8_given 136 = .ok (.iload 4, 2) := dk_21 4 (dk_at dksX8_given_5 21 rfl rfl)
theorem dX8_given_138 : decode cX8_given 138 = .ok (.invokevirtual 354, 3) := dk_182 1 98 (dk_at dksX8_given_6 0 rfl rfl)
theorem dX8_given_141 : decode cX8_given 141 = .ok (.ifCond .eq 22, 3) := dk_153 0 22 (dk_at dksX8_given_6 3 rfl rfl)
theorem dX8_given_144 : decode cX8_given 144 = .ok (.aload_n 0, 1) := dk_42 (dk_at dksX8_given_6 6 rfl rfl)
theorem dX8_given_145 : decode cX8_given 145 = .ok (.iload_n 1, 1) := dk_27 (dk_at dksX8_given_6 7 rfl rfl)
theorem dX8_given_146 : decode cX8_given 146 = .ok (.iload 5, 2) := dk_21 5 (dk_at dksX8_given_6 8 rfl rfl)
theorem dX8_given_148 : decode cX8_given 148 = .ok (.iconst 1, 1) := dk_4 (dk_at dksX8_given_6 10 rfl rfl)
theorem dX8_given_149 : decode cX8_given 149 = .ok (.iadd, 1) := dk_96 (dk_at dksX8_given_6 11 rfl rfl)
theorem dX8_given_150 : decode cX8_given 150 = .ok (.iload_n 3, 1) := dk_29 (dk_at dksX8_given_6 12 rfl rfl)
theorem dX8_given_151 : decode cX8_given 151 = .ok (.iconst 1, 1) := dk_4 (dk_at dksX8_given_6 13 rfl rfl)
theorem dX8_given_152 : decode cX8_given 152 = .ok (.iload 4, 2) := dk_21 4 (dk_at dksX8_given_6 14 rfl rfl)
theorem dX8_given_154 : decode cX8_given 154 = .ok (.ishl, 1) := dk_120 (dk_at dksX8_given_6 16 rfl rfl)
theorem dX8_given_155 : decode cX8_given 155 = .ok (.ior, 1) := dk_128 (dk_at dksX8_given_6 17 rfl rfl)
theorem dX8_given_156 : decode cX8_given 156 = .ok (.iconst 1, 1) := dk_4 (dk_at dksX8_given_6 18 rfl rfl)
theorem dX8_given_157 : decode cX8_given 157 = .ok (.invokevirtual 402, 3) := dk_182 1 146 (dk_at dksX8_given_6 19 rfl rfl)
theorem dX8_given_160 : decode cX8_given 160 = .ok (.ifCond .ne 9, 3) := dk_154 0 9 (dk_at dksX8_given_7 0 rfl rfl)
theorem dX8_given_163 : decode cX8_given 163 = .ok (.iinc 4 1, 3) := dk_132 4 1 (dk_at dksX8_given_7 3 rfl rfl)
theorem dX8_given_166 : decode cX8_given 166 = .ok (.goto (-42), 3) := dk_167 255 214 (dk_at dksX8_given_7 6 rfl rfl)
theorem dX8_given_169 : decode cX8_given 169 = .ok (.iload_n 3, 1) := dk_29 (dk_at dksX8_given_7 9 rfl rfl)
theorem dX8_given_170 : decode cX8_given 170 = .ok (.iconst 1, 1) := dk_4 (dk_at dksX8_given_7 10 rfl rfl)
theorem dX8_given_171 : decode cX8_given 171 = .ok (.iload 4, 2) := dk_21 4 (dk_at dksX8_given_7 11 rfl rfl)
theorem dX8_given_173 : decode cX8_given 173 = .ok (.ishl, 1) := dk_120 (dk_at dksX8_given_7 13 rfl rfl)
theorem dX8_given_174 : decode cX8_given 174 = .ok (.ior, 1) := dk_128 (dk_at dksX8_given_7 14 rfl rfl)
theorem dX8_given_175 : decode cX8_given 175 = .ok (.istore_n 3, 1) := dk_62 (dk_at dksX8_given_7 15 rfl rfl)
theorem dX8_given_176 : decode cX8_given 176 = .ok (.iinc 5 1, 3) := dk_132 5 1 (dk_at dksX8_given_7 16 rfl rfl)
theorem dX8_given_179 : decode cX8_given 179 = .ok (.goto (-76), 3) := dk_167 255 180 (dk_at dksX8_given_7 19 rfl rfl)
theorem dX8_given_182 : decode cX8_given 182 = .ok (.iload 4, 2) := dk_21 4 (dk_at dksX8_given_7 22 rfl rfl)
theorem dX8_given_184 : decode cX8_given 184 = .ok (.ireturn, 1) := dk_172 (dk_at dksX8_given_8 0 rfl rfl)
abbrev cX8_cover : ByteArray := prog_14_method_120_code
def yX8_cover : MethodName := ⟨RX8, "cover", "()I"⟩
def dkwX8_cover_1 : List UInt8 := [182, 1, 71, 167, 0, 7, 27, 184, 1, 140, 172]
abbrev dktX8_cover_1 : List UInt8 := dkwX8_cover_1 ++ []
def dkwX8_cover_0 : List UInt8 := [42, 3, 181, 0, 70, 42, 3, 181, 0, 73, 42, 182, 1, 150, 60, 27, 156, 0, 12, 42, 16, 8]
abbrev dktX8_cover_0 : List UInt8 := dkwX8_cover_0 ++ dktX8_cover_1
theorem dksX8_cover_0 : cX8_cover.data.toList.drop 0 = dktX8_cover_0 := by decide +kernel
theorem dksX8_cover_1 : cX8_cover.data.toList.drop 22 = dktX8_cover_1 := dk_seg dksX8_cover_0 22 rfl rfl
theorem dX8_cover_0 : decode cX8_cover 0 = .ok (.aload_n 0, 1) := dk_42 (dk_at dksX8_cover_0 0 rfl rfl)
theorem dX8_cover_1 : decode cX8_cover 1 = .ok (.iconst 0, 1) := dk_3 (dk_at dksX8_cover_0 1 rfl rfl)
theorem dX8_cover_2 : decode cX8_cover 2 = .ok (.putfield 70, 3) := dk_181 0 70 (dk_at dksX8_cover_0 2 rfl rfl)
theorem dX8_cover_5 : decode cX8_cover 5 = .ok (.aload_n 0, 1) := dk_42 (dk_at dksX8_cover_0 5 rfl rfl)
theorem dX8_cover_6 : decode cX8_cover 6 = .ok (.iconst 0, 1) := dk_3 (dk_at dksX8_cover_0 6 rfl rfl)
theorem dX8_cover_7 : decode cX8_cover 7 = .ok (.putfield 73, 3) := dk_181 0 73 (dk_at dksX8_cover_0 7 rfl rfl)
theorem dX8_cover_10 : decode cX8_cover 10 = .ok (.aload_n 0, 1) := dk_42 (dk_at dksX8_cover_0 10 rfl rfl)
theorem dX8_cover_11 : decode cX8_cover 11 = .ok (.invokevirtual 406, 3) := dk_182 1 150 (dk_at dksX8_cover_0 11 rfl rfl)
theorem dX8_cover_14 : decode cX8_cover 14 = .ok (.istore_n 1, 1) := dk_60 (dk_at dksX8_cover_0 14 rfl rfl)
theorem dX8_cover_15 : decode cX8_cover 15 = .ok (.iload_n 1, 1) := dk_27 (dk_at dksX8_cover_0 15 rfl rfl)
theorem dX8_cover_16 : decode cX8_cover 16 = .ok (.ifCond .ge 12, 3) := dk_156 0 12 (dk_at dksX8_cover_0 16 rfl rfl)
theorem dX8_cover_19 : decode cX8_cover 19 = .ok (.aload_n 0, 1) := dk_42 (dk_at dksX8_cover_0 19 rfl rfl)
theorem dX8_cover_20 : decode cX8_cover 20 = .ok (.bipush 8, 2) := dk_16 8 (dk_at dksX8_cover_0 20 rfl rfl)
theorem dX8_cover_22 : decode cX8_cover 22 = .ok (.invokevirtual 327, 3) := dk_182 1 71 (dk_at dksX8_cover_1 0 rfl rfl)
theorem dX8_cover_25 : decode cX8_cover 25 = .ok (.goto 7, 3) := dk_167 0 7 (dk_at dksX8_cover_1 3 rfl rfl)
theorem dX8_cover_28 : decode cX8_cover 28 = .ok (.iload_n 1, 1) := dk_27 (dk_at dksX8_cover_1 6 rfl rfl)
theorem dX8_cover_29 : decode cX8_cover 29 = .ok (.invokestatic 396, 3) := dk_184 1 140 (dk_at dksX8_cover_1 7 rfl rfl)
theorem dX8_cover_32 : decode cX8_cover 32 = .ok (.ireturn, 1) := dk_172 (dk_at dksX8_cover_1 10 rfl rfl)
abbrev cX8_covering : ByteArray := prog_14_method_119_code
def yX8_covering : MethodName := ⟨RX8, "covering", "()I"⟩
def dkwX8_covering_4 : List UInt8 := [172]
abbrev dktX8_covering_4 : List UInt8 := dkwX8_covering_4 ++ []
def dkwX8_covering_3 : List UInt8 := [167, 0, 4, 3, 62, 132, 4, 1, 167, 255, 217, 29, 153, 0, 5, 28, 60, 132, 2, 1, 167, 255, 169, 27]
abbrev dktX8_covering_3 : List UInt8 := dkwX8_covering_3 ++ dktX8_covering_4
def dkwX8_covering_2 : List UInt8 := [162, 0, 34, 29, 153, 0, 30, 28, 42, 180, 0, 35, 16, 12, 21, 4, 96, 46, 126, 153, 0, 7, 4]
abbrev dktX8_covering_2 : List UInt8 := dkwX8_covering_2 ++ dktX8_covering_3
def dkwX8_covering_1 : List UInt8 := [27, 184, 1, 140, 162, 0, 7, 4, 167, 0, 4, 3, 62, 3, 54, 4, 21, 4, 42, 180, 0, 35, 4, 46]
abbrev dktX8_covering_1 : List UInt8 := dkwX8_covering_1 ++ dktX8_covering_2
def dkwX8_covering_0 : List UInt8 := [2, 60, 3, 61, 28, 4, 42, 180, 0, 35, 3, 46, 120, 162, 0, 81, 27, 155, 0, 14, 28, 184, 1, 140]
abbrev dktX8_covering_0 : List UInt8 := dkwX8_covering_0 ++ dktX8_covering_1
theorem dksX8_covering_0 : cX8_covering.data.toList.drop 0 = dktX8_covering_0 := by decide +kernel
theorem dksX8_covering_1 : cX8_covering.data.toList.drop 24 = dktX8_covering_1 := dk_seg dksX8_covering_0 24 rfl rfl
theorem dksX8_covering_2 : cX8_covering.data.toList.drop 48 = dktX8_covering_2 := dk_seg dksX8_covering_1 24 rfl rfl
theorem dksX8_covering_3 : cX8_covering.data.toList.drop 71 = dktX8_covering_3 := dk_seg dksX8_covering_2 23 rfl rfl
theorem dksX8_covering_4 : cX8_covering.data.toList.drop 95 = dktX8_covering_4 := dk_seg dksX8_covering_3 24 rfl rfl
theorem dX8_covering_0 : decode cX8_covering 0 = .ok (.iconst (-1), 1) := dk_2 (dk_at dksX8_covering_0 0 rfl rfl)
theorem dX8_covering_1 : decode cX8_covering 1 = .ok (.istore_n 1, 1) := dk_60 (dk_at dksX8_covering_0 1 rfl rfl)
theorem dX8_covering_2 : decode cX8_covering 2 = .ok (.iconst 0, 1) := dk_3 (dk_at dksX8_covering_0 2 rfl rfl)
theorem dX8_covering_3 : decode cX8_covering 3 = .ok (.istore_n 2, 1) := dk_61 (dk_at dksX8_covering_0 3 rfl rfl)
theorem dX8_covering_4 : decode cX8_covering 4 = .ok (.iload_n 2, 1) := dk_28 (dk_at dksX8_covering_0 4 rfl rfl)
theorem dX8_covering_5 : decode cX8_covering 5 = .ok (.iconst 1, 1) := dk_4 (dk_at dksX8_covering_0 5 rfl rfl)
theorem dX8_covering_6 : decode cX8_covering 6 = .ok (.aload_n 0, 1) := dk_42 (dk_at dksX8_covering_0 6 rfl rfl)
theorem dX8_covering_7 : decode cX8_covering 7 = .ok (.getfield 35, 3) := dk_180 0 35 (dk_at dksX8_covering_0 7 rfl rfl)
theorem dX8_covering_10 : decode cX8_covering 10 = .ok (.iconst 0, 1) := dk_3 (dk_at dksX8_covering_0 10 rfl rfl)
theorem dX8_covering_11 : decode cX8_covering 11 = .ok (.iaload, 1) := dk_46 (dk_at dksX8_covering_0 11 rfl rfl)
theorem dX8_covering_12 : decode cX8_covering 12 = .ok (.ishl, 1) := dk_120 (dk_at dksX8_covering_0 12 rfl rfl)
theorem dX8_covering_13 : decode cX8_covering 13 = .ok (.if_icmp .ge 81, 3) := dk_162 0 81 (dk_at dksX8_covering_0 13 rfl rfl)
theorem dX8_covering_16 : decode cX8_covering 16 = .ok (.iload_n 1, 1) := dk_27 (dk_at dksX8_covering_0 16 rfl rfl)
theorem dX8_covering_17 : decode cX8_covering 17 = .ok (.ifCond .lt 14, 3) := dk_155 0 14 (dk_at dksX8_covering_0 17 rfl rfl)
theorem dX8_covering_20 : decode cX8_covering 20 = .ok (.iload_n 2, 1) := dk_28 (dk_at dksX8_covering_0 20 rfl rfl)
theorem dX8_covering_21 : decode cX8_covering 21 = .ok (.invokestatic 396, 3) := dk_184 1 140 (dk_at dksX8_covering_0 21 rfl rfl)
theorem dX8_covering_24 : decode cX8_covering 24 = .ok (.iload_n 1, 1) := dk_27 (dk_at dksX8_covering_1 0 rfl rfl)
theorem dX8_covering_25 : decode cX8_covering 25 = .ok (.invokestatic 396, 3) := dk_184 1 140 (dk_at dksX8_covering_1 1 rfl rfl)
theorem dX8_covering_28 : decode cX8_covering 28 = .ok (.if_icmp .ge 7, 3) := dk_162 0 7 (dk_at dksX8_covering_1 4 rfl rfl)
theorem dX8_covering_31 : decode cX8_covering 31 = .ok (.iconst 1, 1) := dk_4 (dk_at dksX8_covering_1 7 rfl rfl)
theorem dX8_covering_32 : decode cX8_covering 32 = .ok (.goto 4, 3) := dk_167 0 4 (dk_at dksX8_covering_1 8 rfl rfl)
theorem dX8_covering_35 : decode cX8_covering 35 = .ok (.iconst 0, 1) := dk_3 (dk_at dksX8_covering_1 11 rfl rfl)
theorem dX8_covering_36 : decode cX8_covering 36 = .ok (.istore_n 3, 1) := dk_62 (dk_at dksX8_covering_1 12 rfl rfl)
theorem dX8_covering_37 : decode cX8_covering 37 = .ok (.iconst 0, 1) := dk_3 (dk_at dksX8_covering_1 13 rfl rfl)
theorem dX8_covering_38 : decode cX8_covering 38 = .ok (.istore 4, 2) := dk_54 4 (dk_at dksX8_covering_1 14 rfl rfl)
theorem dX8_covering_40 : decode cX8_covering 40 = .ok (.iload 4, 2) := dk_21 4 (dk_at dksX8_covering_1 16 rfl rfl)
theorem dX8_covering_42 : decode cX8_covering 42 = .ok (.aload_n 0, 1) := dk_42 (dk_at dksX8_covering_1 18 rfl rfl)
theorem dX8_covering_43 : decode cX8_covering 43 = .ok (.getfield 35, 3) := dk_180 0 35 (dk_at dksX8_covering_1 19 rfl rfl)
theorem dX8_covering_46 : decode cX8_covering 46 = .ok (.iconst 1, 1) := dk_4 (dk_at dksX8_covering_1 22 rfl rfl)
theorem dX8_covering_47 : decode cX8_covering 47 = .ok (.iaload, 1) := dk_46 (dk_at dksX8_covering_1 23 rfl rfl)
theorem dX8_covering_48 : decode cX8_covering 48 = .ok (.if_icmp .ge 34, 3) := dk_162 0 34 (dk_at dksX8_covering_2 0 rfl rfl)
theorem dX8_covering_51 : decode cX8_covering 51 = .ok (.iload_n 3, 1) := dk_29 (dk_at dksX8_covering_2 3 rfl rfl)
theorem dX8_covering_52 : decode cX8_covering 52 = .ok (.ifCond .eq 30, 3) := dk_153 0 30 (dk_at dksX8_covering_2 4 rfl rfl)
theorem dX8_covering_55 : decode cX8_covering 55 = .ok (.iload_n 2, 1) := dk_28 (dk_at dksX8_covering_2 7 rfl rfl)
theorem dX8_covering_56 : decode cX8_covering 56 = .ok (.aload_n 0, 1) := dk_42 (dk_at dksX8_covering_2 8 rfl rfl)
theorem dX8_covering_57 : decode cX8_covering 57 = .ok (.getfield 35, 3) := dk_180 0 35 (dk_at dksX8_covering_2 9 rfl rfl)
theorem dX8_covering_60 : decode cX8_covering 60 = .ok (.bipush 12, 2) := dk_16 12 (dk_at dksX8_covering_2 12 rfl rfl)
theorem dX8_covering_62 : decode cX8_covering 62 = .ok (.iload 4, 2) := dk_21 4 (dk_at dksX8_covering_2 14 rfl rfl)
theorem dX8_covering_64 : decode cX8_covering 64 = .ok (.iadd, 1) := dk_96 (dk_at dksX8_covering_2 16 rfl rfl)
theorem dX8_covering_65 : decode cX8_covering 65 = .ok (.iaload, 1) := dk_46 (dk_at dksX8_covering_2 17 rfl rfl)
theorem dX8_covering_66 : decode cX8_covering 66 = .ok (.iand, 1) := dk_126 (dk_at dksX8_covering_2 18 rfl rfl)
theorem dX8_covering_67 : decode cX8_covering 67 = .ok (.ifCond .eq 7, 3) := dk_153 0 7 (dk_at dksX8_covering_2 19 rfl rfl)
theorem dX8_covering_70 : decode cX8_covering 70 = .ok (.iconst 1, 1) := dk_4 (dk_at dksX8_covering_2 22 rfl rfl)
theorem dX8_covering_71 : decode cX8_covering 71 = .ok (.goto 4, 3) := dk_167 0 4 (dk_at dksX8_covering_3 0 rfl rfl)
theorem dX8_covering_74 : decode cX8_covering 74 = .ok (.iconst 0, 1) := dk_3 (dk_at dksX8_covering_3 3 rfl rfl)
theorem dX8_covering_75 : decode cX8_covering 75 = .ok (.istore_n 3, 1) := dk_62 (dk_at dksX8_covering_3 4 rfl rfl)
theorem dX8_covering_76 : decode cX8_covering 76 = .ok (.iinc 4 1, 3) := dk_132 4 1 (dk_at dksX8_covering_3 5 rfl rfl)
theorem dX8_covering_79 : decode cX8_covering 79 = .ok (.goto (-39), 3) := dk_167 255 217 (dk_at dksX8_covering_3 8 rfl rfl)
theorem dX8_covering_82 : decode cX8_covering 82 = .ok (.iload_n 3, 1) := dk_29 (dk_at dksX8_covering_3 11 rfl rfl)
theorem dX8_covering_83 : decode cX8_covering 83 = .ok (.ifCond .eq 5, 3) := dk_153 0 5 (dk_at dksX8_covering_3 12 rfl rfl)
theorem dX8_covering_86 : decode cX8_covering 86 = .ok (.iload_n 2, 1) := dk_28 (dk_at dksX8_covering_3 15 rfl rfl)
theorem dX8_covering_87 : decode cX8_covering 87 = .ok (.istore_n 1, 1) := dk_60 (dk_at dksX8_covering_3 16 rfl rfl)
theorem dX8_covering_88 : decode cX8_covering 88 = .ok (.iinc 2 1, 3) := dk_132 2 1 (dk_at dksX8_covering_3 17 rfl rfl)
theorem dX8_covering_91 : decode cX8_covering 91 = .ok (.goto (-87), 3) := dk_167 255 169 (dk_at dksX8_covering_3 20 rfl rfl)
theorem dX8_covering_94 : decode cX8_covering 94 = .ok (.iload_n 1, 1) := dk_27 (dk_at dksX8_covering_3 23 rfl rfl)
theorem dX8_covering_95 : decode cX8_covering 95 = .ok (.ireturn, 1) := dk_172 (dk_at dksX8_covering_4 0 rfl rfl)
abbrev cX8_coverSet : ByteArray := prog_14_method_121_code
def yX8_coverSet : MethodName := ⟨RX8, "coverSet", "()I"⟩
def dkwX8_coverSet_1 : List UInt8 := [182, 1, 71, 167, 0, 4, 27, 172]
abbrev dktX8_coverSet_1 : List UInt8 := dkwX8_coverSet_1 ++ []
def dkwX8_coverSet_0 : List UInt8 := [42, 3, 181, 0, 70, 42, 3, 181, 0, 73, 42, 182, 1, 150, 60, 27, 156, 0, 12, 42, 16, 8]
abbrev dktX8_coverSet_0 : List UInt8 := dkwX8_coverSet_0 ++ dktX8_coverSet_1
theorem dksX8_coverSet_0 : cX8_coverSet.data.toList.drop 0 = dktX8_coverSet_0 := by decide +kernel
theorem dksX8_coverSet_1 : cX8_coverSet.data.toList.drop 22 = dktX8_coverSet_1 := dk_seg dksX8_coverSet_0 22 rfl rfl
theorem dX8_coverSet_0 : decode cX8_coverSet 0 = .ok (.aload_n 0, 1) := dk_42 (dk_at dksX8_coverSet_0 0 rfl rfl)
theorem dX8_coverSet_1 : decode cX8_coverSet 1 = .ok (.iconst 0, 1) := dk_3 (dk_at dksX8_coverSet_0 1 rfl rfl)
theorem dX8_coverSet_2 : decode cX8_coverSet 2 = .ok (.putfield 70, 3) := dk_181 0 70 (dk_at dksX8_coverSet_0 2 rfl rfl)
theorem dX8_coverSet_5 : decode cX8_coverSet 5 = .ok (.aload_n 0, 1) := dk_42 (dk_at dksX8_coverSet_0 5 rfl rfl)
theorem dX8_coverSet_6 : decode cX8_coverSet 6 = .ok (.iconst 0, 1) := dk_3 (dk_at dksX8_coverSet_0 6 rfl rfl)
theorem dX8_coverSet_7 : decode cX8_coverSet 7 = .ok (.putfield 73, 3) := dk_181 0 73 (dk_at dksX8_coverSet_0 7 rfl rfl)
theorem dX8_coverSet_10 : decode cX8_coverSet 10 = .ok (.aload_n 0, 1) := dk_42 (dk_at dksX8_coverSet_0 10 rfl rfl)
theorem dX8_coverSet_11 : decode cX8_coverSet 11 = .ok (.invokevirtual 406, 3) := dk_182 1 150 (dk_at dksX8_coverSet_0 11 rfl rfl)
theorem dX8_coverSet_14 : decode cX8_coverSet 14 = .ok (.istore_n 1, 1) := dk_60 (dk_at dksX8_coverSet_0 14 rfl rfl)
theorem dX8_coverSet_15 : decode cX8_coverSet 15 = .ok (.iload_n 1, 1) := dk_27 (dk_at dksX8_coverSet_0 15 rfl rfl)
theorem dX8_coverSet_16 : decode cX8_coverSet 16 = .ok (.ifCond .ge 12, 3) := dk_156 0 12 (dk_at dksX8_coverSet_0 16 rfl rfl)
theorem dX8_coverSet_19 : decode cX8_coverSet 19 = .ok (.aload_n 0, 1) := dk_42 (dk_at dksX8_coverSet_0 19 rfl rfl)
theorem dX8_coverSet_20 : decode cX8_coverSet 20 = .ok (.bipush 8, 2) := dk_16 8 (dk_at dksX8_coverSet_0 20 rfl rfl)
theorem dX8_coverSet_22 : decode cX8_coverSet 22 = .ok (.invokevirtual 327, 3) := dk_182 1 71 (dk_at dksX8_coverSet_1 0 rfl rfl)
theorem dX8_coverSet_25 : decode cX8_coverSet 25 = .ok (.goto 4, 3) := dk_167 0 4 (dk_at dksX8_coverSet_1 3 rfl rfl)
theorem dX8_coverSet_28 : decode cX8_coverSet 28 = .ok (.iload_n 1, 1) := dk_27 (dk_at dksX8_coverSet_1 6 rfl rfl)
theorem dX8_coverSet_29 : decode cX8_coverSet 29 = .ok (.ireturn, 1) := dk_172 (dk_at dksX8_coverSet_1 7 rfl rfl)
abbrev cX8_blamed : ByteArray := prog_14_method_123_code
def yX8_blamed : MethodName := ⟨RX8, "blamed", "()I"⟩
def dkwX8_blamed_0 : List UInt8 := [42, 3, 181, 0, 70, 42, 3, 181, 0, 73, 42, 182, 1, 153, 184, 1, 140, 172]
abbrev dktX8_blamed_0 : List UInt8 := dkwX8_blamed_0 ++ []
theorem dksX8_blamed_0 : cX8_blamed.data.toList.drop 0 = dktX8_blamed_0 := by decide +kernel
theorem dX8_blamed_0 : decode cX8_blamed 0 = .ok (.aload_n 0, 1) := dk_42 (dk_at dksX8_blamed_0 0 rfl rfl)
theorem dX8_blamed_1 : decode cX8_blamed 1 = .ok (.iconst 0, 1) := dk_3 (dk_at dksX8_blamed_0 1 rfl rfl)
theorem dX8_blamed_2 : decode cX8_blamed 2 = .ok (.putfield 70, 3) := dk_181 0 70 (dk_at dksX8_blamed_0 2 rfl rfl)
theorem dX8_blamed_5 : decode cX8_blamed 5 = .ok (.aload_n 0, 1) := dk_42 (dk_at dksX8_blamed_0 5 rfl rfl)
theorem dX8_blamed_6 : decode cX8_blamed 6 = .ok (.iconst 0, 1) := dk_3 (dk_at dksX8_blamed_0 6 rfl rfl)
theorem dX8_blamed_7 : decode cX8_blamed 7 = .ok (.putfield 73, 3) := dk_181 0 73 (dk_at dksX8_blamed_0 7 rfl rfl)
theorem dX8_blamed_10 : decode cX8_blamed 10 = .ok (.aload_n 0, 1) := dk_42 (dk_at dksX8_blamed_0 10 rfl rfl)
theorem dX8_blamed_11 : decode cX8_blamed 11 = .ok (.invokevirtual 409, 3) := dk_182 1 153 (dk_at dksX8_blamed_0 11 rfl rfl)
theorem dX8_blamed_14 : decode cX8_blamed 14 = .ok (.invokestatic 396, 3) := dk_184 1 140 (dk_at dksX8_blamed_0 14 rfl rfl)
theorem dX8_blamed_17 : decode cX8_blamed 17 = .ok (.ireturn, 1) := dk_172 (dk_at dksX8_blamed_0 17 rfl rfl)
abbrev cX8_blaming : ByteArray := prog_14_method_122_code
def yX8_blaming : MethodName := ⟨RX8, "blaming", "()I"⟩
def dkwX8_blaming_4 : List UInt8 := [167, 255, 204, 29, 153, 0, 5, 28, 60, 132, 2, 1, 167, 255, 156, 27, 172]
abbrev dktX8_blaming_4 : List UInt8 := dkwX8_blaming_4 ++ []
def dkwX8_blaming_3 : List UInt8 := [180, 0, 35, 16, 69, 21, 4, 96, 46, 126, 153, 0, 7, 4, 167, 0, 4, 3, 62, 132, 4, 1]
abbrev dktX8_blaming_3 : List UInt8 := dkwX8_blaming_3 ++ dktX8_blaming_4
def dkwX8_blaming_2 : List UInt8 := [162, 0, 47, 29, 153, 0, 43, 42, 180, 0, 35, 16, 60, 21, 4, 96, 46, 153, 0, 18, 28, 42]
abbrev dktX8_blaming_2 : List UInt8 := dkwX8_blaming_2 ++ dktX8_blaming_3
def dkwX8_blaming_1 : List UInt8 := [27, 184, 1, 140, 162, 0, 7, 4, 167, 0, 4, 3, 62, 3, 54, 4, 21, 4, 42, 180, 0, 35, 6, 46]
abbrev dktX8_blaming_1 : List UInt8 := dkwX8_blaming_1 ++ dktX8_blaming_2
def dkwX8_blaming_0 : List UInt8 := [2, 60, 3, 61, 28, 4, 42, 180, 0, 35, 4, 46, 120, 162, 0, 94, 27, 155, 0, 14, 28, 184, 1, 140]
abbrev dktX8_blaming_0 : List UInt8 := dkwX8_blaming_0 ++ dktX8_blaming_1
theorem dksX8_blaming_0 : cX8_blaming.data.toList.drop 0 = dktX8_blaming_0 := by decide +kernel
theorem dksX8_blaming_1 : cX8_blaming.data.toList.drop 24 = dktX8_blaming_1 := dk_seg dksX8_blaming_0 24 rfl rfl
theorem dksX8_blaming_2 : cX8_blaming.data.toList.drop 48 = dktX8_blaming_2 := dk_seg dksX8_blaming_1 24 rfl rfl
theorem dksX8_blaming_3 : cX8_blaming.data.toList.drop 70 = dktX8_blaming_3 := dk_seg dksX8_blaming_2 22 rfl rfl
theorem dksX8_blaming_4 : cX8_blaming.data.toList.drop 92 = dktX8_blaming_4 := dk_seg dksX8_blaming_3 22 rfl rfl
theorem dX8_blaming_0 : decode cX8_blaming 0 = .ok (.iconst (-1), 1) := dk_2 (dk_at dksX8_blaming_0 0 rfl rfl)
theorem dX8_blaming_1 : decode cX8_blaming 1 = .ok (.istore_n 1, 1) := dk_60 (dk_at dksX8_blaming_0 1 rfl rfl)
theorem dX8_blaming_2 : decode cX8_blaming 2 = .ok (.iconst 0, 1) := dk_3 (dk_at dksX8_blaming_0 2 rfl rfl)
theorem dX8_blaming_3 : decode cX8_blaming 3 = .ok (.istore_n 2, 1) := dk_61 (dk_at dksX8_blaming_0 3 rfl rfl)
theorem dX8_blaming_4 : decode cX8_blaming 4 = .ok (.iload_n 2, 1) := dk_28 (dk_at dksX8_blaming_0 4 rfl rfl)
theorem dX8_blaming_5 : decode cX8_blaming 5 = .ok (.iconst 1, 1) := dk_4 (dk_at dksX8_blaming_0 5 rfl rfl)
theorem dX8_blaming_6 : decode cX8_blaming 6 = .ok (.aload_n 0, 1) := dk_42 (dk_at dksX8_blaming_0 6 rfl rfl)
theorem dX8_blaming_7 : decode cX8_blaming 7 = .ok (.getfield 35, 3) := dk_180 0 35 (dk_at dksX8_blaming_0 7 rfl rfl)
theorem dX8_blaming_10 : decode cX8_blaming 10 = .ok (.iconst 1, 1) := dk_4 (dk_at dksX8_blaming_0 10 rfl rfl)
theorem dX8_blaming_11 : decode cX8_blaming 11 = .ok (.iaload, 1) := dk_46 (dk_at dksX8_blaming_0 11 rfl rfl)
theorem dX8_blaming_12 : decode cX8_blaming 12 = .ok (.ishl, 1) := dk_120 (dk_at dksX8_blaming_0 12 rfl rfl)
theorem dX8_blaming_13 : decode cX8_blaming 13 = .ok (.if_icmp .ge 94, 3) := dk_162 0 94 (dk_at dksX8_blaming_0 13 rfl rfl)
theorem dX8_blaming_16 : decode cX8_blaming 16 = .ok (.iload_n 1, 1) := dk_27 (dk_at dksX8_blaming_0 16 rfl rfl)
theorem dX8_blaming_17 : decode cX8_blaming 17 = .ok (.ifCond .lt 14, 3) := dk_155 0 14 (dk_at dksX8_blaming_0 17 rfl rfl)
theorem dX8_blaming_20 : decode cX8_blaming 20 = .ok (.iload_n 2, 1) := dk_28 (dk_at dksX8_blaming_0 20 rfl rfl)
theorem dX8_blaming_21 : decode cX8_blaming 21 = .ok (.invokestatic 396, 3) := dk_184 1 140 (dk_at dksX8_blaming_0 21 rfl rfl)
theorem dX8_blaming_24 : decode cX8_blaming 24 = .ok (.iload_n 1, 1) := dk_27 (dk_at dksX8_blaming_1 0 rfl rfl)
theorem dX8_blaming_25 : decode cX8_blaming 25 = .ok (.invokestatic 396, 3) := dk_184 1 140 (dk_at dksX8_blaming_1 1 rfl rfl)
theorem dX8_blaming_28 : decode cX8_blaming 28 = .ok (.if_icmp .ge 7, 3) := dk_162 0 7 (dk_at dksX8_blaming_1 4 rfl rfl)
theorem dX8_blaming_31 : decode cX8_blaming 31 = .ok (.iconst 1, 1) := dk_4 (dk_at dksX8_blaming_1 7 rfl rfl)
theorem dX8_blaming_32 : decode cX8_blaming 32 = .ok (.goto 4, 3) := dk_167 0 4 (dk_at dksX8_blaming_1 8 rfl rfl)
theorem dX8_blaming_35 : decode cX8_blaming 35 = .ok (.iconst 0, 1) := dk_3 (dk_at dksX8_blaming_1 11 rfl rfl)
theorem dX8_blaming_36 : decode cX8_blaming 36 = .ok (.istore_n 3, 1) := dk_62 (dk_at dksX8_blaming_1 12 rfl rfl)
theorem dX8_blaming_37 : decode cX8_blaming 37 = .ok (.iconst 0, 1) := dk_3 (dk_at dksX8_blaming_1 13 rfl rfl)
theorem dX8_blaming_38 : decode cX8_blaming 38 = .ok (.istore 4, 2) := dk_54 4 (dk_at dksX8_blaming_1 14 rfl rfl)
theorem dX8_blaming_40 : decode cX8_blaming 40 = .ok (.iload 4, 2) := dk_21 4 (dk_at dksX8_blaming_1 16 rfl rfl)
theorem dX8_blaming_42 : decode cX8_blaming 42 = .ok (.aload_n 0, 1) := dk_42 (dk_at dksX8_blaming_1 18 rfl rfl)
theorem dX8_blaming_43 : decode cX8_blaming 43 = .ok (.getfield 35, 3) := dk_180 0 35 (dk_at dksX8_blaming_1 19 rfl rfl)
theorem dX8_blaming_46 : decode cX8_blaming 46 = .ok (.iconst 3, 1) := dk_6 (dk_at dksX8_blaming_1 22 rfl rfl)
theorem dX8_blaming_47 : decode cX8_blaming 47 = .ok (.iaload, 1) := dk_46 (dk_at dksX8_blaming_1 23 rfl rfl)
theorem dX8_blaming_48 : decode cX8_blaming 48 = .ok (.if_icmp .ge 47, 3) := dk_162 0 47 (dk_at dksX8_blaming_2 0 rfl rfl)
theorem dX8_blaming_51 : decode cX8_blaming 51 = .ok (.iload_n 3, 1) := dk_29 (dk_at dksX8_blaming_2 3 rfl rfl)
theorem dX8_blaming_52 : decode cX8_blaming 52 = .ok (.ifCond .eq 43, 3) := dk_153 0 43 (dk_at dksX8_blaming_2 4 rfl rfl)
theorem dX8_blaming_55 : decode cX8_blaming 55 = .ok (.aload_n 0, 1) := dk_42 (dk_at dksX8_blaming_2 7 rfl rfl)
theorem dX8_blaming_56 : decode cX8_blaming 56 = .ok (.getfield 35, 3) := dk_180 0 35 (dk_at dksX8_blaming_2 8 rfl rfl)
theorem dX8_blaming_59 : decode cX8_blaming 59 = .ok (.bipush 60, 2) := dk_16 60 (dk_at dksX8_blaming_2 11 rfl rfl)
theorem dX8_blaming_61 : decode cX8_blaming 61 = .ok (.iload 4, 2) := dk_21 4 (dk_at dksX8_blaming_2 13 rfl rfl)
theorem dX8_blaming_63 : decode cX8_blaming 63 = .ok (.iadd, 1) := dk_96 (dk_at dksX8_blaming_2 15 rfl rfl)
theorem dX8_blaming_64 : decode cX8_blaming 64 = .ok (.iaload, 1) := dk_46 (dk_at dksX8_blaming_2 16 rfl rfl)
theorem dX8_blaming_65 : decode cX8_blaming 65 = .ok (.ifCond .eq 18, 3) := dk_153 0 18 (dk_at dksX8_blaming_2 17 rfl rfl)
theorem dX8_blaming_68 : decode cX8_blaming 68 = .ok (.iload_n 2, 1) := dk_28 (dk_at dksX8_blaming_2 20 rfl rfl)
theorem dX8_blaming_69 : decode cX8_blaming 69 = .ok (.aload_n 0, 1) := dk_42 (dk_at dksX8_blaming_2 21 rfl rfl)
theorem dX8_blaming_70 : decode cX8_blaming 70 = .ok (.getfield 35, 3) := dk_180 0 35 (dk_at dksX8_blaming_3 0 rfl rfl)
theorem dX8_blaming_73 : decode cX8_blaming 73 = .ok (.bipush 69, 2) := dk_16 69 (dk_at dksX8_blaming_3 3 rfl rfl)
theorem dX8_blaming_75 : decode cX8_blaming 75 = .ok (.iload 4, 2) := dk_21 4 (dk_at dksX8_blaming_3 5 rfl rfl)
theorem dX8_blaming_77 : decode cX8_blaming 77 = .ok (.iadd, 1) := dk_96 (dk_at dksX8_blaming_3 7 rfl rfl)
theorem dX8_blaming_78 : decode cX8_blaming 78 = .ok (.iaload, 1) := dk_46 (dk_at dksX8_blaming_3 8 rfl rfl)
theorem dX8_blaming_79 : decode cX8_blaming 79 = .ok (.iand, 1) := dk_126 (dk_at dksX8_blaming_3 9 rfl rfl)
theorem dX8_blaming_80 : decode cX8_blaming 80 = .ok (.ifCond .eq 7, 3) := dk_153 0 7 (dk_at dksX8_blaming_3 10 rfl rfl)
theorem dX8_blaming_83 : decode cX8_blaming 83 = .ok (.iconst 1, 1) := dk_4 (dk_at dksX8_blaming_3 13 rfl rfl)
theorem dX8_blaming_84 : decode cX8_blaming 84 = .ok (.goto 4, 3) := dk_167 0 4 (dk_at dksX8_blaming_3 14 rfl rfl)
theorem dX8_blaming_87 : decode cX8_blaming 87 = .ok (.iconst 0, 1) := dk_3 (dk_at dksX8_blaming_3 17 rfl rfl)
theorem dX8_blaming_88 : decode cX8_blaming 88 = .ok (.istore_n 3, 1) := dk_62 (dk_at dksX8_blaming_3 18 rfl rfl)
theorem dX8_blaming_89 : decode cX8_blaming 89 = .ok (.iinc 4 1, 3) := dk_132 4 1 (dk_at dksX8_blaming_3 19 rfl rfl)
theorem dX8_blaming_92 : decode cX8_blaming 92 = .ok (.goto (-52), 3) := dk_167 255 204 (dk_at dksX8_blaming_4 0 rfl rfl)
theorem dX8_blaming_95 : decode cX8_blaming 95 = .ok (.iload_n 3, 1) := dk_29 (dk_at dksX8_blaming_4 3 rfl rfl)
theorem dX8_blaming_96 : decode cX8_blaming 96 = .ok (.ifCond .eq 5, 3) := dk_153 0 5 (dk_at dksX8_blaming_4 4 rfl rfl)
theorem dX8_blaming_99 : decode cX8_blaming 99 = .ok (.iload_n 2, 1) := dk_28 (dk_at dksX8_blaming_4 7 rfl rfl)
theorem dX8_blaming_100 : decode cX8_blaming 100 = .ok (.istore_n 1, 1) := dk_60 (dk_at dksX8_blaming_4 8 rfl rfl)
theorem dX8_blaming_101 : decode cX8_blaming 101 = .ok (.iinc 2 1, 3) := dk_132 2 1 (dk_at dksX8_blaming_4 9 rfl rfl)
theorem dX8_blaming_104 : decode cX8_blaming 104 = .ok (.goto (-100), 3) := dk_167 255 156 (dk_at dksX8_blaming_4 12 rfl rfl)
theorem dX8_blaming_107 : decode cX8_blaming 107 = .ok (.iload_n 1, 1) := dk_27 (dk_at dksX8_blaming_4 15 rfl rfl)
theorem dX8_blaming_108 : decode cX8_blaming 108 = .ok (.ireturn, 1) := dk_172 (dk_at dksX8_blaming_4 16 rfl rfl)
abbrev cX8_blamedSet : ByteArray := prog_14_method_124_code
def yX8_blamedSet : MethodName := ⟨RX8, "blamedSet", "()I"⟩
def dkwX8_blamedSet_0 : List UInt8 := [42, 3, 181, 0, 70, 42, 3, 181, 0, 73, 42, 182, 1, 153, 172]
abbrev dktX8_blamedSet_0 : List UInt8 := dkwX8_blamedSet_0 ++ []
theorem dksX8_blamedSet_0 : cX8_blamedSet.data.toList.drop 0 = dktX8_blamedSet_0 := by decide +kernel
theorem dX8_blamedSet_0 : decode cX8_blamedSet 0 = .ok (.aload_n 0, 1) := dk_42 (dk_at dksX8_blamedSet_0 0 rfl rfl)
theorem dX8_blamedSet_1 : decode cX8_blamedSet 1 = .ok (.iconst 0, 1) := dk_3 (dk_at dksX8_blamedSet_0 1 rfl rfl)
theorem dX8_blamedSet_2 : decode cX8_blamedSet 2 = .ok (.putfield 70, 3) := dk_181 0 70 (dk_at dksX8_blamedSet_0 2 rfl rfl)
theorem dX8_blamedSet_5 : decode cX8_blamedSet 5 = .ok (.aload_n 0, 1) := dk_42 (dk_at dksX8_blamedSet_0 5 rfl rfl)
theorem dX8_blamedSet_6 : decode cX8_blamedSet 6 = .ok (.iconst 0, 1) := dk_3 (dk_at dksX8_blamedSet_0 6 rfl rfl)
theorem dX8_blamedSet_7 : decode cX8_blamedSet 7 = .ok (.putfield 73, 3) := dk_181 0 73 (dk_at dksX8_blamedSet_0 7 rfl rfl)
theorem dX8_blamedSet_10 : decode cX8_blamedSet 10 = .ok (.aload_n 0, 1) := dk_42 (dk_at dksX8_blamedSet_0 10 rfl rfl)
theorem dX8_blamedSet_11 : decode cX8_blamedSet 11 = .ok (.invokevirtual 409, 3) := dk_182 1 153 (dk_at dksX8_blamedSet_0 11 rfl rfl)
theorem dX8_blamedSet_14 : decode cX8_blamedSet 14 = .ok (.ireturn, 1) := dk_172 (dk_at dksX8_blamedSet_0 14 rfl rfl)
abbrev cX8_wheels : ByteArray := prog_14_method_127_code
def yX8_wheels : MethodName := ⟨RX8, "wheels", "(I)I"⟩
def dkwX8_wheels_2 : List UInt8 := [4, 29, 120, 27, 4, 100, 182, 1, 159, 96, 61, 132, 3, 1, 167, 255, 228, 28, 172]
abbrev dktX8_wheels_2 : List UInt8 := dkwX8_wheels_2 ++ []
def dkwX8_wheels_1 : List UInt8 := [42, 8, 182, 1, 71, 172, 3, 61, 3, 62, 29, 42, 180, 0, 35, 4, 46, 162, 0, 24, 28, 42, 29, 29]
abbrev dktX8_wheels_1 : List UInt8 := dkwX8_wheels_1 ++ dktX8_wheels_2
def dkwX8_wheels_0 : List UInt8 := [42, 3, 181, 0, 70, 42, 3, 181, 0, 73, 27, 133, 20, 1, 163, 20, 1, 165, 184, 0, 105, 154, 0, 9]
abbrev dktX8_wheels_0 : List UInt8 := dkwX8_wheels_0 ++ dktX8_wheels_1
theorem dksX8_wheels_0 : cX8_wheels.data.toList.drop 0 = dktX8_wheels_0 := by decide +kernel
theorem dksX8_wheels_1 : cX8_wheels.data.toList.drop 24 = dktX8_wheels_1 := dk_seg dksX8_wheels_0 24 rfl rfl
theorem dksX8_wheels_2 : cX8_wheels.data.toList.drop 48 = dktX8_wheels_2 := dk_seg dksX8_wheels_1 24 rfl rfl
theorem dX8_wheels_0 : decode cX8_wheels 0 = .ok (.aload_n 0, 1) := dk_42 (dk_at dksX8_wheels_0 0 rfl rfl)
theorem dX8_wheels_1 : decode cX8_wheels 1 = .ok (.iconst 0, 1) := dk_3 (dk_at dksX8_wheels_0 1 rfl rfl)
theorem dX8_wheels_2 : decode cX8_wheels 2 = .ok (.putfield 70, 3) := dk_181 0 70 (dk_at dksX8_wheels_0 2 rfl rfl)
theorem dX8_wheels_5 : decode cX8_wheels 5 = .ok (.aload_n 0, 1) := dk_42 (dk_at dksX8_wheels_0 5 rfl rfl)
theorem dX8_wheels_6 : decode cX8_wheels 6 = .ok (.iconst 0, 1) := dk_3 (dk_at dksX8_wheels_0 6 rfl rfl)
theorem dX8_wheels_7 : decode cX8_wheels 7 = .ok (.putfield 73, 3) := dk_181 0 73 (dk_at dksX8_wheels_0 7 rfl rfl)
theorem dX8_wheels_10 : decode cX8_wheels 10 = .ok (.iload_n 1, 1) := dk_27 (dk_at dksX8_wheels_0 10 rfl rfl)
theorem dX8_wheels_11 : decode cX8_wheels 11 = .ok (.i2l, 1) := dk_133 (dk_at dksX8_wheels_0 11 rfl rfl)
theorem dX8_wheels_12 : decode cX8_wheels 12 = .ok (.ldc2_w 419, 3) := dk_20 1 163 (dk_at dksX8_wheels_0 12 rfl rfl)
theorem dX8_wheels_15 : decode cX8_wheels 15 = .ok (.ldc2_w 421, 3) := dk_20 1 165 (dk_at dksX8_wheels_0 15 rfl rfl)
theorem dX8_wheels_18 : decode cX8_wheels 18 = .ok (.invokestatic 105, 3) := dk_184 0 105 (dk_at dksX8_wheels_0 18 rfl rfl)
theorem dX8_wheels_21 : decode cX8_wheels 21 = .ok (.ifCond .ne 9, 3) := dk_154 0 9 (dk_at dksX8_wheels_0 21 rfl rfl)
theorem dX8_wheels_24 : decode cX8_wheels 24 = .ok (.aload_n 0, 1) := dk_42 (dk_at dksX8_wheels_1 0 rfl rfl)
theorem dX8_wheels_25 : decode cX8_wheels 25 = .ok (.iconst 5, 1) := dk_8 (dk_at dksX8_wheels_1 1 rfl rfl)
theorem dX8_wheels_26 : decode cX8_wheels 26 = .ok (.invokevirtual 327, 3) := dk_182 1 71 (dk_at dksX8_wheels_1 2 rfl rfl)
theorem dX8_wheels_29 : decode cX8_wheels 29 = .ok (.ireturn, 1) := dk_172 (dk_at dksX8_wheels_1 5 rfl rfl)
theorem dX8_wheels_30 : decode cX8_wheels 30 = .ok (.iconst 0, 1) := dk_3 (dk_at dksX8_wheels_1 6 rfl rfl)
theorem dX8_wheels_31 : decode cX8_wheels 31 = .ok (.istore_n 2, 1) := dk_61 (dk_at dksX8_wheels_1 7 rfl rfl)
theorem dX8_wheels_32 : decode cX8_wheels 32 = .ok (.iconst 0, 1) := dk_3 (dk_at dksX8_wheels_1 8 rfl rfl)
theorem dX8_wheels_33 : decode cX8_wheels 33 = .ok (.istore_n 3, 1) := dk_62 (dk_at dksX8_wheels_1 9 rfl rfl)
theorem dX8_wheels_34 : decode cX8_wheels 34 = .ok (.iload_n 3, 1) := dk_29 (dk_at dksX8_wheels_1 10 rfl rfl)
theorem dX8_wheels_35 : decode cX8_wheels 35 = .ok (.aload_n 0, 1) := dk_42 (dk_at dksX8_wheels_1 11 rfl rfl)
theorem dX8_wheels_36 : decode cX8_wheels 36 = .ok (.getfield 35, 3) := dk_180 0 35 (dk_at dksX8_wheels_1 12 rfl rfl)
theorem dX8_wheels_39 : decode cX8_wheels 39 = .ok (.iconst 1, 1) := dk_4 (dk_at dksX8_wheels_1 15 rfl rfl)
theorem dX8_wheels_40 : decode cX8_wheels 40 = .ok (.iaload, 1) := dk_46 (dk_at dksX8_wheels_1 16 rfl rfl)
theorem dX8_wheels_41 : decode cX8_wheels 41 = .ok (.if_icmp .ge 24, 3) := dk_162 0 24 (dk_at dksX8_wheels_1 17 rfl rfl)
theorem dX8_wheels_44 : decode cX8_wheels 44 = .ok (.iload_n 2, 1) := dk_28 (dk_at dksX8_wheels_1 20 rfl rfl)
theorem dX8_wheels_45 : decode cX8_wheels 45 = .ok (.aload_n 0, 1) := dk_42 (dk_at dksX8_wheels_1 21 rfl rfl)
theorem dX8_wheels_46 : decode cX8_wheels 46 = .ok (.iload_n 3, 1) := dk_29 (dk_at dksX8_wheels_1 22 rfl rfl)
theorem dX8_wheels_47 : decode cX8_wheels 47 = .ok (.iload_n 3, 1) := dk_29 (dk_at dksX8_wheels_1 23 rfl rfl)
theorem dX8_wheels_48 : decode cX8_wheels 48 = .ok (.iconst 1, 1) := dk_4 (dk_at dksX8_wheels_2 0 rfl rfl)
theorem dX8_wheels_49 : decode cX8_wheels 49 = .ok (.iload_n 3, 1) := dk_29 (dk_at dksX8_wheels_2 1 rfl rfl)
theorem dX8_wheels_50 : decode cX8_wheels 50 = .ok (.ishl, 1) := dk_120 (dk_at dksX8_wheels_2 2 rfl rfl)
theorem dX8_wheels_51 : decode cX8_wheels 51 = .ok (.iload_n 1, 1) := dk_27 (dk_at dksX8_wheels_2 3 rfl rfl)
theorem dX8_wheels_52 : decode cX8_wheels 52 = .ok (.iconst 1, 1) := dk_4 (dk_at dksX8_wheels_2 4 rfl rfl)
theorem dX8_wheels_53 : decode cX8_wheels 53 = .ok (.isub, 1) := dk_100 (dk_at dksX8_wheels_2 5 rfl rfl)
theorem dX8_wheels_54 : decode cX8_wheels 54 = .ok (.invokevirtual 415, 3) := dk_182 1 159 (dk_at dksX8_wheels_2 6 rfl rfl)
theorem dX8_wheels_57 : decode cX8_wheels 57 = .ok (.iadd, 1) := dk_96 (dk_at dksX8_wheels_2 9 rfl rfl)
theorem dX8_wheels_58 : decode cX8_wheels 58 = .ok (.istore_n 2, 1) := dk_61 (dk_at dksX8_wheels_2 10 rfl rfl)
theorem dX8_wheels_59 : decode cX8_wheels 59 = .ok (.iinc 3 1, 3) := dk_132 3 1 (dk_at dksX8_wheels_2 11 rfl rfl)
theorem dX8_wheels_62 : decode cX8_wheels 62 = .ok (.goto (-28), 3) := dk_167 255 228 (dk_at dksX8_wheels_2 14 rfl rfl)
theorem dX8_wheels_65 : decode cX8_wheels 65 = .ok (.iload_n 2, 1) := dk_28 (dk_at dksX8_wheels_2 17 rfl rfl)
theorem dX8_wheels_66 : decode cX8_wheels 66 = .ok (.ireturn, 1) := dk_172 (dk_at dksX8_wheels_2 18 rfl rfl)
abbrev cX8_rolls : ByteArray := prog_14_method_126_code
def yX8_rolls : MethodName := ⟨RX8, "rolls", "(IIII)I"⟩
def dkwX8_rolls_3 : List UInt8 := [4, 100, 182, 1, 159, 96, 54, 5, 132, 6, 1, 167, 255, 201, 21, 5, 172]
abbrev dktX8_rolls_3 : List UInt8 := dkwX8_rolls_3 ++ []
def dkwX8_rolls_2 : List UInt8 := [42, 28, 21, 6, 182, 1, 156, 153, 0, 25, 21, 5, 42, 27, 21, 6, 29, 4, 21, 6, 120, 128, 21, 4]
abbrev dktX8_rolls_2 : List UInt8 := dkwX8_rolls_2 ++ dktX8_rolls_3
def dkwX8_rolls_1 : List UInt8 := [4, 96, 54, 6, 21, 6, 42, 180, 0, 35, 4, 46, 162, 0, 50, 29, 21, 6, 184, 0, 109, 154, 0, 35]
abbrev dktX8_rolls_1 : List UInt8 := dkwX8_rolls_1 ++ dktX8_rolls_2
def dkwX8_rolls_0 : List UInt8 := [21, 4, 154, 0, 18, 42, 28, 27, 182, 1, 156, 153, 0, 7, 4, 167, 0, 4, 3, 172, 3, 54, 5, 27]
abbrev dktX8_rolls_0 : List UInt8 := dkwX8_rolls_0 ++ dktX8_rolls_1
theorem dksX8_rolls_0 : cX8_rolls.data.toList.drop 0 = dktX8_rolls_0 := by decide +kernel
theorem dksX8_rolls_1 : cX8_rolls.data.toList.drop 24 = dktX8_rolls_1 := dk_seg dksX8_rolls_0 24 rfl rfl
theorem dksX8_rolls_2 : cX8_rolls.data.toList.drop 48 = dktX8_rolls_2 := dk_seg dksX8_rolls_1 24 rfl rfl
theorem dksX8_rolls_3 : cX8_rolls.data.toList.drop 72 = dktX8_rolls_3 := dk_seg dksX8_rolls_2 24 rfl rfl
theorem dX8_rolls_0 : decode cX8_rolls 0 = .ok (.iload 4, 2) := dk_21 4 (dk_at dksX8_rolls_0 0 rfl rfl)
theorem dX8_rolls_2 : decode cX8_rolls 2 = .ok (.ifCond .ne 18, 3) := dk_154 0 18 (dk_at dksX8_rolls_0 2 rfl rfl)
theorem dX8_rolls_5 : decode cX8_rolls 5 = .ok (.aload_n 0, 1) := dk_42 (dk_at dksX8_rolls_0 5 rfl rfl)
theorem dX8_rolls_6 : decode cX8_rolls 6 = .ok (.iload_n 2, 1) := dk_28 (dk_at dksX8_rolls_0 6 rfl rfl)
theorem dX8_rolls_7 : decode cX8_rolls 7 = .ok (.iload_n 1, 1) := dk_27 (dk_at dksX8_rolls_0 7 rfl rfl)
theorem dX8_rolls_8 : decode cX8_rolls 8 = .ok (.invokevirtual 412, 3) := dk_182 1 156 (dk_at dksX8_rolls_0 8 rfl rfl)
theorem dX8_rolls_11 : decode cX8_rolls 11 = .ok (.ifCond .eq 7, 3) := dk_153 0 7 (dk_at dksX8_rolls_0 11 rfl rfl)
theorem dX8_rolls_14 : decode cX8_rolls 14 = .ok (.iconst 1, 1) := dk_4 (dk_at dksX8_rolls_0 14 rfl rfl)
theorem dX8_rolls_15 : decode cX8_rolls 15 = .ok (.goto 4, 3) := dk_167 0 4 (dk_at dksX8_rolls_0 15 rfl rfl)
theorem dX8_rolls_18 : decode cX8_rolls 18 = .ok (.iconst 0, 1) := dk_3 (dk_at dksX8_rolls_0 18 rfl rfl)
theorem dX8_rolls_19 : decode cX8_rolls 19 = .ok (.ireturn, 1) := dk_172 (dk_at dksX8_rolls_0 19 rfl rfl)
theorem dX8_rolls_20 : decode cX8_rolls 20 = .ok (.iconst 0, 1) := dk_3 (dk_at dksX8_rolls_0 20 rfl rfl)
theorem dX8_rolls_21 : decode cX8_rolls 21 = .ok (.istore 5, 2) := dk_54 5 (dk_at dksX8_rolls_0 21 rfl rfl)
theorem dX8_rolls_23 : decode cX8_rolls 23 = .ok (.iload_n 1, 1) := dk_27 (dk_at dksX8_rolls_0 23 rfl rfl)
theorem dX8_rolls_24 : decode cX8_rolls 24 = .ok (.iconst 1, 1) := dk_4 (dk_at dksX8_rolls_1 0 rfl rfl)
theorem dX8_rolls_25 : decode cX8_rolls 25 = .ok (.iadd, 1) := dk_96 (dk_at dksX8_rolls_1 1 rfl rfl)
theorem dX8_rolls_26 : decode cX8_rolls 26 = .ok (.istore 6, 2) := dk_54 6 (dk_at dksX8_rolls_1 2 rfl rfl)
theorem dX8_rolls_28 : decode cX8_rolls 28 = .ok (.iload 6, 2) := dk_21 6 (dk_at dksX8_rolls_1 4 rfl rfl)
theorem dX8_rolls_30 : decode cX8_rolls 30 = .ok (.aload_n 0, 1) := dk_42 (dk_at dksX8_rolls_1 6 rfl rfl)
theorem dX8_rolls_31 : decode cX8_rolls 31 = .ok (.getfield 35, 3) := dk_180 0 35 (dk_at dksX8_rolls_1 7 rfl rfl)
theorem dX8_rolls_34 : decode cX8_rolls 34 = .ok (.iconst 1, 1) := dk_4 (dk_at dksX8_rolls_1 10 rfl rfl)
theorem dX8_rolls_35 : decode cX8_rolls 35 = .ok (.iaload, 1) := dk_46 (dk_at dksX8_rolls_1 11 rfl rfl)
theorem dX8_rolls_36 : decode cX8_rolls 36 = .ok (.if_icmp .ge 50, 3) := dk_162 0 50 (dk_at dksX8_rolls_1 12 rfl rfl)
theorem dX8_rolls_39 : decode cX8_rolls 39 = .ok (.iload_n 3, 1) := dk_29 (dk_at dksX8_rolls_1 15 rfl rfl)
theorem dX8_rolls_40 : decode cX8_rolls 40 = .ok (.iload 6, 2) := dk_21 6 (dk_at dksX8_rolls_1 16 rfl rfl)
theorem dX8_rolls_42 : decode cX8_rolls 42 = .ok (.invokestatic 109, 3) := dk_184 0 109 (dk_at dksX8_rolls_1 18 rfl rfl)
theorem dX8_rolls_45 : decode cX8_rolls 45 = .ok (.ifCond .ne 35, 3) := dk_154 0 35 (dk_at dksX8_rolls_1 21 rfl rfl)
theorem dX8_rolls_48 : decode cX8_rolls 48 = .ok (.aload_n 0, 1) := dk_42 (dk_at dksX8_rolls_2 0 rfl rfl)
theorem dX8_rolls_49 : decode cX8_rolls 49 = .ok (.iload_n 2, 1) := dk_28 (dk_at dksX8_rolls_2 1 rfl rfl)
theorem dX8_rolls_50 : decode cX8_rolls 50 = .ok (.iload 6, 2) := dk_21 6 (dk_at dksX8_rolls_2 2 rfl rfl)
theorem dX8_rolls_52 : decode cX8_rolls 52 = .ok (.invokevirtual 412, 3) := dk_182 1 156 (dk_at dksX8_rolls_2 4 rfl rfl)
theorem dX8_rolls_55 : decode cX8_rolls 55 = .ok (.ifCond .eq 25, 3) := dk_153 0 25 (dk_at dksX8_rolls_2 7 rfl rfl)
theorem dX8_rolls_58 : decode cX8_rolls 58 = .ok (.iload 5, 2) := dk_21 5 (dk_at dksX8_rolls_2 10 rfl rfl)
theorem dX8_rolls_60 : decode cX8_rolls 60 = .ok (.aload_n 0, 1) := dk_42 (dk_at dksX8_rolls_2 12 rfl rfl)
theorem dX8_rolls_61 : decode cX8_rolls 61 = .ok (.iload_n 1, 1) := dk_27 (dk_at dksX8_rolls_2 13 rfl rfl)
theorem dX8_rolls_62 : decode cX8_rolls 62 = .ok (.iload 6, 2) := dk_21 6 (dk_at dksX8_rolls_2 14 rfl rfl)
theorem dX8_rolls_64 : decode cX8_rolls 64 = .ok (.iload_n 3, 1) := dk_29 (dk_at dksX8_rolls_2 16 rfl rfl)
theorem dX8_rolls_65 : decode cX8_rolls 65 = .ok (.iconst 1, 1) := dk_4 (dk_at dksX8_rolls_2 17 rfl rfl)
theorem dX8_rolls_66 : decode cX8_rolls 66 = .ok (.iload 6, 2) := dk_21 6 (dk_at dksX8_rolls_2 18 rfl rfl)
theorem dX8_rolls_68 : decode cX8_rolls 68 = .ok (.ishl, 1) := dk_120 (dk_at dksX8_rolls_2 20 rfl rfl)
theorem dX8_rolls_69 : decode cX8_rolls 69 = .ok (.ior, 1) := dk_128 (dk_at dksX8_rolls_2 21 rfl rfl)
theorem dX8_rolls_70 : decode cX8_rolls 70 = .ok (.iload 4, 2) := dk_21 4 (dk_at dksX8_rolls_2 22 rfl rfl)
theorem dX8_rolls_72 : decode cX8_rolls 72 = .ok (.iconst 1, 1) := dk_4 (dk_at dksX8_rolls_3 0 rfl rfl)
theorem dX8_rolls_73 : decode cX8_rolls 73 = .ok (.isub, 1) := dk_100 (dk_at dksX8_rolls_3 1 rfl rfl)
theorem dX8_rolls_74 : decode cX8_rolls 74 = .ok (.invokevirtual 415, 3) := dk_182 1 159 (dk_at dksX8_rolls_3 2 rfl rfl)
theorem dX8_rolls_77 : decode cX8_rolls 77 = .ok (.iadd, 1) := dk_96 (dk_at dksX8_rolls_3 5 rfl rfl)
theorem dX8_rolls_78 : decode cX8_rolls 78 = .ok (.istore 5, 2) := dk_54 5 (dk_at dksX8_rolls_3 6 rfl rfl)
theorem dX8_rolls_80 : decode cX8_rolls 80 = .ok (.iinc 6 1, 3) := dk_132 6 1 (dk_at dksX8_rolls_3 8 rfl rfl)
theorem dX8_rolls_83 : decode cX8_rolls 83 = .ok (.goto (-55), 3) := dk_167 255 201 (dk_at dksX8_rolls_3 11 rfl rfl)
theorem dX8_rolls_86 : decode cX8_rolls 86 = .ok (.iload 5, 2) := dk_21 5 (dk_at dksX8_rolls_3 14 rfl rfl)
theorem dX8_rolls_88 : decode cX8_rolls 88 = .ok (.ireturn, 1) := dk_172 (dk_at dksX8_rolls_3 16 rfl rfl)
abbrev cX8_canGive : ByteArray := prog_14_method_125_code
def yX8_canGive : MethodName := ⟨RX8, "canGive", "(II)Z"⟩
def dkwX8_canGive_2 : List UInt8 := [3, 172]
abbrev dktX8_canGive_2 : List UInt8 := dkwX8_canGive_2 ++ []
def dkwX8_canGive_1 : List UInt8 := [160, 0, 18, 42, 29, 27, 182, 1, 101, 28, 184, 0, 109, 153, 0, 5, 4, 172, 132, 3, 1, 167, 255, 215]
abbrev dktX8_canGive_1 : List UInt8 := dkwX8_canGive_1 ++ dktX8_canGive_2
def dkwX8_canGive_0 : List UInt8 := [3, 62, 29, 42, 180, 0, 35, 6, 46, 162, 0, 37, 42, 180, 0, 35, 16, 42, 29, 96, 46, 27]
abbrev dktX8_canGive_0 : List UInt8 := dkwX8_canGive_0 ++ dktX8_canGive_1
theorem dksX8_canGive_0 : cX8_canGive.data.toList.drop 0 = dktX8_canGive_0 := by decide +kernel
theorem dksX8_canGive_1 : cX8_canGive.data.toList.drop 22 = dktX8_canGive_1 := dk_seg dksX8_canGive_0 22 rfl rfl
theorem dksX8_canGive_2 : cX8_canGive.data.toList.drop 46 = dktX8_canGive_2 := dk_seg dksX8_canGive_1 24 rfl rfl
theorem dX8_canGive_0 : decode cX8_canGive 0 = .ok (.iconst 0, 1) := dk_3 (dk_at dksX8_canGive_0 0 rfl rfl)
theorem dX8_canGive_1 : decode cX8_canGive 1 = .ok (.istore_n 3, 1) := dk_62 (dk_at dksX8_canGive_0 1 rfl rfl)
theorem dX8_canGive_2 : decode cX8_canGive 2 = .ok (.iload_n 3, 1) := dk_29 (dk_at dksX8_canGive_0 2 rfl rfl)
theorem dX8_canGive_3 : decode cX8_canGive 3 = .ok (.aload_n 0, 1) := dk_42 (dk_at dksX8_canGive_0 3 rfl rfl)
theorem dX8_canGive_4 : decode cX8_canGive 4 = .ok (.getfield 35, 3) := dk_180 0 35 (dk_at dksX8_canGive_0 4 rfl rfl)
theorem dX8_canGive_7 : decode cX8_canGive 7 = .ok (.iconst 3, 1) := dk_6 (dk_at dksX8_canGive_0 7 rfl rfl)
theorem dX8_canGive_8 : decode cX8_canGive 8 = .ok (.iaload, 1) := dk_46 (dk_at dksX8_canGive_0 8 rfl rfl)
theorem dX8_canGive_9 : decode cX8_canGive 9 = .ok (.if_icmp .ge 37, 3) := dk_162 0 37 (dk_at dksX8_canGive_0 9 rfl rfl)
theorem dX8_canGive_12 : decode cX8_canGive 12 = .ok (.aload_n 0, 1) := dk_42 (dk_at dksX8_canGive_0 12 rfl rfl)
theorem dX8_canGive_13 : decode cX8_canGive 13 = .ok (.getfield 35, 3) := dk_180 0 35 (dk_at dksX8_canGive_0 13 rfl rfl)
theorem dX8_canGive_16 : decode cX8_canGive 16 = .ok (.bipush 42, 2) := dk_16 42 (dk_at dksX8_canGive_0 16 rfl rfl)
theorem dX8_canGive_18 : decode cX8_canGive 18 = .ok (.iload_n 3, 1) := dk_29 (dk_at dksX8_canGive_0 18 rfl rfl)
theorem dX8_canGive_19 : decode cX8_canGive 19 = .ok (.iadd, 1) := dk_96 (dk_at dksX8_canGive_0 19 rfl rfl)
theorem dX8_canGive_20 : decode cX8_canGive 20 = .ok (.iaload, 1) := dk_46 (dk_at dksX8_canGive_0 20 rfl rfl)
theorem dX8_canGive_21 : decode cX8_canGive 21 = .ok (.iload_n 1, 1) := dk_27 (dk_at dksX8_canGive_0 21 rfl rfl)
theorem dX8_canGive_22 : decode cX8_canGive 22 = .ok (.if_icmp .ne 18, 3) := dk_160 0 18 (dk_at dksX8_canGive_1 0 rfl rfl)
theorem dX8_canGive_25 : decode cX8_canGive 25 = .ok (.aload_n 0, 1) := dk_42 (dk_at dksX8_canGive_1 3 rfl rfl)
theorem dX8_canGive_26 : decode cX8_canGive 26 = .ok (.iload_n 3, 1) := dk_29 (dk_at dksX8_canGive_1 4 rfl rfl)
theorem dX8_canGive_27 : decode cX8_canGive 27 = .ok (.iload_n 1, 1) := dk_27 (dk_at dksX8_canGive_1 5 rfl rfl)
theorem dX8_canGive_28 : decode cX8_canGive 28 = .ok (.invokevirtual 357, 3) := dk_182 1 101 (dk_at dksX8_canGive_1 6 rfl rfl)
theorem dX8_canGive_31 : decode cX8_canGive 31 = .ok (.iload_n 2, 1) := dk_28 (dk_at dksX8_canGive_1 9 rfl rfl)
theorem dX8_canGive_32 : decode cX8_canGive 32 = .ok (.invokestatic 109, 3) := dk_184 0 109 (dk_at dksX8_canGive_1 10 rfl rfl)
theorem dX8_canGive_35 : decode cX8_canGive 35 = .ok (.ifCond .eq 5, 3) := dk_153 0 5 (dk_at dksX8_canGive_1 13 rfl rfl)
theorem dX8_canGive_38 : decode cX8_canGive 38 = .ok (.iconst 1, 1) := dk_4 (dk_at dksX8_canGive_1 16 rfl rfl)
theorem dX8_canGive_39 : decode cX8_canGive 39 = .ok (.ireturn, 1) := dk_172 (dk_at dksX8_canGive_1 17 rfl rfl)
theorem dX8_canGive_40 : decode cX8_canGive 40 = .ok (.iinc 3 1, 3) := dk_132 3 1 (dk_at dksX8_canGive_1 18 rfl rfl)
theorem dX8_canGive_43 : decode cX8_canGive 43 = .ok (.goto (-41), 3) := dk_167 255 215 (dk_at dksX8_canGive_1 21 rfl rfl)
theorem dX8_canGive_46 : decode cX8_canGive 46 = .ok (.iconst 0, 1) := dk_3 (dk_at dksX8_canGive_2 0 rfl rfl)
theorem dX8_canGive_47 : decode cX8_canGive 47 = .ok (.ireturn, 1) := dk_172 (dk_at dksX8_canGive_2 1 rfl rfl)
abbrev cX8_whose : ByteArray := prog_14_method_130_code
def yX8_whose : MethodName := ⟨RX8, "whose", "(II)I"⟩
def dkwX8_whose_1 : List UInt8 := [42, 27, 28, 182, 1, 185, 42, 180, 1, 176, 172]
abbrev dktX8_whose_1 : List UInt8 := dkwX8_whose_1 ++ []
def dkwX8_whose_0 : List UInt8 := [42, 3, 181, 0, 70, 42, 42, 27, 28, 182, 1, 182, 181, 0, 73, 42, 180, 0, 73, 158, 0, 5, 2, 172]
abbrev dktX8_whose_0 : List UInt8 := dkwX8_whose_0 ++ dktX8_whose_1
theorem dksX8_whose_0 : cX8_whose.data.toList.drop 0 = dktX8_whose_0 := by decide +kernel
theorem dksX8_whose_1 : cX8_whose.data.toList.drop 24 = dktX8_whose_1 := dk_seg dksX8_whose_0 24 rfl rfl
theorem dX8_whose_0 : decode cX8_whose 0 = .ok (.aload_n 0, 1) := dk_42 (dk_at dksX8_whose_0 0 rfl rfl)
theorem dX8_whose_1 : decode cX8_whose 1 = .ok (.iconst 0, 1) := dk_3 (dk_at dksX8_whose_0 1 rfl rfl)
theorem dX8_whose_2 : decode cX8_whose 2 = .ok (.putfield 70, 3) := dk_181 0 70 (dk_at dksX8_whose_0 2 rfl rfl)
theorem dX8_whose_5 : decode cX8_whose 5 = .ok (.aload_n 0, 1) := dk_42 (dk_at dksX8_whose_0 5 rfl rfl)
theorem dX8_whose_6 : decode cX8_whose 6 = .ok (.aload_n 0, 1) := dk_42 (dk_at dksX8_whose_0 6 rfl rfl)
theorem dX8_whose_7 : decode cX8_whose 7 = .ok (.iload_n 1, 1) := dk_27 (dk_at dksX8_whose_0 7 rfl rfl)
theorem dX8_whose_8 : decode cX8_whose 8 = .ok (.iload_n 2, 1) := dk_28 (dk_at dksX8_whose_0 8 rfl rfl)
theorem dX8_whose_9 : decode cX8_whose 9 = .ok (.invokevirtual 438, 3) := dk_182 1 182 (dk_at dksX8_whose_0 9 rfl rfl)
theorem dX8_whose_12 : decode cX8_whose 12 = .ok (.putfield 73, 3) := dk_181 0 73 (dk_at dksX8_whose_0 12 rfl rfl)
theorem dX8_whose_15 : decode cX8_whose 15 = .ok (.aload_n 0, 1) := dk_42 (dk_at dksX8_whose_0 15 rfl rfl)
theorem dX8_whose_16 : decode cX8_whose 16 = .ok (.getfield 73, 3) := dk_180 0 73 (dk_at dksX8_whose_0 16 rfl rfl)
theorem dX8_whose_19 : decode cX8_whose 19 = .ok (.ifCond .le 5, 3) := dk_158 0 5 (dk_at dksX8_whose_0 19 rfl rfl)
theorem dX8_whose_22 : decode cX8_whose 22 = .ok (.iconst (-1), 1) := dk_2 (dk_at dksX8_whose_0 22 rfl rfl)
theorem dX8_whose_23 : decode cX8_whose 23 = .ok (.ireturn, 1) := dk_172 (dk_at dksX8_whose_0 23 rfl rfl)
theorem dX8_whose_24 : decode cX8_whose 24 = .ok (.aload_n 0, 1) := dk_42 (dk_at dksX8_whose_1 0 rfl rfl)
theorem dX8_whose_25 : decode cX8_whose 25 = .ok (.iload_n 1, 1) := dk_27 (dk_at dksX8_whose_1 1 rfl rfl)
theorem dX8_whose_26 : decode cX8_whose 26 = .ok (.iload_n 2, 1) := dk_28 (dk_at dksX8_whose_1 2 rfl rfl)
theorem dX8_whose_27 : decode cX8_whose 27 = .ok (.invokevirtual 441, 3) := dk_182 1 185 (dk_at dksX8_whose_1 3 rfl rfl)
theorem dX8_whose_30 : decode cX8_whose 30 = .ok (.aload_n 0, 1) := dk_42 (dk_at dksX8_whose_1 6 rfl rfl)
theorem dX8_whose_31 : decode cX8_whose 31 = .ok (.getfield 432, 3) := dk_180 1 176 (dk_at dksX8_whose_1 7 rfl rfl)
theorem dX8_whose_34 : decode cX8_whose 34 = .ok (.ireturn, 1) := dk_172 (dk_at dksX8_whose_1 10 rfl rfl)
abbrev cX8_whyNoWhose : ByteArray := prog_14_method_128_code
def yX8_whyNoWhose : MethodName := ⟨RX8, "whyNoWhose", "(II)I"⟩
def dkwX8_whyNoWhose_6 : List UInt8 := [181, 1, 167, 132, 3, 1, 167, 255, 172, 3, 172]
abbrev dktX8_whyNoWhose_6 : List UInt8 := dkwX8_whyNoWhose_6 ++ []
def dkwX8_whyNoWhose_5 : List UInt8 := [154, 0, 5, 8, 172, 42, 89, 180, 1, 167, 4, 42, 27, 5, 29, 104, 182, 1, 170, 136, 120, 128]
abbrev dktX8_whyNoWhose_5 : List UInt8 := dkwX8_whyNoWhose_5 ++ dktX8_whyNoWhose_6
def dkwX8_whyNoWhose_4 : List UInt8 := [184, 0, 109, 154, 0, 23, 42, 27, 5, 29, 104, 4, 96, 182, 1, 170, 9, 20, 1, 174, 184, 0, 105]
abbrev dktX8_whyNoWhose_4 : List UInt8 := dkwX8_whyNoWhose_4 ++ dktX8_whyNoWhose_5
def dkwX8_whyNoWhose_3 : List UInt8 := [29, 104, 182, 1, 170, 182, 1, 80, 153, 0, 42, 42, 180, 1, 167, 42, 27, 5, 29, 104, 182, 1, 170, 136]
abbrev dktX8_whyNoWhose_3 : List UInt8 := dkwX8_whyNoWhose_3 ++ dktX8_whyNoWhose_4
def dkwX8_whyNoWhose_2 : List UInt8 := [184, 0, 105, 154, 0, 5, 8, 172, 42, 3, 181, 1, 167, 3, 62, 29, 28, 162, 0, 85, 42, 42, 27, 5]
abbrev dktX8_whyNoWhose_2 : List UInt8 := dkwX8_whyNoWhose_2 ++ dktX8_whyNoWhose_3
def dkwX8_whyNoWhose_1 : List UInt8 := [180, 0, 17, 27, 46, 133, 20, 1, 163, 28, 133, 105, 148, 156, 0, 5, 7, 172, 28, 133, 9, 20, 1, 165]
abbrev dktX8_whyNoWhose_1 : List UInt8 := dkwX8_whyNoWhose_1 ++ dktX8_whyNoWhose_2
def dkwX8_whyNoWhose_0 : List UInt8 := [42, 27, 182, 1, 91, 154, 0, 5, 4, 172, 42, 180, 0, 17, 27, 46, 156, 0, 5, 6, 172, 42]
abbrev dktX8_whyNoWhose_0 : List UInt8 := dkwX8_whyNoWhose_0 ++ dktX8_whyNoWhose_1
theorem dksX8_whyNoWhose_0 : cX8_whyNoWhose.data.toList.drop 0 = dktX8_whyNoWhose_0 := by decide +kernel
theorem dksX8_whyNoWhose_1 : cX8_whyNoWhose.data.toList.drop 22 = dktX8_whyNoWhose_1 := dk_seg dksX8_whyNoWhose_0 22 rfl rfl
theorem dksX8_whyNoWhose_2 : cX8_whyNoWhose.data.toList.drop 46 = dktX8_whyNoWhose_2 := dk_seg dksX8_whyNoWhose_1 24 rfl rfl
theorem dksX8_whyNoWhose_3 : cX8_whyNoWhose.data.toList.drop 70 = dktX8_whyNoWhose_3 := dk_seg dksX8_whyNoWhose_2 24 rfl rfl
theorem dksX8_whyNoWhose_4 : cX8_whyNoWhose.data.toList.drop 94 = dktX8_whyNoWhose_4 := dk_seg dksX8_whyNoWhose_3 24 rfl rfl
theorem dksX8_whyNoWhose_5 : cX8_whyNoWhose.data.toList.drop 117 = dktX8_whyNoWhose_5 := dk_seg dksX8_whyNoWhose_4 23 rfl rfl
theorem dksX8_whyNoWhose_6 : cX8_whyNoWhose.data.toList.drop 139 = dktX8_whyNoWhose_6 := dk_seg dksX8_whyNoWhose_5 22 rfl rfl
theorem dX8_whyNoWhose_0 : decode cX8_whyNoWhose 0 = .ok (.aload_n 0, 1) := dk_42 (dk_at dksX8_whyNoWhose_0 0 rfl rfl)
theorem dX8_whyNoWhose_1 : decode cX8_whyNoWhose 1 = .ok (.iload_n 1, 1) := dk_27 (dk_at dksX8_whyNoWhose_0 1 rfl rfl)
theorem dX8_whyNoWhose_2 : decode cX8_whyNoWhose 2 = .ok (.invokevirtual 347, 3) := dk_182 1 91 (dk_at dksX8_whyNoWhose_0 2 rfl rfl)
theorem dX8_whyNoWhose_5 : decode cX8_whyNoWhose 5 = .ok (.ifCond .ne 5, 3) := dk_154 0 5 (dk_at dksX8_whyNoWhose_0 5 rfl rfl)
theorem dX8_whyNoWhose_8 : decode cX8_whyNoWhose 8 = .ok (.iconst 1, 1) := dk_4 (dk_at dksX8_whyNoWhose_0 8 rfl rfl)
theorem dX8_whyNoWhose_9 : decode cX8_whyNoWhose 9 = .ok (.ireturn, 1) := dk_172 (dk_at dksX8_whyNoWhose_0 9 rfl rfl)
theorem dX8_whyNoWhose_10 : decode cX8_whyNoWhose 10 = .ok (.aload_n 0, 1) := dk_42 (dk_at dksX8_whyNoWhose_0 10 rfl rfl)
theorem dX8_whyNoWhose_11 : decode cX8_whyNoWhose 11 = .ok (.getfield 17, 3) := dk_180 0 17 (dk_at dksX8_whyNoWhose_0 11 rfl rfl)
theorem dX8_whyNoWhose_14 : decode cX8_whyNoWhose 14 = .ok (.iload_n 1, 1) := dk_27 (dk_at dksX8_whyNoWhose_0 14 rfl rfl)
theorem dX8_whyNoWhose_15 : decode cX8_whyNoWhose 15 = .ok (.iaload, 1) := dk_46 (dk_at dksX8_whyNoWhose_0 15 rfl rfl)
theorem dX8_whyNoWhose_16 : decode cX8_whyNoWhose 16 = .ok (.ifCond .ge 5, 3) := dk_156 0 5 (dk_at dksX8_whyNoWhose_0 16 rfl rfl)
theorem dX8_whyNoWhose_19 : decode cX8_whyNoWhose 19 = .ok (.iconst 3, 1) := dk_6 (dk_at dksX8_whyNoWhose_0 19 rfl rfl)
theorem dX8_whyNoWhose_20 : decode cX8_whyNoWhose 20 = .ok (.ireturn, 1) := dk_172 (dk_at dksX8_whyNoWhose_0 20 rfl rfl)
theorem dX8_whyNoWhose_21 : decode cX8_whyNoWhose 21 = .ok (.aload_n 0, 1) := dk_42 (dk_at dksX8_whyNoWhose_0 21 rfl rfl)
theorem dX8_whyNoWhose_22 : decode cX8_whyNoWhose 22 = .ok (.getfield 17, 3) := dk_180 0 17 (dk_at dksX8_whyNoWhose_1 0 rfl rfl)
theorem dX8_whyNoWhose_25 : decode cX8_whyNoWhose 25 = .ok (.iload_n 1, 1) := dk_27 (dk_at dksX8_whyNoWhose_1 3 rfl rfl)
theorem dX8_whyNoWhose_26 : decode cX8_whyNoWhose 26 = .ok (.iaload, 1) := dk_46 (dk_at dksX8_whyNoWhose_1 4 rfl rfl)
theorem dX8_whyNoWhose_27 : decode cX8_whyNoWhose 27 = .ok (.i2l, 1) := dk_133 (dk_at dksX8_whyNoWhose_1 5 rfl rfl)
theorem dX8_whyNoWhose_28 : decode cX8_whyNoWhose 28 = .ok (.ldc2_w 419, 3) := dk_20 1 163 (dk_at dksX8_whyNoWhose_1 6 rfl rfl)
theorem dX8_whyNoWhose_31 : decode cX8_whyNoWhose 31 = .ok (.iload_n 2, 1) := dk_28 (dk_at dksX8_whyNoWhose_1 9 rfl rfl)
theorem dX8_whyNoWhose_32 : decode cX8_whyNoWhose 32 = .ok (.i2l, 1) := dk_133 (dk_at dksX8_whyNoWhose_1 10 rfl rfl)
theorem dX8_whyNoWhose_33 : decode cX8_whyNoWhose 33 = .ok (.lmul, 1) := dk_105 (dk_at dksX8_whyNoWhose_1 11 rfl rfl)
theorem dX8_whyNoWhose_34 : decode cX8_whyNoWhose 34 = .ok (.lcmp, 1) := dk_148 (dk_at dksX8_whyNoWhose_1 12 rfl rfl)
theorem dX8_whyNoWhose_35 : decode cX8_whyNoWhose 35 = .ok (.ifCond .ge 5, 3) := dk_156 0 5 (dk_at dksX8_whyNoWhose_1 13 rfl rfl)
theorem dX8_whyNoWhose_38 : decode cX8_whyNoWhose 38 = .ok (.iconst 4, 1) := dk_7 (dk_at dksX8_whyNoWhose_1 16 rfl rfl)
theorem dX8_whyNoWhose_39 : decode cX8_whyNoWhose 39 = .ok (.ireturn, 1) := dk_172 (dk_at dksX8_whyNoWhose_1 17 rfl rfl)
theorem dX8_whyNoWhose_40 : decode cX8_whyNoWhose 40 = .ok (.iload_n 2, 1) := dk_28 (dk_at dksX8_whyNoWhose_1 18 rfl rfl)
theorem dX8_whyNoWhose_41 : decode cX8_whyNoWhose 41 = .ok (.i2l, 1) := dk_133 (dk_at dksX8_whyNoWhose_1 19 rfl rfl)
theorem dX8_whyNoWhose_42 : decode cX8_whyNoWhose 42 = .ok (.lconst 0, 1) := dk_9 (dk_at dksX8_whyNoWhose_1 20 rfl rfl)
theorem dX8_whyNoWhose_43 : decode cX8_whyNoWhose 43 = .ok (.ldc2_w 421, 3) := dk_20 1 165 (dk_at dksX8_whyNoWhose_1 21 rfl rfl)
theorem dX8_whyNoWhose_46 : decode cX8_whyNoWhose 46 = .ok (.invokestatic 105, 3) := dk_184 0 105 (dk_at dksX8_whyNoWhose_2 0 rfl rfl)
theorem dX8_whyNoWhose_49 : decode cX8_whyNoWhose 49 = .ok (.ifCond .ne 5, 3) := dk_154 0 5 (dk_at dksX8_whyNoWhose_2 3 rfl rfl)
theorem dX8_whyNoWhose_52 : decode cX8_whyNoWhose 52 = .ok (.iconst 5, 1) := dk_8 (dk_at dksX8_whyNoWhose_2 6 rfl rfl)
theorem dX8_whyNoWhose_53 : decode cX8_whyNoWhose 53 = .ok (.ireturn, 1) := dk_172 (dk_at dksX8_whyNoWhose_2 7 rfl rfl)
theorem dX8_whyNoWhose_54 : decode cX8_whyNoWhose 54 = .ok (.aload_n 0, 1) := dk_42 (dk_at dksX8_whyNoWhose_2 8 rfl rfl)
theorem dX8_whyNoWhose_55 : decode cX8_whyNoWhose 55 = .ok (.iconst 0, 1) := dk_3 (dk_at dksX8_whyNoWhose_2 9 rfl rfl)
theorem dX8_whyNoWhose_56 : decode cX8_whyNoWhose 56 = .ok (.putfield 423, 3) := dk_181 1 167 (dk_at dksX8_whyNoWhose_2 10 rfl rfl)
theorem dX8_whyNoWhose_59 : decode cX8_whyNoWhose 59 = .ok (.iconst 0, 1) := dk_3 (dk_at dksX8_whyNoWhose_2 13 rfl rfl)
theorem dX8_whyNoWhose_60 : decode cX8_whyNoWhose 60 = .ok (.istore_n 3, 1) := dk_62 (dk_at dksX8_whyNoWhose_2 14 rfl rfl)
theorem dX8_whyNoWhose_61 : decode cX8_whyNoWhose 61 = .ok (.iload_n 3, 1) := dk_29 (dk_at dksX8_whyNoWhose_2 15 rfl rfl)
theorem dX8_whyNoWhose_62 : decode cX8_whyNoWhose 62 = .ok (.iload_n 2, 1) := dk_28 (dk_at dksX8_whyNoWhose_2 16 rfl rfl)
theorem dX8_whyNoWhose_63 : decode cX8_whyNoWhose 63 = .ok (.if_icmp .ge 85, 3) := dk_162 0 85 (dk_at dksX8_whyNoWhose_2 17 rfl rfl)
theorem dX8_whyNoWhose_66 : decode cX8_whyNoWhose 66 = .ok (.aload_n 0, 1) := dk_42 (dk_at dksX8_whyNoWhose_2 20 rfl rfl)
theorem dX8_whyNoWhose_67 : decode cX8_whyNoWhose 67 = .ok (.aload_n 0, 1) := dk_42 (dk_at dksX8_whyNoWhose_2 21 rfl rfl)
theorem dX8_whyNoWhose_68 : decode cX8_whyNoWhose 68 = .ok (.iload_n 1, 1) := dk_27 (dk_at dksX8_whyNoWhose_2 22 rfl rfl)
theorem dX8_whyNoWhose_69 : decode cX8_whyNoWhose 69 = .ok (.iconst 2, 1) := dk_5 (dk_at dksX8_whyNoWhose_2 23 rfl rfl)
theorem dX8_whyNoWhose_70 : decode cX8_whyNoWhose 70 = .ok (.iload_n 3, 1) := dk_29 (dk_at dksX8_whyNoWhose_3 0 rfl rfl)
theorem dX8_whyNoWhose_71 : decode cX8_whyNoWhose 71 = .ok (.imul, 1) := dk_104 (dk_at dksX8_whyNoWhose_3 1 rfl rfl)
theorem dX8_whyNoWhose_72 : decode cX8_whyNoWhose 72 = .ok (.invokevirtual 426, 3) := dk_182 1 170 (dk_at dksX8_whyNoWhose_3 2 rfl rfl)
theorem dX8_whyNoWhose_75 : decode cX8_whyNoWhose 75 = .ok (.invokevirtual 336, 3) := dk_182 1 80 (dk_at dksX8_whyNoWhose_3 5 rfl rfl)
theorem dX8_whyNoWhose_78 : decode cX8_whyNoWhose 78 = .ok (.ifCond .eq 42, 3) := dk_153 0 42 (dk_at dksX8_whyNoWhose_3 8 rfl rfl)
theorem dX8_whyNoWhose_81 : decode cX8_whyNoWhose 81 = .ok (.aload_n 0, 1) := dk_42 (dk_at dksX8_whyNoWhose_3 11 rfl rfl)
theorem dX8_whyNoWhose_82 : decode cX8_whyNoWhose 82 = .ok (.getfield 423, 3) := dk_180 1 167 (dk_at dksX8_whyNoWhose_3 12 rfl rfl)
theorem dX8_whyNoWhose_85 : decode cX8_whyNoWhose 85 = .ok (.aload_n 0, 1) := dk_42 (dk_at dksX8_whyNoWhose_3 15 rfl rfl)
theorem dX8_whyNoWhose_86 : decode cX8_whyNoWhose 86 = .ok (.iload_n 1, 1) := dk_27 (dk_at dksX8_whyNoWhose_3 16 rfl rfl)
theorem dX8_whyNoWhose_87 : decode cX8_whyNoWhose 87 = .ok (.iconst 2, 1) := dk_5 (dk_at dksX8_whyNoWhose_3 17 rfl rfl)
theorem dX8_whyNoWhose_88 : decode cX8_whyNoWhose 88 = .ok (.iload_n 3, 1) := dk_29 (dk_at dksX8_whyNoWhose_3 18 rfl rfl)
theorem dX8_whyNoWhose_89 : decode cX8_whyNoWhose 89 = .ok (.imul, 1) := dk_104 (dk_at dksX8_whyNoWhose_3 19 rfl rfl)
theorem dX8_whyNoWhose_90 : decode cX8_whyNoWhose 90 = .ok (.invokevirtual 426, 3) := dk_182 1 170 (dk_at dksX8_whyNoWhose_3 20 rfl rfl)
theorem dX8_whyNoWhose_93 : decode cX8_whyNoWhose 93 = .ok (.l2i, 1) := dk_136 (dk_at dksX8_whyNoWhose_3 23 rfl rfl)
theorem dX8_whyNoWhose_94 : decode cX8_whyNoWhose 94 = .ok (.invokestatic 109, 3) := dk_184 0 109 (dk_at dksX8_whyNoWhose_4 0 rfl rfl)
theorem dX8_whyNoWhose_97 : decode cX8_whyNoWhose 97 = .ok (.ifCond .ne 23, 3) := dk_154 0 23 (dk_at dksX8_whyNoWhose_4 3 rfl rfl)
theorem dX8_whyNoWhose_100 : decode cX8_whyNoWhose 100 = .ok (.aload_n 0, 1) := dk_42 (dk_at dksX8_whyNoWhose_4 6 rfl rfl)
theorem dX8_whyNoWhose_101 : decode cX8_whyNoWhose 101 = .ok (.iload_n 1, 1) := dk_27 (dk_at dksX8_whyNoWhose_4 7 rfl rfl)
theorem dX8_whyNoWhose_102 : decode cX8_whyNoWhose 102 = .ok (.iconst 2, 1) := dk_5 (dk_at dksX8_whyNoWhose_4 8 rfl rfl)
theorem dX8_whyNoWhose_103 : decode cX8_whyNoWhose 103 = .ok (.iload_n 3, 1) := dk_29 (dk_at dksX8_whyNoWhose_4 9 rfl rfl)
theorem dX8_whyNoWhose_104 : decode cX8_whyNoWhose 104 = .ok (.imul, 1) := dk_104 (dk_at dksX8_whyNoWhose_4 10 rfl rfl)
theorem dX8_whyNoWhose_105 : decode cX8_whyNoWhose 105 = .ok (.iconst 1, 1) := dk_4 (dk_at dksX8_whyNoWhose_4 11 rfl rfl)
theorem dX8_whyNoWhose_106 : decode cX8_whyNoWhose 106 = .ok (.iadd, 1) := dk_96 (dk_at dksX8_whyNoWhose_4 12 rfl rfl)
theorem dX8_whyNoWhose_107 : decode cX8_whyNoWhose 107 = .ok (.invokevirtual 426, 3) := dk_182 1 170 (dk_at dksX8_whyNoWhose_4 13 rfl rfl)
theorem dX8_whyNoWhose_110 : decode cX8_whyNoWhose 110 = .ok (.lconst 0, 1) := dk_9 (dk_at dksX8_whyNoWhose_4 16 rfl rfl)
theorem dX8_whyNoWhose_111 : decode cX8_whyNoWhose 111 = .ok (.ldc2_w 430, 3) := dk_20 1 174 (dk_at dksX8_whyNoWhose_4 17 rfl rfl)
theorem dX8_whyNoWhose_114 : decode cX8_whyNoWhose 114 = .ok (.invokestatic 105, 3) := dk_184 0 105 (dk_at dksX8_whyNoWhose_4 20 rfl rfl)
theorem dX8_whyNoWhose_117 : decode cX8_whyNoWhose 117 = .ok (.ifCond .ne 5, 3) := dk_154 0 5 (dk_at dksX8_whyNoWhose_5 0 rfl rfl)
theorem dX8_whyNoWhose_120 : decode cX8_whyNoWhose 120 = .ok (.iconst 5, 1) := dk_8 (dk_at dksX8_whyNoWhose_5 3 rfl rfl)
theorem dX8_whyNoWhose_121 : decode cX8_whyNoWhose 121 = .ok (.ireturn, 1) := dk_172 (dk_at dksX8_whyNoWhose_5 4 rfl rfl)
theorem dX8_whyNoWhose_122 : decode cX8_whyNoWhose 122 = .ok (.aload_n 0, 1) := dk_42 (dk_at dksX8_whyNoWhose_5 5 rfl rfl)
theorem dX8_whyNoWhose_123 : decode cX8_whyNoWhose 123 = .ok (.dup, 1) := dk_89 (dk_at dksX8_whyNoWhose_5 6 rfl rfl)
theorem dX8_whyNoWhose_124 : decode cX8_whyNoWhose 124 = .ok (.getfield 423, 3) := dk_180 1 167 (dk_at dksX8_whyNoWhose_5 7 rfl rfl)
theorem dX8_whyNoWhose_127 : decode cX8_whyNoWhose 127 = .ok (.iconst 1, 1) := dk_4 (dk_at dksX8_whyNoWhose_5 10 rfl rfl)
theorem dX8_whyNoWhose_128 : decode cX8_whyNoWhose 128 = .ok (.aload_n 0, 1) := dk_42 (dk_at dksX8_whyNoWhose_5 11 rfl rfl)
theorem dX8_whyNoWhose_129 : decode cX8_whyNoWhose 129 = .ok (.iload_n 1, 1) := dk_27 (dk_at dksX8_whyNoWhose_5 12 rfl rfl)
theorem dX8_whyNoWhose_130 : decode cX8_whyNoWhose 130 = .ok (.iconst 2, 1) := dk_5 (dk_at dksX8_whyNoWhose_5 13 rfl rfl)
theorem dX8_whyNoWhose_131 : decode cX8_whyNoWhose 131 = .ok (.iload_n 3, 1) := dk_29 (dk_at dksX8_whyNoWhose_5 14 rfl rfl)
theorem dX8_whyNoWhose_132 : decode cX8_whyNoWhose 132 = .ok (.imul, 1) := dk_104 (dk_at dksX8_whyNoWhose_5 15 rfl rfl)
theorem dX8_whyNoWhose_133 : decode cX8_whyNoWhose 133 = .ok (.invokevirtual 426, 3) := dk_182 1 170 (dk_at dksX8_whyNoWhose_5 16 rfl rfl)
theorem dX8_whyNoWhose_136 : decode cX8_whyNoWhose 136 = .ok (.l2i, 1) := dk_136 (dk_at dksX8_whyNoWhose_5 19 rfl rfl)
theorem dX8_whyNoWhose_137 : decode cX8_whyNoWhose 137 = .ok (.ishl, 1) := dk_120 (dk_at dksX8_whyNoWhose_5 20 rfl rfl)
theorem dX8_whyNoWhose_138 : decode cX8_whyNoWhose 138 = .ok (.ior, 1) := dk_128 (dk_at dksX8_whyNoWhose_5 21 rfl rfl)
theorem dX8_whyNoWhose_139 : decode cX8_whyNoWhose 139 = .ok (.putfield 423, 3) := dk_181 1 167 (dk_at dksX8_whyNoWhose_6 0 rfl rfl)
theorem dX8_whyNoWhose_142 : decode cX8_whyNoWhose 142 = .ok (.iinc 3 1, 3) := dk_132 3 1 (dk_at dksX8_whyNoWhose_6 3 rfl rfl)
theorem dX8_whyNoWhose_145 : decode cX8_whyNoWhose 145 = .ok (.goto (-84), 3) := dk_167 255 172 (dk_at dksX8_whyNoWhose_6 6 rfl rfl)
theorem dX8_whyNoWhose_148 : decode cX8_whyNoWhose 148 = .ok (.iconst 0, 1) := dk_3 (dk_at dksX8_whyNoWhose_6 9 rfl rfl)
theorem dX8_whyNoWhose_149 : decode cX8_whyNoWhose 149 = .ok (.ireturn, 1) := dk_172 (dk_at dksX8_whyNoWhose_6 10 rfl rfl)
abbrev cX8_numberOf : ByteArray := prog_14_method_17_code
def yX8_numberOf : MethodName := ⟨RX8, "numberOf", "(II)J"⟩
def dkwX8_numberOf_0 : List UInt8 := [42, 180, 0, 20, 16, 60, 27, 104, 28, 96, 47, 173]
abbrev dktX8_numberOf_0 : List UInt8 := dkwX8_numberOf_0 ++ []
theorem dksX8_numberOf_0 : cX8_numberOf.data.toList.drop 0 = dktX8_numberOf_0 := by decide +kernel
theorem dX8_numberOf_0 : decode cX8_numberOf 0 = .ok (.aload_n 0, 1) := dk_42 (dk_at dksX8_numberOf_0 0 rfl rfl)
theorem dX8_numberOf_1 : decode cX8_numberOf 1 = .ok (.getfield 20, 3) := dk_180 0 20 (dk_at dksX8_numberOf_0 1 rfl rfl)
theorem dX8_numberOf_4 : decode cX8_numberOf 4 = .ok (.bipush 60, 2) := dk_16 60 (dk_at dksX8_numberOf_0 4 rfl rfl)
theorem dX8_numberOf_6 : decode cX8_numberOf 6 = .ok (.iload_n 1, 1) := dk_27 (dk_at dksX8_numberOf_0 6 rfl rfl)
theorem dX8_numberOf_7 : decode cX8_numberOf 7 = .ok (.imul, 1) := dk_104 (dk_at dksX8_numberOf_0 7 rfl rfl)
theorem dX8_numberOf_8 : decode cX8_numberOf 8 = .ok (.iload_n 2, 1) := dk_28 (dk_at dksX8_numberOf_0 8 rfl rfl)
theorem dX8_numberOf_9 : decode cX8_numberOf 9 = .ok (.iadd, 1) := dk_96 (dk_at dksX8_numberOf_0 9 rfl rfl)
theorem dX8_numberOf_10 : decode cX8_numberOf 10 = .ok (.laload, 1) := dk_47 (dk_at dksX8_numberOf_0 10 rfl rfl)
theorem dX8_numberOf_11 : decode cX8_numberOf 11 = .ok (.lreturn, 1) := dk_173 (dk_at dksX8_numberOf_0 11 rfl rfl)
abbrev cX8_laysWhose : ByteArray := prog_14_method_129_code
def yX8_laysWhose : MethodName := ⟨RX8, "laysWhose", "(II)V"⟩
def dkwX8_laysWhose_6 : List UInt8 := [167, 255, 128, 177]
abbrev dktX8_laysWhose_6 : List UInt8 := dkwX8_laysWhose_6 ++ []
def dkwX8_laysWhose_5 : List UInt8 := [89, 180, 1, 176, 4, 96, 181, 1, 176, 42, 89, 180, 1, 179, 29, 126, 181, 1, 179, 132, 3, 1]
abbrev dktX8_laysWhose_5 : List UInt8 := dkwX8_laysWhose_5 ++ dktX8_laysWhose_6
def dkwX8_laysWhose_4 : List UInt8 := [167, 0, 4, 3, 84, 132, 4, 1, 167, 255, 188, 42, 180, 0, 56, 29, 51, 154, 0, 6, 167, 0, 23, 42]
abbrev dktX8_laysWhose_4 : List UInt8 := dkwX8_laysWhose_4 ++ dktX8_laysWhose_5
def dkwX8_laysWhose_3 : List UInt8 := [136, 96, 46, 126, 184, 1, 140, 133, 42, 27, 5, 21, 4, 104, 4, 96, 182, 1, 170, 148, 154, 0, 7, 4]
abbrev dktX8_laysWhose_3 : List UInt8 := dkwX8_laysWhose_3 ++ dktX8_laysWhose_4
def dkwX8_laysWhose_2 : List UInt8 := [180, 0, 56, 29, 51, 153, 0, 46, 29, 42, 180, 0, 35, 16, 12, 42, 27, 5, 21, 4, 104, 182, 1, 170]
abbrev dktX8_laysWhose_2 : List UInt8 := dkwX8_laysWhose_2 ++ dktX8_laysWhose_3
def dkwX8_laysWhose_1 : List UInt8 := [42, 180, 0, 56, 29, 4, 84, 3, 54, 4, 21, 4, 28, 162, 0, 68, 42, 180, 0, 56, 29, 42]
abbrev dktX8_laysWhose_1 : List UInt8 := dkwX8_laysWhose_1 ++ dktX8_laysWhose_2
def dkwX8_laysWhose_0 : List UInt8 := [42, 3, 181, 1, 176, 42, 2, 181, 1, 179, 3, 62, 29, 4, 42, 180, 0, 35, 3, 46, 120, 162, 0, 122]
abbrev dktX8_laysWhose_0 : List UInt8 := dkwX8_laysWhose_0 ++ dktX8_laysWhose_1
theorem dksX8_laysWhose_0 : cX8_laysWhose.data.toList.drop 0 = dktX8_laysWhose_0 := by decide +kernel
theorem dksX8_laysWhose_1 : cX8_laysWhose.data.toList.drop 24 = dktX8_laysWhose_1 := dk_seg dksX8_laysWhose_0 24 rfl rfl
theorem dksX8_laysWhose_2 : cX8_laysWhose.data.toList.drop 46 = dktX8_laysWhose_2 := dk_seg dksX8_laysWhose_1 22 rfl rfl
theorem dksX8_laysWhose_3 : cX8_laysWhose.data.toList.drop 70 = dktX8_laysWhose_3 := dk_seg dksX8_laysWhose_2 24 rfl rfl
theorem dksX8_laysWhose_4 : cX8_laysWhose.data.toList.drop 94 = dktX8_laysWhose_4 := dk_seg dksX8_laysWhose_3 24 rfl rfl
theorem dksX8_laysWhose_5 : cX8_laysWhose.data.toList.drop 118 = dktX8_laysWhose_5 := dk_seg dksX8_laysWhose_4 24 rfl rfl
theorem dksX8_laysWhose_6 : cX8_laysWhose.data.toList.drop 140 = dktX8_laysWhose_6 := dk_seg dksX8_laysWhose_5 22 rfl rfl
theorem dX8_laysWhose_0 : decode cX8_laysWhose 0 = .ok (.aload_n 0, 1) := dk_42 (dk_at dksX8_laysWhose_0 0 rfl rfl)
theorem dX8_laysWhose_1 : decode cX8_laysWhose 1 = .ok (.iconst 0, 1) := dk_3 (dk_at dksX8_laysWhose_0 1 rfl rfl)
theorem dX8_laysWhose_2 : decode cX8_laysWhose 2 = .ok (.putfield 432, 3) := dk_181 1 176 (dk_at dksX8_laysWhose_0 2 rfl rfl)
theorem dX8_laysWhose_5 : decode cX8_laysWhose 5 = .ok (.aload_n 0, 1) := dk_42 (dk_at dksX8_laysWhose_0 5 rfl rfl)
theorem dX8_laysWhose_6 : decode cX8_laysWhose 6 = .ok (.iconst (-1), 1) := dk_2 (dk_at dksX8_laysWhose_0 6 rfl rfl)
theorem dX8_laysWhose_7 : decode cX8_laysWhose 7 = .ok (.putfield 435, 3) := dk_181 1 179 (dk_at dksX8_laysWhose_0 7 rfl rfl)
theorem dX8_laysWhose_10 : decode cX8_laysWhose 10 = .ok (.iconst 0, 1) := dk_3 (dk_at dksX8_laysWhose_0 10 rfl rfl)
theorem dX8_laysWhose_11 : decode cX8_laysWhose 11 = .ok (.istore_n 3, 1) := dk_62 (dk_at dksX8_laysWhose_0 11 rfl rfl)
theorem dX8_laysWhose_12 : decode cX8_laysWhose 12 = .ok (.iload_n 3, 1) := dk_29 (dk_at dksX8_laysWhose_0 12 rfl rfl)
theorem dX8_laysWhose_13 : decode cX8_laysWhose 13 = .ok (.iconst 1, 1) := dk_4 (dk_at dksX8_laysWhose_0 13 rfl rfl)
theorem dX8_laysWhose_14 : decode cX8_laysWhose 14 = .ok (.aload_n 0, 1) := dk_42 (dk_at dksX8_laysWhose_0 14 rfl rfl)
theorem dX8_laysWhose_15 : decode cX8_laysWhose 15 = .ok (.getfield 35, 3) := dk_180 0 35 (dk_at dksX8_laysWhose_0 15 rfl rfl)
theorem dX8_laysWhose_18 : decode cX8_laysWhose 18 = .ok (.iconst 0, 1) := dk_3 (dk_at dksX8_laysWhose_0 18 rfl rfl)
theorem dX8_laysWhose_19 : decode cX8_laysWhose 19 = .ok (.iaload, 1) := dk_46 (dk_at dksX8_laysWhose_0 19 rfl rfl)
theorem dX8_laysWhose_20 : decode cX8_laysWhose 20 = .ok (.ishl, 1) := dk_120 (dk_at dksX8_laysWhose_0 20 rfl rfl)
theorem dX8_laysWhose_21 : decode cX8_laysWhose 21 = .ok (.if_icmp .ge 122, 3) := dk_162 0 122 (dk_at dksX8_laysWhose_0 21 rfl rfl)
theorem dX8_laysWhose_24 : decode cX8_laysWhose 24 = .ok (.aload_n 0, 1) := dk_42 (dk_at dksX8_laysWhose_1 0 rfl rfl)
theorem dX8_laysWhose_25 : decode cX8_laysWhose 25 = .ok (.getfield 56, 3) := dk_180 0 56 (dk_at dksX8_laysWhose_1 1 rfl rfl)
theorem dX8_laysWhose_28 : decode cX8_laysWhose 28 = .ok (.iload_n 3, 1) := dk_29 (dk_at dksX8_laysWhose_1 4 rfl rfl)
theorem dX8_laysWhose_29 : decode cX8_laysWhose 29 = .ok (.iconst 1, 1) := dk_4 (dk_at dksX8_laysWhose_1 5 rfl rfl)
theorem dX8_laysWhose_30 : decode cX8_laysWhose 30 = .ok (.bastore, 1) := dk_84 (dk_at dksX8_laysWhose_1 6 rfl rfl)
theorem dX8_laysWhose_31 : decode cX8_laysWhose 31 = .ok (.iconst 0, 1) := dk_3 (dk_at dksX8_laysWhose_1 7 rfl rfl)
theorem dX8_laysWhose_32 : decode cX8_laysWhose 32 = .ok (.istore 4, 2) := dk_54 4 (dk_at dksX8_laysWhose_1 8 rfl rfl)
theorem dX8_laysWhose_34 : decode cX8_laysWhose 34 = .ok (.iload 4, 2) := dk_21 4 (dk_at dksX8_laysWhose_1 10 rfl rfl)
theorem dX8_laysWhose_36 : decode cX8_laysWhose 36 = .ok (.iload_n 2, 1) := dk_28 (dk_at dksX8_laysWhose_1 12 rfl rfl)
theorem dX8_laysWhose_37 : decode cX8_laysWhose 37 = .ok (.if_icmp .ge 68, 3) := dk_162 0 68 (dk_at dksX8_laysWhose_1 13 rfl rfl)
theorem dX8_laysWhose_40 : decode cX8_laysWhose 40 = .ok (.aload_n 0, 1) := dk_42 (dk_at dksX8_laysWhose_1 16 rfl rfl)
theorem dX8_laysWhose_41 : decode cX8_laysWhose 41 = .ok (.getfield 56, 3) := dk_180 0 56 (dk_at dksX8_laysWhose_1 17 rfl rfl)
theorem dX8_laysWhose_44 : decode cX8_laysWhose 44 = .ok (.iload_n 3, 1) := dk_29 (dk_at dksX8_laysWhose_1 20 rfl rfl)
theorem dX8_laysWhose_45 : decode cX8_laysWhose 45 = .ok (.aload_n 0, 1) := dk_42 (dk_at dksX8_laysWhose_1 21 rfl rfl)
theorem dX8_laysWhose_46 : decode cX8_laysWhose 46 = .ok (.getfield 56, 3) := dk_180 0 56 (dk_at dksX8_laysWhose_2 0 rfl rfl)
theorem dX8_laysWhose_49 : decode cX8_laysWhose 49 = .ok (.iload_n 3, 1) := dk_29 (dk_at dksX8_laysWhose_2 3 rfl rfl)
theorem dX8_laysWhose_50 : decode cX8_laysWhose 50 = .ok (.baload, 1) := dk_51 (dk_at dksX8_laysWhose_2 4 rfl rfl)
theorem dX8_laysWhose_51 : decode cX8_laysWhose 51 = .ok (.ifCond .eq 46, 3) := dk_153 0 46 (dk_at dksX8_laysWhose_2 5 rfl rfl)
theorem dX8_laysWhose_54 : decode cX8_laysWhose 54 = .ok (.iload_n 3, 1) := dk_29 (dk_at dksX8_laysWhose_2 8 rfl rfl)
theorem dX8_laysWhose_55 : decode cX8_laysWhose 55 = .ok (.aload_n 0, 1) := dk_42 (dk_at dksX8_laysWhose_2 9 rfl rfl)
theorem dX8_laysWhose_56 : decode cX8_laysWhose 56 = .ok (.getfield 35, 3) := dk_180 0 35 (dk_at dksX8_laysWhose_2 10 rfl rfl)
theorem dX8_laysWhose_59 : decode cX8_laysWhose 59 = .ok (.bipush 12, 2) := dk_16 12 (dk_at dksX8_laysWhose_2 13 rfl rfl)
theorem dX8_laysWhose_61 : decode cX8_laysWhose 61 = .ok (.aload_n 0, 1) := dk_42 (dk_at dksX8_laysWhose_2 15 rfl rfl)
theorem dX8_laysWhose_62 : decode cX8_laysWhose 62 = .ok (.iload_n 1, 1) := dk_27 (dk_at dksX8_laysWhose_2 16 rfl rfl)
theorem dX8_laysWhose_63 : decode cX8_laysWhose 63 = .ok (.iconst 2, 1) := dk_5 (dk_at dksX8_laysWhose_2 17 rfl rfl)
theorem dX8_laysWhose_64 : decode cX8_laysWhose 64 = .ok (.iload 4, 2) := dk_21 4 (dk_at dksX8_laysWhose_2 18 rfl rfl)
theorem dX8_laysWhose_66 : decode cX8_laysWhose 66 = .ok (.imul, 1) := dk_104 (dk_at dksX8_laysWhose_2 20 rfl rfl)
theorem dX8_laysWhose_67 : decode cX8_laysWhose 67 = .ok (.invokevirtual 426, 3) := dk_182 1 170 (dk_at dksX8_laysWhose_2 21 rfl rfl)
theorem dX8_laysWhose_70 : decode cX8_laysWhose 70 = .ok (.l2i, 1) := dk_136 (dk_at dksX8_laysWhose_3 0 rfl rfl)
theorem dX8_laysWhose_71 : decode cX8_laysWhose 71 = .ok (.iadd, 1) := dk_96 (dk_at dksX8_laysWhose_3 1 rfl rfl)
theorem dX8_laysWhose_72 : decode cX8_laysWhose 72 = .ok (.iaload, 1) := dk_46 (dk_at dksX8_laysWhose_3 2 rfl rfl)
theorem dX8_laysWhose_73 : decode cX8_laysWhose 73 = .ok (.iand, 1) := dk_126 (dk_at dksX8_laysWhose_3 3 rfl rfl)
theorem dX8_laysWhose_74 : decode cX8_laysWhose 74 = .ok (.invokestatic 396, 3) := dk_184 1 140 (dk_at dksX8_laysWhose_3 4 rfl rfl)
theorem dX8_laysWhose_77 : decode cX8_laysWhose 77 = .ok (.i2l, 1) := dk_133 (dk_at dksX8_laysWhose_3 7 rfl rfl)
theorem dX8_laysWhose_78 : decode cX8_laysWhose 78 = .ok (.aload_n 0, 1) := dk_42 (dk_at dksX8_laysWhose_3 8 rfl rfl)
theorem dX8_laysWhose_79 : decode cX8_laysWhose 79 = .ok (.iload_n 1, 1) := dk_27 (dk_at dksX8_laysWhose_3 9 rfl rfl)
theorem dX8_laysWhose_80 : decode cX8_laysWhose 80 = .ok (.iconst 2, 1) := dk_5 (dk_at dksX8_laysWhose_3 10 rfl rfl)
theorem dX8_laysWhose_81 : decode cX8_laysWhose 81 = .ok (.iload 4, 2) := dk_21 4 (dk_at dksX8_laysWhose_3 11 rfl rfl)
theorem dX8_laysWhose_83 : decode cX8_laysWhose 83 = .ok (.imul, 1) := dk_104 (dk_at dksX8_laysWhose_3 13 rfl rfl)
theorem dX8_laysWhose_84 : decode cX8_laysWhose 84 = .ok (.iconst 1, 1) := dk_4 (dk_at dksX8_laysWhose_3 14 rfl rfl)
theorem dX8_laysWhose_85 : decode cX8_laysWhose 85 = .ok (.iadd, 1) := dk_96 (dk_at dksX8_laysWhose_3 15 rfl rfl)
theorem dX8_laysWhose_86 : decode cX8_laysWhose 86 = .ok (.invokevirtual 426, 3) := dk_182 1 170 (dk_at dksX8_laysWhose_3 16 rfl rfl)
theorem dX8_laysWhose_89 : decode cX8_laysWhose 89 = .ok (.lcmp, 1) := dk_148 (dk_at dksX8_laysWhose_3 19 rfl rfl)
theorem dX8_laysWhose_90 : decode cX8_laysWhose 90 = .ok (.ifCond .ne 7, 3) := dk_154 0 7 (dk_at dksX8_laysWhose_3 20 rfl rfl)
theorem dX8_laysWhose_93 : decode cX8_laysWhose 93 = .ok (.iconst 1, 1) := dk_4 (dk_at dksX8_laysWhose_3 23 rfl rfl)
theorem dX8_laysWhose_94 : decode cX8_laysWhose 94 = .ok (.goto 4, 3) := dk_167 0 4 (dk_at dksX8_laysWhose_4 0 rfl rfl)
theorem dX8_laysWhose_97 : decode cX8_laysWhose 97 = .ok (.iconst 0, 1) := dk_3 (dk_at dksX8_laysWhose_4 3 rfl rfl)
theorem dX8_laysWhose_98 : decode cX8_laysWhose 98 = .ok (.bastore, 1) := dk_84 (dk_at dksX8_laysWhose_4 4 rfl rfl)
theorem dX8_laysWhose_99 : decode cX8_laysWhose 99 = .ok (.iinc 4 1, 3) := dk_132 4 1 (dk_at dksX8_laysWhose_4 5 rfl rfl)
theorem dX8_laysWhose_102 : decode cX8_laysWhose 102 = .ok (.goto (-68), 3) := dk_167 255 188 (dk_at dksX8_laysWhose_4 8 rfl rfl)
theorem dX8_laysWhose_105 : decode cX8_laysWhose 105 = .ok (.aload_n 0, 1) := dk_42 (dk_at dksX8_laysWhose_4 11 rfl rfl)
theorem dX8_laysWhose_106 : decode cX8_laysWhose 106 = .ok (.getfield 56, 3) := dk_180 0 56 (dk_at dksX8_laysWhose_4 12 rfl rfl)
theorem dX8_laysWhose_109 : decode cX8_laysWhose 109 = .ok (.iload_n 3, 1) := dk_29 (dk_at dksX8_laysWhose_4 15 rfl rfl)
theorem dX8_laysWhose_110 : decode cX8_laysWhose 110 = .ok (.baload, 1) := dk_51 (dk_at dksX8_laysWhose_4 16 rfl rfl)
theorem dX8_laysWhose_111 : decode cX8_laysWhose 111 = .ok (.ifCond .ne 6, 3) := dk_154 0 6 (dk_at dksX8_laysWhose_4 17 rfl rfl)
theorem dX8_laysWhose_114 : decode cX8_laysWhose 114 = .ok (.goto 23, 3) := dk_167 0 23 (dk_at dksX8_laysWhose_4 20 rfl rfl)
theorem dX8_laysWhose_117 : decode cX8_laysWhose 117 = .ok (.aload_n 0, 1) := dk_42 (dk_at dksX8_laysWhose_4 23 rfl rfl)
theorem dX8_laysWhose_118 : decode cX8_laysWhose 118 = .ok (.dup, 1) := dk_89 (dk_at dksX8_laysWhose_5 0 rfl rfl)
theorem dX8_laysWhose_119 : decode cX8_laysWhose 119 = .ok (.getfield 432, 3) := dk_180 1 176 (dk_at dksX8_laysWhose_5 1 rfl rfl)
theorem dX8_laysWhose_122 : decode cX8_laysWhose 122 = .ok (.iconst 1, 1) := dk_4 (dk_at dksX8_laysWhose_5 4 rfl rfl)
theorem dX8_laysWhose_123 : decode cX8_laysWhose 123 = .ok (.iadd, 1) := dk_96 (dk_at dksX8_laysWhose_5 5 rfl rfl)
theorem dX8_laysWhose_124 : decode cX8_laysWhose 124 = .ok (.putfield 432, 3) := dk_181 1 176 (dk_at dksX8_laysWhose_5 6 rfl rfl)
theorem dX8_laysWhose_127 : decode cX8_laysWhose 127 = .ok (.aload_n 0, 1) := dk_42 (dk_at dksX8_laysWhose_5 9 rfl rfl)
theorem dX8_laysWhose_128 : decode cX8_laysWhose 128 = .ok (.dup, 1) := dk_89 (dk_at dksX8_laysWhose_5 10 rfl rfl)
theorem dX8_laysWhose_129 : decode cX8_laysWhose 129 = .ok (.getfield 435, 3) := dk_180 1 179 (dk_at dksX8_laysWhose_5 11 rfl rfl)
theorem dX8_laysWhose_132 : decode cX8_laysWhose 132 = .ok (.iload_n 3, 1) := dk_29 (dk_at dksX8_laysWhose_5 14 rfl rfl)
theorem dX8_laysWhose_133 : decode cX8_laysWhose 133 = .ok (.iand, 1) := dk_126 (dk_at dksX8_laysWhose_5 15 rfl rfl)
theorem dX8_laysWhose_134 : decode cX8_laysWhose 134 = .ok (.putfield 435, 3) := dk_181 1 179 (dk_at dksX8_laysWhose_5 16 rfl rfl)
theorem dX8_laysWhose_137 : decode cX8_laysWhose 137 = .ok (.iinc 3 1, 3) := dk_132 3 1 (dk_at dksX8_laysWhose_5 19 rfl rfl)
theorem dX8_laysWhose_140 : decode cX8_laysWhose 140 = .ok (.goto (-128), 3) := dk_167 255 128 (dk_at dksX8_laysWhose_6 0 rfl rfl)
theorem dX8_laysWhose_143 : decode cX8_laysWhose 143 = .ok (.return_, 1) := dk_177 (dk_at dksX8_laysWhose_6 3 rfl rfl)
abbrev cX8_sure : ByteArray := prog_14_method_131_code
def yX8_sure : MethodName := ⟨RX8, "sure", "(II)I"⟩
def dkwX8_sure_2 : List UInt8 := [180, 1, 179, 172]
abbrev dktX8_sure_2 : List UInt8 := dkwX8_sure_2 ++ []
def dkwX8_sure_1 : List UInt8 := [42, 27, 28, 182, 1, 185, 42, 180, 1, 176, 154, 0, 12, 42, 16, 8, 182, 1, 71, 167, 0, 7, 42]
abbrev dktX8_sure_1 : List UInt8 := dkwX8_sure_1 ++ dktX8_sure_2
def dkwX8_sure_0 : List UInt8 := [42, 3, 181, 0, 70, 42, 42, 27, 28, 182, 1, 182, 181, 0, 73, 42, 180, 0, 73, 158, 0, 5, 2, 172]
abbrev dktX8_sure_0 : List UInt8 := dkwX8_sure_0 ++ dktX8_sure_1
theorem dksX8_sure_0 : cX8_sure.data.toList.drop 0 = dktX8_sure_0 := by decide +kernel
theorem dksX8_sure_1 : cX8_sure.data.toList.drop 24 = dktX8_sure_1 := dk_seg dksX8_sure_0 24 rfl rfl
theorem dksX8_sure_2 : cX8_sure.data.toList.drop 47 = dktX8_sure_2 := dk_seg dksX8_sure_1 23 rfl rfl
theorem dX8_sure_0 : decode cX8_sure 0 = .ok (.aload_n 0, 1) := dk_42 (dk_at dksX8_sure_0 0 rfl rfl)
theorem dX8_sure_1 : decode cX8_sure 1 = .ok (.iconst 0, 1) := dk_3 (dk_at dksX8_sure_0 1 rfl rfl)
theorem dX8_sure_2 : decode cX8_sure 2 = .ok (.putfield 70, 3) := dk_181 0 70 (dk_at dksX8_sure_0 2 rfl rfl)
theorem dX8_sure_5 : decode cX8_sure 5 = .ok (.aload_n 0, 1) := dk_42 (dk_at dksX8_sure_0 5 rfl rfl)
theorem dX8_sure_6 : decode cX8_sure 6 = .ok (.aload_n 0, 1) := dk_42 (dk_at dksX8_sure_0 6 rfl rfl)
theorem dX8_sure_7 : decode cX8_sure 7 = .ok (.iload_n 1, 1) := dk_27 (dk_at dksX8_sure_0 7 rfl rfl)
theorem dX8_sure_8 : decode cX8_sure 8 = .ok (.iload_n 2, 1) := dk_28 (dk_at dksX8_sure_0 8 rfl rfl)
theorem dX8_sure_9 : decode cX8_sure 9 = .ok (.invokevirtual 438, 3) := dk_182 1 182 (dk_at dksX8_sure_0 9 rfl rfl)
theorem dX8_sure_12 : decode cX8_sure 12 = .ok (.putfield 73, 3) := dk_181 0 73 (dk_at dksX8_sure_0 12 rfl rfl)
theorem dX8_sure_15 : decode cX8_sure 15 = .ok (.aload_n 0, 1) := dk_42 (dk_at dksX8_sure_0 15 rfl rfl)
theorem dX8_sure_16 : decode cX8_sure 16 = .ok (.getfield 73, 3) := dk_180 0 73 (dk_at dksX8_sure_0 16 rfl rfl)
theorem dX8_sure_19 : decode cX8_sure 19 = .ok (.ifCond .le 5, 3) := dk_158 0 5 (dk_at dksX8_sure_0 19 rfl rfl)
theorem dX8_sure_22 : decode cX8_sure 22 = .ok (.iconst (-1), 1) := dk_2 (dk_at dksX8_sure_0 22 rfl rfl)
theorem dX8_sure_23 : decode cX8_sure 23 = .ok (.ireturn, 1) := dk_172 (dk_at dksX8_sure_0 23 rfl rfl)
theorem dX8_sure_24 : decode cX8_sure 24 = .ok (.aload_n 0, 1) := dk_42 (dk_at dksX8_sure_1 0 rfl rfl)
theorem dX8_sure_25 : decode cX8_sure 25 = .ok (.iload_n 1, 1) := dk_27 (dk_at dksX8_sure_1 1 rfl rfl)
theorem dX8_sure_26 : decode cX8_sure 26 = .ok (.iload_n 2, 1) := dk_28 (dk_at dksX8_sure_1 2 rfl rfl)
theorem dX8_sure_27 : decode cX8_sure 27 = .ok (.invokevirtual 441, 3) := dk_182 1 185 (dk_at dksX8_sure_1 3 rfl rfl)
theorem dX8_sure_30 : decode cX8_sure 30 = .ok (.aload_n 0, 1) := dk_42 (dk_at dksX8_sure_1 6 rfl rfl)
theorem dX8_sure_31 : decode cX8_sure 31 = .ok (.getfield 432, 3) := dk_180 1 176 (dk_at dksX8_sure_1 7 rfl rfl)
theorem dX8_sure_34 : decode cX8_sure 34 = .ok (.ifCond .ne 12, 3) := dk_154 0 12 (dk_at dksX8_sure_1 10 rfl rfl)
theorem dX8_sure_37 : decode cX8_sure 37 = .ok (.aload_n 0, 1) := dk_42 (dk_at dksX8_sure_1 13 rfl rfl)
theorem dX8_sure_38 : decode cX8_sure 38 = .ok (.bipush 8, 2) := dk_16 8 (dk_at dksX8_sure_1 14 rfl rfl)
theorem dX8_sure_40 : decode cX8_sure 40 = .ok (.invokevirtual 327, 3) := dk_182 1 71 (dk_at dksX8_sure_1 16 rfl rfl)
theorem dX8_sure_43 : decode cX8_sure 43 = .ok (.goto 7, 3) := dk_167 0 7 (dk_at dksX8_sure_1 19 rfl rfl)
theorem dX8_sure_46 : decode cX8_sure 46 = .ok (.aload_n 0, 1) := dk_42 (dk_at dksX8_sure_1 22 rfl rfl)
theorem dX8_sure_47 : decode cX8_sure 47 = .ok (.getfield 435, 3) := dk_180 1 179 (dk_at dksX8_sure_2 0 rfl rfl)
theorem dX8_sure_50 : decode cX8_sure 50 = .ok (.ireturn, 1) := dk_172 (dk_at dksX8_sure_2 3 rfl rfl)
abbrev cX8_ask : ByteArray := prog_14_method_133_code
def yX8_ask : MethodName := ⟨RX8, "ask", "(II)I"⟩
def dkwX8_ask_4 : List UInt8 := [156, 0, 12, 42, 16, 8, 182, 1, 71, 167, 0, 4, 29, 172]
abbrev dktX8_ask_4 : List UInt8 := dkwX8_ask_4 ++ []
def dkwX8_ask_3 : List UInt8 := [182, 1, 188, 162, 0, 6, 21, 4, 62, 132, 4, 1, 167, 255, 209, 42, 180, 1, 176, 5, 161, 0, 7, 29]
abbrev dktX8_ask_3 : List UInt8 := dkwX8_ask_3 ++ dktX8_ask_4
def dkwX8_ask_2 : List UInt8 := [180, 1, 167, 21, 4, 184, 0, 109, 154, 0, 24, 29, 155, 0, 17, 42, 21, 4, 182, 1, 188, 42, 29]
abbrev dktX8_ask_2 : List UInt8 := dkwX8_ask_2 ++ dktX8_ask_3
def dkwX8_ask_1 : List UInt8 := [42, 27, 28, 182, 1, 185, 2, 62, 3, 54, 4, 21, 4, 42, 180, 0, 35, 4, 46, 162, 0, 42, 42]
abbrev dktX8_ask_1 : List UInt8 := dkwX8_ask_1 ++ dktX8_ask_2
def dkwX8_ask_0 : List UInt8 := [42, 3, 181, 0, 70, 42, 42, 27, 28, 182, 1, 182, 181, 0, 73, 42, 180, 0, 73, 158, 0, 5, 2, 172]
abbrev dktX8_ask_0 : List UInt8 := dkwX8_ask_0 ++ dktX8_ask_1
theorem dksX8_ask_0 : cX8_ask.data.toList.drop 0 = dktX8_ask_0 := by decide +kernel
theorem dksX8_ask_1 : cX8_ask.data.toList.drop 24 = dktX8_ask_1 := dk_seg dksX8_ask_0 24 rfl rfl
theorem dksX8_ask_2 : cX8_ask.data.toList.drop 47 = dktX8_ask_2 := dk_seg dksX8_ask_1 23 rfl rfl
theorem dksX8_ask_3 : cX8_ask.data.toList.drop 70 = dktX8_ask_3 := dk_seg dksX8_ask_2 23 rfl rfl
theorem dksX8_ask_4 : cX8_ask.data.toList.drop 94 = dktX8_ask_4 := dk_seg dksX8_ask_3 24 rfl rfl
theorem dX8_ask_0 : decode cX8_ask 0 = .ok (.aload_n 0, 1) := dk_42 (dk_at dksX8_ask_0 0 rfl rfl)
theorem dX8_ask_1 : decode cX8_ask 1 = .ok (.iconst 0, 1) := dk_3 (dk_at dksX8_ask_0 1 rfl rfl)
theorem dX8_ask_2 : decode cX8_ask 2 = .ok (.putfield 70, 3) := dk_181 0 70 (dk_at dksX8_ask_0 2 rfl rfl)
theorem dX8_ask_5 : decode cX8_ask 5 = .ok (.aload_n 0, 1) := dk_42 (dk_at dksX8_ask_0 5 rfl rfl)
theorem dX8_ask_6 : decode cX8_ask 6 = .ok (.aload_n 0, 1) := dk_42 (dk_at dksX8_ask_0 6 rfl rfl)
theorem dX8_ask_7 : decode cX8_ask 7 = .ok (.iload_n 1, 1) := dk_27 (dk_at dksX8_ask_0 7 rfl rfl)
theorem dX8_ask_8 : decode cX8_ask 8 = .ok (.iload_n 2, 1) := dk_28 (dk_at dksX8_ask_0 8 rfl rfl)
theorem dX8_ask_9 : decode cX8_ask 9 = .ok (.invokevirtual 438, 3) := dk_182 1 182 (dk_at dksX8_ask_0 9 rfl rfl)
theorem dX8_ask_12 : decode cX8_ask 12 = .ok (.putfield 73, 3) := dk_181 0 73 (dk_at dksX8_ask_0 12 rfl rfl)
theorem dX8_ask_15 : decode cX8_ask 15 = .ok (.aload_n 0, 1) := dk_42 (dk_at dksX8_ask_0 15 rfl rfl)
theorem dX8_ask_16 : decode cX8_ask 16 = .ok (.getfield 73, 3) := dk_180 0 73 (dk_at dksX8_ask_0 16 rfl rfl)
theorem dX8_ask_19 : decode cX8_ask 19 = .ok (.ifCond .le 5, 3) := dk_158 0 5 (dk_at dksX8_ask_0 19 rfl rfl)
theorem dX8_ask_22 : decode cX8_ask 22 = .ok (.iconst (-1), 1) := dk_2 (dk_at dksX8_ask_0 22 rfl rfl)
theorem dX8_ask_23 : decode cX8_ask 23 = .ok (.ireturn, 1) := dk_172 (dk_at dksX8_ask_0 23 rfl rfl)
theorem dX8_ask_24 : decode cX8_ask 24 = .ok (.aload_n 0, 1) := dk_42 (dk_at dksX8_ask_1 0 rfl rfl)
theorem dX8_ask_25 : decode cX8_ask 25 = .ok (.iload_n 1, 1) := dk_27 (dk_at dksX8_ask_1 1 rfl rfl)
theorem dX8_ask_26 : decode cX8_ask 26 = .ok (.iload_n 2, 1) := dk_28 (dk_at dksX8_ask_1 2 rfl rfl)
theorem dX8_ask_27 : decode cX8_ask 27 = .ok (.invokevirtual 441, 3) := dk_182 1 185 (dk_at dksX8_ask_1 3 rfl rfl)
theorem dX8_ask_30 : decode cX8_ask 30 = .ok (.iconst (-1), 1) := dk_2 (dk_at dksX8_ask_1 6 rfl rfl)
theorem dX8_ask_31 : decode cX8_ask 31 = .ok (.istore_n 3, 1) := dk_62 (dk_at dksX8_ask_1 7 rfl rfl)
theorem dX8_ask_32 : decode cX8_ask 32 = .ok (.iconst 0, 1) := dk_3 (dk_at dksX8_ask_1 8 rfl rfl)
theorem dX8_ask_33 : decode cX8_ask 33 = .ok (.istore 4, 2) := dk_54 4 (dk_at dksX8_ask_1 9 rfl rfl)
theorem dX8_ask_35 : decode cX8_ask 35 = .ok (.iload 4, 2) := dk_21 4 (dk_at dksX8_ask_1 11 rfl rfl)
theorem dX8_ask_37 : decode cX8_ask 37 = .ok (.aload_n 0, 1) := dk_42 (dk_at dksX8_ask_1 13 rfl rfl)
theorem dX8_ask_38 : decode cX8_ask 38 = .ok (.getfield 35, 3) := dk_180 0 35 (dk_at dksX8_ask_1 14 rfl rfl)
theorem dX8_ask_41 : decode cX8_ask 41 = .ok (.iconst 1, 1) := dk_4 (dk_at dksX8_ask_1 17 rfl rfl)
theorem dX8_ask_42 : decode cX8_ask 42 = .ok (.iaload, 1) := dk_46 (dk_at dksX8_ask_1 18 rfl rfl)
theorem dX8_ask_43 : decode cX8_ask 43 = .ok (.if_icmp .ge 42, 3) := dk_162 0 42 (dk_at dksX8_ask_1 19 rfl rfl)
theorem dX8_ask_46 : decode cX8_ask 46 = .ok (.aload_n 0, 1) := dk_42 (dk_at dksX8_ask_1 22 rfl rfl)
theorem dX8_ask_47 : decode cX8_ask 47 = .ok (.getfield 423, 3) := dk_180 1 167 (dk_at dksX8_ask_2 0 rfl rfl)
theorem dX8_ask_50 : decode cX8_ask 50 = .ok (.iload 4, 2) := dk_21 4 (dk_at dksX8_ask_2 3 rfl rfl)
theorem dX8_ask_52 : decode cX8_ask 52 = .ok (.invokestatic 109, 3) := dk_184 0 109 (dk_at dksX8_ask_2 5 rfl rfl)
theorem dX8_ask_55 : decode cX8_ask 55 = .ok (.ifCond .ne 24, 3) := dk_154 0 24 (dk_at dksX8_ask_2 8 rfl rfl)
theorem dX8_ask_58 : decode cX8_ask 58 = .ok (.iload_n 3, 1) := dk_29 (dk_at dksX8_ask_2 11 rfl rfl)
theorem dX8_ask_59 : decode cX8_ask 59 = .ok (.ifCond .lt 17, 3) := dk_155 0 17 (dk_at dksX8_ask_2 12 rfl rfl)
theorem dX8_ask_62 : decode cX8_ask 62 = .ok (.aload_n 0, 1) := dk_42 (dk_at dksX8_ask_2 15 rfl rfl)
theorem dX8_ask_63 : decode cX8_ask 63 = .ok (.iload 4, 2) := dk_21 4 (dk_at dksX8_ask_2 16 rfl rfl)
theorem dX8_ask_65 : decode cX8_ask 65 = .ok (.invokevirtual 444, 3) := dk_182 1 188 (dk_at dksX8_ask_2 18 rfl rfl)
theorem dX8_ask_68 : decode cX8_ask 68 = .ok (.aload_n 0, 1) := dk_42 (dk_at dksX8_ask_2 21 rfl rfl)
theorem dX8_ask_69 : decode cX8_ask 69 = .ok (.iload_n 3, 1) := dk_29 (dk_at dksX8_ask_2 22 rfl rfl)
theorem dX8_ask_70 : decode cX8_ask 70 = .ok (.invokevirtual 444, 3) := dk_182 1 188 (dk_at dksX8_ask_3 0 rfl rfl)
theorem dX8_ask_73 : decode cX8_ask 73 = .ok (.if_icmp .ge 6, 3) := dk_162 0 6 (dk_at dksX8_ask_3 3 rfl rfl)
theorem dX8_ask_76 : decode cX8_ask 76 = .ok (.iload 4, 2) := dk_21 4 (dk_at dksX8_ask_3 6 rfl rfl)
theorem dX8_ask_78 : decode cX8_ask 78 = .ok (.istore_n 3, 1) := dk_62 (dk_at dksX8_ask_3 8 rfl rfl)
theorem dX8_ask_79 : decode cX8_ask 79 = .ok (.iinc 4 1, 3) := dk_132 4 1 (dk_at dksX8_ask_3 9 rfl rfl)
theorem dX8_ask_82 : decode cX8_ask 82 = .ok (.goto (-47), 3) := dk_167 255 209 (dk_at dksX8_ask_3 12 rfl rfl)
theorem dX8_ask_85 : decode cX8_ask 85 = .ok (.aload_n 0, 1) := dk_42 (dk_at dksX8_ask_3 15 rfl rfl)
theorem dX8_ask_86 : decode cX8_ask 86 = .ok (.getfield 432, 3) := dk_180 1 176 (dk_at dksX8_ask_3 16 rfl rfl)
theorem dX8_ask_89 : decode cX8_ask 89 = .ok (.iconst 2, 1) := dk_5 (dk_at dksX8_ask_3 19 rfl rfl)
theorem dX8_ask_90 : decode cX8_ask 90 = .ok (.if_icmp .lt 7, 3) := dk_161 0 7 (dk_at dksX8_ask_3 20 rfl rfl)
theorem dX8_ask_93 : decode cX8_ask 93 = .ok (.iload_n 3, 1) := dk_29 (dk_at dksX8_ask_3 23 rfl rfl)
theorem dX8_ask_94 : decode cX8_ask 94 = .ok (.ifCond .ge 12, 3) := dk_156 0 12 (dk_at dksX8_ask_4 0 rfl rfl)
theorem dX8_ask_97 : decode cX8_ask 97 = .ok (.aload_n 0, 1) := dk_42 (dk_at dksX8_ask_4 3 rfl rfl)
theorem dX8_ask_98 : decode cX8_ask 98 = .ok (.bipush 8, 2) := dk_16 8 (dk_at dksX8_ask_4 4 rfl rfl)
theorem dX8_ask_100 : decode cX8_ask 100 = .ok (.invokevirtual 327, 3) := dk_182 1 71 (dk_at dksX8_ask_4 6 rfl rfl)
theorem dX8_ask_103 : decode cX8_ask 103 = .ok (.goto 4, 3) := dk_167 0 4 (dk_at dksX8_ask_4 9 rfl rfl)
theorem dX8_ask_106 : decode cX8_ask 106 = .ok (.iload_n 3, 1) := dk_29 (dk_at dksX8_ask_4 12 rfl rfl)
theorem dX8_ask_107 : decode cX8_ask 107 = .ok (.ireturn, 1) := dk_172 (dk_at dksX8_ask_4 13 rfl rfl)
abbrev cX8_mostAlike : ByteArray := prog_14_method_132_code
def yX8_mostAlike : MethodName := ⟨RX8, "mostAlike", "(I)I"⟩
def dkwX8_mostAlike_3 : List UInt8 := [167, 255, 201, 28, 21, 4, 184, 0, 233, 61, 132, 3, 1, 167, 255, 176, 28, 172]
abbrev dktX8_mostAlike_3 : List UInt8 := dkwX8_mostAlike_3 ++ []
def dkwX8_mostAlike_2 : List UInt8 := [16, 12, 27, 96, 46, 126, 184, 1, 140, 29, 160, 0, 7, 4, 167, 0, 4, 3, 96, 54, 4, 132, 5, 1]
abbrev dktX8_mostAlike_2 : List UInt8 := dkwX8_mostAlike_2 ++ dktX8_mostAlike_3
def dkwX8_mostAlike_1 : List UInt8 := [46, 120, 162, 0, 48, 21, 4, 42, 180, 0, 56, 21, 5, 51, 153, 0, 26, 21, 5, 42, 180, 0, 35]
abbrev dktX8_mostAlike_1 : List UInt8 := dkwX8_mostAlike_1 ++ dktX8_mostAlike_2
def dkwX8_mostAlike_0 : List UInt8 := [3, 61, 3, 62, 29, 16, 6, 163, 0, 80, 3, 54, 4, 3, 54, 5, 21, 5, 4, 42, 180, 0, 35, 3]
abbrev dktX8_mostAlike_0 : List UInt8 := dkwX8_mostAlike_0 ++ dktX8_mostAlike_1
theorem dksX8_mostAlike_0 : cX8_mostAlike.data.toList.drop 0 = dktX8_mostAlike_0 := by decide +kernel
theorem dksX8_mostAlike_1 : cX8_mostAlike.data.toList.drop 24 = dktX8_mostAlike_1 := dk_seg dksX8_mostAlike_0 24 rfl rfl
theorem dksX8_mostAlike_2 : cX8_mostAlike.data.toList.drop 47 = dktX8_mostAlike_2 := dk_seg dksX8_mostAlike_1 23 rfl rfl
theorem dksX8_mostAlike_3 : cX8_mostAlike.data.toList.drop 71 = dktX8_mostAlike_3 := dk_seg dksX8_mostAlike_2 24 rfl rfl
theorem dX8_mostAlike_0 : decode cX8_mostAlike 0 = .ok (.iconst 0, 1) := dk_3 (dk_at dksX8_mostAlike_0 0 rfl rfl)
theorem dX8_mostAlike_1 : decode cX8_mostAlike 1 = .ok (.istore_n 2, 1) := dk_61 (dk_at dksX8_mostAlike_0 1 rfl rfl)
theorem dX8_mostAlike_2 : decode cX8_mostAlike 2 = .ok (.iconst 0, 1) := dk_3 (dk_at dksX8_mostAlike_0 2 rfl rfl)
theorem dX8_mostAlike_3 : decode cX8_mostAlike 3 = .ok (.istore_n 3, 1) := dk_62 (dk_at dksX8_mostAlike_0 3 rfl rfl)
theorem dX8_mostAlike_4 : decode cX8_mostAlike 4 = .ok (.iload_n 3, 1) := dk_29 (dk_at dksX8_mostAlike_0 4 rfl rfl)
theorem dX8_mostAlike_5 : decode cX8_mostAlike 5 = .ok (.bipush 6, 2) := dk_16 6 (dk_at dksX8_mostAlike_0 5 rfl rfl)
theorem dX8_mostAlike_7 : decode cX8_mostAlike 7 = .ok (.if_icmp .gt 80, 3) := dk_163 0 80 (dk_at dksX8_mostAlike_0 7 rfl rfl)
theorem dX8_mostAlike_10 : decode cX8_mostAlike 10 = .ok (.iconst 0, 1) := dk_3 (dk_at dksX8_mostAlike_0 10 rfl rfl)
theorem dX8_mostAlike_11 : decode cX8_mostAlike 11 = .ok (.istore 4, 2) := dk_54 4 (dk_at dksX8_mostAlike_0 11 rfl rfl)
theorem dX8_mostAlike_13 : decode cX8_mostAlike 13 = .ok (.iconst 0, 1) := dk_3 (dk_at dksX8_mostAlike_0 13 rfl rfl)
theorem dX8_mostAlike_14 : decode cX8_mostAlike 14 = .ok (.istore 5, 2) := dk_54 5 (dk_at dksX8_mostAlike_0 14 rfl rfl)
theorem dX8_mostAlike_16 : decode cX8_mostAlike 16 = .ok (.iload 5, 2) := dk_21 5 (dk_at dksX8_mostAlike_0 16 rfl rfl)
theorem dX8_mostAlike_18 : decode cX8_mostAlike 18 = .ok (.iconst 1, 1) := dk_4 (dk_at dksX8_mostAlike_0 18 rfl rfl)
theorem dX8_mostAlike_19 : decode cX8_mostAlike 19 = .ok (.aload_n 0, 1) := dk_42 (dk_at dksX8_mostAlike_0 19 rfl rfl)
theorem dX8_mostAlike_20 : decode cX8_mostAlike 20 = .ok (.getfield 35, 3) := dk_180 0 35 (dk_at dksX8_mostAlike_0 20 rfl rfl)
theorem dX8_mostAlike_23 : decode cX8_mostAlike 23 = .ok (.iconst 0, 1) := dk_3 (dk_at dksX8_mostAlike_0 23 rfl rfl)
theorem dX8_mostAlike_24 : decode cX8_mostAlike 24 = .ok (.iaload, 1) := dk_46 (dk_at dksX8_mostAlike_1 0 rfl rfl)
theorem dX8_mostAlike_25 : decode cX8_mostAlike 25 = .ok (.ishl, 1) := dk_120 (dk_at dksX8_mostAlike_1 1 rfl rfl)
theorem dX8_mostAlike_26 : decode cX8_mostAlike 26 = .ok (.if_icmp .ge 48, 3) := dk_162 0 48 (dk_at dksX8_mostAlike_1 2 rfl rfl)
theorem dX8_mostAlike_29 : decode cX8_mostAlike 29 = .ok (.iload 4, 2) := dk_21 4 (dk_at dksX8_mostAlike_1 5 rfl rfl)
theorem dX8_mostAlike_31 : decode cX8_mostAlike 31 = .ok (.aload_n 0, 1) := dk_42 (dk_at dksX8_mostAlike_1 7 rfl rfl)
theorem dX8_mostAlike_32 : decode cX8_mostAlike 32 = .ok (.getfield 56, 3) := dk_180 0 56 (dk_at dksX8_mostAlike_1 8 rfl rfl)
theorem dX8_mostAlike_35 : decode cX8_mostAlike 35 = .ok (.iload 5, 2) := dk_21 5 (dk_at dksX8_mostAlike_1 11 rfl rfl)
theorem dX8_mostAlike_37 : decode cX8_mostAlike 37 = .ok (.baload, 1) := dk_51 (dk_at dksX8_mostAlike_1 13 rfl rfl)
theorem dX8_mostAlike_38 : decode cX8_mostAlike 38 = .ok (.ifCond .eq 26, 3) := dk_153 0 26 (dk_at dksX8_mostAlike_1 14 rfl rfl)
theorem dX8_mostAlike_41 : decode cX8_mostAlike 41 = .ok (.iload 5, 2) := dk_21 5 (dk_at dksX8_mostAlike_1 17 rfl rfl)
theorem dX8_mostAlike_43 : decode cX8_mostAlike 43 = .ok (.aload_n 0, 1) := dk_42 (dk_at dksX8_mostAlike_1 19 rfl rfl)
theorem dX8_mostAlike_44 : decode cX8_mostAlike 44 = .ok (.getfield 35, 3) := dk_180 0 35 (dk_at dksX8_mostAlike_1 20 rfl rfl)
theorem dX8_mostAlike_47 : decode cX8_mostAlike 47 = .ok (.bipush 12, 2) := dk_16 12 (dk_at dksX8_mostAlike_2 0 rfl rfl)
theorem dX8_mostAlike_49 : decode cX8_mostAlike 49 = .ok (.iload_n 1, 1) := dk_27 (dk_at dksX8_mostAlike_2 2 rfl rfl)
theorem dX8_mostAlike_50 : decode cX8_mostAlike 50 = .ok (.iadd, 1) := dk_96 (dk_at dksX8_mostAlike_2 3 rfl rfl)
theorem dX8_mostAlike_51 : decode cX8_mostAlike 51 = .ok (.iaload, 1) := dk_46 (dk_at dksX8_mostAlike_2 4 rfl rfl)
theorem dX8_mostAlike_52 : decode cX8_mostAlike 52 = .ok (.iand, 1) := dk_126 (dk_at dksX8_mostAlike_2 5 rfl rfl)
theorem dX8_mostAlike_53 : decode cX8_mostAlike 53 = .ok (.invokestatic 396, 3) := dk_184 1 140 (dk_at dksX8_mostAlike_2 6 rfl rfl)
theorem dX8_mostAlike_56 : decode cX8_mostAlike 56 = .ok (.iload_n 3, 1) := dk_29 (dk_at dksX8_mostAlike_2 9 rfl rfl)
theorem dX8_mostAlike_57 : decode cX8_mostAlike 57 = .ok (.if_icmp .ne 7, 3) := dk_160 0 7 (dk_at dksX8_mostAlike_2 10 rfl rfl)
theorem dX8_mostAlike_60 : decode cX8_mostAlike 60 = .ok (.iconst 1, 1) := dk_4 (dk_at dksX8_mostAlike_2 13 rfl rfl)
theorem dX8_mostAlike_61 : decode cX8_mostAlike 61 = .ok (.goto 4, 3) := dk_167 0 4 (dk_at dksX8_mostAlike_2 14 rfl rfl)
theorem dX8_mostAlike_64 : decode cX8_mostAlike 64 = .ok (.iconst 0, 1) := dk_3 (dk_at dksX8_mostAlike_2 17 rfl rfl)
theorem dX8_mostAlike_65 : decode cX8_mostAlike 65 = .ok (.iadd, 1) := dk_96 (dk_at dksX8_mostAlike_2 18 rfl rfl)
theorem dX8_mostAlike_66 : decode cX8_mostAlike 66 = .ok (.istore 4, 2) := dk_54 4 (dk_at dksX8_mostAlike_2 19 rfl rfl)
theorem dX8_mostAlike_68 : decode cX8_mostAlike 68 = .ok (.iinc 5 1, 3) := dk_132 5 1 (dk_at dksX8_mostAlike_2 21 rfl rfl)
theorem dX8_mostAlike_71 : decode cX8_mostAlike 71 = .ok (.goto (-55), 3) := dk_167 255 201 (dk_at dksX8_mostAlike_3 0 rfl rfl)
theorem dX8_mostAlike_74 : decode cX8_mostAlike 74 = .ok (.iload_n 2, 1) := dk_28 (dk_at dksX8_mostAlike_3 3 rfl rfl)
theorem dX8_mostAlike_75 : decode cX8_mostAlike 75 = .ok (.iload 4, 2) := dk_21 4 (dk_at dksX8_mostAlike_3 4 rfl rfl)
theorem dX8_mostAlike_77 : decode cX8_mostAlike 77 = .ok (.invokestatic 233, 3) := dk_184 0 233 (dk_at dksX8_mostAlike_3 6 rfl rfl)
theorem dX8_mostAlike_80 : decode cX8_mostAlike 80 = .ok (.istore_n 2, 1) := dk_61 (dk_at dksX8_mostAlike_3 9 rfl rfl)
theorem dX8_mostAlike_81 : decode cX8_mostAlike 81 = .ok (.iinc 3 1, 3) := dk_132 3 1 (dk_at dksX8_mostAlike_3 10 rfl rfl)
theorem dX8_mostAlike_84 : decode cX8_mostAlike 84 = .ok (.goto (-80), 3) := dk_167 255 176 (dk_at dksX8_mostAlike_3 13 rfl rfl)
theorem dX8_mostAlike_87 : decode cX8_mostAlike 87 = .ok (.iload_n 2, 1) := dk_28 (dk_at dksX8_mostAlike_3 16 rfl rfl)
theorem dX8_mostAlike_88 : decode cX8_mostAlike 88 = .ok (.ireturn, 1) := dk_172 (dk_at dksX8_mostAlike_3 17 rfl rfl)
abbrev cX8_game : ByteArray := prog_14_method_136_code
def yX8_game : MethodName := ⟨RX8, "game", "(III)I"⟩
def dkwX8_game_1 : List UInt8 := [2, 167, 0, 11, 42, 27, 28, 3, 29, 182, 1, 191, 172]
abbrev dktX8_game_1 : List UInt8 := dkwX8_game_1 ++ []
def dkwX8_game_0 : List UInt8 := [42, 3, 181, 0, 70, 42, 42, 27, 28, 29, 3, 182, 1, 197, 181, 0, 73, 42, 180, 0, 73, 158, 0, 7]
abbrev dktX8_game_0 : List UInt8 := dkwX8_game_0 ++ dktX8_game_1
theorem dksX8_game_0 : cX8_game.data.toList.drop 0 = dktX8_game_0 := by decide +kernel
theorem dksX8_game_1 : cX8_game.data.toList.drop 24 = dktX8_game_1 := dk_seg dksX8_game_0 24 rfl rfl
theorem dX8_game_0 : decode cX8_game 0 = .ok (.aload_n 0, 1) := dk_42 (dk_at dksX8_game_0 0 rfl rfl)
theorem dX8_game_1 : decode cX8_game 1 = .ok (.iconst 0, 1) := dk_3 (dk_at dksX8_game_0 1 rfl rfl)
theorem dX8_game_2 : decode cX8_game 2 = .ok (.putfield 70, 3) := dk_181 0 70 (dk_at dksX8_game_0 2 rfl rfl)
theorem dX8_game_5 : decode cX8_game 5 = .ok (.aload_n 0, 1) := dk_42 (dk_at dksX8_game_0 5 rfl rfl)
theorem dX8_game_6 : decode cX8_game 6 = .ok (.aload_n 0, 1) := dk_42 (dk_at dksX8_game_0 6 rfl rfl)
theorem dX8_game_7 : decode cX8_game 7 = .ok (.iload_n 1, 1) := dk_27 (dk_at dksX8_game_0 7 rfl rfl)
theorem dX8_game_8 : decode cX8_game 8 = .ok (.iload_n 2, 1) := dk_28 (dk_at dksX8_game_0 8 rfl rfl)
theorem dX8_game_9 : decode cX8_game 9 = .ok (.iload_n 3, 1) := dk_29 (dk_at dksX8_game_0 9 rfl rfl)
theorem dX8_game_10 : decode cX8_game 10 = .ok (.iconst 0, 1) := dk_3 (dk_at dksX8_game_0 10 rfl rfl)
theorem dX8_game_11 : decode cX8_game 11 = .ok (.invokevirtual 453, 3) := dk_182 1 197 (dk_at dksX8_game_0 11 rfl rfl)
theorem dX8_game_14 : decode cX8_game 14 = .ok (.putfield 73, 3) := dk_181 0 73 (dk_at dksX8_game_0 14 rfl rfl)
theorem dX8_game_17 : decode cX8_game 17 = .ok (.aload_n 0, 1) := dk_42 (dk_at dksX8_game_0 17 rfl rfl)
theorem dX8_game_18 : decode cX8_game 18 = .ok (.getfield 73, 3) := dk_180 0 73 (dk_at dksX8_game_0 18 rfl rfl)
theorem dX8_game_21 : decode cX8_game 21 = .ok (.ifCond .le 7, 3) := dk_158 0 7 (dk_at dksX8_game_0 21 rfl rfl)
theorem dX8_game_24 : decode cX8_game 24 = .ok (.iconst (-1), 1) := dk_2 (dk_at dksX8_game_1 0 rfl rfl)
theorem dX8_game_25 : decode cX8_game 25 = .ok (.goto 11, 3) := dk_167 0 11 (dk_at dksX8_game_1 1 rfl rfl)
theorem dX8_game_28 : decode cX8_game 28 = .ok (.aload_n 0, 1) := dk_42 (dk_at dksX8_game_1 4 rfl rfl)
theorem dX8_game_29 : decode cX8_game 29 = .ok (.iload_n 1, 1) := dk_27 (dk_at dksX8_game_1 5 rfl rfl)
theorem dX8_game_30 : decode cX8_game 30 = .ok (.iload_n 2, 1) := dk_28 (dk_at dksX8_game_1 6 rfl rfl)
theorem dX8_game_31 : decode cX8_game 31 = .ok (.iconst 0, 1) := dk_3 (dk_at dksX8_game_1 7 rfl rfl)
theorem dX8_game_32 : decode cX8_game 32 = .ok (.iload_n 3, 1) := dk_29 (dk_at dksX8_game_1 8 rfl rfl)
theorem dX8_game_33 : decode cX8_game 33 = .ok (.invokevirtual 447, 3) := dk_182 1 191 (dk_at dksX8_game_1 9 rfl rfl)
theorem dX8_game_36 : decode cX8_game 36 = .ok (.ireturn, 1) := dk_172 (dk_at dksX8_game_1 12 rfl rfl)
abbrev cX8_whyNoGame : ByteArray := prog_14_method_135_code
def yX8_whyNoGame : MethodName := ⟨RX8, "whyNoGame", "(IIII)I"⟩
def dkwX8_whyNoGame_1 : List UInt8 := [159, 0, 21, 29, 133, 21, 4, 133, 20, 0, 103, 184, 0, 105, 153, 0, 7, 3, 167, 0, 4, 8, 172]
abbrev dktX8_whyNoGame_1 : List UInt8 := dkwX8_whyNoGame_1 ++ []
def dkwX8_whyNoGame_0 : List UInt8 := [42, 27, 133, 182, 1, 80, 153, 0, 12, 42, 28, 133, 182, 1, 80, 154, 0, 5, 5, 172, 27, 28]
abbrev dktX8_whyNoGame_0 : List UInt8 := dkwX8_whyNoGame_0 ++ dktX8_whyNoGame_1
theorem dksX8_whyNoGame_0 : cX8_whyNoGame.data.toList.drop 0 = dktX8_whyNoGame_0 := by decide +kernel
theorem dksX8_whyNoGame_1 : cX8_whyNoGame.data.toList.drop 22 = dktX8_whyNoGame_1 := dk_seg dksX8_whyNoGame_0 22 rfl rfl
theorem dX8_whyNoGame_0 : decode cX8_whyNoGame 0 = .ok (.aload_n 0, 1) := dk_42 (dk_at dksX8_whyNoGame_0 0 rfl rfl)
theorem dX8_whyNoGame_1 : decode cX8_whyNoGame 1 = .ok (.iload_n 1, 1) := dk_27 (dk_at dksX8_whyNoGame_0 1 rfl rfl)
theorem dX8_whyNoGame_2 : decode cX8_whyNoGame 2 = .ok (.i2l, 1) := dk_133 (dk_at dksX8_whyNoGame_0 2 rfl rfl)
theorem dX8_whyNoGame_3 : decode cX8_whyNoGame 3 = .ok (.invokevirtual 336, 3) := dk_182 1 80 (dk_at dksX8_whyNoGame_0 3 rfl rfl)
theorem dX8_whyNoGame_6 : decode cX8_whyNoGame 6 = .ok (.ifCond .eq 12, 3) := dk_153 0 12 (dk_at dksX8_whyNoGame_0 6 rfl rfl)
theorem dX8_whyNoGame_9 : decode cX8_whyNoGame 9 = .ok (.aload_n 0, 1) := dk_42 (dk_at dksX8_whyNoGame_0 9 rfl rfl)
theorem dX8_whyNoGame_10 : decode cX8_whyNoGame 10 = .ok (.iload_n 2, 1) := dk_28 (dk_at dksX8_whyNoGame_0 10 rfl rfl)
theorem dX8_whyNoGame_11 : decode cX8_whyNoGame 11 = .ok (.i2l, 1) := dk_133 (dk_at dksX8_whyNoGame_0 11 rfl rfl)
theorem dX8_whyNoGame_12 : decode cX8_whyNoGame 12 = .ok (.invokevirtual 336, 3) := dk_182 1 80 (dk_at dksX8_whyNoGame_0 12 rfl rfl)
theorem dX8_whyNoGame_15 : decode cX8_whyNoGame 15 = .ok (.ifCond .ne 5, 3) := dk_154 0 5 (dk_at dksX8_whyNoGame_0 15 rfl rfl)
theorem dX8_whyNoGame_18 : decode cX8_whyNoGame 18 = .ok (.iconst 2, 1) := dk_5 (dk_at dksX8_whyNoGame_0 18 rfl rfl)
theorem dX8_whyNoGame_19 : decode cX8_whyNoGame 19 = .ok (.ireturn, 1) := dk_172 (dk_at dksX8_whyNoGame_0 19 rfl rfl)
theorem dX8_whyNoGame_20 : decode cX8_whyNoGame 20 = .ok (.iload_n 1, 1) := dk_27 (dk_at dksX8_whyNoGame_0 20 rfl rfl)
theorem dX8_whyNoGame_21 : decode cX8_whyNoGame 21 = .ok (.iload_n 2, 1) := dk_28 (dk_at dksX8_whyNoGame_0 21 rfl rfl)
theorem dX8_whyNoGame_22 : decode cX8_whyNoGame 22 = .ok (.if_icmp .eq 21, 3) := dk_159 0 21 (dk_at dksX8_whyNoGame_1 0 rfl rfl)
theorem dX8_whyNoGame_25 : decode cX8_whyNoGame 25 = .ok (.iload_n 3, 1) := dk_29 (dk_at dksX8_whyNoGame_1 3 rfl rfl)
theorem dX8_whyNoGame_26 : decode cX8_whyNoGame 26 = .ok (.i2l, 1) := dk_133 (dk_at dksX8_whyNoGame_1 4 rfl rfl)
theorem dX8_whyNoGame_27 : decode cX8_whyNoGame 27 = .ok (.iload 4, 2) := dk_21 4 (dk_at dksX8_whyNoGame_1 5 rfl rfl)
theorem dX8_whyNoGame_29 : decode cX8_whyNoGame 29 = .ok (.i2l, 1) := dk_133 (dk_at dksX8_whyNoGame_1 7 rfl rfl)
theorem dX8_whyNoGame_30 : decode cX8_whyNoGame 30 = .ok (.ldc2_w 103, 3) := dk_20 0 103 (dk_at dksX8_whyNoGame_1 8 rfl rfl)
theorem dX8_whyNoGame_33 : decode cX8_whyNoGame 33 = .ok (.invokestatic 105, 3) := dk_184 0 105 (dk_at dksX8_whyNoGame_1 11 rfl rfl)
theorem dX8_whyNoGame_36 : decode cX8_whyNoGame 36 = .ok (.ifCond .eq 7, 3) := dk_153 0 7 (dk_at dksX8_whyNoGame_1 14 rfl rfl)
theorem dX8_whyNoGame_39 : decode cX8_whyNoGame 39 = .ok (.iconst 0, 1) := dk_3 (dk_at dksX8_whyNoGame_1 17 rfl rfl)
theorem dX8_whyNoGame_40 : decode cX8_whyNoGame 40 = .ok (.goto 4, 3) := dk_167 0 4 (dk_at dksX8_whyNoGame_1 18 rfl rfl)
theorem dX8_whyNoGame_43 : decode cX8_whyNoGame 43 = .ok (.iconst 5, 1) := dk_8 (dk_at dksX8_whyNoGame_1 21 rfl rfl)
theorem dX8_whyNoGame_44 : decode cX8_whyNoGame 44 = .ok (.ireturn, 1) := dk_172 (dk_at dksX8_whyNoGame_1 22 rfl rfl)
abbrev cX8_plays : ByteArray := prog_14_method_134_code
def yX8_plays : MethodName := ⟨RX8, "plays", "(IIII)I"⟩
def dkwX8_plays_9 : List UInt8 := [167, 255, 98, 29, 154, 0, 9, 42, 21, 8, 181, 1, 194, 21, 7, 172]
abbrev dktX8_plays_9 : List UInt8 := dkwX8_plays_9 ++ []
def dkwX8_plays_8 : List UInt8 := [167, 0, 21, 21, 11, 21, 7, 164, 0, 6, 167, 0, 11, 21, 11, 54, 7, 21, 9, 54, 8, 132, 9, 255]
abbrev dktX8_plays_8 : List UInt8 := dkwX8_plays_8 ++ dktX8_plays_9
def dkwX8_plays_7 : List UInt8 := [180, 0, 35, 16, 42, 21, 10, 96, 21, 6, 79, 21, 5, 153, 0, 13, 21, 11, 21, 7, 162, 0, 16]
abbrev dktX8_plays_7 : List UInt8 := dkwX8_plays_7 ++ dktX8_plays_8
def dkwX8_plays_6 : List UInt8 := [153, 0, 12, 42, 21, 10, 182, 1, 57, 167, 0, 10, 42, 21, 10, 182, 1, 57, 116, 96, 54, 11, 42]
abbrev dktX8_plays_6 : List UInt8 := dkwX8_plays_6 ++ dktX8_plays_7
def dkwX8_plays_5 : List UInt8 := [16, 42, 21, 10, 96, 21, 9, 16, 7, 112, 79, 42, 27, 28, 29, 4, 96, 21, 4, 182, 1, 191, 21, 5]
abbrev dktX8_plays_5 : List UInt8 := dkwX8_plays_5 ++ dktX8_plays_6
def dkwX8_plays_4 : List UInt8 := [21, 6, 182, 1, 101, 21, 9, 16, 7, 112, 184, 0, 109, 154, 0, 6, 167, 0, 98, 42, 180, 0, 35]
abbrev dktX8_plays_4 : List UInt8 := dkwX8_plays_4 ++ dktX8_plays_5
def dkwX8_plays_3 : List UInt8 := [6, 46, 162, 0, 135, 42, 180, 0, 35, 16, 42, 21, 10, 96, 46, 21, 6, 160, 0, 120, 42, 21, 10]
abbrev dktX8_plays_3 : List UInt8 := dkwX8_plays_3 ++ dktX8_plays_4
def dkwX8_plays_2 : List UInt8 := [54, 8, 16, 62, 54, 9, 21, 9, 155, 0, 159, 21, 9, 16, 7, 108, 54, 10, 21, 10, 42, 180, 0, 35]
abbrev dktX8_plays_2 : List UInt8 := dkwX8_plays_2 ++ dktX8_plays_3
def dkwX8_plays_1 : List UInt8 := [153, 0, 7, 27, 167, 0, 4, 28, 54, 6, 42, 27, 28, 29, 4, 96, 21, 4, 182, 1, 191, 54, 7, 2]
abbrev dktX8_plays_1 : List UInt8 := dkwX8_plays_1 ++ dktX8_plays_2
def dkwX8_plays_0 : List UInt8 := [29, 21, 4, 160, 0, 5, 3, 172, 29, 5, 112, 154, 0, 7, 4, 167, 0, 4, 3, 54, 5, 21, 5]
abbrev dktX8_plays_0 : List UInt8 := dkwX8_plays_0 ++ dktX8_plays_1
theorem dksX8_plays_0 : cX8_plays.data.toList.drop 0 = dktX8_plays_0 := by decide +kernel
theorem dksX8_plays_1 : cX8_plays.data.toList.drop 23 = dktX8_plays_1 := dk_seg dksX8_plays_0 23 rfl rfl
theorem dksX8_plays_2 : cX8_plays.data.toList.drop 47 = dktX8_plays_2 := dk_seg dksX8_plays_1 24 rfl rfl
theorem dksX8_plays_3 : cX8_plays.data.toList.drop 71 = dktX8_plays_3 := dk_seg dksX8_plays_2 24 rfl rfl
theorem dksX8_plays_4 : cX8_plays.data.toList.drop 94 = dktX8_plays_4 := dk_seg dksX8_plays_3 23 rfl rfl
theorem dksX8_plays_5 : cX8_plays.data.toList.drop 117 = dktX8_plays_5 := dk_seg dksX8_plays_4 23 rfl rfl
theorem dksX8_plays_6 : cX8_plays.data.toList.drop 141 = dktX8_plays_6 := dk_seg dksX8_plays_5 24 rfl rfl
theorem dksX8_plays_7 : cX8_plays.data.toList.drop 164 = dktX8_plays_7 := dk_seg dksX8_plays_6 23 rfl rfl
theorem dksX8_plays_8 : cX8_plays.data.toList.drop 187 = dktX8_plays_8 := dk_seg dksX8_plays_7 23 rfl rfl
theorem dksX8_plays_9 : cX8_plays.data.toList.drop 211 = dktX8_plays_9 := dk_seg dksX8_plays_8 24 rfl rfl
theorem dX8_plays_0 : decode cX8_plays 0 = .ok (.iload_n 3, 1) := dk_29 (dk_at dksX8_plays_0 0 rfl rfl)
theorem dX8_plays_1 : decode cX8_plays 1 = .ok (.iload 4, 2) := dk_21 4 (dk_at dksX8_plays_0 1 rfl rfl)
theorem dX8_plays_3 : decode cX8_plays 3 = .ok (.if_icmp .ne 5, 3) := dk_160 0 5 (dk_at dksX8_plays_0 3 rfl rfl)
theorem dX8_plays_6 : decode cX8_plays 6 = .ok (.iconst 0, 1) := dk_3 (dk_at dksX8_plays_0 6 rfl rfl)
theorem dX8_plays_7 : decode cX8_plays 7 = .ok (.ireturn, 1) := dk_172 (dk_at dksX8_plays_0 7 rfl rfl)
theorem dX8_plays_8 : decode cX8_plays 8 = .ok (.iload_n 3, 1) := dk_29 (dk_at dksX8_plays_0 8 rfl rfl)
theorem dX8_plays_9 : decode cX8_plays 9 = .ok (.iconst 2, 1) := dk_5 (dk_at dksX8_plays_0 9 rfl rfl)
theorem dX8_plays_10 : decode cX8_plays 10 = .ok (.irem, 1) := dk_112 (dk_at dksX8_plays_0 10 rfl rfl)
theorem dX8_plays_11 : decode cX8_plays 11 = .ok (.ifCond .ne 7, 3) := dk_154 0 7 (dk_at dksX8_plays_0 11 rfl rfl)
theorem dX8_plays_14 : decode cX8_plays 14 = .ok (.iconst 1, 1) := dk_4 (dk_at dksX8_plays_0 14 rfl rfl)
theorem dX8_plays_15 : decode cX8_plays 15 = .ok (.goto 4, 3) := dk_167 0 4 (dk_at dksX8_plays_0 15 rfl rfl)
theorem dX8_plays_18 : decode cX8_plays 18 = .ok (.iconst 0, 1) := dk_3 (dk_at dksX8_plays_0 18 rfl rfl)
theorem dX8_plays_19 : decode cX8_plays 19 = .ok (.istore 5, 2) := dk_54 5 (dk_at dksX8_plays_0 19 rfl rfl)
theorem dX8_plays_21 : decode cX8_plays 21 = .ok (.iload 5, 2) := dk_21 5 (dk_at dksX8_plays_0 21 rfl rfl)
theorem dX8_plays_23 : decode cX8_plays 23 = .ok (.ifCond .eq 7, 3) := dk_153 0 7 (dk_at dksX8_plays_1 0 rfl rfl)
theorem dX8_plays_26 : decode cX8_plays 26 = .ok (.iload_n 1, 1) := dk_27 (dk_at dksX8_plays_1 3 rfl rfl)
theorem dX8_plays_27 : decode cX8_plays 27 = .ok (.goto 4, 3) := dk_167 0 4 (dk_at dksX8_plays_1 4 rfl rfl)
theorem dX8_plays_30 : decode cX8_plays 30 = .ok (.iload_n 2, 1) := dk_28 (dk_at dksX8_plays_1 7 rfl rfl)
theorem dX8_plays_31 : decode cX8_plays 31 = .ok (.istore 6, 2) := dk_54 6 (dk_at dksX8_plays_1 8 rfl rfl)
theorem dX8_plays_33 : decode cX8_plays 33 = .ok (.aload_n 0, 1) := dk_42 (dk_at dksX8_plays_1 10 rfl rfl)
theorem dX8_plays_34 : decode cX8_plays 34 = .ok (.iload_n 1, 1) := dk_27 (dk_at dksX8_plays_1 11 rfl rfl)
theorem dX8_plays_35 : decode cX8_plays 35 = .ok (.iload_n 2, 1) := dk_28 (dk_at dksX8_plays_1 12 rfl rfl)
theorem dX8_plays_36 : decode cX8_plays 36 = .ok (.iload_n 3, 1) := dk_29 (dk_at dksX8_plays_1 13 rfl rfl)
theorem dX8_plays_37 : decode cX8_plays 37 = .ok (.iconst 1, 1) := dk_4 (dk_at dksX8_plays_1 14 rfl rfl)
theorem dX8_plays_38 : decode cX8_plays 38 = .ok (.iadd, 1) := dk_96 (dk_at dksX8_plays_1 15 rfl rfl)
theorem dX8_plays_39 : decode cX8_plays 39 = .ok (.iload 4, 2) := dk_21 4 (dk_at dksX8_plays_1 16 rfl rfl)
theorem dX8_plays_41 : decode cX8_plays 41 = .ok (.invokevirtual 447, 3) := dk_182 1 191 (dk_at dksX8_plays_1 18 rfl rfl)
theorem dX8_plays_44 : decode cX8_plays 44 = .ok (.istore 7, 2) := dk_54 7 (dk_at dksX8_plays_1 21 rfl rfl)
theorem dX8_plays_46 : decode cX8_plays 46 = .ok (.iconst (-1), 1) := dk_2 (dk_at dksX8_plays_1 23 rfl rfl)
theorem dX8_plays_47 : decode cX8_plays 47 = .ok (.istore 8, 2) := dk_54 8 (dk_at dksX8_plays_2 0 rfl rfl)
theorem dX8_plays_49 : decode cX8_plays 49 = .ok (.bipush 62, 2) := dk_16 62 (dk_at dksX8_plays_2 2 rfl rfl)
theorem dX8_plays_51 : decode cX8_plays 51 = .ok (.istore 9, 2) := dk_54 9 (dk_at dksX8_plays_2 4 rfl rfl)
theorem dX8_plays_53 : decode cX8_plays 53 = .ok (.iload 9, 2) := dk_21 9 (dk_at dksX8_plays_2 6 rfl rfl)
theorem dX8_plays_55 : decode cX8_plays 55 = .ok (.ifCond .lt 159, 3) := dk_155 0 159 (dk_at dksX8_plays_2 8 rfl rfl)
theorem dX8_plays_58 : decode cX8_plays 58 = .ok (.iload 9, 2) := dk_21 9 (dk_at dksX8_plays_2 11 rfl rfl)
theorem dX8_plays_60 : decode cX8_plays 60 = .ok (.bipush 7, 2) := dk_16 7 (dk_at dksX8_plays_2 13 rfl rfl)
theorem dX8_plays_62 : decode cX8_plays 62 = .ok (.idiv, 1) := dk_108 (dk_at dksX8_plays_2 15 rfl rfl)
theorem dX8_plays_63 : decode cX8_plays 63 = .ok (.istore 10, 2) := dk_54 10 (dk_at dksX8_plays_2 16 rfl rfl)
theorem dX8_plays_65 : decode cX8_plays 65 = .ok (.iload 10, 2) := dk_21 10 (dk_at dksX8_plays_2 18 rfl rfl)
theorem dX8_plays_67 : decode cX8_plays 67 = .ok (.aload_n 0, 1) := dk_42 (dk_at dksX8_plays_2 20 rfl rfl)
theorem dX8_plays_68 : decode cX8_plays 68 = .ok (.getfield 35, 3) := dk_180 0 35 (dk_at dksX8_plays_2 21 rfl rfl)
theorem dX8_plays_71 : decode cX8_plays 71 = .ok (.iconst 3, 1) := dk_6 (dk_at dksX8_plays_3 0 rfl rfl)
theorem dX8_plays_72 : decode cX8_plays 72 = .ok (.iaload, 1) := dk_46 (dk_at dksX8_plays_3 1 rfl rfl)
theorem dX8_plays_73 : decode cX8_plays 73 = .ok (.if_icmp .ge 135, 3) := dk_162 0 135 (dk_at dksX8_plays_3 2 rfl rfl)
theorem dX8_plays_76 : decode cX8_plays 76 = .ok (.aload_n 0, 1) := dk_42 (dk_at dksX8_plays_3 5 rfl rfl)
theorem dX8_plays_77 : decode cX8_plays 77 = .ok (.getfield 35, 3) := dk_180 0 35 (dk_at dksX8_plays_3 6 rfl rfl)
theorem dX8_plays_80 : decode cX8_plays 80 = .ok (.bipush 42, 2) := dk_16 42 (dk_at dksX8_plays_3 9 rfl rfl)
theorem dX8_plays_82 : decode cX8_plays 82 = .ok (.iload 10, 2) := dk_21 10 (dk_at dksX8_plays_3 11 rfl rfl)
theorem dX8_plays_84 : decode cX8_plays 84 = .ok (.iadd, 1) := dk_96 (dk_at dksX8_plays_3 13 rfl rfl)
theorem dX8_plays_85 : decode cX8_plays 85 = .ok (.iaload, 1) := dk_46 (dk_at dksX8_plays_3 14 rfl rfl)
theorem dX8_plays_86 : decode cX8_plays 86 = .ok (.iload 6, 2) := dk_21 6 (dk_at dksX8_plays_3 15 rfl rfl)
theorem dX8_plays_88 : decode cX8_plays 88 = .ok (.if_icmp .ne 120, 3) := dk_160 0 120 (dk_at dksX8_plays_3 17 rfl rfl)
theorem dX8_plays_91 : decode cX8_plays 91 = .ok (.aload_n 0, 1) := dk_42 (dk_at dksX8_plays_3 20 rfl rfl)
theorem dX8_plays_92 : decode cX8_plays 92 = .ok (.iload 10, 2) := dk_21 10 (dk_at dksX8_plays_3 21 rfl rfl)
theorem dX8_plays_94 : decode cX8_plays 94 = .ok (.iload 6, 2) := dk_21 6 (dk_at dksX8_plays_4 0 rfl rfl)
theorem dX8_plays_96 : decode cX8_plays 96 = .ok (.invokevirtual 357, 3) := dk_182 1 101 (dk_at dksX8_plays_4 2 rfl rfl)
theorem dX8_plays_99 : decode cX8_plays 99 = .ok (.iload 9, 2) := dk_21 9 (dk_at dksX8_plays_4 5 rfl rfl)
theorem dX8_plays_101 : decode cX8_plays 101 = .ok (.bipush 7, 2) := dk_16 7 (dk_at dksX8_plays_4 7 rfl rfl)
theorem dX8_plays_103 : decode cX8_plays 103 = .ok (.irem, 1) := dk_112 (dk_at dksX8_plays_4 9 rfl rfl)
theorem dX8_plays_104 : decode cX8_plays 104 = .ok (.invokestatic 109, 3) := dk_184 0 109 (dk_at dksX8_plays_4 10 rfl rfl)
theorem dX8_plays_107 : decode cX8_plays 107 = .ok (.ifCond .ne 6, 3) := dk_154 0 6 (dk_at dksX8_plays_4 13 rfl rfl)
theorem dX8_plays_110 : decode cX8_plays 110 = .ok (.goto 98, 3) := dk_167 0 98 (dk_at dksX8_plays_4 16 rfl rfl)
theorem dX8_plays_113 : decode cX8_plays 113 = .ok (.aload_n 0, 1) := dk_42 (dk_at dksX8_plays_4 19 rfl rfl)
theorem dX8_plays_114 : decode cX8_plays 114 = .ok (.getfield 35, 3) := dk_180 0 35 (dk_at dksX8_plays_4 20 rfl rfl)
theorem dX8_plays_117 : decode cX8_plays 117 = .ok (.bipush 42, 2) := dk_16 42 (dk_at dksX8_plays_5 0 rfl rfl)
theorem dX8_plays_119 : decode cX8_plays 119 = .ok (.iload 10, 2) := dk_21 10 (dk_at dksX8_plays_5 2 rfl rfl)
theorem dX8_plays_121 : decode cX8_plays 121 = .ok (.iadd, 1) := dk_96 (dk_at dksX8_plays_5 4 rfl rfl)
theorem dX8_plays_122 : decode cX8_plays 122 = .ok (.iload 9, 2) := dk_21 9 (dk_at dksX8_plays_5 5 rfl rfl)
theorem dX8_plays_124 : decode cX8_plays 124 = .ok (.bipush 7, 2) := dk_16 7 (dk_at dksX8_plays_5 7 rfl rfl)
theorem dX8_plays_126 : decode cX8_plays 126 = .ok (.irem, 1) := dk_112 (dk_at dksX8_plays_5 9 rfl rfl)
theorem dX8_plays_127 : decode cX8_plays 127 = .ok (.iastore, 1) := dk_79 (dk_at dksX8_plays_5 10 rfl rfl)
theorem dX8_plays_128 : decode cX8_plays 128 = .ok (.aload_n 0, 1) := dk_42 (dk_at dksX8_plays_5 11 rfl rfl)
theorem dX8_plays_129 : decode cX8_plays 129 = .ok (.iload_n 1, 1) := dk_27 (dk_at dksX8_plays_5 12 rfl rfl)
theorem dX8_plays_130 : decode cX8_plays 130 = .ok (.iload_n 2, 1) := dk_28 (dk_at dksX8_plays_5 13 rfl rfl)
theorem dX8_plays_131 : decode cX8_plays 131 = .ok (.iload_n 3, 1) := dk_29 (dk_at dksX8_plays_5 14 rfl rfl)
theorem dX8_plays_132 : decode cX8_plays 132 = .ok (.iconst 1, 1) := dk_4 (dk_at dksX8_plays_5 15 rfl rfl)
theorem dX8_plays_133 : decode cX8_plays 133 = .ok (.iadd, 1) := dk_96 (dk_at dksX8_plays_5 16 rfl rfl)
theorem dX8_plays_134 : decode cX8_plays 134 = .ok (.iload 4, 2) := dk_21 4 (dk_at dksX8_plays_5 17 rfl rfl)
theorem dX8_plays_136 : decode cX8_plays 136 = .ok (.invokevirtual 447, 3) := dk_182 1 191 (dk_at dksX8_plays_5 19 rfl rfl)
theorem dX8_plays_139 : decode cX8_plays 139 = .ok (.iload 5, 2) := dk_21 5 (dk_at dksX8_plays_5 22 rfl rfl)
theorem dX8_plays_141 : decode cX8_plays 141 = .ok (.ifCond .eq 12, 3) := dk_153 0 12 (dk_at dksX8_plays_6 0 rfl rfl)
theorem dX8_plays_144 : decode cX8_plays 144 = .ok (.aload_n 0, 1) := dk_42 (dk_at dksX8_plays_6 3 rfl rfl)
theorem dX8_plays_145 : decode cX8_plays 145 = .ok (.iload 10, 2) := dk_21 10 (dk_at dksX8_plays_6 4 rfl rfl)
theorem dX8_plays_147 : decode cX8_plays 147 = .ok (.invokevirtual 313, 3) := dk_182 1 57 (dk_at dksX8_plays_6 6 rfl rfl)
theorem dX8_plays_150 : decode cX8_plays 150 = .ok (.goto 10, 3) := dk_167 0 10 (dk_at dksX8_plays_6 9 rfl rfl)
theorem dX8_plays_153 : decode cX8_plays 153 = .ok (.aload_n 0, 1) := dk_42 (dk_at dksX8_plays_6 12 rfl rfl)
theorem dX8_plays_154 : decode cX8_plays 154 = .ok (.iload 10, 2) := dk_21 10 (dk_at dksX8_plays_6 13 rfl rfl)
theorem dX8_plays_156 : decode cX8_plays 156 = .ok (.invokevirtual 313, 3) := dk_182 1 57 (dk_at dksX8_plays_6 15 rfl rfl)
theorem dX8_plays_159 : decode cX8_plays 159 = .ok (.ineg, 1) := dk_116 (dk_at dksX8_plays_6 18 rfl rfl)
theorem dX8_plays_160 : decode cX8_plays 160 = .ok (.iadd, 1) := dk_96 (dk_at dksX8_plays_6 19 rfl rfl)
theorem dX8_plays_161 : decode cX8_plays 161 = .ok (.istore 11, 2) := dk_54 11 (dk_at dksX8_plays_6 20 rfl rfl)
theorem dX8_plays_163 : decode cX8_plays 163 = .ok (.aload_n 0, 1) := dk_42 (dk_at dksX8_plays_6 22 rfl rfl)
theorem dX8_plays_164 : decode cX8_plays 164 = .ok (.getfield 35, 3) := dk_180 0 35 (dk_at dksX8_plays_7 0 rfl rfl)
theorem dX8_plays_167 : decode cX8_plays 167 = .ok (.bipush 42, 2) := dk_16 42 (dk_at dksX8_plays_7 3 rfl rfl)
theorem dX8_plays_169 : decode cX8_plays 169 = .ok (.iload 10, 2) := dk_21 10 (dk_at dksX8_plays_7 5 rfl rfl)
theorem dX8_plays_171 : decode cX8_plays 171 = .ok (.iadd, 1) := dk_96 (dk_at dksX8_plays_7 7 rfl rfl)
theorem dX8_plays_172 : decode cX8_plays 172 = .ok (.iload 6, 2) := dk_21 6 (dk_at dksX8_plays_7 8 rfl rfl)
theorem dX8_plays_174 : decode cX8_plays 174 = .ok (.iastore, 1) := dk_79 (dk_at dksX8_plays_7 10 rfl rfl)
theorem dX8_plays_175 : decode cX8_plays 175 = .ok (.iload 5, 2) := dk_21 5 (dk_at dksX8_plays_7 11 rfl rfl)
theorem dX8_plays_177 : decode cX8_plays 177 = .ok (.ifCond .eq 13, 3) := dk_153 0 13 (dk_at dksX8_plays_7 13 rfl rfl)
theorem dX8_plays_180 : decode cX8_plays 180 = .ok (.iload 11, 2) := dk_21 11 (dk_at dksX8_plays_7 16 rfl rfl)
theorem dX8_plays_182 : decode cX8_plays 182 = .ok (.iload 7, 2) := dk_21 7 (dk_at dksX8_plays_7 18 rfl rfl)
theorem dX8_plays_184 : decode cX8_plays 184 = .ok (.if_icmp .ge 16, 3) := dk_162 0 16 (dk_at dksX8_plays_7 20 rfl rfl)
theorem dX8_plays_187 : decode cX8_plays 187 = .ok (.goto 21, 3) := dk_167 0 21 (dk_at dksX8_plays_8 0 rfl rfl)
theorem dX8_plays_190 : decode cX8_plays 190 = .ok (.iload 11, 2) := dk_21 11 (dk_at dksX8_plays_8 3 rfl rfl)
theorem dX8_plays_192 : decode cX8_plays 192 = .ok (.iload 7, 2) := dk_21 7 (dk_at dksX8_plays_8 5 rfl rfl)
theorem dX8_plays_194 : decode cX8_plays 194 = .ok (.if_icmp .le 6, 3) := dk_164 0 6 (dk_at dksX8_plays_8 7 rfl rfl)
theorem dX8_plays_197 : decode cX8_plays 197 = .ok (.goto 11, 3) := dk_167 0 11 (dk_at dksX8_plays_8 10 rfl rfl)
theorem dX8_plays_200 : decode cX8_plays 200 = .ok (.iload 11, 2) := dk_21 11 (dk_at dksX8_plays_8 13 rfl rfl)
theorem dX8_plays_202 : decode cX8_plays 202 = .ok (.istore 7, 2) := dk_54 7 (dk_at dksX8_plays_8 15 rfl rfl)
theorem dX8_plays_204 : decode cX8_plays 204 = .ok (.iload 9, 2) := dk_21 9 (dk_at dksX8_plays_8 17 rfl rfl)
theorem dX8_plays_206 : decode cX8_plays 206 = .ok (.istore 8, 2) := dk_54 8 (dk_at dksX8_plays_8 19 rfl rfl)
theorem dX8_plays_208 : decode cX8_plays 208 = .ok (.iinc 9 (-1), 3) := dk_132 9 255 (dk_at dksX8_plays_8 21 rfl rfl)
theorem dX8_plays_211 : decode cX8_plays 211 = .ok (.goto (-158), 3) := dk_167 255 98 (dk_at dksX8_plays_9 0 rfl rfl)
theorem dX8_plays_214 : decode cX8_plays 214 = .ok (.iload_n 3, 1) := dk_29 (dk_at dksX8_plays_9 3 rfl rfl)
theorem dX8_plays_215 : decode cX8_plays 215 = .ok (.ifCond .ne 9, 3) := dk_154 0 9 (dk_at dksX8_plays_9 4 rfl rfl)
theorem dX8_plays_218 : decode cX8_plays 218 = .ok (.aload_n 0, 1) := dk_42 (dk_at dksX8_plays_9 7 rfl rfl)
theorem dX8_plays_219 : decode cX8_plays 219 = .ok (.iload 8, 2) := dk_21 8 (dk_at dksX8_plays_9 8 rfl rfl)
theorem dX8_plays_221 : decode cX8_plays 221 = .ok (.putfield 450, 3) := dk_181 1 194 (dk_at dksX8_plays_9 10 rfl rfl)
theorem dX8_plays_224 : decode cX8_plays 224 = .ok (.iload 7, 2) := dk_21 7 (dk_at dksX8_plays_9 13 rfl rfl)
theorem dX8_plays_226 : decode cX8_plays 226 = .ok (.ireturn, 1) := dk_172 (dk_at dksX8_plays_9 15 rfl rfl)
abbrev cX8_moveOf : ByteArray := prog_14_method_137_code
def yX8_moveOf : MethodName := ⟨RX8, "moveOf", "(IIII)I"⟩
def dkwX8_moveOf_3 : List UInt8 := [180, 1, 194, 16, 7, 108, 167, 0, 10, 42, 180, 1, 194, 16, 7, 112, 172]
abbrev dktX8_moveOf_3 : List UInt8 := dkwX8_moveOf_3 ++ []
def dkwX8_moveOf_2 : List UInt8 := [182, 1, 191, 87, 42, 180, 1, 194, 156, 0, 10, 42, 16, 8, 182, 1, 71, 172, 21, 4, 154, 0, 13, 42]
abbrev dktX8_moveOf_2 : List UInt8 := dkwX8_moveOf_2 ++ dktX8_moveOf_3
def dkwX8_moveOf_1 : List UInt8 := [2, 172, 21, 4, 133, 9, 10, 184, 0, 105, 154, 0, 9, 42, 8, 182, 1, 71, 172, 42, 27, 28, 3, 29]
abbrev dktX8_moveOf_1 : List UInt8 := dkwX8_moveOf_1 ++ dktX8_moveOf_2
def dkwX8_moveOf_0 : List UInt8 := [42, 3, 181, 0, 70, 42, 42, 27, 28, 29, 4, 182, 1, 197, 181, 0, 73, 42, 180, 0, 73, 158, 0, 5]
abbrev dktX8_moveOf_0 : List UInt8 := dkwX8_moveOf_0 ++ dktX8_moveOf_1
theorem dksX8_moveOf_0 : cX8_moveOf.data.toList.drop 0 = dktX8_moveOf_0 := by decide +kernel
theorem dksX8_moveOf_1 : cX8_moveOf.data.toList.drop 24 = dktX8_moveOf_1 := dk_seg dksX8_moveOf_0 24 rfl rfl
theorem dksX8_moveOf_2 : cX8_moveOf.data.toList.drop 48 = dktX8_moveOf_2 := dk_seg dksX8_moveOf_1 24 rfl rfl
theorem dksX8_moveOf_3 : cX8_moveOf.data.toList.drop 72 = dktX8_moveOf_3 := dk_seg dksX8_moveOf_2 24 rfl rfl
theorem dX8_moveOf_0 : decode cX8_moveOf 0 = .ok (.aload_n 0, 1) := dk_42 (dk_at dksX8_moveOf_0 0 rfl rfl)
theorem dX8_moveOf_1 : decode cX8_moveOf 1 = .ok (.iconst 0, 1) := dk_3 (dk_at dksX8_moveOf_0 1 rfl rfl)
theorem dX8_moveOf_2 : decode cX8_moveOf 2 = .ok (.putfield 70, 3) := dk_181 0 70 (dk_at dksX8_moveOf_0 2 rfl rfl)
theorem dX8_moveOf_5 : decode cX8_moveOf 5 = .ok (.aload_n 0, 1) := dk_42 (dk_at dksX8_moveOf_0 5 rfl rfl)
theorem dX8_moveOf_6 : decode cX8_moveOf 6 = .ok (.aload_n 0, 1) := dk_42 (dk_at dksX8_moveOf_0 6 rfl rfl)
theorem dX8_moveOf_7 : decode cX8_moveOf 7 = .ok (.iload_n 1, 1) := dk_27 (dk_at dksX8_moveOf_0 7 rfl rfl)
theorem dX8_moveOf_8 : decode cX8_moveOf 8 = .ok (.iload_n 2, 1) := dk_28 (dk_at dksX8_moveOf_0 8 rfl rfl)
theorem dX8_moveOf_9 : decode cX8_moveOf 9 = .ok (.iload_n 3, 1) := dk_29 (dk_at dksX8_moveOf_0 9 rfl rfl)
theorem dX8_moveOf_10 : decode cX8_moveOf 10 = .ok (.iconst 1, 1) := dk_4 (dk_at dksX8_moveOf_0 10 rfl rfl)
theorem dX8_moveOf_11 : decode cX8_moveOf 11 = .ok (.invokevirtual 453, 3) := dk_182 1 197 (dk_at dksX8_moveOf_0 11 rfl rfl)
theorem dX8_moveOf_14 : decode cX8_moveOf 14 = .ok (.putfield 73, 3) := dk_181 0 73 (dk_at dksX8_moveOf_0 14 rfl rfl)
theorem dX8_moveOf_17 : decode cX8_moveOf 17 = .ok (.aload_n 0, 1) := dk_42 (dk_at dksX8_moveOf_0 17 rfl rfl)
theorem dX8_moveOf_18 : decode cX8_moveOf 18 = .ok (.getfield 73, 3) := dk_180 0 73 (dk_at dksX8_moveOf_0 18 rfl rfl)
theorem dX8_moveOf_21 : decode cX8_moveOf 21 = .ok (.ifCond .le 5, 3) := dk_158 0 5 (dk_at dksX8_moveOf_0 21 rfl rfl)
theorem dX8_moveOf_24 : decode cX8_moveOf 24 = .ok (.iconst (-1), 1) := dk_2 (dk_at dksX8_moveOf_1 0 rfl rfl)
theorem dX8_moveOf_25 : decode cX8_moveOf 25 = .ok (.ireturn, 1) := dk_172 (dk_at dksX8_moveOf_1 1 rfl rfl)
theorem dX8_moveOf_26 : decode cX8_moveOf 26 = .ok (.iload 4, 2) := dk_21 4 (dk_at dksX8_moveOf_1 2 rfl rfl)
theorem dX8_moveOf_28 : decode cX8_moveOf 28 = .ok (.i2l, 1) := dk_133 (dk_at dksX8_moveOf_1 4 rfl rfl)
theorem dX8_moveOf_29 : decode cX8_moveOf 29 = .ok (.lconst 0, 1) := dk_9 (dk_at dksX8_moveOf_1 5 rfl rfl)
theorem dX8_moveOf_30 : decode cX8_moveOf 30 = .ok (.lconst 1, 1) := dk_10 (dk_at dksX8_moveOf_1 6 rfl rfl)
theorem dX8_moveOf_31 : decode cX8_moveOf 31 = .ok (.invokestatic 105, 3) := dk_184 0 105 (dk_at dksX8_moveOf_1 7 rfl rfl)
theorem dX8_moveOf_34 : decode cX8_moveOf 34 = .ok (.ifCond .ne 9, 3) := dk_154 0 9 (dk_at dksX8_moveOf_1 10 rfl rfl)
theorem dX8_moveOf_37 : decode cX8_moveOf 37 = .ok (.aload_n 0, 1) := dk_42 (dk_at dksX8_moveOf_1 13 rfl rfl)
theorem dX8_moveOf_38 : decode cX8_moveOf 38 = .ok (.iconst 5, 1) := dk_8 (dk_at dksX8_moveOf_1 14 rfl rfl)
theorem dX8_moveOf_39 : decode cX8_moveOf 39 = .ok (.invokevirtual 327, 3) := dk_182 1 71 (dk_at dksX8_moveOf_1 15 rfl rfl)
theorem dX8_moveOf_42 : decode cX8_moveOf 42 = .ok (.ireturn, 1) := dk_172 (dk_at dksX8_moveOf_1 18 rfl rfl)
theorem dX8_moveOf_43 : decode cX8_moveOf 43 = .ok (.aload_n 0, 1) := dk_42 (dk_at dksX8_moveOf_1 19 rfl rfl)
theorem dX8_moveOf_44 : decode cX8_moveOf 44 = .ok (.iload_n 1, 1) := dk_27 (dk_at dksX8_moveOf_1 20 rfl rfl)
theorem dX8_moveOf_45 : decode cX8_moveOf 45 = .ok (.iload_n 2, 1) := dk_28 (dk_at dksX8_moveOf_1 21 rfl rfl)
theorem dX8_moveOf_46 : decode cX8_moveOf 46 = .ok (.iconst 0, 1) := dk_3 (dk_at dksX8_moveOf_1 22 rfl rfl)
theorem dX8_moveOf_47 : decode cX8_moveOf 47 = .ok (.iload_n 3, 1) := dk_29 (dk_at dksX8_moveOf_1 23 rfl rfl)
theorem dX8_moveOf_48 : decode cX8_moveOf 48 = .ok (.invokevirtual 447, 3) := dk_182 1 191 (dk_at dksX8_moveOf_2 0 rfl rfl)
theorem dX8_moveOf_51 : decode cX8_moveOf 51 = .ok (.pop, 1) := dk_87 (dk_at dksX8_moveOf_2 3 rfl rfl)
theorem dX8_moveOf_52 : decode cX8_moveOf 52 = .ok (.aload_n 0, 1) := dk_42 (dk_at dksX8_moveOf_2 4 rfl rfl)
theorem dX8_moveOf_53 : decode cX8_moveOf 53 = .ok (.getfield 450, 3) := dk_180 1 194 (dk_at dksX8_moveOf_2 5 rfl rfl)
theorem dX8_moveOf_56 : decode cX8_moveOf 56 = .ok (.ifCond .ge 10, 3) := dk_156 0 10 (dk_at dksX8_moveOf_2 8 rfl rfl)
theorem dX8_moveOf_59 : decode cX8_moveOf 59 = .ok (.aload_n 0, 1) := dk_42 (dk_at dksX8_moveOf_2 11 rfl rfl)
theorem dX8_moveOf_60 : decode cX8_moveOf 60 = .ok (.bipush 8, 2) := dk_16 8 (dk_at dksX8_moveOf_2 12 rfl rfl)
theorem dX8_moveOf_62 : decode cX8_moveOf 62 = .ok (.invokevirtual 327, 3) := dk_182 1 71 (dk_at dksX8_moveOf_2 14 rfl rfl)
theorem dX8_moveOf_65 : decode cX8_moveOf 65 = .ok (.ireturn, 1) := dk_172 (dk_at dksX8_moveOf_2 17 rfl rfl)
theorem dX8_moveOf_66 : decode cX8_moveOf 66 = .ok (.iload 4, 2) := dk_21 4 (dk_at dksX8_moveOf_2 18 rfl rfl)
theorem dX8_moveOf_68 : decode cX8_moveOf 68 = .ok (.ifCond .ne 13, 3) := dk_154 0 13 (dk_at dksX8_moveOf_2 20 rfl rfl)
theorem dX8_moveOf_71 : decode cX8_moveOf 71 = .ok (.aload_n 0, 1) := dk_42 (dk_at dksX8_moveOf_2 23 rfl rfl)
theorem dX8_moveOf_72 : decode cX8_moveOf 72 = .ok (.getfield 450, 3) := dk_180 1 194 (dk_at dksX8_moveOf_3 0 rfl rfl)
theorem dX8_moveOf_75 : decode cX8_moveOf 75 = .ok (.bipush 7, 2) := dk_16 7 (dk_at dksX8_moveOf_3 3 rfl rfl)
theorem dX8_moveOf_77 : decode cX8_moveOf 77 = .ok (.idiv, 1) := dk_108 (dk_at dksX8_moveOf_3 5 rfl rfl)
theorem dX8_moveOf_78 : decode cX8_moveOf 78 = .ok (.goto 10, 3) := dk_167 0 10 (dk_at dksX8_moveOf_3 6 rfl rfl)
theorem dX8_moveOf_81 : decode cX8_moveOf 81 = .ok (.aload_n 0, 1) := dk_42 (dk_at dksX8_moveOf_3 9 rfl rfl)
theorem dX8_moveOf_82 : decode cX8_moveOf 82 = .ok (.getfield 450, 3) := dk_180 1 194 (dk_at dksX8_moveOf_3 10 rfl rfl)
theorem dX8_moveOf_85 : decode cX8_moveOf 85 = .ok (.bipush 7, 2) := dk_16 7 (dk_at dksX8_moveOf_3 13 rfl rfl)
theorem dX8_moveOf_87 : decode cX8_moveOf 87 = .ok (.irem, 1) := dk_112 (dk_at dksX8_moveOf_3 15 rfl rfl)
theorem dX8_moveOf_88 : decode cX8_moveOf 88 = .ok (.ireturn, 1) := dk_172 (dk_at dksX8_moveOf_3 16 rfl rfl)
abbrev cX8_bites : ByteArray := prog_14_method_138_code
def yX8_bites : MethodName := ⟨RX8, "bites", "(II)Z"⟩
def dkwX8_bites_9 : List UInt8 := [47, 97, 55, 6, 132, 8, 1, 167, 255, 234, 42, 22, 6, 22, 4, 182, 1, 200, 172]
abbrev dktX8_bites_9 : List UInt8 := dkwX8_bites_9 ++ []
def dkwX8_bites_8 : List UInt8 := [167, 255, 162, 9, 55, 6, 28, 54, 8, 21, 8, 16, 9, 163, 0, 21, 22, 6, 42, 180, 0, 60, 21, 8]
abbrev dktX8_bites_8 : List UInt8 := dkwX8_bites_8 ++ dktX8_bites_9
def dkwX8_bites_7 : List UInt8 := [47, 16, 16, 42, 180, 0, 35, 7, 46, 100, 133, 105, 80, 22, 4, 20, 1, 116, 105, 55, 4, 132, 6, 1]
abbrev dktX8_bites_7 : List UInt8 := dkwX8_bites_7 ++ dktX8_bites_8
def dkwX8_bites_6 : List UInt8 := [100, 47, 42, 180, 0, 35, 7, 46, 133, 105, 97, 80, 132, 7, 255, 167, 255, 205, 42, 180, 0, 60, 3, 92]
abbrev dktX8_bites_6 : List UInt8 := dkwX8_bites_6 ++ dktX8_bites_7
def dkwX8_bites_5 : List UInt8 := [180, 0, 60, 21, 7, 47, 16, 16, 42, 180, 0, 35, 7, 46, 100, 133, 105, 42, 180, 0, 60, 21, 7, 4]
abbrev dktX8_bites_5 : List UInt8 := dkwX8_bites_5 ++ dktX8_bites_6
def dkwX8_bites_4 : List UInt8 := [54, 6, 21, 6, 29, 162, 0, 94, 16, 9, 54, 7, 21, 7, 158, 0, 52, 42, 180, 0, 60, 21, 7, 42]
abbrev dktX8_bites_4 : List UInt8 := dkwX8_bites_4 ++ dktX8_bites_5
def dkwX8_bites_3 : List UInt8 := [180, 0, 60, 21, 6, 21, 6, 154, 0, 7, 10, 167, 0, 4, 9, 80, 132, 6, 1, 167, 255, 229, 3]
abbrev dktX8_bites_3 : List UInt8 := dkwX8_bites_3 ++ dktX8_bites_4
def dkwX8_bites_2 : List UInt8 := [42, 5, 182, 1, 63, 126, 184, 1, 140, 62, 10, 55, 4, 3, 54, 6, 21, 6, 16, 9, 163, 0, 26, 42]
abbrev dktX8_bites_2 : List UInt8 := dkwX8_bites_2 ++ dktX8_bites_3
def dkwX8_bites_1 : List UInt8 := [172, 28, 133, 9, 20, 1, 69, 184, 0, 105, 154, 0, 9, 42, 8, 182, 0, 85, 172, 42, 27, 182, 1, 85]
abbrev dktX8_bites_1 : List UInt8 := dkwX8_bites_1 ++ dktX8_bites_2
def dkwX8_bites_0 : List UInt8 := [42, 3, 181, 0, 70, 42, 3, 181, 0, 73, 42, 27, 133, 182, 1, 80, 154, 0, 9, 42, 5, 182, 0, 85]
abbrev dktX8_bites_0 : List UInt8 := dkwX8_bites_0 ++ dktX8_bites_1
theorem dksX8_bites_0 : cX8_bites.data.toList.drop 0 = dktX8_bites_0 := by decide +kernel
theorem dksX8_bites_1 : cX8_bites.data.toList.drop 24 = dktX8_bites_1 := dk_seg dksX8_bites_0 24 rfl rfl
theorem dksX8_bites_2 : cX8_bites.data.toList.drop 48 = dktX8_bites_2 := dk_seg dksX8_bites_1 24 rfl rfl
theorem dksX8_bites_3 : cX8_bites.data.toList.drop 72 = dktX8_bites_3 := dk_seg dksX8_bites_2 24 rfl rfl
theorem dksX8_bites_4 : cX8_bites.data.toList.drop 95 = dktX8_bites_4 := dk_seg dksX8_bites_3 23 rfl rfl
theorem dksX8_bites_5 : cX8_bites.data.toList.drop 119 = dktX8_bites_5 := dk_seg dksX8_bites_4 24 rfl rfl
theorem dksX8_bites_6 : cX8_bites.data.toList.drop 143 = dktX8_bites_6 := dk_seg dksX8_bites_5 24 rfl rfl
theorem dksX8_bites_7 : cX8_bites.data.toList.drop 167 = dktX8_bites_7 := dk_seg dksX8_bites_6 24 rfl rfl
theorem dksX8_bites_8 : cX8_bites.data.toList.drop 191 = dktX8_bites_8 := dk_seg dksX8_bites_7 24 rfl rfl
theorem dksX8_bites_9 : cX8_bites.data.toList.drop 215 = dktX8_bites_9 := dk_seg dksX8_bites_8 24 rfl rfl
theorem dX8_bites_0 : decode cX8_bites 0 = .ok (.aload_n 0, 1) := dk_42 (dk_at dksX8_bites_0 0 rfl rfl)
theorem dX8_bites_1 : decode cX8_bites 1 = .ok (.iconst 0, 1) := dk_3 (dk_at dksX8_bites_0 1 rfl rfl)
theorem dX8_bites_2 : decode cX8_bites 2 = .ok (.putfield 70, 3) := dk_181 0 70 (dk_at dksX8_bites_0 2 rfl rfl)
theorem dX8_bites_5 : decode cX8_bites 5 = .ok (.aload_n 0, 1) := dk_42 (dk_at dksX8_bites_0 5 rfl rfl)
theorem dX8_bites_6 : decode cX8_bites 6 = .ok (.iconst 0, 1) := dk_3 (dk_at dksX8_bites_0 6 rfl rfl)
theorem dX8_bites_7 : decode cX8_bites 7 = .ok (.putfield 73, 3) := dk_181 0 73 (dk_at dksX8_bites_0 7 rfl rfl)
theorem dX8_bites_10 : decode cX8_bites 10 = .ok (.aload_n 0, 1) := dk_42 (dk_at dksX8_bites_0 10 rfl rfl)
theorem dX8_bites_11 : decode cX8_bites 11 = .ok (.iload_n 1, 1) := dk_27 (dk_at dksX8_bites_0 11 rfl rfl)
theorem dX8_bites_12 : decode cX8_bites 12 = .ok (.i2l, 1) := dk_133 (dk_at dksX8_bites_0 12 rfl rfl)
theorem dX8_bites_13 : decode cX8_bites 13 = .ok (.invokevirtual 336, 3) := dk_182 1 80 (dk_at dksX8_bites_0 13 rfl rfl)
theorem dX8_bites_16 : decode cX8_bites 16 = .ok (.ifCond .ne 9, 3) := dk_154 0 9 (dk_at dksX8_bites_0 16 rfl rfl)
theorem dX8_bites_19 : decode cX8_bites 19 = .ok (.aload_n 0, 1) := dk_42 (dk_at dksX8_bites_0 19 rfl rfl)
theorem dX8_bites_20 : decode cX8_bites 20 = .ok (.iconst 2, 1) := dk_5 (dk_at dksX8_bites_0 20 rfl rfl)
theorem dX8_bites_21 : decode cX8_bites 21 = .ok (.invokevirtual 85, 3) := dk_182 0 85 (dk_at dksX8_bites_0 21 rfl rfl)
theorem dX8_bites_24 : decode cX8_bites 24 = .ok (.ireturn, 1) := dk_172 (dk_at dksX8_bites_1 0 rfl rfl)
theorem dX8_bites_25 : decode cX8_bites 25 = .ok (.iload_n 2, 1) := dk_28 (dk_at dksX8_bites_1 1 rfl rfl)
theorem dX8_bites_26 : decode cX8_bites 26 = .ok (.i2l, 1) := dk_133 (dk_at dksX8_bites_1 2 rfl rfl)
theorem dX8_bites_27 : decode cX8_bites 27 = .ok (.lconst 0, 1) := dk_9 (dk_at dksX8_bites_1 3 rfl rfl)
theorem dX8_bites_28 : decode cX8_bites 28 = .ok (.ldc2_w 325, 3) := dk_20 1 69 (dk_at dksX8_bites_1 4 rfl rfl)
theorem dX8_bites_31 : decode cX8_bites 31 = .ok (.invokestatic 105, 3) := dk_184 0 105 (dk_at dksX8_bites_1 7 rfl rfl)
theorem dX8_bites_34 : decode cX8_bites 34 = .ok (.ifCond .ne 9, 3) := dk_154 0 9 (dk_at dksX8_bites_1 10 rfl rfl)
theorem dX8_bites_37 : decode cX8_bites 37 = .ok (.aload_n 0, 1) := dk_42 (dk_at dksX8_bites_1 13 rfl rfl)
theorem dX8_bites_38 : decode cX8_bites 38 = .ok (.iconst 5, 1) := dk_8 (dk_at dksX8_bites_1 14 rfl rfl)
theorem dX8_bites_39 : decode cX8_bites 39 = .ok (.invokevirtual 85, 3) := dk_182 0 85 (dk_at dksX8_bites_1 15 rfl rfl)
theorem dX8_bites_42 : decode cX8_bites 42 = .ok (.ireturn, 1) := dk_172 (dk_at dksX8_bites_1 18 rfl rfl)
theorem dX8_bites_43 : decode cX8_bites 43 = .ok (.aload_n 0, 1) := dk_42 (dk_at dksX8_bites_1 19 rfl rfl)
theorem dX8_bites_44 : decode cX8_bites 44 = .ok (.iload_n 1, 1) := dk_27 (dk_at dksX8_bites_1 20 rfl rfl)
theorem dX8_bites_45 : decode cX8_bites 45 = .ok (.invokevirtual 341, 3) := dk_182 1 85 (dk_at dksX8_bites_1 21 rfl rfl)
theorem dX8_bites_48 : decode cX8_bites 48 = .ok (.aload_n 0, 1) := dk_42 (dk_at dksX8_bites_2 0 rfl rfl)
theorem dX8_bites_49 : decode cX8_bites 49 = .ok (.iconst 2, 1) := dk_5 (dk_at dksX8_bites_2 1 rfl rfl)
theorem dX8_bites_50 : decode cX8_bites 50 = .ok (.invokevirtual 319, 3) := dk_182 1 63 (dk_at dksX8_bites_2 2 rfl rfl)
theorem dX8_bites_53 : decode cX8_bites 53 = .ok (.iand, 1) := dk_126 (dk_at dksX8_bites_2 5 rfl rfl)
theorem dX8_bites_54 : decode cX8_bites 54 = .ok (.invokestatic 396, 3) := dk_184 1 140 (dk_at dksX8_bites_2 6 rfl rfl)
theorem dX8_bites_57 : decode cX8_bites 57 = .ok (.istore_n 3, 1) := dk_62 (dk_at dksX8_bites_2 9 rfl rfl)
theorem dX8_bites_58 : decode cX8_bites 58 = .ok (.lconst 1, 1) := dk_10 (dk_at dksX8_bites_2 10 rfl rfl)
theorem dX8_bites_59 : decode cX8_bites 59 = .ok (.lstore 4, 2) := dk_55 4 (dk_at dksX8_bites_2 11 rfl rfl)
theorem dX8_bites_61 : decode cX8_bites 61 = .ok (.iconst 0, 1) := dk_3 (dk_at dksX8_bites_2 13 rfl rfl)
theorem dX8_bites_62 : decode cX8_bites 62 = .ok (.istore 6, 2) := dk_54 6 (dk_at dksX8_bites_2 14 rfl rfl)
theorem dX8_bites_64 : decode cX8_bites 64 = .ok (.iload 6, 2) := dk_21 6 (dk_at dksX8_bites_2 16 rfl rfl)
theorem dX8_bites_66 : decode cX8_bites 66 = .ok (.bipush 9, 2) := dk_16 9 (dk_at dksX8_bites_2 18 rfl rfl)
theorem dX8_bites_68 : decode cX8_bites 68 = .ok (.if_icmp .gt 26, 3) := dk_163 0 26 (dk_at dksX8_bites_2 20 rfl rfl)
theorem dX8_bites_71 : decode cX8_bites 71 = .ok (.aload_n 0, 1) := dk_42 (dk_at dksX8_bites_2 23 rfl rfl)
theorem dX8_bites_72 : decode cX8_bites 72 = .ok (.getfield 60, 3) := dk_180 0 60 (dk_at dksX8_bites_3 0 rfl rfl)
theorem dX8_bites_75 : decode cX8_bites 75 = .ok (.iload 6, 2) := dk_21 6 (dk_at dksX8_bites_3 3 rfl rfl)
theorem dX8_bites_77 : decode cX8_bites 77 = .ok (.iload 6, 2) := dk_21 6 (dk_at dksX8_bites_3 5 rfl rfl)
theorem dX8_bites_79 : decode cX8_bites 79 = .ok (.ifCond .ne 7, 3) := dk_154 0 7 (dk_at dksX8_bites_3 7 rfl rfl)
theorem dX8_bites_82 : decode cX8_bites 82 = .ok (.lconst 1, 1) := dk_10 (dk_at dksX8_bites_3 10 rfl rfl)
theorem dX8_bites_83 : decode cX8_bites 83 = .ok (.goto 4, 3) := dk_167 0 4 (dk_at dksX8_bites_3 11 rfl rfl)
theorem dX8_bites_86 : decode cX8_bites 86 = .ok (.lconst 0, 1) := dk_9 (dk_at dksX8_bites_3 14 rfl rfl)
theorem dX8_bites_87 : decode cX8_bites 87 = .ok (.lastore, 1) := dk_80 (dk_at dksX8_bites_3 15 rfl rfl)
theorem dX8_bites_88 : decode cX8_bites 88 = .ok (.iinc 6 1, 3) := dk_132 6 1 (dk_at dksX8_bites_3 16 rfl rfl)
theorem dX8_bites_91 : decode cX8_bites 91 = .ok (.goto (-27), 3) := dk_167 255 229 (dk_at dksX8_bites_3 19 rfl rfl)
theorem dX8_bites_94 : decode cX8_bites 94 = .ok (.iconst 0, 1) := dk_3 (dk_at dksX8_bites_3 22 rfl rfl)
theorem dX8_bites_95 : decode cX8_bites 95 = .ok (.istore 6, 2) := dk_54 6 (dk_at dksX8_bites_4 0 rfl rfl)
theorem dX8_bites_97 : decode cX8_bites 97 = .ok (.iload 6, 2) := dk_21 6 (dk_at dksX8_bites_4 2 rfl rfl)
theorem dX8_bites_99 : decode cX8_bites 99 = .ok (.iload_n 3, 1) := dk_29 (dk_at dksX8_bites_4 4 rfl rfl)
theorem dX8_bites_100 : decode cX8_bites 100 = .ok (.if_icmp .ge 94, 3) := dk_162 0 94 (dk_at dksX8_bites_4 5 rfl rfl)
theorem dX8_bites_103 : decode cX8_bites 103 = .ok (.bipush 9, 2) := dk_16 9 (dk_at dksX8_bites_4 8 rfl rfl)
theorem dX8_bites_105 : decode cX8_bites 105 = .ok (.istore 7, 2) := dk_54 7 (dk_at dksX8_bites_4 10 rfl rfl)
theorem dX8_bites_107 : decode cX8_bites 107 = .ok (.iload 7, 2) := dk_21 7 (dk_at dksX8_bites_4 12 rfl rfl)
theorem dX8_bites_109 : decode cX8_bites 109 = .ok (.ifCond .le 52, 3) := dk_158 0 52 (dk_at dksX8_bites_4 14 rfl rfl)
theorem dX8_bites_112 : decode cX8_bites 112 = .ok (.aload_n 0, 1) := dk_42 (dk_at dksX8_bites_4 17 rfl rfl)
theorem dX8_bites_113 : decode cX8_bites 113 = .ok (.getfield 60, 3) := dk_180 0 60 (dk_at dksX8_bites_4 18 rfl rfl)
theorem dX8_bites_116 : decode cX8_bites 116 = .ok (.iload 7, 2) := dk_21 7 (dk_at dksX8_bites_4 21 rfl rfl)
theorem dX8_bites_118 : decode cX8_bites 118 = .ok (.aload_n 0, 1) := dk_42 (dk_at dksX8_bites_4 23 rfl rfl)
theorem dX8_bites_119 : decode cX8_bites 119 = .ok (.getfield 60, 3) := dk_180 0 60 (dk_at dksX8_bites_5 0 rfl rfl)
theorem dX8_bites_122 : decode cX8_bites 122 = .ok (.iload 7, 2) := dk_21 7 (dk_at dksX8_bites_5 3 rfl rfl)
theorem dX8_bites_124 : decode cX8_bites 124 = .ok (.laload, 1) := dk_47 (dk_at dksX8_bites_5 5 rfl rfl)
theorem dX8_bites_125 : decode cX8_bites 125 = .ok (.bipush 16, 2) := dk_16 16 (dk_at dksX8_bites_5 6 rfl rfl)
theorem dX8_bites_127 : decode cX8_bites 127 = .ok (.aload_n 0, 1) := dk_42 (dk_at dksX8_bites_5 8 rfl rfl)
theorem dX8_bites_128 : decode cX8_bites 128 = .ok (.getfield 35, 3) := dk_180 0 35 (dk_at dksX8_bites_5 9 rfl rfl)
theorem dX8_bites_131 : decode cX8_bites 131 = .ok (.iconst 4, 1) := dk_7 (dk_at dksX8_bites_5 12 rfl rfl)
theorem dX8_bites_132 : decode cX8_bites 132 = .ok (.iaload, 1) := dk_46 (dk_at dksX8_bites_5 13 rfl rfl)
theorem dX8_bites_133 : decode cX8_bites 133 = .ok (.isub, 1) := dk_100 (dk_at dksX8_bites_5 14 rfl rfl)
theorem dX8_bites_134 : decode cX8_bites 134 = .ok (.i2l, 1) := dk_133 (dk_at dksX8_bites_5 15 rfl rfl)
theorem dX8_bites_135 : decode cX8_bites 135 = .ok (.lmul, 1) := dk_105 (dk_at dksX8_bites_5 16 rfl rfl)
theorem dX8_bites_136 : decode cX8_bites 136 = .ok (.aload_n 0, 1) := dk_42 (dk_at dksX8_bites_5 17 rfl rfl)
theorem dX8_bites_137 : decode cX8_bites 137 = .ok (.getfield 60, 3) := dk_180 0 60 (dk_at dksX8_bites_5 18 rfl rfl)
theorem dX8_bites_140 : decode cX8_bites 140 = .ok (.iload 7, 2) := dk_21 7 (dk_at dksX8_bites_5 21 rfl rfl)
theorem dX8_bites_142 : decode cX8_bites 142 = .ok (.iconst 1, 1) := dk_4 (dk_at dksX8_bites_5 23 rfl rfl)
theorem dX8_bites_143 : decode cX8_bites 143 = .ok (.isub, 1) := dk_100 (dk_at dksX8_bites_6 0 rfl rfl)
theorem dX8_bites_144 : decode cX8_bites 144 = .ok (.laload, 1) := dk_47 (dk_at dksX8_bites_6 1 rfl rfl)
theorem dX8_bites_145 : decode cX8_bites 145 = .ok (.aload_n 0, 1) := dk_42 (dk_at dksX8_bites_6 2 rfl rfl)
theorem dX8_bites_146 : decode cX8_bites 146 = .ok (.getfield 35, 3) := dk_180 0 35 (dk_at dksX8_bites_6 3 rfl rfl)
theorem dX8_bites_149 : decode cX8_bites 149 = .ok (.iconst 4, 1) := dk_7 (dk_at dksX8_bites_6 6 rfl rfl)
theorem dX8_bites_150 : decode cX8_bites 150 = .ok (.iaload, 1) := dk_46 (dk_at dksX8_bites_6 7 rfl rfl)
theorem dX8_bites_151 : decode cX8_bites 151 = .ok (.i2l, 1) := dk_133 (dk_at dksX8_bites_6 8 rfl rfl)
theorem dX8_bites_152 : decode cX8_bites 152 = .ok (.lmul, 1) := dk_105 (dk_at dksX8_bites_6 9 rfl rfl)
theorem dX8_bites_153 : decode cX8_bites 153 = .ok (.ladd, 1) := dk_97 (dk_at dksX8_bites_6 10 rfl rfl)
theorem dX8_bites_154 : decode cX8_bites 154 = .ok (.lastore, 1) := dk_80 (dk_at dksX8_bites_6 11 rfl rfl)
theorem dX8_bites_155 : decode cX8_bites 155 = .ok (.iinc 7 (-1), 3) := dk_132 7 255 (dk_at dksX8_bites_6 12 rfl rfl)
theorem dX8_bites_158 : decode cX8_bites 158 = .ok (.goto (-51), 3) := dk_167 255 205 (dk_at dksX8_bites_6 15 rfl rfl)
theorem dX8_bites_161 : decode cX8_bites 161 = .ok (.aload_n 0, 1) := dk_42 (dk_at dksX8_bites_6 18 rfl rfl)
theorem dX8_bites_162 : decode cX8_bites 162 = .ok (.getfield 60, 3) := dk_180 0 60 (dk_at dksX8_bites_6 19 rfl rfl)
theorem dX8_bites_165 : decode cX8_bites 165 = .ok (.iconst 0, 1) := dk_3 (dk_at dksX8_bites_6 22 rfl rfl)
theorem dX8_bites_166 : decode cX8_bites 166 = .ok (.dup2, 1) := dk_92 (dk_at dksX8_bites_6 23 rfl rfl)
theorem dX8_bites_167 : decode cX8_bites 167 = .ok (.laload, 1) := dk_47 (dk_at dksX8_bites_7 0 rfl rfl)
theorem dX8_bites_168 : decode cX8_bites 168 = .ok (.bipush 16, 2) := dk_16 16 (dk_at dksX8_bites_7 1 rfl rfl)
theorem dX8_bites_170 : decode cX8_bites 170 = .ok (.aload_n 0, 1) := dk_42 (dk_at dksX8_bites_7 3 rfl rfl)
theorem dX8_bites_171 : decode cX8_bites 171 = .ok (.getfield 35, 3) := dk_180 0 35 (dk_at dksX8_bites_7 4 rfl rfl)
theorem dX8_bites_174 : decode cX8_bites 174 = .ok (.iconst 4, 1) := dk_7 (dk_at dksX8_bites_7 7 rfl rfl)
theorem dX8_bites_175 : decode cX8_bites 175 = .ok (.iaload, 1) := dk_46 (dk_at dksX8_bites_7 8 rfl rfl)
theorem dX8_bites_176 : decode cX8_bites 176 = .ok (.isub, 1) := dk_100 (dk_at dksX8_bites_7 9 rfl rfl)
theorem dX8_bites_177 : decode cX8_bites 177 = .ok (.i2l, 1) := dk_133 (dk_at dksX8_bites_7 10 rfl rfl)
theorem dX8_bites_178 : decode cX8_bites 178 = .ok (.lmul, 1) := dk_105 (dk_at dksX8_bites_7 11 rfl rfl)
theorem dX8_bites_179 : decode cX8_bites 179 = .ok (.lastore, 1) := dk_80 (dk_at dksX8_bites_7 12 rfl rfl)
theorem dX8_bites_180 : decode cX8_bites 180 = .ok (.lload 4, 2) := dk_22 4 (dk_at dksX8_bites_7 13 rfl rfl)
theorem dX8_bites_182 : decode cX8_bites 182 = .ok (.ldc2_w 372, 3) := dk_20 1 116 (dk_at dksX8_bites_7 15 rfl rfl)
theorem dX8_bites_185 : decode cX8_bites 185 = .ok (.lmul, 1) := dk_105 (dk_at dksX8_bites_7 18 rfl rfl)
theorem dX8_bites_186 : decode cX8_bites 186 = .ok (.lstore 4, 2) := dk_55 4 (dk_at dksX8_bites_7 19 rfl rfl)
theorem dX8_bites_188 : decode cX8_bites 188 = .ok (.iinc 6 1, 3) := dk_132 6 1 (dk_at dksX8_bites_7 21 rfl rfl)
theorem dX8_bites_191 : decode cX8_bites 191 = .ok (.goto (-94), 3) := dk_167 255 162 (dk_at dksX8_bites_8 0 rfl rfl)
theorem dX8_bites_194 : decode cX8_bites 194 = .ok (.lconst 0, 1) := dk_9 (dk_at dksX8_bites_8 3 rfl rfl)
theorem dX8_bites_195 : decode cX8_bites 195 = .ok (.lstore 6, 2) := dk_55 6 (dk_at dksX8_bites_8 4 rfl rfl)
theorem dX8_bites_197 : decode cX8_bites 197 = .ok (.iload_n 2, 1) := dk_28 (dk_at dksX8_bites_8 6 rfl rfl)
theorem dX8_bites_198 : decode cX8_bites 198 = .ok (.istore 8, 2) := dk_54 8 (dk_at dksX8_bites_8 7 rfl rfl)
theorem dX8_bites_200 : decode cX8_bites 200 = .ok (.iload 8, 2) := dk_21 8 (dk_at dksX8_bites_8 9 rfl rfl)
theorem dX8_bites_202 : decode cX8_bites 202 = .ok (.bipush 9, 2) := dk_16 9 (dk_at dksX8_bites_8 11 rfl rfl)
theorem dX8_bites_204 : decode cX8_bites 204 = .ok (.if_icmp .gt 21, 3) := dk_163 0 21 (dk_at dksX8_bites_8 13 rfl rfl)
theorem dX8_bites_207 : decode cX8_bites 207 = .ok (.lload 6, 2) := dk_22 6 (dk_at dksX8_bites_8 16 rfl rfl)
theorem dX8_bites_209 : decode cX8_bites 209 = .ok (.aload_n 0, 1) := dk_42 (dk_at dksX8_bites_8 18 rfl rfl)
theorem dX8_bites_210 : decode cX8_bites 210 = .ok (.getfield 60, 3) := dk_180 0 60 (dk_at dksX8_bites_8 19 rfl rfl)
theorem dX8_bites_213 : decode cX8_bites 213 = .ok (.iload 8, 2) := dk_21 8 (dk_at dksX8_bites_8 22 rfl rfl)
theorem dX8_bites_215 : decode cX8_bites 215 = .ok (.laload, 1) := dk_47 (dk_at dksX8_bites_9 0 rfl rfl)
theorem dX8_bites_216 : decode cX8_bites 216 = .ok (.ladd, 1) := dk_97 (dk_at dksX8_bites_9 1 rfl rfl)
theorem dX8_bites_217 : decode cX8_bites 217 = .ok (.lstore 6, 2) := dk_55 6 (dk_at dksX8_bites_9 2 rfl rfl)
theorem dX8_bites_219 : decode cX8_bites 219 = .ok (.iinc 8 1, 3) := dk_132 8 1 (dk_at dksX8_bites_9 4 rfl rfl)
theorem dX8_bites_222 : decode cX8_bites 222 = .ok (.goto (-22), 3) := dk_167 255 234 (dk_at dksX8_bites_9 7 rfl rfl)
theorem dX8_bites_225 : decode cX8_bites 225 = .ok (.aload_n 0, 1) := dk_42 (dk_at dksX8_bites_9 10 rfl rfl)
theorem dX8_bites_226 : decode cX8_bites 226 = .ok (.lload 6, 2) := dk_22 6 (dk_at dksX8_bites_9 11 rfl rfl)
theorem dX8_bites_228 : decode cX8_bites 228 = .ok (.lload 4, 2) := dk_22 4 (dk_at dksX8_bites_9 13 rfl rfl)
theorem dX8_bites_230 : decode cX8_bites 230 = .ok (.invokevirtual 456, 3) := dk_182 1 200 (dk_at dksX8_bites_9 15 rfl rfl)
theorem dX8_bites_233 : decode cX8_bites 233 = .ok (.ireturn, 1) := dk_172 (dk_at dksX8_bites_9 18 rfl rfl)
abbrev cX8_fraction : ByteArray := prog_14_method_9_code
def yX8_fraction : MethodName := ⟨RX8, "fraction", "(JJ)Z"⟩
def dkwX8_fraction_2 : List UInt8 := [181, 0, 7, 4, 172]
abbrev dktX8_fraction_2 : List UInt8 := dkwX8_fraction_2 ++ []
def dkwX8_fraction_1 : List UInt8 := [22, 7, 55, 5, 22, 9, 55, 7, 167, 255, 234, 42, 31, 22, 5, 109, 181, 0, 76, 42, 33, 22, 5, 109]
abbrev dktX8_fraction_1 : List UInt8 := dkwX8_fraction_1 ++ dktX8_fraction_2
def dkwX8_fraction_0 : List UInt8 := [31, 184, 0, 79, 55, 5, 33, 55, 7, 22, 7, 9, 148, 153, 0, 21, 22, 5, 22, 7, 113, 55, 9]
abbrev dktX8_fraction_0 : List UInt8 := dkwX8_fraction_0 ++ dktX8_fraction_1
theorem dksX8_fraction_0 : cX8_fraction.data.toList.drop 0 = dktX8_fraction_0 := by decide +kernel
theorem dksX8_fraction_1 : cX8_fraction.data.toList.drop 23 = dktX8_fraction_1 := dk_seg dksX8_fraction_0 23 rfl rfl
theorem dksX8_fraction_2 : cX8_fraction.data.toList.drop 47 = dktX8_fraction_2 := dk_seg dksX8_fraction_1 24 rfl rfl
theorem dX8_fraction_0 : decode cX8_fraction 0 = .ok (.lload_n 1, 1) := dk_31 (dk_at dksX8_fraction_0 0 rfl rfl)
theorem dX8_fraction_1 : decode cX8_fraction 1 = .ok (.invokestatic 79, 3) := dk_184 0 79 (dk_at dksX8_fraction_0 1 rfl rfl)
theorem dX8_fraction_4 : decode cX8_fraction 4 = .ok (.lstore 5, 2) := dk_55 5 (dk_at dksX8_fraction_0 4 rfl rfl)
theorem dX8_fraction_6 : decode cX8_fraction 6 = .ok (.lload_n 3, 1) := dk_33 (dk_at dksX8_fraction_0 6 rfl rfl)
theorem dX8_fraction_7 : decode cX8_fraction 7 = .ok (.lstore 7, 2) := dk_55 7 (dk_at dksX8_fraction_0 7 rfl rfl)
theorem dX8_fraction_9 : decode cX8_fraction 9 = .ok (.lload 7, 2) := dk_22 7 (dk_at dksX8_fraction_0 9 rfl rfl)
theorem dX8_fraction_11 : decode cX8_fraction 11 = .ok (.lconst 0, 1) := dk_9 (dk_at dksX8_fraction_0 11 rfl rfl)
theorem dX8_fraction_12 : decode cX8_fraction 12 = .ok (.lcmp, 1) := dk_148 (dk_at dksX8_fraction_0 12 rfl rfl)
theorem dX8_fraction_13 : decode cX8_fraction 13 = .ok (.ifCond .eq 21, 3) := dk_153 0 21 (dk_at dksX8_fraction_0 13 rfl rfl)
theorem dX8_fraction_16 : decode cX8_fraction 16 = .ok (.lload 5, 2) := dk_22 5 (dk_at dksX8_fraction_0 16 rfl rfl)
theorem dX8_fraction_18 : decode cX8_fraction 18 = .ok (.lload 7, 2) := dk_22 7 (dk_at dksX8_fraction_0 18 rfl rfl)
theorem dX8_fraction_20 : decode cX8_fraction 20 = .ok (.lrem, 1) := dk_113 (dk_at dksX8_fraction_0 20 rfl rfl)
theorem dX8_fraction_21 : decode cX8_fraction 21 = .ok (.lstore 9, 2) := dk_55 9 (dk_at dksX8_fraction_0 21 rfl rfl)
theorem dX8_fraction_23 : decode cX8_fraction 23 = .ok (.lload 7, 2) := dk_22 7 (dk_at dksX8_fraction_1 0 rfl rfl)
theorem dX8_fraction_25 : decode cX8_fraction 25 = .ok (.lstore 5, 2) := dk_55 5 (dk_at dksX8_fraction_1 2 rfl rfl)
theorem dX8_fraction_27 : decode cX8_fraction 27 = .ok (.lload 9, 2) := dk_22 9 (dk_at dksX8_fraction_1 4 rfl rfl)
theorem dX8_fraction_29 : decode cX8_fraction 29 = .ok (.lstore 7, 2) := dk_55 7 (dk_at dksX8_fraction_1 6 rfl rfl)
theorem dX8_fraction_31 : decode cX8_fraction 31 = .ok (.goto (-22), 3) := dk_167 255 234 (dk_at dksX8_fraction_1 8 rfl rfl)
theorem dX8_fraction_34 : decode cX8_fraction 34 = .ok (.aload_n 0, 1) := dk_42 (dk_at dksX8_fraction_1 11 rfl rfl)
theorem dX8_fraction_35 : decode cX8_fraction 35 = .ok (.lload_n 1, 1) := dk_31 (dk_at dksX8_fraction_1 12 rfl rfl)
theorem dX8_fraction_36 : decode cX8_fraction 36 = .ok (.lload 5, 2) := dk_22 5 (dk_at dksX8_fraction_1 13 rfl rfl)
theorem dX8_fraction_38 : decode cX8_fraction 38 = .ok (.ldiv, 1) := dk_109 (dk_at dksX8_fraction_1 15 rfl rfl)
theorem dX8_fraction_39 : decode cX8_fraction 39 = .ok (.putfield 76, 3) := dk_181 0 76 (dk_at dksX8_fraction_1 16 rfl rfl)
theorem dX8_fraction_42 : decode cX8_fraction 42 = .ok (.aload_n 0, 1) := dk_42 (dk_at dksX8_fraction_1 19 rfl rfl)
theorem dX8_fraction_43 : decode cX8_fraction 43 = .ok (.lload_n 3, 1) := dk_33 (dk_at dksX8_fraction_1 20 rfl rfl)
theorem dX8_fraction_44 : decode cX8_fraction 44 = .ok (.lload 5, 2) := dk_22 5 (dk_at dksX8_fraction_1 21 rfl rfl)
theorem dX8_fraction_46 : decode cX8_fraction 46 = .ok (.ldiv, 1) := dk_109 (dk_at dksX8_fraction_1 23 rfl rfl)
theorem dX8_fraction_47 : decode cX8_fraction 47 = .ok (.putfield 7, 3) := dk_181 0 7 (dk_at dksX8_fraction_2 0 rfl rfl)
theorem dX8_fraction_50 : decode cX8_fraction 50 = .ok (.iconst 1, 1) := dk_4 (dk_at dksX8_fraction_2 3 rfl rfl)
theorem dX8_fraction_51 : decode cX8_fraction 51 = .ok (.ireturn, 1) := dk_172 (dk_at dksX8_fraction_2 4 rfl rfl)
abbrev cX8_share : ByteArray := prog_14_method_139_code
def yX8_share : MethodName := ⟨RX8, "share", "(I)Z"⟩
def dkwX8_share_2 : List UInt8 := [182, 1, 85, 182, 1, 66, 133, 28, 133, 182, 1, 200, 172]
abbrev dktX8_share_2 : List UInt8 := dkwX8_share_2 ++ []
def dkwX8_share_1 : List UInt8 := [172, 42, 182, 1, 74, 61, 28, 154, 0, 12, 42, 16, 8, 182, 0, 85, 167, 0, 19, 42, 42, 42, 27]
abbrev dktX8_share_1 : List UInt8 := dkwX8_share_1 ++ dktX8_share_2
def dkwX8_share_0 : List UInt8 := [42, 3, 181, 0, 70, 42, 3, 181, 0, 73, 42, 27, 133, 182, 1, 80, 154, 0, 9, 42, 5, 182, 0, 85]
abbrev dktX8_share_0 : List UInt8 := dkwX8_share_0 ++ dktX8_share_1
theorem dksX8_share_0 : cX8_share.data.toList.drop 0 = dktX8_share_0 := by decide +kernel
theorem dksX8_share_1 : cX8_share.data.toList.drop 24 = dktX8_share_1 := dk_seg dksX8_share_0 24 rfl rfl
theorem dksX8_share_2 : cX8_share.data.toList.drop 47 = dktX8_share_2 := dk_seg dksX8_share_1 23 rfl rfl
theorem dX8_share_0 : decode cX8_share 0 = .ok (.aload_n 0, 1) := dk_42 (dk_at dksX8_share_0 0 rfl rfl)
theorem dX8_share_1 : decode cX8_share 1 = .ok (.iconst 0, 1) := dk_3 (dk_at dksX8_share_0 1 rfl rfl)
theorem dX8_share_2 : decode cX8_share 2 = .ok (.putfield 70, 3) := dk_181 0 70 (dk_at dksX8_share_0 2 rfl rfl)
theorem dX8_share_5 : decode cX8_share 5 = .ok (.aload_n 0, 1) := dk_42 (dk_at dksX8_share_0 5 rfl rfl)
theorem dX8_share_6 : decode cX8_share 6 = .ok (.iconst 0, 1) := dk_3 (dk_at dksX8_share_0 6 rfl rfl)
theorem dX8_share_7 : decode cX8_share 7 = .ok (.putfield 73, 3) := dk_181 0 73 (dk_at dksX8_share_0 7 rfl rfl)
theorem dX8_share_10 : decode cX8_share 10 = .ok (.aload_n 0, 1) := dk_42 (dk_at dksX8_share_0 10 rfl rfl)
theorem dX8_share_11 : decode cX8_share 11 = .ok (.iload_n 1, 1) := dk_27 (dk_at dksX8_share_0 11 rfl rfl)
theorem dX8_share_12 : decode cX8_share 12 = .ok (.i2l, 1) := dk_133 (dk_at dksX8_share_0 12 rfl rfl)
theorem dX8_share_13 : decode cX8_share 13 = .ok (.invokevirtual 336, 3) := dk_182 1 80 (dk_at dksX8_share_0 13 rfl rfl)
theorem dX8_share_16 : decode cX8_share 16 = .ok (.ifCond .ne 9, 3) := dk_154 0 9 (dk_at dksX8_share_0 16 rfl rfl)
theorem dX8_share_19 : decode cX8_share 19 = .ok (.aload_n 0, 1) := dk_42 (dk_at dksX8_share_0 19 rfl rfl)
theorem dX8_share_20 : decode cX8_share 20 = .ok (.iconst 2, 1) := dk_5 (dk_at dksX8_share_0 20 rfl rfl)
theorem dX8_share_21 : decode cX8_share 21 = .ok (.invokevirtual 85, 3) := dk_182 0 85 (dk_at dksX8_share_0 21 rfl rfl)
theorem dX8_share_24 : decode cX8_share 24 = .ok (.ireturn, 1) := dk_172 (dk_at dksX8_share_1 0 rfl rfl)
theorem dX8_share_25 : decode cX8_share 25 = .ok (.aload_n 0, 1) := dk_42 (dk_at dksX8_share_1 1 rfl rfl)
theorem dX8_share_26 : decode cX8_share 26 = .ok (.invokevirtual 330, 3) := dk_182 1 74 (dk_at dksX8_share_1 2 rfl rfl)
theorem dX8_share_29 : decode cX8_share 29 = .ok (.istore_n 2, 1) := dk_61 (dk_at dksX8_share_1 5 rfl rfl)
theorem dX8_share_30 : decode cX8_share 30 = .ok (.iload_n 2, 1) := dk_28 (dk_at dksX8_share_1 6 rfl rfl)
theorem dX8_share_31 : decode cX8_share 31 = .ok (.ifCond .ne 12, 3) := dk_154 0 12 (dk_at dksX8_share_1 7 rfl rfl)
theorem dX8_share_34 : decode cX8_share 34 = .ok (.aload_n 0, 1) := dk_42 (dk_at dksX8_share_1 10 rfl rfl)
theorem dX8_share_35 : decode cX8_share 35 = .ok (.bipush 8, 2) := dk_16 8 (dk_at dksX8_share_1 11 rfl rfl)
theorem dX8_share_37 : decode cX8_share 37 = .ok (.invokevirtual 85, 3) := dk_182 0 85 (dk_at dksX8_share_1 13 rfl rfl)
theorem dX8_share_40 : decode cX8_share 40 = .ok (.goto 19, 3) := dk_167 0 19 (dk_at dksX8_share_1 16 rfl rfl)
theorem dX8_share_43 : decode cX8_share 43 = .ok (.aload_n 0, 1) := dk_42 (dk_at dksX8_share_1 19 rfl rfl)
theorem dX8_share_44 : decode cX8_share 44 = .ok (.aload_n 0, 1) := dk_42 (dk_at dksX8_share_1 20 rfl rfl)
theorem dX8_share_45 : decode cX8_share 45 = .ok (.aload_n 0, 1) := dk_42 (dk_at dksX8_share_1 21 rfl rfl)
theorem dX8_share_46 : decode cX8_share 46 = .ok (.iload_n 1, 1) := dk_27 (dk_at dksX8_share_1 22 rfl rfl)
theorem dX8_share_47 : decode cX8_share 47 = .ok (.invokevirtual 341, 3) := dk_182 1 85 (dk_at dksX8_share_2 0 rfl rfl)
theorem dX8_share_50 : decode cX8_share 50 = .ok (.invokevirtual 322, 3) := dk_182 1 66 (dk_at dksX8_share_2 3 rfl rfl)
theorem dX8_share_53 : decode cX8_share 53 = .ok (.i2l, 1) := dk_133 (dk_at dksX8_share_2 6 rfl rfl)
theorem dX8_share_54 : decode cX8_share 54 = .ok (.iload_n 2, 1) := dk_28 (dk_at dksX8_share_2 7 rfl rfl)
theorem dX8_share_55 : decode cX8_share 55 = .ok (.i2l, 1) := dk_133 (dk_at dksX8_share_2 8 rfl rfl)
theorem dX8_share_56 : decode cX8_share 56 = .ok (.invokevirtual 456, 3) := dk_182 1 200 (dk_at dksX8_share_2 9 rfl rfl)
theorem dX8_share_59 : decode cX8_share 59 = .ok (.ireturn, 1) := dk_172 (dk_at dksX8_share_2 12 rfl rfl)
abbrev cX8_live : ByteArray := prog_14_method_149_code
def yX8_live : MethodName := ⟨RX8, "live", "(I)I"⟩
def dkwX8_live_5 : List UInt8 := [42, 180, 1, 220, 172]
abbrev dktX8_live_5 : List UInt8 := dkwX8_live_5 ++ []
def dkwX8_live_4 : List UInt8 := [182, 1, 247, 42, 180, 1, 250, 100, 79, 42, 180, 0, 63, 7, 42, 180, 1, 226, 79, 42, 4, 181, 2, 2]
abbrev dktX8_live_4 : List UInt8 := dkwX8_live_4 ++ dktX8_live_5
def dkwX8_live_3 : List UInt8 := [42, 180, 1, 244, 100, 79, 42, 180, 0, 63, 5, 42, 180, 1, 211, 79, 42, 180, 0, 63, 6, 42]
abbrev dktX8_live_3 : List UInt8 := dkwX8_live_3 ++ dktX8_live_4
def dkwX8_live_2 : List UInt8 := [182, 1, 255, 42, 180, 0, 63, 3, 42, 180, 1, 229, 79, 42, 180, 0, 63, 4, 42, 180, 0, 35, 8, 46]
abbrev dktX8_live_2 : List UInt8 := dkwX8_live_2 ++ dktX8_live_3
def dkwX8_live_1 : List UInt8 := [182, 1, 71, 172, 42, 180, 0, 35, 16, 87, 46, 154, 0, 10, 42, 16, 8, 182, 1, 71, 172, 42, 27]
abbrev dktX8_live_1 : List UInt8 := dkwX8_live_1 ++ dktX8_live_2
def dkwX8_live_0 : List UInt8 := [42, 3, 181, 0, 70, 42, 3, 181, 0, 73, 27, 133, 9, 20, 1, 253, 184, 0, 105, 154, 0, 9, 42, 8]
abbrev dktX8_live_0 : List UInt8 := dkwX8_live_0 ++ dktX8_live_1
theorem dksX8_live_0 : cX8_live.data.toList.drop 0 = dktX8_live_0 := by decide +kernel
theorem dksX8_live_1 : cX8_live.data.toList.drop 24 = dktX8_live_1 := dk_seg dksX8_live_0 24 rfl rfl
theorem dksX8_live_2 : cX8_live.data.toList.drop 47 = dktX8_live_2 := dk_seg dksX8_live_1 23 rfl rfl
theorem dksX8_live_3 : cX8_live.data.toList.drop 71 = dktX8_live_3 := dk_seg dksX8_live_2 24 rfl rfl
theorem dksX8_live_4 : cX8_live.data.toList.drop 93 = dktX8_live_4 := dk_seg dksX8_live_3 22 rfl rfl
theorem dksX8_live_5 : cX8_live.data.toList.drop 117 = dktX8_live_5 := dk_seg dksX8_live_4 24 rfl rfl
theorem dX8_live_0 : decode cX8_live 0 = .ok (.aload_n 0, 1) := dk_42 (dk_at dksX8_live_0 0 rfl rfl)
theorem dX8_live_1 : decode cX8_live 1 = .ok (.iconst 0, 1) := dk_3 (dk_at dksX8_live_0 1 rfl rfl)
theorem dX8_live_2 : decode cX8_live 2 = .ok (.putfield 70, 3) := dk_181 0 70 (dk_at dksX8_live_0 2 rfl rfl)
theorem dX8_live_5 : decode cX8_live 5 = .ok (.aload_n 0, 1) := dk_42 (dk_at dksX8_live_0 5 rfl rfl)
theorem dX8_live_6 : decode cX8_live 6 = .ok (.iconst 0, 1) := dk_3 (dk_at dksX8_live_0 6 rfl rfl)
theorem dX8_live_7 : decode cX8_live 7 = .ok (.putfield 73, 3) := dk_181 0 73 (dk_at dksX8_live_0 7 rfl rfl)
theorem dX8_live_10 : decode cX8_live 10 = .ok (.iload_n 1, 1) := dk_27 (dk_at dksX8_live_0 10 rfl rfl)
theorem dX8_live_11 : decode cX8_live 11 = .ok (.i2l, 1) := dk_133 (dk_at dksX8_live_0 11 rfl rfl)
theorem dX8_live_12 : decode cX8_live 12 = .ok (.lconst 0, 1) := dk_9 (dk_at dksX8_live_0 12 rfl rfl)
theorem dX8_live_13 : decode cX8_live 13 = .ok (.ldc2_w 509, 3) := dk_20 1 253 (dk_at dksX8_live_0 13 rfl rfl)
theorem dX8_live_16 : decode cX8_live 16 = .ok (.invokestatic 105, 3) := dk_184 0 105 (dk_at dksX8_live_0 16 rfl rfl)
theorem dX8_live_19 : decode cX8_live 19 = .ok (.ifCond .ne 9, 3) := dk_154 0 9 (dk_at dksX8_live_0 19 rfl rfl)
theorem dX8_live_22 : decode cX8_live 22 = .ok (.aload_n 0, 1) := dk_42 (dk_at dksX8_live_0 22 rfl rfl)
theorem dX8_live_23 : decode cX8_live 23 = .ok (.iconst 5, 1) := dk_8 (dk_at dksX8_live_0 23 rfl rfl)
theorem dX8_live_24 : decode cX8_live 24 = .ok (.invokevirtual 327, 3) := dk_182 1 71 (dk_at dksX8_live_1 0 rfl rfl)
theorem dX8_live_27 : decode cX8_live 27 = .ok (.ireturn, 1) := dk_172 (dk_at dksX8_live_1 3 rfl rfl)
theorem dX8_live_28 : decode cX8_live 28 = .ok (.aload_n 0, 1) := dk_42 (dk_at dksX8_live_1 4 rfl rfl)
theorem dX8_live_29 : decode cX8_live 29 = .ok (.getfield 35, 3) := dk_180 0 35 (dk_at dksX8_live_1 5 rfl rfl)
theorem dX8_live_32 : decode cX8_live 32 = .ok (.bipush 87, 2) := dk_16 87 (dk_at dksX8_live_1 8 rfl rfl)
theorem dX8_live_34 : decode cX8_live 34 = .ok (.iaload, 1) := dk_46 (dk_at dksX8_live_1 10 rfl rfl)
theorem dX8_live_35 : decode cX8_live 35 = .ok (.ifCond .ne 10, 3) := dk_154 0 10 (dk_at dksX8_live_1 11 rfl rfl)
theorem dX8_live_38 : decode cX8_live 38 = .ok (.aload_n 0, 1) := dk_42 (dk_at dksX8_live_1 14 rfl rfl)
theorem dX8_live_39 : decode cX8_live 39 = .ok (.bipush 8, 2) := dk_16 8 (dk_at dksX8_live_1 15 rfl rfl)
theorem dX8_live_41 : decode cX8_live 41 = .ok (.invokevirtual 327, 3) := dk_182 1 71 (dk_at dksX8_live_1 17 rfl rfl)
theorem dX8_live_44 : decode cX8_live 44 = .ok (.ireturn, 1) := dk_172 (dk_at dksX8_live_1 20 rfl rfl)
theorem dX8_live_45 : decode cX8_live 45 = .ok (.aload_n 0, 1) := dk_42 (dk_at dksX8_live_1 21 rfl rfl)
theorem dX8_live_46 : decode cX8_live 46 = .ok (.iload_n 1, 1) := dk_27 (dk_at dksX8_live_1 22 rfl rfl)
theorem dX8_live_47 : decode cX8_live 47 = .ok (.invokevirtual 511, 3) := dk_182 1 255 (dk_at dksX8_live_2 0 rfl rfl)
theorem dX8_live_50 : decode cX8_live 50 = .ok (.aload_n 0, 1) := dk_42 (dk_at dksX8_live_2 3 rfl rfl)
theorem dX8_live_51 : decode cX8_live 51 = .ok (.getfield 63, 3) := dk_180 0 63 (dk_at dksX8_live_2 4 rfl rfl)
theorem dX8_live_54 : decode cX8_live 54 = .ok (.iconst 0, 1) := dk_3 (dk_at dksX8_live_2 7 rfl rfl)
theorem dX8_live_55 : decode cX8_live 55 = .ok (.aload_n 0, 1) := dk_42 (dk_at dksX8_live_2 8 rfl rfl)
theorem dX8_live_56 : decode cX8_live 56 = .ok (.getfield 485, 3) := dk_180 1 229 (dk_at dksX8_live_2 9 rfl rfl)
theorem dX8_live_59 : decode cX8_live 59 = .ok (.iastore, 1) := dk_79 (dk_at dksX8_live_2 12 rfl rfl)
theorem dX8_live_60 : decode cX8_live 60 = .ok (.aload_n 0, 1) := dk_42 (dk_at dksX8_live_2 13 rfl rfl)
theorem dX8_live_61 : decode cX8_live 61 = .ok (.getfield 63, 3) := dk_180 0 63 (dk_at dksX8_live_2 14 rfl rfl)
theorem dX8_live_64 : decode cX8_live 64 = .ok (.iconst 1, 1) := dk_4 (dk_at dksX8_live_2 17 rfl rfl)
theorem dX8_live_65 : decode cX8_live 65 = .ok (.aload_n 0, 1) := dk_42 (dk_at dksX8_live_2 18 rfl rfl)
theorem dX8_live_66 : decode cX8_live 66 = .ok (.getfield 35, 3) := dk_180 0 35 (dk_at dksX8_live_2 19 rfl rfl)
theorem dX8_live_69 : decode cX8_live 69 = .ok (.iconst 5, 1) := dk_8 (dk_at dksX8_live_2 22 rfl rfl)
theorem dX8_live_70 : decode cX8_live 70 = .ok (.iaload, 1) := dk_46 (dk_at dksX8_live_2 23 rfl rfl)
theorem dX8_live_71 : decode cX8_live 71 = .ok (.aload_n 0, 1) := dk_42 (dk_at dksX8_live_3 0 rfl rfl)
theorem dX8_live_72 : decode cX8_live 72 = .ok (.getfield 500, 3) := dk_180 1 244 (dk_at dksX8_live_3 1 rfl rfl)
theorem dX8_live_75 : decode cX8_live 75 = .ok (.isub, 1) := dk_100 (dk_at dksX8_live_3 4 rfl rfl)
theorem dX8_live_76 : decode cX8_live 76 = .ok (.iastore, 1) := dk_79 (dk_at dksX8_live_3 5 rfl rfl)
theorem dX8_live_77 : decode cX8_live 77 = .ok (.aload_n 0, 1) := dk_42 (dk_at dksX8_live_3 6 rfl rfl)
theorem dX8_live_78 : decode cX8_live 78 = .ok (.getfield 63, 3) := dk_180 0 63 (dk_at dksX8_live_3 7 rfl rfl)
theorem dX8_live_81 : decode cX8_live 81 = .ok (.iconst 2, 1) := dk_5 (dk_at dksX8_live_3 10 rfl rfl)
theorem dX8_live_82 : decode cX8_live 82 = .ok (.aload_n 0, 1) := dk_42 (dk_at dksX8_live_3 11 rfl rfl)
theorem dX8_live_83 : decode cX8_live 83 = .ok (.getfield 467, 3) := dk_180 1 211 (dk_at dksX8_live_3 12 rfl rfl)
theorem dX8_live_86 : decode cX8_live 86 = .ok (.iastore, 1) := dk_79 (dk_at dksX8_live_3 15 rfl rfl)
theorem dX8_live_87 : decode cX8_live 87 = .ok (.aload_n 0, 1) := dk_42 (dk_at dksX8_live_3 16 rfl rfl)
theorem dX8_live_88 : decode cX8_live 88 = .ok (.getfield 63, 3) := dk_180 0 63 (dk_at dksX8_live_3 17 rfl rfl)
theorem dX8_live_91 : decode cX8_live 91 = .ok (.iconst 3, 1) := dk_6 (dk_at dksX8_live_3 20 rfl rfl)
theorem dX8_live_92 : decode cX8_live 92 = .ok (.aload_n 0, 1) := dk_42 (dk_at dksX8_live_3 21 rfl rfl)
theorem dX8_live_93 : decode cX8_live 93 = .ok (.invokevirtual 503, 3) := dk_182 1 247 (dk_at dksX8_live_4 0 rfl rfl)
theorem dX8_live_96 : decode cX8_live 96 = .ok (.aload_n 0, 1) := dk_42 (dk_at dksX8_live_4 3 rfl rfl)
theorem dX8_live_97 : decode cX8_live 97 = .ok (.getfield 506, 3) := dk_180 1 250 (dk_at dksX8_live_4 4 rfl rfl)
theorem dX8_live_100 : decode cX8_live 100 = .ok (.isub, 1) := dk_100 (dk_at dksX8_live_4 7 rfl rfl)
theorem dX8_live_101 : decode cX8_live 101 = .ok (.iastore, 1) := dk_79 (dk_at dksX8_live_4 8 rfl rfl)
theorem dX8_live_102 : decode cX8_live 102 = .ok (.aload_n 0, 1) := dk_42 (dk_at dksX8_live_4 9 rfl rfl)
theorem dX8_live_103 : decode cX8_live 103 = .ok (.getfield 63, 3) := dk_180 0 63 (dk_at dksX8_live_4 10 rfl rfl)
theorem dX8_live_106 : decode cX8_live 106 = .ok (.iconst 4, 1) := dk_7 (dk_at dksX8_live_4 13 rfl rfl)
theorem dX8_live_107 : decode cX8_live 107 = .ok (.aload_n 0, 1) := dk_42 (dk_at dksX8_live_4 14 rfl rfl)
theorem dX8_live_108 : decode cX8_live 108 = .ok (.getfield 482, 3) := dk_180 1 226 (dk_at dksX8_live_4 15 rfl rfl)
theorem dX8_live_111 : decode cX8_live 111 = .ok (.iastore, 1) := dk_79 (dk_at dksX8_live_4 18 rfl rfl)
theorem dX8_live_112 : decode cX8_live 112 = .ok (.aload_n 0, 1) := dk_42 (dk_at dksX8_live_4 19 rfl rfl)
theorem dX8_live_113 : decode cX8_live 113 = .ok (.iconst 1, 1) := dk_4 (dk_at dksX8_live_4 20 rfl rfl)
theorem dX8_live_114 : decode cX8_live 114 = .ok (.putfield 514, 3) := dk_181 2 2 (dk_at dksX8_live_4 21 rfl rfl)
theorem dX8_live_117 : decode cX8_live 117 = .ok (.aload_n 0, 1) := dk_42 (dk_at dksX8_live_5 0 rfl rfl)
theorem dX8_live_118 : decode cX8_live 118 = .ok (.getfield 476, 3) := dk_180 1 220 (dk_at dksX8_live_5 1 rfl rfl)
theorem dX8_live_121 : decode cX8_live 121 = .ok (.ireturn, 1) := dk_172 (dk_at dksX8_live_5 4 rfl rfl)
abbrev cX8_runsYears : ByteArray := prog_14_method_148_code
def yX8_runsYears : MethodName := ⟨RX8, "runsYears", "(I)V"⟩
def dkwX8_runsYears_2 : List UInt8 := [181, 1, 223, 42, 3, 42, 180, 0, 35, 16, 88, 46, 182, 1, 238, 177]
abbrev dktX8_runsYears_2 : List UInt8 := dkwX8_runsYears_2 ++ []
def dkwX8_runsYears_1 : List UInt8 := [181, 1, 244, 42, 3, 181, 1, 211, 42, 42, 182, 1, 247, 181, 1, 250, 42, 3, 181, 1, 226, 42, 3]
abbrev dktX8_runsYears_1 : List UInt8 := dkwX8_runsYears_1 ++ dktX8_runsYears_2
def dkwX8_runsYears_0 : List UInt8 := [42, 27, 181, 1, 204, 42, 3, 181, 1, 220, 42, 3, 181, 1, 229, 42, 42, 180, 0, 35, 8, 46]
abbrev dktX8_runsYears_0 : List UInt8 := dkwX8_runsYears_0 ++ dktX8_runsYears_1
theorem dksX8_runsYears_0 : cX8_runsYears.data.toList.drop 0 = dktX8_runsYears_0 := by decide +kernel
theorem dksX8_runsYears_1 : cX8_runsYears.data.toList.drop 22 = dktX8_runsYears_1 := dk_seg dksX8_runsYears_0 22 rfl rfl
theorem dksX8_runsYears_2 : cX8_runsYears.data.toList.drop 45 = dktX8_runsYears_2 := dk_seg dksX8_runsYears_1 23 rfl rfl
theorem dX8_runsYears_0 : decode cX8_runsYears 0 = .ok (.aload_n 0, 1) := dk_42 (dk_at dksX8_runsYears_0 0 rfl rfl)
theorem dX8_runsYears_1 : decode cX8_runsYears 1 = .ok (.iload_n 1, 1) := dk_27 (dk_at dksX8_runsYears_0 1 rfl rfl)
theorem dX8_runsYears_2 : decode cX8_runsYears 2 = .ok (.putfield 460, 3) := dk_181 1 204 (dk_at dksX8_runsYears_0 2 rfl rfl)
theorem dX8_runsYears_5 : decode cX8_runsYears 5 = .ok (.aload_n 0, 1) := dk_42 (dk_at dksX8_runsYears_0 5 rfl rfl)
theorem dX8_runsYears_6 : decode cX8_runsYears 6 = .ok (.iconst 0, 1) := dk_3 (dk_at dksX8_runsYears_0 6 rfl rfl)
theorem dX8_runsYears_7 : decode cX8_runsYears 7 = .ok (.putfield 476, 3) := dk_181 1 220 (dk_at dksX8_runsYears_0 7 rfl rfl)
theorem dX8_runsYears_10 : decode cX8_runsYears 10 = .ok (.aload_n 0, 1) := dk_42 (dk_at dksX8_runsYears_0 10 rfl rfl)
theorem dX8_runsYears_11 : decode cX8_runsYears 11 = .ok (.iconst 0, 1) := dk_3 (dk_at dksX8_runsYears_0 11 rfl rfl)
theorem dX8_runsYears_12 : decode cX8_runsYears 12 = .ok (.putfield 485, 3) := dk_181 1 229 (dk_at dksX8_runsYears_0 12 rfl rfl)
theorem dX8_runsYears_15 : decode cX8_runsYears 15 = .ok (.aload_n 0, 1) := dk_42 (dk_at dksX8_runsYears_0 15 rfl rfl)
theorem dX8_runsYears_16 : decode cX8_runsYears 16 = .ok (.aload_n 0, 1) := dk_42 (dk_at dksX8_runsYears_0 16 rfl rfl)
theorem dX8_runsYears_17 : decode cX8_runsYears 17 = .ok (.getfield 35, 3) := dk_180 0 35 (dk_at dksX8_runsYears_0 17 rfl rfl)
theorem dX8_runsYears_20 : decode cX8_runsYears 20 = .ok (.iconst 5, 1) := dk_8 (dk_at dksX8_runsYears_0 20 rfl rfl)
theorem dX8_runsYears_21 : decode cX8_runsYears 21 = .ok (.iaload, 1) := dk_46 (dk_at dksX8_runsYears_0 21 rfl rfl)
theorem dX8_runsYears_22 : decode cX8_runsYears 22 = .ok (.putfield 500, 3) := dk_181 1 244 (dk_at dksX8_runsYears_1 0 rfl rfl)
theorem dX8_runsYears_25 : decode cX8_runsYears 25 = .ok (.aload_n 0, 1) := dk_42 (dk_at dksX8_runsYears_1 3 rfl rfl)
theorem dX8_runsYears_26 : decode cX8_runsYears 26 = .ok (.iconst 0, 1) := dk_3 (dk_at dksX8_runsYears_1 4 rfl rfl)
theorem dX8_runsYears_27 : decode cX8_runsYears 27 = .ok (.putfield 467, 3) := dk_181 1 211 (dk_at dksX8_runsYears_1 5 rfl rfl)
theorem dX8_runsYears_30 : decode cX8_runsYears 30 = .ok (.aload_n 0, 1) := dk_42 (dk_at dksX8_runsYears_1 8 rfl rfl)
theorem dX8_runsYears_31 : decode cX8_runsYears 31 = .ok (.aload_n 0, 1) := dk_42 (dk_at dksX8_runsYears_1 9 rfl rfl)
theorem dX8_runsYears_32 : decode cX8_runsYears 32 = .ok (.invokevirtual 503, 3) := dk_182 1 247 (dk_at dksX8_runsYears_1 10 rfl rfl)
theorem dX8_runsYears_35 : decode cX8_runsYears 35 = .ok (.putfield 506, 3) := dk_181 1 250 (dk_at dksX8_runsYears_1 13 rfl rfl)
theorem dX8_runsYears_38 : decode cX8_runsYears 38 = .ok (.aload_n 0, 1) := dk_42 (dk_at dksX8_runsYears_1 16 rfl rfl)
theorem dX8_runsYears_39 : decode cX8_runsYears 39 = .ok (.iconst 0, 1) := dk_3 (dk_at dksX8_runsYears_1 17 rfl rfl)
theorem dX8_runsYears_40 : decode cX8_runsYears 40 = .ok (.putfield 482, 3) := dk_181 1 226 (dk_at dksX8_runsYears_1 18 rfl rfl)
theorem dX8_runsYears_43 : decode cX8_runsYears 43 = .ok (.aload_n 0, 1) := dk_42 (dk_at dksX8_runsYears_1 21 rfl rfl)
theorem dX8_runsYears_44 : decode cX8_runsYears 44 = .ok (.iconst 0, 1) := dk_3 (dk_at dksX8_runsYears_1 22 rfl rfl)
theorem dX8_runsYears_45 : decode cX8_runsYears 45 = .ok (.putfield 479, 3) := dk_181 1 223 (dk_at dksX8_runsYears_2 0 rfl rfl)
theorem dX8_runsYears_48 : decode cX8_runsYears 48 = .ok (.aload_n 0, 1) := dk_42 (dk_at dksX8_runsYears_2 3 rfl rfl)
theorem dX8_runsYears_49 : decode cX8_runsYears 49 = .ok (.iconst 0, 1) := dk_3 (dk_at dksX8_runsYears_2 4 rfl rfl)
theorem dX8_runsYears_50 : decode cX8_runsYears 50 = .ok (.aload_n 0, 1) := dk_42 (dk_at dksX8_runsYears_2 5 rfl rfl)
theorem dX8_runsYears_51 : decode cX8_runsYears 51 = .ok (.getfield 35, 3) := dk_180 0 35 (dk_at dksX8_runsYears_2 6 rfl rfl)
theorem dX8_runsYears_54 : decode cX8_runsYears 54 = .ok (.bipush 88, 2) := dk_16 88 (dk_at dksX8_runsYears_2 9 rfl rfl)
theorem dX8_runsYears_56 : decode cX8_runsYears 56 = .ok (.iaload, 1) := dk_46 (dk_at dksX8_runsYears_2 11 rfl rfl)
theorem dX8_runsYears_57 : decode cX8_runsYears 57 = .ok (.invokevirtual 494, 3) := dk_182 1 238 (dk_at dksX8_runsYears_2 12 rfl rfl)
theorem dX8_runsYears_60 : decode cX8_runsYears 60 = .ok (.return_, 1) := dk_177 (dk_at dksX8_runsYears_2 15 rfl rfl)
abbrev cX8_allGot : ByteArray := prog_14_method_141_code
def yX8_allGot : MethodName := ⟨RX8, "allGot", "()I"⟩
def dkwX8_allGot_1 : List UInt8 := [96, 60, 132, 2, 1, 167, 255, 231, 27, 172]
abbrev dktX8_allGot_1 : List UInt8 := dkwX8_allGot_1 ++ []
def dkwX8_allGot_0 : List UInt8 := [3, 60, 3, 61, 28, 42, 180, 0, 35, 4, 46, 162, 0, 21, 27, 42, 180, 0, 35, 16, 26, 28, 96, 46]
abbrev dktX8_allGot_0 : List UInt8 := dkwX8_allGot_0 ++ dktX8_allGot_1
theorem dksX8_allGot_0 : cX8_allGot.data.toList.drop 0 = dktX8_allGot_0 := by decide +kernel
theorem dksX8_allGot_1 : cX8_allGot.data.toList.drop 24 = dktX8_allGot_1 := dk_seg dksX8_allGot_0 24 rfl rfl
theorem dX8_allGot_0 : decode cX8_allGot 0 = .ok (.iconst 0, 1) := dk_3 (dk_at dksX8_allGot_0 0 rfl rfl)
theorem dX8_allGot_1 : decode cX8_allGot 1 = .ok (.istore_n 1, 1) := dk_60 (dk_at dksX8_allGot_0 1 rfl rfl)
theorem dX8_allGot_2 : decode cX8_allGot 2 = .ok (.iconst 0, 1) := dk_3 (dk_at dksX8_allGot_0 2 rfl rfl)
theorem dX8_allGot_3 : decode cX8_allGot 3 = .ok (.istore_n 2, 1) := dk_61 (dk_at dksX8_allGot_0 3 rfl rfl)
theorem dX8_allGot_4 : decode cX8_allGot 4 = .ok (.iload_n 2, 1) := dk_28 (dk_at dksX8_allGot_0 4 rfl rfl)
theorem dX8_allGot_5 : decode cX8_allGot 5 = .ok (.aload_n 0, 1) := dk_42 (dk_at dksX8_allGot_0 5 rfl rfl)
theorem dX8_allGot_6 : decode cX8_allGot 6 = .ok (.getfield 35, 3) := dk_180 0 35 (dk_at dksX8_allGot_0 6 rfl rfl)
theorem dX8_allGot_9 : decode cX8_allGot 9 = .ok (.iconst 1, 1) := dk_4 (dk_at dksX8_allGot_0 9 rfl rfl)
theorem dX8_allGot_10 : decode cX8_allGot 10 = .ok (.iaload, 1) := dk_46 (dk_at dksX8_allGot_0 10 rfl rfl)
theorem dX8_allGot_11 : decode cX8_allGot 11 = .ok (.if_icmp .ge 21, 3) := dk_162 0 21 (dk_at dksX8_allGot_0 11 rfl rfl)
theorem dX8_allGot_14 : decode cX8_allGot 14 = .ok (.iload_n 1, 1) := dk_27 (dk_at dksX8_allGot_0 14 rfl rfl)
theorem dX8_allGot_15 : decode cX8_allGot 15 = .ok (.aload_n 0, 1) := dk_42 (dk_at dksX8_allGot_0 15 rfl rfl)
theorem dX8_allGot_16 : decode cX8_allGot 16 = .ok (.getfield 35, 3) := dk_180 0 35 (dk_at dksX8_allGot_0 16 rfl rfl)
theorem dX8_allGot_19 : decode cX8_allGot 19 = .ok (.bipush 26, 2) := dk_16 26 (dk_at dksX8_allGot_0 19 rfl rfl)
theorem dX8_allGot_21 : decode cX8_allGot 21 = .ok (.iload_n 2, 1) := dk_28 (dk_at dksX8_allGot_0 21 rfl rfl)
theorem dX8_allGot_22 : decode cX8_allGot 22 = .ok (.iadd, 1) := dk_96 (dk_at dksX8_allGot_0 22 rfl rfl)
theorem dX8_allGot_23 : decode cX8_allGot 23 = .ok (.iaload, 1) := dk_46 (dk_at dksX8_allGot_0 23 rfl rfl)
theorem dX8_allGot_24 : decode cX8_allGot 24 = .ok (.iadd, 1) := dk_96 (dk_at dksX8_allGot_1 0 rfl rfl)
theorem dX8_allGot_25 : decode cX8_allGot 25 = .ok (.istore_n 1, 1) := dk_60 (dk_at dksX8_allGot_1 1 rfl rfl)
theorem dX8_allGot_26 : decode cX8_allGot 26 = .ok (.iinc 2 1, 3) := dk_132 2 1 (dk_at dksX8_allGot_1 2 rfl rfl)
theorem dX8_allGot_29 : decode cX8_allGot 29 = .ok (.goto (-25), 3) := dk_167 255 231 (dk_at dksX8_allGot_1 5 rfl rfl)
theorem dX8_allGot_32 : decode cX8_allGot 32 = .ok (.iload_n 1, 1) := dk_27 (dk_at dksX8_allGot_1 8 rfl rfl)
theorem dX8_allGot_33 : decode cX8_allGot 33 = .ok (.ireturn, 1) := dk_172 (dk_at dksX8_allGot_1 9 rfl rfl)
abbrev cX8_doAll : ByteArray := prog_14_method_147_code
def yX8_doAll : MethodName := ⟨RX8, "doAll", "(II)V"⟩
def dkwX8_doAll_1 : List UInt8 := [16, 89, 16, 9, 29, 104, 96, 16, 8, 96, 46, 62, 167, 255, 223, 177]
abbrev dktX8_doAll_1 : List UInt8 := dkwX8_doAll_1 ++ []
def dkwX8_doAll_0 : List UInt8 := [27, 62, 29, 28, 162, 0, 34, 42, 180, 1, 223, 154, 0, 27, 42, 29, 182, 1, 241, 42, 180, 0, 35]
abbrev dktX8_doAll_0 : List UInt8 := dkwX8_doAll_0 ++ dktX8_doAll_1
theorem dksX8_doAll_0 : cX8_doAll.data.toList.drop 0 = dktX8_doAll_0 := by decide +kernel
theorem dksX8_doAll_1 : cX8_doAll.data.toList.drop 23 = dktX8_doAll_1 := dk_seg dksX8_doAll_0 23 rfl rfl
theorem dX8_doAll_0 : decode cX8_doAll 0 = .ok (.iload_n 1, 1) := dk_27 (dk_at dksX8_doAll_0 0 rfl rfl)
theorem dX8_doAll_1 : decode cX8_doAll 1 = .ok (.istore_n 3, 1) := dk_62 (dk_at dksX8_doAll_0 1 rfl rfl)
theorem dX8_doAll_2 : decode cX8_doAll 2 = .ok (.iload_n 3, 1) := dk_29 (dk_at dksX8_doAll_0 2 rfl rfl)
theorem dX8_doAll_3 : decode cX8_doAll 3 = .ok (.iload_n 2, 1) := dk_28 (dk_at dksX8_doAll_0 3 rfl rfl)
theorem dX8_doAll_4 : decode cX8_doAll 4 = .ok (.if_icmp .ge 34, 3) := dk_162 0 34 (dk_at dksX8_doAll_0 4 rfl rfl)
theorem dX8_doAll_7 : decode cX8_doAll 7 = .ok (.aload_n 0, 1) := dk_42 (dk_at dksX8_doAll_0 7 rfl rfl)
theorem dX8_doAll_8 : decode cX8_doAll 8 = .ok (.getfield 479, 3) := dk_180 1 223 (dk_at dksX8_doAll_0 8 rfl rfl)
theorem dX8_doAll_11 : decode cX8_doAll 11 = .ok (.ifCond .ne 27, 3) := dk_154 0 27 (dk_at dksX8_doAll_0 11 rfl rfl)
theorem dX8_doAll_14 : decode cX8_doAll 14 = .ok (.aload_n 0, 1) := dk_42 (dk_at dksX8_doAll_0 14 rfl rfl)
theorem dX8_doAll_15 : decode cX8_doAll 15 = .ok (.iload_n 3, 1) := dk_29 (dk_at dksX8_doAll_0 15 rfl rfl)
theorem dX8_doAll_16 : decode cX8_doAll 16 = .ok (.invokevirtual 497, 3) := dk_182 1 241 (dk_at dksX8_doAll_0 16 rfl rfl)
theorem dX8_doAll_19 : decode cX8_doAll 19 = .ok (.aload_n 0, 1) := dk_42 (dk_at dksX8_doAll_0 19 rfl rfl)
theorem dX8_doAll_20 : decode cX8_doAll 20 = .ok (.getfield 35, 3) := dk_180 0 35 (dk_at dksX8_doAll_0 20 rfl rfl)
theorem dX8_doAll_23 : decode cX8_doAll 23 = .ok (.bipush 89, 2) := dk_16 89 (dk_at dksX8_doAll_1 0 rfl rfl)
theorem dX8_doAll_25 : decode cX8_doAll 25 = .ok (.bipush 9, 2) := dk_16 9 (dk_at dksX8_doAll_1 2 rfl rfl)
theorem dX8_doAll_27 : decode cX8_doAll 27 = .ok (.iload_n 3, 1) := dk_29 (dk_at dksX8_doAll_1 4 rfl rfl)
theorem dX8_doAll_28 : decode cX8_doAll 28 = .ok (.imul, 1) := dk_104 (dk_at dksX8_doAll_1 5 rfl rfl)
theorem dX8_doAll_29 : decode cX8_doAll 29 = .ok (.iadd, 1) := dk_96 (dk_at dksX8_doAll_1 6 rfl rfl)
theorem dX8_doAll_30 : decode cX8_doAll 30 = .ok (.bipush 8, 2) := dk_16 8 (dk_at dksX8_doAll_1 7 rfl rfl)
theorem dX8_doAll_32 : decode cX8_doAll 32 = .ok (.iadd, 1) := dk_96 (dk_at dksX8_doAll_1 9 rfl rfl)
theorem dX8_doAll_33 : decode cX8_doAll 33 = .ok (.iaload, 1) := dk_46 (dk_at dksX8_doAll_1 10 rfl rfl)
theorem dX8_doAll_34 : decode cX8_doAll 34 = .ok (.istore_n 3, 1) := dk_62 (dk_at dksX8_doAll_1 11 rfl rfl)
theorem dX8_doAll_35 : decode cX8_doAll 35 = .ok (.goto (-33), 3) := dk_167 255 223 (dk_at dksX8_doAll_1 12 rfl rfl)
theorem dX8_doAll_38 : decode cX8_doAll 38 = .ok (.return_, 1) := dk_177 (dk_at dksX8_doAll_1 15 rfl rfl)
abbrev cX8_doOne : ByteArray := prog_14_method_146_code
def yX8_doOne : MethodName := ⟨RX8, "doOne", "(I)V"⟩
def dkwX8_doOne_7 : List UInt8 := [164, 0, 8, 42, 4, 181, 1, 223, 177]
abbrev dktX8_doOne_7 : List UInt8 := dkwX8_doOne_7 ++ []
def dkwX8_doOne_6 : List UInt8 := [42, 180, 0, 35, 28, 16, 8, 96, 46, 182, 1, 238, 132, 4, 1, 167, 255, 217, 167, 0, 14, 29, 16, 6]
abbrev dktX8_doOne_6 : List UInt8 := dkwX8_doOne_6 ++ dktX8_doOne_7
def dkwX8_doOne_5 : List UInt8 := [21, 4, 42, 180, 0, 35, 28, 4, 96, 46, 162, 0, 32, 42, 180, 1, 223, 154, 0, 25, 42, 27, 4, 96]
abbrev dktX8_doOne_5 : List UInt8 := dkwX8_doOne_5 ++ dktX8_doOne_6
def dkwX8_doOne_4 : List UInt8 := [180, 0, 35, 28, 16, 8, 96, 46, 182, 1, 238, 167, 0, 68, 29, 16, 6, 160, 0, 51, 3, 54, 4]
abbrev dktX8_doOne_4 : List UInt8 := dkwX8_doOne_4 ++ dktX8_doOne_5
def dkwX8_doOne_3 : List UInt8 := [181, 1, 229, 167, 0, 100, 29, 8, 160, 0, 30, 42, 28, 182, 1, 235, 153, 0, 22, 42, 27, 4, 96, 42]
abbrev dktX8_doOne_3 : List UInt8 := dkwX8_doOne_3 ++ dktX8_doOne_4
def dkwX8_doOne_2 : List UInt8 := [8, 162, 0, 28, 42, 89, 180, 1, 229, 42, 28, 182, 1, 232, 153, 0, 7, 3, 167, 0, 4, 4, 96]
abbrev dktX8_doOne_2 : List UInt8 := dkwX8_doOne_2 ++ dktX8_doOne_3
def dkwX8_doOne_1 : List UInt8 := [180, 1, 220, 4, 96, 181, 1, 220, 16, 89, 16, 9, 27, 104, 96, 61, 42, 180, 0, 35, 28, 46, 62, 29]
abbrev dktX8_doOne_1 : List UInt8 := dkwX8_doOne_1 ++ dktX8_doOne_2
def dkwX8_doOne_0 : List UInt8 := [42, 180, 1, 220, 17, 1, 44, 160, 0, 14, 42, 4, 181, 1, 223, 42, 4, 181, 1, 226, 177, 42, 89]
abbrev dktX8_doOne_0 : List UInt8 := dkwX8_doOne_0 ++ dktX8_doOne_1
theorem dksX8_doOne_0 : cX8_doOne.data.toList.drop 0 = dktX8_doOne_0 := by decide +kernel
theorem dksX8_doOne_1 : cX8_doOne.data.toList.drop 23 = dktX8_doOne_1 := dk_seg dksX8_doOne_0 23 rfl rfl
theorem dksX8_doOne_2 : cX8_doOne.data.toList.drop 47 = dktX8_doOne_2 := dk_seg dksX8_doOne_1 24 rfl rfl
theorem dksX8_doOne_3 : cX8_doOne.data.toList.drop 70 = dktX8_doOne_3 := dk_seg dksX8_doOne_2 23 rfl rfl
theorem dksX8_doOne_4 : cX8_doOne.data.toList.drop 94 = dktX8_doOne_4 := dk_seg dksX8_doOne_3 24 rfl rfl
theorem dksX8_doOne_5 : cX8_doOne.data.toList.drop 117 = dktX8_doOne_5 := dk_seg dksX8_doOne_4 23 rfl rfl
theorem dksX8_doOne_6 : cX8_doOne.data.toList.drop 141 = dktX8_doOne_6 := dk_seg dksX8_doOne_5 24 rfl rfl
theorem dksX8_doOne_7 : cX8_doOne.data.toList.drop 165 = dktX8_doOne_7 := dk_seg dksX8_doOne_6 24 rfl rfl
theorem dX8_doOne_0 : decode cX8_doOne 0 = .ok (.aload_n 0, 1) := dk_42 (dk_at dksX8_doOne_0 0 rfl rfl)
theorem dX8_doOne_1 : decode cX8_doOne 1 = .ok (.getfield 476, 3) := dk_180 1 220 (dk_at dksX8_doOne_0 1 rfl rfl)
theorem dX8_doOne_4 : decode cX8_doOne 4 = .ok (.sipush 300, 3) := dk_17 1 44 (dk_at dksX8_doOne_0 4 rfl rfl)
theorem dX8_doOne_7 : decode cX8_doOne 7 = .ok (.if_icmp .ne 14, 3) := dk_160 0 14 (dk_at dksX8_doOne_0 7 rfl rfl)
theorem dX8_doOne_10 : decode cX8_doOne 10 = .ok (.aload_n 0, 1) := dk_42 (dk_at dksX8_doOne_0 10 rfl rfl)
theorem dX8_doOne_11 : decode cX8_doOne 11 = .ok (.iconst 1, 1) := dk_4 (dk_at dksX8_doOne_0 11 rfl rfl)
theorem dX8_doOne_12 : decode cX8_doOne 12 = .ok (.putfield 479, 3) := dk_181 1 223 (dk_at dksX8_doOne_0 12 rfl rfl)
theorem dX8_doOne_15 : decode cX8_doOne 15 = .ok (.aload_n 0, 1) := dk_42 (dk_at dksX8_doOne_0 15 rfl rfl)
theorem dX8_doOne_16 : decode cX8_doOne 16 = .ok (.iconst 1, 1) := dk_4 (dk_at dksX8_doOne_0 16 rfl rfl)
theorem dX8_doOne_17 : decode cX8_doOne 17 = .ok (.putfield 482, 3) := dk_181 1 226 (dk_at dksX8_doOne_0 17 rfl rfl)
theorem dX8_doOne_20 : decode cX8_doOne 20 = .ok (.return_, 1) := dk_177 (dk_at dksX8_doOne_0 20 rfl rfl)
theorem dX8_doOne_21 : decode cX8_doOne 21 = .ok (.aload_n 0, 1) := dk_42 (dk_at dksX8_doOne_0 21 rfl rfl)
theorem dX8_doOne_22 : decode cX8_doOne 22 = .ok (.dup, 1) := dk_89 (dk_at dksX8_doOne_0 22 rfl rfl)
theorem dX8_doOne_23 : decode cX8_doOne 23 = .ok (.getfield 476, 3) := dk_180 1 220 (dk_at dksX8_doOne_1 0 rfl rfl)
theorem dX8_doOne_26 : decode cX8_doOne 26 = .ok (.iconst 1, 1) := dk_4 (dk_at dksX8_doOne_1 3 rfl rfl)
theorem dX8_doOne_27 : decode cX8_doOne 27 = .ok (.iadd, 1) := dk_96 (dk_at dksX8_doOne_1 4 rfl rfl)
theorem dX8_doOne_28 : decode cX8_doOne 28 = .ok (.putfield 476, 3) := dk_181 1 220 (dk_at dksX8_doOne_1 5 rfl rfl)
theorem dX8_doOne_31 : decode cX8_doOne 31 = .ok (.bipush 89, 2) := dk_16 89 (dk_at dksX8_doOne_1 8 rfl rfl)
theorem dX8_doOne_33 : decode cX8_doOne 33 = .ok (.bipush 9, 2) := dk_16 9 (dk_at dksX8_doOne_1 10 rfl rfl)
theorem dX8_doOne_35 : decode cX8_doOne 35 = .ok (.iload_n 1, 1) := dk_27 (dk_at dksX8_doOne_1 12 rfl rfl)
theorem dX8_doOne_36 : decode cX8_doOne 36 = .ok (.imul, 1) := dk_104 (dk_at dksX8_doOne_1 13 rfl rfl)
theorem dX8_doOne_37 : decode cX8_doOne 37 = .ok (.iadd, 1) := dk_96 (dk_at dksX8_doOne_1 14 rfl rfl)
theorem dX8_doOne_38 : decode cX8_doOne 38 = .ok (.istore_n 2, 1) := dk_61 (dk_at dksX8_doOne_1 15 rfl rfl)
theorem dX8_doOne_39 : decode cX8_doOne 39 = .ok (.aload_n 0, 1) := dk_42 (dk_at dksX8_doOne_1 16 rfl rfl)
theorem dX8_doOne_40 : decode cX8_doOne 40 = .ok (.getfield 35, 3) := dk_180 0 35 (dk_at dksX8_doOne_1 17 rfl rfl)
theorem dX8_doOne_43 : decode cX8_doOne 43 = .ok (.iload_n 2, 1) := dk_28 (dk_at dksX8_doOne_1 20 rfl rfl)
theorem dX8_doOne_44 : decode cX8_doOne 44 = .ok (.iaload, 1) := dk_46 (dk_at dksX8_doOne_1 21 rfl rfl)
theorem dX8_doOne_45 : decode cX8_doOne 45 = .ok (.istore_n 3, 1) := dk_62 (dk_at dksX8_doOne_1 22 rfl rfl)
theorem dX8_doOne_46 : decode cX8_doOne 46 = .ok (.iload_n 3, 1) := dk_29 (dk_at dksX8_doOne_1 23 rfl rfl)
theorem dX8_doOne_47 : decode cX8_doOne 47 = .ok (.iconst 5, 1) := dk_8 (dk_at dksX8_doOne_2 0 rfl rfl)
theorem dX8_doOne_48 : decode cX8_doOne 48 = .ok (.if_icmp .ge 28, 3) := dk_162 0 28 (dk_at dksX8_doOne_2 1 rfl rfl)
theorem dX8_doOne_51 : decode cX8_doOne 51 = .ok (.aload_n 0, 1) := dk_42 (dk_at dksX8_doOne_2 4 rfl rfl)
theorem dX8_doOne_52 : decode cX8_doOne 52 = .ok (.dup, 1) := dk_89 (dk_at dksX8_doOne_2 5 rfl rfl)
theorem dX8_doOne_53 : decode cX8_doOne 53 = .ok (.getfield 485, 3) := dk_180 1 229 (dk_at dksX8_doOne_2 6 rfl rfl)
theorem dX8_doOne_56 : decode cX8_doOne 56 = .ok (.aload_n 0, 1) := dk_42 (dk_at dksX8_doOne_2 9 rfl rfl)
theorem dX8_doOne_57 : decode cX8_doOne 57 = .ok (.iload_n 2, 1) := dk_28 (dk_at dksX8_doOne_2 10 rfl rfl)
theorem dX8_doOne_58 : decode cX8_doOne 58 = .ok (.invokevirtual 488, 3) := dk_182 1 232 (dk_at dksX8_doOne_2 11 rfl rfl)
theorem dX8_doOne_61 : decode cX8_doOne 61 = .ok (.ifCond .eq 7, 3) := dk_153 0 7 (dk_at dksX8_doOne_2 14 rfl rfl)
theorem dX8_doOne_64 : decode cX8_doOne 64 = .ok (.iconst 0, 1) := dk_3 (dk_at dksX8_doOne_2 17 rfl rfl)
theorem dX8_doOne_65 : decode cX8_doOne 65 = .ok (.goto 4, 3) := dk_167 0 4 (dk_at dksX8_doOne_2 18 rfl rfl)
theorem dX8_doOne_68 : decode cX8_doOne 68 = .ok (.iconst 1, 1) := dk_4 (dk_at dksX8_doOne_2 21 rfl rfl)
theorem dX8_doOne_69 : decode cX8_doOne 69 = .ok (.iadd, 1) := dk_96 (dk_at dksX8_doOne_2 22 rfl rfl)
theorem dX8_doOne_70 : decode cX8_doOne 70 = .ok (.putfield 485, 3) := dk_181 1 229 (dk_at dksX8_doOne_3 0 rfl rfl)
theorem dX8_doOne_73 : decode cX8_doOne 73 = .ok (.goto 100, 3) := dk_167 0 100 (dk_at dksX8_doOne_3 3 rfl rfl)
theorem dX8_doOne_76 : decode cX8_doOne 76 = .ok (.iload_n 3, 1) := dk_29 (dk_at dksX8_doOne_3 6 rfl rfl)
theorem dX8_doOne_77 : decode cX8_doOne 77 = .ok (.iconst 5, 1) := dk_8 (dk_at dksX8_doOne_3 7 rfl rfl)
theorem dX8_doOne_78 : decode cX8_doOne 78 = .ok (.if_icmp .ne 30, 3) := dk_160 0 30 (dk_at dksX8_doOne_3 8 rfl rfl)
theorem dX8_doOne_81 : decode cX8_doOne 81 = .ok (.aload_n 0, 1) := dk_42 (dk_at dksX8_doOne_3 11 rfl rfl)
theorem dX8_doOne_82 : decode cX8_doOne 82 = .ok (.iload_n 2, 1) := dk_28 (dk_at dksX8_doOne_3 12 rfl rfl)
theorem dX8_doOne_83 : decode cX8_doOne 83 = .ok (.invokevirtual 491, 3) := dk_182 1 235 (dk_at dksX8_doOne_3 13 rfl rfl)
theorem dX8_doOne_86 : decode cX8_doOne 86 = .ok (.ifCond .eq 22, 3) := dk_153 0 22 (dk_at dksX8_doOne_3 16 rfl rfl)
theorem dX8_doOne_89 : decode cX8_doOne 89 = .ok (.aload_n 0, 1) := dk_42 (dk_at dksX8_doOne_3 19 rfl rfl)
theorem dX8_doOne_90 : decode cX8_doOne 90 = .ok (.iload_n 1, 1) := dk_27 (dk_at dksX8_doOne_3 20 rfl rfl)
theorem dX8_doOne_91 : decode cX8_doOne 91 = .ok (.iconst 1, 1) := dk_4 (dk_at dksX8_doOne_3 21 rfl rfl)
theorem dX8_doOne_92 : decode cX8_doOne 92 = .ok (.iadd, 1) := dk_96 (dk_at dksX8_doOne_3 22 rfl rfl)
theorem dX8_doOne_93 : decode cX8_doOne 93 = .ok (.aload_n 0, 1) := dk_42 (dk_at dksX8_doOne_3 23 rfl rfl)
theorem dX8_doOne_94 : decode cX8_doOne 94 = .ok (.getfield 35, 3) := dk_180 0 35 (dk_at dksX8_doOne_4 0 rfl rfl)
theorem dX8_doOne_97 : decode cX8_doOne 97 = .ok (.iload_n 2, 1) := dk_28 (dk_at dksX8_doOne_4 3 rfl rfl)
theorem dX8_doOne_98 : decode cX8_doOne 98 = .ok (.bipush 8, 2) := dk_16 8 (dk_at dksX8_doOne_4 4 rfl rfl)
theorem dX8_doOne_100 : decode cX8_doOne 100 = .ok (.iadd, 1) := dk_96 (dk_at dksX8_doOne_4 6 rfl rfl)
theorem dX8_doOne_101 : decode cX8_doOne 101 = .ok (.iaload, 1) := dk_46 (dk_at dksX8_doOne_4 7 rfl rfl)
theorem dX8_doOne_102 : decode cX8_doOne 102 = .ok (.invokevirtual 494, 3) := dk_182 1 238 (dk_at dksX8_doOne_4 8 rfl rfl)
theorem dX8_doOne_105 : decode cX8_doOne 105 = .ok (.goto 68, 3) := dk_167 0 68 (dk_at dksX8_doOne_4 11 rfl rfl)
theorem dX8_doOne_108 : decode cX8_doOne 108 = .ok (.iload_n 3, 1) := dk_29 (dk_at dksX8_doOne_4 14 rfl rfl)
theorem dX8_doOne_109 : decode cX8_doOne 109 = .ok (.bipush 6, 2) := dk_16 6 (dk_at dksX8_doOne_4 15 rfl rfl)
theorem dX8_doOne_111 : decode cX8_doOne 111 = .ok (.if_icmp .ne 51, 3) := dk_160 0 51 (dk_at dksX8_doOne_4 17 rfl rfl)
theorem dX8_doOne_114 : decode cX8_doOne 114 = .ok (.iconst 0, 1) := dk_3 (dk_at dksX8_doOne_4 20 rfl rfl)
theorem dX8_doOne_115 : decode cX8_doOne 115 = .ok (.istore 4, 2) := dk_54 4 (dk_at dksX8_doOne_4 21 rfl rfl)
theorem dX8_doOne_117 : decode cX8_doOne 117 = .ok (.iload 4, 2) := dk_21 4 (dk_at dksX8_doOne_5 0 rfl rfl)
theorem dX8_doOne_119 : decode cX8_doOne 119 = .ok (.aload_n 0, 1) := dk_42 (dk_at dksX8_doOne_5 2 rfl rfl)
theorem dX8_doOne_120 : decode cX8_doOne 120 = .ok (.getfield 35, 3) := dk_180 0 35 (dk_at dksX8_doOne_5 3 rfl rfl)
theorem dX8_doOne_123 : decode cX8_doOne 123 = .ok (.iload_n 2, 1) := dk_28 (dk_at dksX8_doOne_5 6 rfl rfl)
theorem dX8_doOne_124 : decode cX8_doOne 124 = .ok (.iconst 1, 1) := dk_4 (dk_at dksX8_doOne_5 7 rfl rfl)
theorem dX8_doOne_125 : decode cX8_doOne 125 = .ok (.iadd, 1) := dk_96 (dk_at dksX8_doOne_5 8 rfl rfl)
theorem dX8_doOne_126 : decode cX8_doOne 126 = .ok (.iaload, 1) := dk_46 (dk_at dksX8_doOne_5 9 rfl rfl)
theorem dX8_doOne_127 : decode cX8_doOne 127 = .ok (.if_icmp .ge 32, 3) := dk_162 0 32 (dk_at dksX8_doOne_5 10 rfl rfl)
theorem dX8_doOne_130 : decode cX8_doOne 130 = .ok (.aload_n 0, 1) := dk_42 (dk_at dksX8_doOne_5 13 rfl rfl)
theorem dX8_doOne_131 : decode cX8_doOne 131 = .ok (.getfield 479, 3) := dk_180 1 223 (dk_at dksX8_doOne_5 14 rfl rfl)
theorem dX8_doOne_134 : decode cX8_doOne 134 = .ok (.ifCond .ne 25, 3) := dk_154 0 25 (dk_at dksX8_doOne_5 17 rfl rfl)
theorem dX8_doOne_137 : decode cX8_doOne 137 = .ok (.aload_n 0, 1) := dk_42 (dk_at dksX8_doOne_5 20 rfl rfl)
theorem dX8_doOne_138 : decode cX8_doOne 138 = .ok (.iload_n 1, 1) := dk_27 (dk_at dksX8_doOne_5 21 rfl rfl)
theorem dX8_doOne_139 : decode cX8_doOne 139 = .ok (.iconst 1, 1) := dk_4 (dk_at dksX8_doOne_5 22 rfl rfl)
theorem dX8_doOne_140 : decode cX8_doOne 140 = .ok (.iadd, 1) := dk_96 (dk_at dksX8_doOne_5 23 rfl rfl)
theorem dX8_doOne_141 : decode cX8_doOne 141 = .ok (.aload_n 0, 1) := dk_42 (dk_at dksX8_doOne_6 0 rfl rfl)
theorem dX8_doOne_142 : decode cX8_doOne 142 = .ok (.getfield 35, 3) := dk_180 0 35 (dk_at dksX8_doOne_6 1 rfl rfl)
theorem dX8_doOne_145 : decode cX8_doOne 145 = .ok (.iload_n 2, 1) := dk_28 (dk_at dksX8_doOne_6 4 rfl rfl)
theorem dX8_doOne_146 : decode cX8_doOne 146 = .ok (.bipush 8, 2) := dk_16 8 (dk_at dksX8_doOne_6 5 rfl rfl)
theorem dX8_doOne_148 : decode cX8_doOne 148 = .ok (.iadd, 1) := dk_96 (dk_at dksX8_doOne_6 7 rfl rfl)
theorem dX8_doOne_149 : decode cX8_doOne 149 = .ok (.iaload, 1) := dk_46 (dk_at dksX8_doOne_6 8 rfl rfl)
theorem dX8_doOne_150 : decode cX8_doOne 150 = .ok (.invokevirtual 494, 3) := dk_182 1 238 (dk_at dksX8_doOne_6 9 rfl rfl)
theorem dX8_doOne_153 : decode cX8_doOne 153 = .ok (.iinc 4 1, 3) := dk_132 4 1 (dk_at dksX8_doOne_6 12 rfl rfl)
theorem dX8_doOne_156 : decode cX8_doOne 156 = .ok (.goto (-39), 3) := dk_167 255 217 (dk_at dksX8_doOne_6 15 rfl rfl)
theorem dX8_doOne_159 : decode cX8_doOne 159 = .ok (.goto 14, 3) := dk_167 0 14 (dk_at dksX8_doOne_6 18 rfl rfl)
theorem dX8_doOne_162 : decode cX8_doOne 162 = .ok (.iload_n 3, 1) := dk_29 (dk_at dksX8_doOne_6 21 rfl rfl)
theorem dX8_doOne_163 : decode cX8_doOne 163 = .ok (.bipush 6, 2) := dk_16 6 (dk_at dksX8_doOne_6 22 rfl rfl)
theorem dX8_doOne_165 : decode cX8_doOne 165 = .ok (.if_icmp .le 8, 3) := dk_164 0 8 (dk_at dksX8_doOne_7 0 rfl rfl)
theorem dX8_doOne_168 : decode cX8_doOne 168 = .ok (.aload_n 0, 1) := dk_42 (dk_at dksX8_doOne_7 3 rfl rfl)
theorem dX8_doOne_169 : decode cX8_doOne 169 = .ok (.iconst 1, 1) := dk_4 (dk_at dksX8_doOne_7 4 rfl rfl)
theorem dX8_doOne_170 : decode cX8_doOne 170 = .ok (.putfield 479, 3) := dk_181 1 223 (dk_at dksX8_doOne_7 5 rfl rfl)
theorem dX8_doOne_173 : decode cX8_doOne 173 = .ok (.return_, 1) := dk_177 (dk_at dksX8_doOne_7 8 rfl rfl)
abbrev cX8_does : ByteArray := prog_14_method_144_code
def yX8_does : MethodName := ⟨RX8, "does", "(I)Z"⟩
def dkwX8_does_3 : List UInt8 := [167, 0, 4, 3, 182, 1, 110, 172]
abbrev dktX8_does_3 : List UInt8 := dkwX8_does_3 ++ []
def dkwX8_does_2 : List UInt8 := [172, 28, 7, 160, 0, 10, 42, 182, 1, 217, 167, 0, 20, 42, 29, 21, 4, 28, 5, 160, 0, 7, 4]
abbrev dktX8_does_2 : List UInt8 := dkwX8_does_2 ++ dktX8_does_3
def dkwX8_does_1 : List UInt8 := [54, 4, 28, 154, 0, 11, 42, 29, 21, 4, 182, 1, 104, 172, 28, 4, 160, 0, 9, 42, 29, 182, 1, 214]
abbrev dktX8_does_1 : List UInt8 := dkwX8_does_1 ++ dktX8_does_2
def dkwX8_does_0 : List UInt8 := [42, 180, 0, 35, 27, 46, 61, 42, 180, 0, 35, 27, 4, 96, 46, 62, 42, 180, 0, 35, 27, 5, 96, 46]
abbrev dktX8_does_0 : List UInt8 := dkwX8_does_0 ++ dktX8_does_1
theorem dksX8_does_0 : cX8_does.data.toList.drop 0 = dktX8_does_0 := by decide +kernel
theorem dksX8_does_1 : cX8_does.data.toList.drop 24 = dktX8_does_1 := dk_seg dksX8_does_0 24 rfl rfl
theorem dksX8_does_2 : cX8_does.data.toList.drop 48 = dktX8_does_2 := dk_seg dksX8_does_1 24 rfl rfl
theorem dksX8_does_3 : cX8_does.data.toList.drop 71 = dktX8_does_3 := dk_seg dksX8_does_2 23 rfl rfl
theorem dX8_does_0 : decode cX8_does 0 = .ok (.aload_n 0, 1) := dk_42 (dk_at dksX8_does_0 0 rfl rfl)
theorem dX8_does_1 : decode cX8_does 1 = .ok (.getfield 35, 3) := dk_180 0 35 (dk_at dksX8_does_0 1 rfl rfl)
theorem dX8_does_4 : decode cX8_does 4 = .ok (.iload_n 1, 1) := dk_27 (dk_at dksX8_does_0 4 rfl rfl)
theorem dX8_does_5 : decode cX8_does 5 = .ok (.iaload, 1) := dk_46 (dk_at dksX8_does_0 5 rfl rfl)
theorem dX8_does_6 : decode cX8_does 6 = .ok (.istore_n 2, 1) := dk_61 (dk_at dksX8_does_0 6 rfl rfl)
theorem dX8_does_7 : decode cX8_does 7 = .ok (.aload_n 0, 1) := dk_42 (dk_at dksX8_does_0 7 rfl rfl)
theorem dX8_does_8 : decode cX8_does 8 = .ok (.getfield 35, 3) := dk_180 0 35 (dk_at dksX8_does_0 8 rfl rfl)
theorem dX8_does_11 : decode cX8_does 11 = .ok (.iload_n 1, 1) := dk_27 (dk_at dksX8_does_0 11 rfl rfl)
theorem dX8_does_12 : decode cX8_does 12 = .ok (.iconst 1, 1) := dk_4 (dk_at dksX8_does_0 12 rfl rfl)
theorem dX8_does_13 : decode cX8_does 13 = .ok (.iadd, 1) := dk_96 (dk_at dksX8_does_0 13 rfl rfl)
theorem dX8_does_14 : decode cX8_does 14 = .ok (.iaload, 1) := dk_46 (dk_at dksX8_does_0 14 rfl rfl)
theorem dX8_does_15 : decode cX8_does 15 = .ok (.istore_n 3, 1) := dk_62 (dk_at dksX8_does_0 15 rfl rfl)
theorem dX8_does_16 : decode cX8_does 16 = .ok (.aload_n 0, 1) := dk_42 (dk_at dksX8_does_0 16 rfl rfl)
theorem dX8_does_17 : decode cX8_does 17 = .ok (.getfield 35, 3) := dk_180 0 35 (dk_at dksX8_does_0 17 rfl rfl)
theorem dX8_does_20 : decode cX8_does 20 = .ok (.iload_n 1, 1) := dk_27 (dk_at dksX8_does_0 20 rfl rfl)
theorem dX8_does_21 : decode cX8_does 21 = .ok (.iconst 2, 1) := dk_5 (dk_at dksX8_does_0 21 rfl rfl)
theorem dX8_does_22 : decode cX8_does 22 = .ok (.iadd, 1) := dk_96 (dk_at dksX8_does_0 22 rfl rfl)
theorem dX8_does_23 : decode cX8_does 23 = .ok (.iaload, 1) := dk_46 (dk_at dksX8_does_0 23 rfl rfl)
theorem dX8_does_24 : decode cX8_does 24 = .ok (.istore 4, 2) := dk_54 4 (dk_at dksX8_does_1 0 rfl rfl)
theorem dX8_does_26 : decode cX8_does 26 = .ok (.iload_n 2, 1) := dk_28 (dk_at dksX8_does_1 2 rfl rfl)
theorem dX8_does_27 : decode cX8_does 27 = .ok (.ifCond .ne 11, 3) := dk_154 0 11 (dk_at dksX8_does_1 3 rfl rfl)
theorem dX8_does_30 : decode cX8_does 30 = .ok (.aload_n 0, 1) := dk_42 (dk_at dksX8_does_1 6 rfl rfl)
theorem dX8_does_31 : decode cX8_does 31 = .ok (.iload_n 3, 1) := dk_29 (dk_at dksX8_does_1 7 rfl rfl)
theorem dX8_does_32 : decode cX8_does 32 = .ok (.iload 4, 2) := dk_21 4 (dk_at dksX8_does_1 8 rfl rfl)
theorem dX8_does_34 : decode cX8_does 34 = .ok (.invokevirtual 360, 3) := dk_182 1 104 (dk_at dksX8_does_1 10 rfl rfl)
theorem dX8_does_37 : decode cX8_does 37 = .ok (.ireturn, 1) := dk_172 (dk_at dksX8_does_1 13 rfl rfl)
theorem dX8_does_38 : decode cX8_does 38 = .ok (.iload_n 2, 1) := dk_28 (dk_at dksX8_does_1 14 rfl rfl)
theorem dX8_does_39 : decode cX8_does 39 = .ok (.iconst 1, 1) := dk_4 (dk_at dksX8_does_1 15 rfl rfl)
theorem dX8_does_40 : decode cX8_does 40 = .ok (.if_icmp .ne 9, 3) := dk_160 0 9 (dk_at dksX8_does_1 16 rfl rfl)
theorem dX8_does_43 : decode cX8_does 43 = .ok (.aload_n 0, 1) := dk_42 (dk_at dksX8_does_1 19 rfl rfl)
theorem dX8_does_44 : decode cX8_does 44 = .ok (.iload_n 3, 1) := dk_29 (dk_at dksX8_does_1 20 rfl rfl)
theorem dX8_does_45 : decode cX8_does 45 = .ok (.invokevirtual 470, 3) := dk_182 1 214 (dk_at dksX8_does_1 21 rfl rfl)
theorem dX8_does_48 : decode cX8_does 48 = .ok (.ireturn, 1) := dk_172 (dk_at dksX8_does_2 0 rfl rfl)
theorem dX8_does_49 : decode cX8_does 49 = .ok (.iload_n 2, 1) := dk_28 (dk_at dksX8_does_2 1 rfl rfl)
theorem dX8_does_50 : decode cX8_does 50 = .ok (.iconst 4, 1) := dk_7 (dk_at dksX8_does_2 2 rfl rfl)
theorem dX8_does_51 : decode cX8_does 51 = .ok (.if_icmp .ne 10, 3) := dk_160 0 10 (dk_at dksX8_does_2 3 rfl rfl)
theorem dX8_does_54 : decode cX8_does 54 = .ok (.aload_n 0, 1) := dk_42 (dk_at dksX8_does_2 6 rfl rfl)
theorem dX8_does_55 : decode cX8_does 55 = .ok (.invokevirtual 473, 3) := dk_182 1 217 (dk_at dksX8_does_2 7 rfl rfl)
theorem dX8_does_58 : decode cX8_does 58 = .ok (.goto 20, 3) := dk_167 0 20 (dk_at dksX8_does_2 10 rfl rfl)
theorem dX8_does_61 : decode cX8_does 61 = .ok (.aload_n 0, 1) := dk_42 (dk_at dksX8_does_2 13 rfl rfl)
theorem dX8_does_62 : decode cX8_does 62 = .ok (.iload_n 3, 1) := dk_29 (dk_at dksX8_does_2 14 rfl rfl)
theorem dX8_does_63 : decode cX8_does 63 = .ok (.iload 4, 2) := dk_21 4 (dk_at dksX8_does_2 15 rfl rfl)
theorem dX8_does_65 : decode cX8_does 65 = .ok (.iload_n 2, 1) := dk_28 (dk_at dksX8_does_2 17 rfl rfl)
theorem dX8_does_66 : decode cX8_does 66 = .ok (.iconst 2, 1) := dk_5 (dk_at dksX8_does_2 18 rfl rfl)
theorem dX8_does_67 : decode cX8_does 67 = .ok (.if_icmp .ne 7, 3) := dk_160 0 7 (dk_at dksX8_does_2 19 rfl rfl)
theorem dX8_does_70 : decode cX8_does 70 = .ok (.iconst 1, 1) := dk_4 (dk_at dksX8_does_2 22 rfl rfl)
theorem dX8_does_71 : decode cX8_does 71 = .ok (.goto 4, 3) := dk_167 0 4 (dk_at dksX8_does_3 0 rfl rfl)
theorem dX8_does_74 : decode cX8_does 74 = .ok (.iconst 0, 1) := dk_3 (dk_at dksX8_does_3 3 rfl rfl)
theorem dX8_does_75 : decode cX8_does 75 = .ok (.invokevirtual 366, 3) := dk_182 1 110 (dk_at dksX8_does_3 4 rfl rfl)
theorem dX8_does_78 : decode cX8_does 78 = .ok (.ireturn, 1) := dk_172 (dk_at dksX8_does_3 7 rfl rfl)
abbrev cX8_isBitten : ByteArray := prog_14_method_142_code
def yX8_isBitten : MethodName := ⟨RX8, "isBitten", "(I)Z"⟩
def dkwX8_isBitten_2 : List UInt8 := [4, 96, 181, 1, 211, 4, 172]
abbrev dktX8_isBitten_2 : List UInt8 := dkwX8_isBitten_2 ++ []
def dkwX8_isBitten_1 : List UInt8 := [182, 1, 208, 42, 180, 0, 35, 7, 46, 161, 0, 5, 3, 172, 42, 27, 182, 1, 107, 42, 89, 180, 1, 211]
abbrev dktX8_isBitten_1 : List UInt8 := dkwX8_isBitten_1 ++ dktX8_isBitten_2
def dkwX8_isBitten_0 : List UInt8 := [42, 27, 182, 1, 54, 154, 0, 30, 42, 180, 0, 35, 16, 51, 27, 96, 46, 153, 0, 18, 42, 16, 16]
abbrev dktX8_isBitten_0 : List UInt8 := dkwX8_isBitten_0 ++ dktX8_isBitten_1
theorem dksX8_isBitten_0 : cX8_isBitten.data.toList.drop 0 = dktX8_isBitten_0 := by decide +kernel
theorem dksX8_isBitten_1 : cX8_isBitten.data.toList.drop 23 = dktX8_isBitten_1 := dk_seg dksX8_isBitten_0 23 rfl rfl
theorem dksX8_isBitten_2 : cX8_isBitten.data.toList.drop 47 = dktX8_isBitten_2 := dk_seg dksX8_isBitten_1 24 rfl rfl
theorem dX8_isBitten_0 : decode cX8_isBitten 0 = .ok (.aload_n 0, 1) := dk_42 (dk_at dksX8_isBitten_0 0 rfl rfl)
theorem dX8_isBitten_1 : decode cX8_isBitten 1 = .ok (.iload_n 1, 1) := dk_27 (dk_at dksX8_isBitten_0 1 rfl rfl)
theorem dX8_isBitten_2 : decode cX8_isBitten 2 = .ok (.invokevirtual 310, 3) := dk_182 1 54 (dk_at dksX8_isBitten_0 2 rfl rfl)
theorem dX8_isBitten_5 : decode cX8_isBitten 5 = .ok (.ifCond .ne 30, 3) := dk_154 0 30 (dk_at dksX8_isBitten_0 5 rfl rfl)
theorem dX8_isBitten_8 : decode cX8_isBitten 8 = .ok (.aload_n 0, 1) := dk_42 (dk_at dksX8_isBitten_0 8 rfl rfl)
theorem dX8_isBitten_9 : decode cX8_isBitten 9 = .ok (.getfield 35, 3) := dk_180 0 35 (dk_at dksX8_isBitten_0 9 rfl rfl)
theorem dX8_isBitten_12 : decode cX8_isBitten 12 = .ok (.bipush 51, 2) := dk_16 51 (dk_at dksX8_isBitten_0 12 rfl rfl)
theorem dX8_isBitten_14 : decode cX8_isBitten 14 = .ok (.iload_n 1, 1) := dk_27 (dk_at dksX8_isBitten_0 14 rfl rfl)
theorem dX8_isBitten_15 : decode cX8_isBitten 15 = .ok (.iadd, 1) := dk_96 (dk_at dksX8_isBitten_0 15 rfl rfl)
theorem dX8_isBitten_16 : decode cX8_isBitten 16 = .ok (.iaload, 1) := dk_46 (dk_at dksX8_isBitten_0 16 rfl rfl)
theorem dX8_isBitten_17 : decode cX8_isBitten 17 = .ok (.ifCond .eq 18, 3) := dk_153 0 18 (dk_at dksX8_isBitten_0 17 rfl rfl)
theorem dX8_isBitten_20 : decode cX8_isBitten 20 = .ok (.aload_n 0, 1) := dk_42 (dk_at dksX8_isBitten_0 20 rfl rfl)
theorem dX8_isBitten_21 : decode cX8_isBitten 21 = .ok (.bipush 16, 2) := dk_16 16 (dk_at dksX8_isBitten_0 21 rfl rfl)
theorem dX8_isBitten_23 : decode cX8_isBitten 23 = .ok (.invokevirtual 464, 3) := dk_182 1 208 (dk_at dksX8_isBitten_1 0 rfl rfl)
theorem dX8_isBitten_26 : decode cX8_isBitten 26 = .ok (.aload_n 0, 1) := dk_42 (dk_at dksX8_isBitten_1 3 rfl rfl)
theorem dX8_isBitten_27 : decode cX8_isBitten 27 = .ok (.getfield 35, 3) := dk_180 0 35 (dk_at dksX8_isBitten_1 4 rfl rfl)
theorem dX8_isBitten_30 : decode cX8_isBitten 30 = .ok (.iconst 4, 1) := dk_7 (dk_at dksX8_isBitten_1 7 rfl rfl)
theorem dX8_isBitten_31 : decode cX8_isBitten 31 = .ok (.iaload, 1) := dk_46 (dk_at dksX8_isBitten_1 8 rfl rfl)
theorem dX8_isBitten_32 : decode cX8_isBitten 32 = .ok (.if_icmp .lt 5, 3) := dk_161 0 5 (dk_at dksX8_isBitten_1 9 rfl rfl)
theorem dX8_isBitten_35 : decode cX8_isBitten 35 = .ok (.iconst 0, 1) := dk_3 (dk_at dksX8_isBitten_1 12 rfl rfl)
theorem dX8_isBitten_36 : decode cX8_isBitten 36 = .ok (.ireturn, 1) := dk_172 (dk_at dksX8_isBitten_1 13 rfl rfl)
theorem dX8_isBitten_37 : decode cX8_isBitten 37 = .ok (.aload_n 0, 1) := dk_42 (dk_at dksX8_isBitten_1 14 rfl rfl)
theorem dX8_isBitten_38 : decode cX8_isBitten 38 = .ok (.iload_n 1, 1) := dk_27 (dk_at dksX8_isBitten_1 15 rfl rfl)
theorem dX8_isBitten_39 : decode cX8_isBitten 39 = .ok (.invokevirtual 363, 3) := dk_182 1 107 (dk_at dksX8_isBitten_1 16 rfl rfl)
theorem dX8_isBitten_42 : decode cX8_isBitten 42 = .ok (.aload_n 0, 1) := dk_42 (dk_at dksX8_isBitten_1 19 rfl rfl)
theorem dX8_isBitten_43 : decode cX8_isBitten 43 = .ok (.dup, 1) := dk_89 (dk_at dksX8_isBitten_1 20 rfl rfl)
theorem dX8_isBitten_44 : decode cX8_isBitten 44 = .ok (.getfield 467, 3) := dk_180 1 211 (dk_at dksX8_isBitten_1 21 rfl rfl)
theorem dX8_isBitten_47 : decode cX8_isBitten 47 = .ok (.iconst 1, 1) := dk_4 (dk_at dksX8_isBitten_2 0 rfl rfl)
theorem dX8_isBitten_48 : decode cX8_isBitten 48 = .ok (.iadd, 1) := dk_96 (dk_at dksX8_isBitten_2 1 rfl rfl)
theorem dX8_isBitten_49 : decode cX8_isBitten 49 = .ok (.putfield 467, 3) := dk_181 1 211 (dk_at dksX8_isBitten_2 2 rfl rfl)
theorem dX8_isBitten_52 : decode cX8_isBitten 52 = .ok (.iconst 1, 1) := dk_4 (dk_at dksX8_isBitten_2 5 rfl rfl)
theorem dX8_isBitten_53 : decode cX8_isBitten 53 = .ok (.ireturn, 1) := dk_172 (dk_at dksX8_isBitten_2 6 rfl rfl)
abbrev cX8_draw : ByteArray := prog_14_method_140_code
def yX8_draw : MethodName := ⟨RX8, "draw", "(I)I"⟩
def dkwX8_draw_1 : List UInt8 := [16, 8, 108, 27, 112, 172]
abbrev dktX8_draw_1 : List UInt8 := dkwX8_draw_1 ++ []
def dkwX8_draw_0 : List UInt8 := [42, 42, 180, 1, 204, 17, 11, 155, 104, 17, 42, 139, 96, 19, 1, 207, 112, 181, 1, 204, 42, 180, 1, 204]
abbrev dktX8_draw_0 : List UInt8 := dkwX8_draw_0 ++ dktX8_draw_1
theorem dksX8_draw_0 : cX8_draw.data.toList.drop 0 = dktX8_draw_0 := by decide +kernel
theorem dksX8_draw_1 : cX8_draw.data.toList.drop 24 = dktX8_draw_1 := dk_seg dksX8_draw_0 24 rfl rfl
theorem dX8_draw_0 : decode cX8_draw 0 = .ok (.aload_n 0, 1) := dk_42 (dk_at dksX8_draw_0 0 rfl rfl)
theorem dX8_draw_1 : decode cX8_draw 1 = .ok (.aload_n 0, 1) := dk_42 (dk_at dksX8_draw_0 1 rfl rfl)
theorem dX8_draw_2 : decode cX8_draw 2 = .ok (.getfield 460, 3) := dk_180 1 204 (dk_at dksX8_draw_0 2 rfl rfl)
theorem dX8_draw_5 : decode cX8_draw 5 = .ok (.sipush 2971, 3) := dk_17 11 155 (dk_at dksX8_draw_0 5 rfl rfl)
theorem dX8_draw_8 : decode cX8_draw 8 = .ok (.imul, 1) := dk_104 (dk_at dksX8_draw_0 8 rfl rfl)
theorem dX8_draw_9 : decode cX8_draw 9 = .ok (.sipush 10891, 3) := dk_17 42 139 (dk_at dksX8_draw_0 9 rfl rfl)
theorem dX8_draw_12 : decode cX8_draw 12 = .ok (.iadd, 1) := dk_96 (dk_at dksX8_draw_0 12 rfl rfl)
theorem dX8_draw_13 : decode cX8_draw 13 = .ok (.ldc_w 463, 3) := dk_19 1 207 (dk_at dksX8_draw_0 13 rfl rfl)
theorem dX8_draw_16 : decode cX8_draw 16 = .ok (.irem, 1) := dk_112 (dk_at dksX8_draw_0 16 rfl rfl)
theorem dX8_draw_17 : decode cX8_draw 17 = .ok (.putfield 460, 3) := dk_181 1 204 (dk_at dksX8_draw_0 17 rfl rfl)
theorem dX8_draw_20 : decode cX8_draw 20 = .ok (.aload_n 0, 1) := dk_42 (dk_at dksX8_draw_0 20 rfl rfl)
theorem dX8_draw_21 : decode cX8_draw 21 = .ok (.getfield 460, 3) := dk_180 1 204 (dk_at dksX8_draw_0 21 rfl rfl)
theorem dX8_draw_24 : decode cX8_draw 24 = .ok (.bipush 8, 2) := dk_16 8 (dk_at dksX8_draw_1 0 rfl rfl)
theorem dX8_draw_26 : decode cX8_draw 26 = .ok (.idiv, 1) := dk_108 (dk_at dksX8_draw_1 2 rfl rfl)
theorem dX8_draw_27 : decode cX8_draw 27 = .ok (.iload_n 1, 1) := dk_27 (dk_at dksX8_draw_1 3 rfl rfl)
theorem dX8_draw_28 : decode cX8_draw 28 = .ok (.irem, 1) := dk_112 (dk_at dksX8_draw_1 4 rfl rfl)
theorem dX8_draw_29 : decode cX8_draw 29 = .ok (.ireturn, 1) := dk_172 (dk_at dksX8_draw_1 5 rfl rfl)
abbrev cX8_isAny : ByteArray := prog_14_method_143_code
def yX8_isAny : MethodName := ⟨RX8, "isAny", "()Z"⟩
def dkwX8_isAny_1 : List UInt8 := [42, 42, 180, 0, 35, 4, 46, 182, 1, 208, 182, 1, 104, 172]
abbrev dktX8_isAny_1 : List UInt8 := dkwX8_isAny_1 ++ []
def dkwX8_isAny_0 : List UInt8 := [42, 180, 0, 35, 6, 46, 154, 0, 5, 3, 172, 42, 42, 180, 0, 35, 6, 46, 182, 1, 208, 60, 42, 27]
abbrev dktX8_isAny_0 : List UInt8 := dkwX8_isAny_0 ++ dktX8_isAny_1
theorem dksX8_isAny_0 : cX8_isAny.data.toList.drop 0 = dktX8_isAny_0 := by decide +kernel
theorem dksX8_isAny_1 : cX8_isAny.data.toList.drop 24 = dktX8_isAny_1 := dk_seg dksX8_isAny_0 24 rfl rfl
theorem dX8_isAny_0 : decode cX8_isAny 0 = .ok (.aload_n 0, 1) := dk_42 (dk_at dksX8_isAny_0 0 rfl rfl)
theorem dX8_isAny_1 : decode cX8_isAny 1 = .ok (.getfield 35, 3) := dk_180 0 35 (dk_at dksX8_isAny_0 1 rfl rfl)
theorem dX8_isAny_4 : decode cX8_isAny 4 = .ok (.iconst 3, 1) := dk_6 (dk_at dksX8_isAny_0 4 rfl rfl)
theorem dX8_isAny_5 : decode cX8_isAny 5 = .ok (.iaload, 1) := dk_46 (dk_at dksX8_isAny_0 5 rfl rfl)
theorem dX8_isAny_6 : decode cX8_isAny 6 = .ok (.ifCond .ne 5, 3) := dk_154 0 5 (dk_at dksX8_isAny_0 6 rfl rfl)
theorem dX8_isAny_9 : decode cX8_isAny 9 = .ok (.iconst 0, 1) := dk_3 (dk_at dksX8_isAny_0 9 rfl rfl)
theorem dX8_isAny_10 : decode cX8_isAny 10 = .ok (.ireturn, 1) := dk_172 (dk_at dksX8_isAny_0 10 rfl rfl)
theorem dX8_isAny_11 : decode cX8_isAny 11 = .ok (.aload_n 0, 1) := dk_42 (dk_at dksX8_isAny_0 11 rfl rfl)
theorem dX8_isAny_12 : decode cX8_isAny 12 = .ok (.aload_n 0, 1) := dk_42 (dk_at dksX8_isAny_0 12 rfl rfl)
theorem dX8_isAny_13 : decode cX8_isAny 13 = .ok (.getfield 35, 3) := dk_180 0 35 (dk_at dksX8_isAny_0 13 rfl rfl)
theorem dX8_isAny_16 : decode cX8_isAny 16 = .ok (.iconst 3, 1) := dk_6 (dk_at dksX8_isAny_0 16 rfl rfl)
theorem dX8_isAny_17 : decode cX8_isAny 17 = .ok (.iaload, 1) := dk_46 (dk_at dksX8_isAny_0 17 rfl rfl)
theorem dX8_isAny_18 : decode cX8_isAny 18 = .ok (.invokevirtual 464, 3) := dk_182 1 208 (dk_at dksX8_isAny_0 18 rfl rfl)
theorem dX8_isAny_21 : decode cX8_isAny 21 = .ok (.istore_n 1, 1) := dk_60 (dk_at dksX8_isAny_0 21 rfl rfl)
theorem dX8_isAny_22 : decode cX8_isAny 22 = .ok (.aload_n 0, 1) := dk_42 (dk_at dksX8_isAny_0 22 rfl rfl)
theorem dX8_isAny_23 : decode cX8_isAny 23 = .ok (.iload_n 1, 1) := dk_27 (dk_at dksX8_isAny_0 23 rfl rfl)
theorem dX8_isAny_24 : decode cX8_isAny 24 = .ok (.aload_n 0, 1) := dk_42 (dk_at dksX8_isAny_1 0 rfl rfl)
theorem dX8_isAny_25 : decode cX8_isAny 25 = .ok (.aload_n 0, 1) := dk_42 (dk_at dksX8_isAny_1 1 rfl rfl)
theorem dX8_isAny_26 : decode cX8_isAny 26 = .ok (.getfield 35, 3) := dk_180 0 35 (dk_at dksX8_isAny_1 2 rfl rfl)
theorem dX8_isAny_29 : decode cX8_isAny 29 = .ok (.iconst 1, 1) := dk_4 (dk_at dksX8_isAny_1 5 rfl rfl)
theorem dX8_isAny_30 : decode cX8_isAny 30 = .ok (.iaload, 1) := dk_46 (dk_at dksX8_isAny_1 6 rfl rfl)
theorem dX8_isAny_31 : decode cX8_isAny 31 = .ok (.invokevirtual 464, 3) := dk_182 1 208 (dk_at dksX8_isAny_1 7 rfl rfl)
theorem dX8_isAny_34 : decode cX8_isAny 34 = .ok (.invokevirtual 360, 3) := dk_182 1 104 (dk_at dksX8_isAny_1 10 rfl rfl)
theorem dX8_isAny_37 : decode cX8_isAny 37 = .ok (.ireturn, 1) := dk_172 (dk_at dksX8_isAny_1 13 rfl rfl)
abbrev cX8_isSo : ByteArray := prog_14_method_145_code
def yX8_isSo : MethodName := ⟨RX8, "isSo", "(I)Z"⟩
def dkwX8_isSo_6 : List UInt8 := [167, 0, 22, 21, 4, 42, 180, 0, 35, 27, 16, 6, 96, 46, 160, 0, 7, 4, 167, 0, 4, 3, 172]
abbrev dktX8_isSo_6 : List UInt8 := dkwX8_isSo_6 ++ []
def dkwX8_isSo_5 : List UInt8 := [160, 0, 25, 21, 4, 42, 180, 0, 35, 27, 16, 6, 96, 46, 164, 0, 7, 4, 167, 0, 26, 3]
abbrev dktX8_isSo_5 : List UInt8 := dkwX8_isSo_5 ++ dktX8_isSo_6
def dkwX8_isSo_4 : List UInt8 := [162, 0, 7, 4, 167, 0, 62, 3, 167, 0, 58, 42, 180, 0, 35, 27, 16, 7, 96, 46, 16, 62]
abbrev dktX8_isSo_4 : List UInt8 := dkwX8_isSo_4 ++ dktX8_isSo_5
def dkwX8_isSo_3 : List UInt8 := [180, 0, 35, 27, 16, 7, 96, 46, 16, 60, 160, 0, 25, 21, 4, 42, 180, 0, 35, 27, 16, 6, 96, 46]
abbrev dktX8_isSo_3 : List UInt8 := dkwX8_isSo_3 ++ dktX8_isSo_4
def dkwX8_isSo_2 : List UInt8 := [172, 28, 5, 160, 0, 9, 42, 29, 182, 1, 54, 172, 42, 180, 0, 35, 16, 26, 29, 96, 46, 54, 4, 42]
abbrev dktX8_isSo_2 : List UInt8 := dkwX8_isSo_2 ++ dktX8_isSo_3
def dkwX8_isSo_1 : List UInt8 := [180, 0, 35, 16, 42, 29, 96, 46, 42, 180, 0, 35, 27, 5, 96, 46, 160, 0, 7, 4, 167, 0, 4, 3]
abbrev dktX8_isSo_1 : List UInt8 := dkwX8_isSo_1 ++ dktX8_isSo_2
def dkwX8_isSo_0 : List UInt8 := [42, 180, 0, 35, 27, 8, 96, 46, 61, 42, 180, 0, 35, 27, 4, 96, 46, 62, 28, 154, 0, 29, 42]
abbrev dktX8_isSo_0 : List UInt8 := dkwX8_isSo_0 ++ dktX8_isSo_1
theorem dksX8_isSo_0 : cX8_isSo.data.toList.drop 0 = dktX8_isSo_0 := by decide +kernel
theorem dksX8_isSo_1 : cX8_isSo.data.toList.drop 23 = dktX8_isSo_1 := dk_seg dksX8_isSo_0 23 rfl rfl
theorem dksX8_isSo_2 : cX8_isSo.data.toList.drop 47 = dktX8_isSo_2 := dk_seg dksX8_isSo_1 24 rfl rfl
theorem dksX8_isSo_3 : cX8_isSo.data.toList.drop 71 = dktX8_isSo_3 := dk_seg dksX8_isSo_2 24 rfl rfl
theorem dksX8_isSo_4 : cX8_isSo.data.toList.drop 95 = dktX8_isSo_4 := dk_seg dksX8_isSo_3 24 rfl rfl
theorem dksX8_isSo_5 : cX8_isSo.data.toList.drop 117 = dktX8_isSo_5 := dk_seg dksX8_isSo_4 22 rfl rfl
theorem dksX8_isSo_6 : cX8_isSo.data.toList.drop 139 = dktX8_isSo_6 := dk_seg dksX8_isSo_5 22 rfl rfl
theorem dX8_isSo_0 : decode cX8_isSo 0 = .ok (.aload_n 0, 1) := dk_42 (dk_at dksX8_isSo_0 0 rfl rfl)
theorem dX8_isSo_1 : decode cX8_isSo 1 = .ok (.getfield 35, 3) := dk_180 0 35 (dk_at dksX8_isSo_0 1 rfl rfl)
theorem dX8_isSo_4 : decode cX8_isSo 4 = .ok (.iload_n 1, 1) := dk_27 (dk_at dksX8_isSo_0 4 rfl rfl)
theorem dX8_isSo_5 : decode cX8_isSo 5 = .ok (.iconst 5, 1) := dk_8 (dk_at dksX8_isSo_0 5 rfl rfl)
theorem dX8_isSo_6 : decode cX8_isSo 6 = .ok (.iadd, 1) := dk_96 (dk_at dksX8_isSo_0 6 rfl rfl)
theorem dX8_isSo_7 : decode cX8_isSo 7 = .ok (.iaload, 1) := dk_46 (dk_at dksX8_isSo_0 7 rfl rfl)
theorem dX8_isSo_8 : decode cX8_isSo 8 = .ok (.istore_n 2, 1) := dk_61 (dk_at dksX8_isSo_0 8 rfl rfl)
theorem dX8_isSo_9 : decode cX8_isSo 9 = .ok (.aload_n 0, 1) := dk_42 (dk_at dksX8_isSo_0 9 rfl rfl)
theorem dX8_isSo_10 : decode cX8_isSo 10 = .ok (.getfield 35, 3) := dk_180 0 35 (dk_at dksX8_isSo_0 10 rfl rfl)
theorem dX8_isSo_13 : decode cX8_isSo 13 = .ok (.iload_n 1, 1) := dk_27 (dk_at dksX8_isSo_0 13 rfl rfl)
theorem dX8_isSo_14 : decode cX8_isSo 14 = .ok (.iconst 1, 1) := dk_4 (dk_at dksX8_isSo_0 14 rfl rfl)
theorem dX8_isSo_15 : decode cX8_isSo 15 = .ok (.iadd, 1) := dk_96 (dk_at dksX8_isSo_0 15 rfl rfl)
theorem dX8_isSo_16 : decode cX8_isSo 16 = .ok (.iaload, 1) := dk_46 (dk_at dksX8_isSo_0 16 rfl rfl)
theorem dX8_isSo_17 : decode cX8_isSo 17 = .ok (.istore_n 3, 1) := dk_62 (dk_at dksX8_isSo_0 17 rfl rfl)
theorem dX8_isSo_18 : decode cX8_isSo 18 = .ok (.iload_n 2, 1) := dk_28 (dk_at dksX8_isSo_0 18 rfl rfl)
theorem dX8_isSo_19 : decode cX8_isSo 19 = .ok (.ifCond .ne 29, 3) := dk_154 0 29 (dk_at dksX8_isSo_0 19 rfl rfl)
theorem dX8_isSo_22 : decode cX8_isSo 22 = .ok (.aload_n 0, 1) := dk_42 (dk_at dksX8_isSo_0 22 rfl rfl)
theorem dX8_isSo_23 : decode cX8_isSo 23 = .ok (.getfield 35, 3) := dk_180 0 35 (dk_at dksX8_isSo_1 0 rfl rfl)
theorem dX8_isSo_26 : decode cX8_isSo 26 = .ok (.bipush 42, 2) := dk_16 42 (dk_at dksX8_isSo_1 3 rfl rfl)
theorem dX8_isSo_28 : decode cX8_isSo 28 = .ok (.iload_n 3, 1) := dk_29 (dk_at dksX8_isSo_1 5 rfl rfl)
theorem dX8_isSo_29 : decode cX8_isSo 29 = .ok (.iadd, 1) := dk_96 (dk_at dksX8_isSo_1 6 rfl rfl)
theorem dX8_isSo_30 : decode cX8_isSo 30 = .ok (.iaload, 1) := dk_46 (dk_at dksX8_isSo_1 7 rfl rfl)
theorem dX8_isSo_31 : decode cX8_isSo 31 = .ok (.aload_n 0, 1) := dk_42 (dk_at dksX8_isSo_1 8 rfl rfl)
theorem dX8_isSo_32 : decode cX8_isSo 32 = .ok (.getfield 35, 3) := dk_180 0 35 (dk_at dksX8_isSo_1 9 rfl rfl)
theorem dX8_isSo_35 : decode cX8_isSo 35 = .ok (.iload_n 1, 1) := dk_27 (dk_at dksX8_isSo_1 12 rfl rfl)
theorem dX8_isSo_36 : decode cX8_isSo 36 = .ok (.iconst 2, 1) := dk_5 (dk_at dksX8_isSo_1 13 rfl rfl)
theorem dX8_isSo_37 : decode cX8_isSo 37 = .ok (.iadd, 1) := dk_96 (dk_at dksX8_isSo_1 14 rfl rfl)
theorem dX8_isSo_38 : decode cX8_isSo 38 = .ok (.iaload, 1) := dk_46 (dk_at dksX8_isSo_1 15 rfl rfl)
theorem dX8_isSo_39 : decode cX8_isSo 39 = .ok (.if_icmp .ne 7, 3) := dk_160 0 7 (dk_at dksX8_isSo_1 16 rfl rfl)
theorem dX8_isSo_42 : decode cX8_isSo 42 = .ok (.iconst 1, 1) := dk_4 (dk_at dksX8_isSo_1 19 rfl rfl)
theorem dX8_isSo_43 : decode cX8_isSo 43 = .ok (.goto 4, 3) := dk_167 0 4 (dk_at dksX8_isSo_1 20 rfl rfl)
theorem dX8_isSo_46 : decode cX8_isSo 46 = .ok (.iconst 0, 1) := dk_3 (dk_at dksX8_isSo_1 23 rfl rfl)
theorem dX8_isSo_47 : decode cX8_isSo 47 = .ok (.ireturn, 1) := dk_172 (dk_at dksX8_isSo_2 0 rfl rfl)
theorem dX8_isSo_48 : decode cX8_isSo 48 = .ok (.iload_n 2, 1) := dk_28 (dk_at dksX8_isSo_2 1 rfl rfl)
theorem dX8_isSo_49 : decode cX8_isSo 49 = .ok (.iconst 2, 1) := dk_5 (dk_at dksX8_isSo_2 2 rfl rfl)
theorem dX8_isSo_50 : decode cX8_isSo 50 = .ok (.if_icmp .ne 9, 3) := dk_160 0 9 (dk_at dksX8_isSo_2 3 rfl rfl)
theorem dX8_isSo_53 : decode cX8_isSo 53 = .ok (.aload_n 0, 1) := dk_42 (dk_at dksX8_isSo_2 6 rfl rfl)
theorem dX8_isSo_54 : decode cX8_isSo 54 = .ok (.iload_n 3, 1) := dk_29 (dk_at dksX8_isSo_2 7 rfl rfl)
theorem dX8_isSo_55 : decode cX8_isSo 55 = .ok (.invokevirtual 310, 3) := dk_182 1 54 (dk_at dksX8_isSo_2 8 rfl rfl)
theorem dX8_isSo_58 : decode cX8_isSo 58 = .ok (.ireturn, 1) := dk_172 (dk_at dksX8_isSo_2 11 rfl rfl)
theorem dX8_isSo_59 : decode cX8_isSo 59 = .ok (.aload_n 0, 1) := dk_42 (dk_at dksX8_isSo_2 12 rfl rfl)
theorem dX8_isSo_60 : decode cX8_isSo 60 = .ok (.getfield 35, 3) := dk_180 0 35 (dk_at dksX8_isSo_2 13 rfl rfl)
theorem dX8_isSo_63 : decode cX8_isSo 63 = .ok (.bipush 26, 2) := dk_16 26 (dk_at dksX8_isSo_2 16 rfl rfl)
theorem dX8_isSo_65 : decode cX8_isSo 65 = .ok (.iload_n 3, 1) := dk_29 (dk_at dksX8_isSo_2 18 rfl rfl)
theorem dX8_isSo_66 : decode cX8_isSo 66 = .ok (.iadd, 1) := dk_96 (dk_at dksX8_isSo_2 19 rfl rfl)
theorem dX8_isSo_67 : decode cX8_isSo 67 = .ok (.iaload, 1) := dk_46 (dk_at dksX8_isSo_2 20 rfl rfl)
theorem dX8_isSo_68 : decode cX8_isSo 68 = .ok (.istore 4, 2) := dk_54 4 (dk_at dksX8_isSo_2 21 rfl rfl)
theorem dX8_isSo_70 : decode cX8_isSo 70 = .ok (.aload_n 0, 1) := dk_42 (dk_at dksX8_isSo_2 23 rfl rfl)
theorem dX8_isSo_71 : decode cX8_isSo 71 = .ok (.getfield 35, 3) := dk_180 0 35 (dk_at dksX8_isSo_3 0 rfl rfl)
theorem dX8_isSo_74 : decode cX8_isSo 74 = .ok (.iload_n 1, 1) := dk_27 (dk_at dksX8_isSo_3 3 rfl rfl)
theorem dX8_isSo_75 : decode cX8_isSo 75 = .ok (.bipush 7, 2) := dk_16 7 (dk_at dksX8_isSo_3 4 rfl rfl)
theorem dX8_isSo_77 : decode cX8_isSo 77 = .ok (.iadd, 1) := dk_96 (dk_at dksX8_isSo_3 6 rfl rfl)
theorem dX8_isSo_78 : decode cX8_isSo 78 = .ok (.iaload, 1) := dk_46 (dk_at dksX8_isSo_3 7 rfl rfl)
theorem dX8_isSo_79 : decode cX8_isSo 79 = .ok (.bipush 60, 2) := dk_16 60 (dk_at dksX8_isSo_3 8 rfl rfl)
theorem dX8_isSo_81 : decode cX8_isSo 81 = .ok (.if_icmp .ne 25, 3) := dk_160 0 25 (dk_at dksX8_isSo_3 10 rfl rfl)
theorem dX8_isSo_84 : decode cX8_isSo 84 = .ok (.iload 4, 2) := dk_21 4 (dk_at dksX8_isSo_3 13 rfl rfl)
theorem dX8_isSo_86 : decode cX8_isSo 86 = .ok (.aload_n 0, 1) := dk_42 (dk_at dksX8_isSo_3 15 rfl rfl)
theorem dX8_isSo_87 : decode cX8_isSo 87 = .ok (.getfield 35, 3) := dk_180 0 35 (dk_at dksX8_isSo_3 16 rfl rfl)
theorem dX8_isSo_90 : decode cX8_isSo 90 = .ok (.iload_n 1, 1) := dk_27 (dk_at dksX8_isSo_3 19 rfl rfl)
theorem dX8_isSo_91 : decode cX8_isSo 91 = .ok (.bipush 6, 2) := dk_16 6 (dk_at dksX8_isSo_3 20 rfl rfl)
theorem dX8_isSo_93 : decode cX8_isSo 93 = .ok (.iadd, 1) := dk_96 (dk_at dksX8_isSo_3 22 rfl rfl)
theorem dX8_isSo_94 : decode cX8_isSo 94 = .ok (.iaload, 1) := dk_46 (dk_at dksX8_isSo_3 23 rfl rfl)
theorem dX8_isSo_95 : decode cX8_isSo 95 = .ok (.if_icmp .ge 7, 3) := dk_162 0 7 (dk_at dksX8_isSo_4 0 rfl rfl)
theorem dX8_isSo_98 : decode cX8_isSo 98 = .ok (.iconst 1, 1) := dk_4 (dk_at dksX8_isSo_4 3 rfl rfl)
theorem dX8_isSo_99 : decode cX8_isSo 99 = .ok (.goto 62, 3) := dk_167 0 62 (dk_at dksX8_isSo_4 4 rfl rfl)
theorem dX8_isSo_102 : decode cX8_isSo 102 = .ok (.iconst 0, 1) := dk_3 (dk_at dksX8_isSo_4 7 rfl rfl)
theorem dX8_isSo_103 : decode cX8_isSo 103 = .ok (.goto 58, 3) := dk_167 0 58 (dk_at dksX8_isSo_4 8 rfl rfl)
theorem dX8_isSo_106 : decode cX8_isSo 106 = .ok (.aload_n 0, 1) := dk_42 (dk_at dksX8_isSo_4 11 rfl rfl)
theorem dX8_isSo_107 : decode cX8_isSo 107 = .ok (.getfield 35, 3) := dk_180 0 35 (dk_at dksX8_isSo_4 12 rfl rfl)
theorem dX8_isSo_110 : decode cX8_isSo 110 = .ok (.iload_n 1, 1) := dk_27 (dk_at dksX8_isSo_4 15 rfl rfl)
theorem dX8_isSo_111 : decode cX8_isSo 111 = .ok (.bipush 7, 2) := dk_16 7 (dk_at dksX8_isSo_4 16 rfl rfl)
theorem dX8_isSo_113 : decode cX8_isSo 113 = .ok (.iadd, 1) := dk_96 (dk_at dksX8_isSo_4 18 rfl rfl)
theorem dX8_isSo_114 : decode cX8_isSo 114 = .ok (.iaload, 1) := dk_46 (dk_at dksX8_isSo_4 19 rfl rfl)
theorem dX8_isSo_115 : decode cX8_isSo 115 = .ok (.bipush 62, 2) := dk_16 62 (dk_at dksX8_isSo_4 20 rfl rfl)
theorem dX8_isSo_117 : decode cX8_isSo 117 = .ok (.if_icmp .ne 25, 3) := dk_160 0 25 (dk_at dksX8_isSo_5 0 rfl rfl)
theorem dX8_isSo_120 : decode cX8_isSo 120 = .ok (.iload 4, 2) := dk_21 4 (dk_at dksX8_isSo_5 3 rfl rfl)
theorem dX8_isSo_122 : decode cX8_isSo 122 = .ok (.aload_n 0, 1) := dk_42 (dk_at dksX8_isSo_5 5 rfl rfl)
theorem dX8_isSo_123 : decode cX8_isSo 123 = .ok (.getfield 35, 3) := dk_180 0 35 (dk_at dksX8_isSo_5 6 rfl rfl)
theorem dX8_isSo_126 : decode cX8_isSo 126 = .ok (.iload_n 1, 1) := dk_27 (dk_at dksX8_isSo_5 9 rfl rfl)
theorem dX8_isSo_127 : decode cX8_isSo 127 = .ok (.bipush 6, 2) := dk_16 6 (dk_at dksX8_isSo_5 10 rfl rfl)
theorem dX8_isSo_129 : decode cX8_isSo 129 = .ok (.iadd, 1) := dk_96 (dk_at dksX8_isSo_5 12 rfl rfl)
theorem dX8_isSo_130 : decode cX8_isSo 130 = .ok (.iaload, 1) := dk_46 (dk_at dksX8_isSo_5 13 rfl rfl)
theorem dX8_isSo_131 : decode cX8_isSo 131 = .ok (.if_icmp .le 7, 3) := dk_164 0 7 (dk_at dksX8_isSo_5 14 rfl rfl)
theorem dX8_isSo_134 : decode cX8_isSo 134 = .ok (.iconst 1, 1) := dk_4 (dk_at dksX8_isSo_5 17 rfl rfl)
theorem dX8_isSo_135 : decode cX8_isSo 135 = .ok (.goto 26, 3) := dk_167 0 26 (dk_at dksX8_isSo_5 18 rfl rfl)
theorem dX8_isSo_138 : decode cX8_isSo 138 = .ok (.iconst 0, 1) := dk_3 (dk_at dksX8_isSo_5 21 rfl rfl)
theorem dX8_isSo_139 : decode cX8_isSo 139 = .ok (.goto 22, 3) := dk_167 0 22 (dk_at dksX8_isSo_6 0 rfl rfl)
theorem dX8_isSo_142 : decode cX8_isSo 142 = .ok (.iload 4, 2) := dk_21 4 (dk_at dksX8_isSo_6 3 rfl rfl)
theorem dX8_isSo_144 : decode cX8_isSo 144 = .ok (.aload_n 0, 1) := dk_42 (dk_at dksX8_isSo_6 5 rfl rfl)
theorem dX8_isSo_145 : decode cX8_isSo 145 = .ok (.getfield 35, 3) := dk_180 0 35 (dk_at dksX8_isSo_6 6 rfl rfl)
theorem dX8_isSo_148 : decode cX8_isSo 148 = .ok (.iload_n 1, 1) := dk_27 (dk_at dksX8_isSo_6 9 rfl rfl)
theorem dX8_isSo_149 : decode cX8_isSo 149 = .ok (.bipush 6, 2) := dk_16 6 (dk_at dksX8_isSo_6 10 rfl rfl)
theorem dX8_isSo_151 : decode cX8_isSo 151 = .ok (.iadd, 1) := dk_96 (dk_at dksX8_isSo_6 12 rfl rfl)
theorem dX8_isSo_152 : decode cX8_isSo 152 = .ok (.iaload, 1) := dk_46 (dk_at dksX8_isSo_6 13 rfl rfl)
theorem dX8_isSo_153 : decode cX8_isSo 153 = .ok (.if_icmp .ne 7, 3) := dk_160 0 7 (dk_at dksX8_isSo_6 14 rfl rfl)
theorem dX8_isSo_156 : decode cX8_isSo 156 = .ok (.iconst 1, 1) := dk_4 (dk_at dksX8_isSo_6 17 rfl rfl)
theorem dX8_isSo_157 : decode cX8_isSo 157 = .ok (.goto 4, 3) := dk_167 0 4 (dk_at dksX8_isSo_6 18 rfl rfl)
theorem dX8_isSo_160 : decode cX8_isSo 160 = .ok (.iconst 0, 1) := dk_3 (dk_at dksX8_isSo_6 21 rfl rfl)
theorem dX8_isSo_161 : decode cX8_isSo 161 = .ok (.ireturn, 1) := dk_172 (dk_at dksX8_isSo_6 22 rfl rfl)
abbrev cX8_lived : ByteArray := prog_14_method_150_code
def yX8_lived : MethodName := ⟨RX8, "lived", "(I)I"⟩
def dkwX8_lived_2 : List UInt8 := [182, 1, 71, 172]
abbrev dktX8_lived_2 : List UInt8 := dkwX8_lived_2 ++ []
def dkwX8_lived_1 : List UInt8 := [182, 1, 71, 172, 42, 180, 2, 2, 153, 0, 12, 42, 180, 0, 63, 27, 46, 167, 0, 9, 42, 16, 8]
abbrev dktX8_lived_1 : List UInt8 := dkwX8_lived_1 ++ dktX8_lived_2
def dkwX8_lived_0 : List UInt8 := [42, 3, 181, 0, 70, 42, 3, 181, 0, 73, 27, 133, 9, 20, 1, 83, 184, 0, 105, 154, 0, 9, 42, 8]
abbrev dktX8_lived_0 : List UInt8 := dkwX8_lived_0 ++ dktX8_lived_1
theorem dksX8_lived_0 : cX8_lived.data.toList.drop 0 = dktX8_lived_0 := by decide +kernel
theorem dksX8_lived_1 : cX8_lived.data.toList.drop 24 = dktX8_lived_1 := dk_seg dksX8_lived_0 24 rfl rfl
theorem dksX8_lived_2 : cX8_lived.data.toList.drop 47 = dktX8_lived_2 := dk_seg dksX8_lived_1 23 rfl rfl
theorem dX8_lived_0 : decode cX8_lived 0 = .ok (.aload_n 0, 1) := dk_42 (dk_at dksX8_lived_0 0 rfl rfl)
theorem dX8_lived_1 : decode cX8_lived 1 = .ok (.iconst 0, 1) := dk_3 (dk_at dksX8_lived_0 1 rfl rfl)
theorem dX8_lived_2 : decode cX8_lived 2 = .ok (.putfield 70, 3) := dk_181 0 70 (dk_at dksX8_lived_0 2 rfl rfl)
theorem dX8_lived_5 : decode cX8_lived 5 = .ok (.aload_n 0, 1) := dk_42 (dk_at dksX8_lived_0 5 rfl rfl)
theorem dX8_lived_6 : decode cX8_lived 6 = .ok (.iconst 0, 1) := dk_3 (dk_at dksX8_lived_0 6 rfl rfl)
theorem dX8_lived_7 : decode cX8_lived 7 = .ok (.putfield 73, 3) := dk_181 0 73 (dk_at dksX8_lived_0 7 rfl rfl)
theorem dX8_lived_10 : decode cX8_lived 10 = .ok (.iload_n 1, 1) := dk_27 (dk_at dksX8_lived_0 10 rfl rfl)
theorem dX8_lived_11 : decode cX8_lived 11 = .ok (.i2l, 1) := dk_133 (dk_at dksX8_lived_0 11 rfl rfl)
theorem dX8_lived_12 : decode cX8_lived 12 = .ok (.lconst 0, 1) := dk_9 (dk_at dksX8_lived_0 12 rfl rfl)
theorem dX8_lived_13 : decode cX8_lived 13 = .ok (.ldc2_w 339, 3) := dk_20 1 83 (dk_at dksX8_lived_0 13 rfl rfl)
theorem dX8_lived_16 : decode cX8_lived 16 = .ok (.invokestatic 105, 3) := dk_184 0 105 (dk_at dksX8_lived_0 16 rfl rfl)
theorem dX8_lived_19 : decode cX8_lived 19 = .ok (.ifCond .ne 9, 3) := dk_154 0 9 (dk_at dksX8_lived_0 19 rfl rfl)
theorem dX8_lived_22 : decode cX8_lived 22 = .ok (.aload_n 0, 1) := dk_42 (dk_at dksX8_lived_0 22 rfl rfl)
theorem dX8_lived_23 : decode cX8_lived 23 = .ok (.iconst 5, 1) := dk_8 (dk_at dksX8_lived_0 23 rfl rfl)
theorem dX8_lived_24 : decode cX8_lived 24 = .ok (.invokevirtual 327, 3) := dk_182 1 71 (dk_at dksX8_lived_1 0 rfl rfl)
theorem dX8_lived_27 : decode cX8_lived 27 = .ok (.ireturn, 1) := dk_172 (dk_at dksX8_lived_1 3 rfl rfl)
theorem dX8_lived_28 : decode cX8_lived 28 = .ok (.aload_n 0, 1) := dk_42 (dk_at dksX8_lived_1 4 rfl rfl)
theorem dX8_lived_29 : decode cX8_lived 29 = .ok (.getfield 514, 3) := dk_180 2 2 (dk_at dksX8_lived_1 5 rfl rfl)
theorem dX8_lived_32 : decode cX8_lived 32 = .ok (.ifCond .eq 12, 3) := dk_153 0 12 (dk_at dksX8_lived_1 8 rfl rfl)
theorem dX8_lived_35 : decode cX8_lived 35 = .ok (.aload_n 0, 1) := dk_42 (dk_at dksX8_lived_1 11 rfl rfl)
theorem dX8_lived_36 : decode cX8_lived 36 = .ok (.getfield 63, 3) := dk_180 0 63 (dk_at dksX8_lived_1 12 rfl rfl)
theorem dX8_lived_39 : decode cX8_lived 39 = .ok (.iload_n 1, 1) := dk_27 (dk_at dksX8_lived_1 15 rfl rfl)
theorem dX8_lived_40 : decode cX8_lived 40 = .ok (.iaload, 1) := dk_46 (dk_at dksX8_lived_1 16 rfl rfl)
theorem dX8_lived_41 : decode cX8_lived 41 = .ok (.goto 9, 3) := dk_167 0 9 (dk_at dksX8_lived_1 17 rfl rfl)
theorem dX8_lived_44 : decode cX8_lived 44 = .ok (.aload_n 0, 1) := dk_42 (dk_at dksX8_lived_1 20 rfl rfl)
theorem dX8_lived_45 : decode cX8_lived 45 = .ok (.bipush 8, 2) := dk_16 8 (dk_at dksX8_lived_1 21 rfl rfl)
theorem dX8_lived_47 : decode cX8_lived 47 = .ok (.invokevirtual 327, 3) := dk_182 1 71 (dk_at dksX8_lived_2 0 rfl rfl)
theorem dX8_lived_50 : decode cX8_lived 50 = .ok (.ireturn, 1) := dk_172 (dk_at dksX8_lived_2 3 rfl rfl)
abbrev cX8_mean : ByteArray := prog_14_method_151_code
def yX8_mean : MethodName := ⟨RX8, "mean", "(II)Z"⟩
def dkwX8_mean_6 : List UInt8 := [167, 255, 232, 132, 5, 1, 167, 255, 201, 42, 33, 28, 133, 182, 1, 200, 172]
abbrev dktX8_mean_6 : List UInt8 := dkwX8_mean_6 ++ []
def dkwX8_mean_5 : List UInt8 := [21, 6, 16, 87, 162, 0, 23, 42, 180, 0, 35, 21, 6, 42, 180, 0, 38, 21, 6, 46, 79, 132, 6, 1]
abbrev dktX8_mean_5 : List UInt8 := dkwX8_mean_5 ++ dktX8_mean_6
def dkwX8_mean_4 : List UInt8 := [28, 162, 0, 55, 42, 27, 21, 5, 96, 182, 1, 255, 33, 42, 182, 1, 247, 133, 97, 66, 3, 54, 6]
abbrev dktX8_mean_4 : List UInt8 := dkwX8_mean_4 ++ dktX8_mean_5
def dkwX8_mean_3 : List UInt8 := [180, 0, 38, 29, 42, 180, 0, 35, 29, 46, 79, 132, 3, 1, 167, 255, 235, 9, 66, 3, 54, 5, 21, 5]
abbrev dktX8_mean_3 : List UInt8 := dkwX8_mean_3 ++ dktX8_mean_4
def dkwX8_mean_2 : List UInt8 := [16, 87, 46, 154, 0, 10, 42, 16, 8, 182, 0, 85, 172, 3, 62, 29, 16, 87, 162, 0, 21, 42]
abbrev dktX8_mean_2 : List UInt8 := dkwX8_mean_2 ++ dktX8_mean_3
def dkwX8_mean_1 : List UInt8 := [9, 17, 39, 16, 28, 100, 133, 184, 0, 105, 154, 0, 9, 42, 8, 182, 0, 85, 172, 42, 180, 0, 35]
abbrev dktX8_mean_1 : List UInt8 := dkwX8_mean_1 ++ dktX8_mean_2
def dkwX8_mean_0 : List UInt8 := [42, 3, 181, 0, 70, 42, 3, 181, 0, 73, 28, 133, 10, 20, 2, 5, 184, 0, 105, 153, 0, 18, 27, 133]
abbrev dktX8_mean_0 : List UInt8 := dkwX8_mean_0 ++ dktX8_mean_1
theorem dksX8_mean_0 : cX8_mean.data.toList.drop 0 = dktX8_mean_0 := by decide +kernel
theorem dksX8_mean_1 : cX8_mean.data.toList.drop 24 = dktX8_mean_1 := dk_seg dksX8_mean_0 24 rfl rfl
theorem dksX8_mean_2 : cX8_mean.data.toList.drop 47 = dktX8_mean_2 := dk_seg dksX8_mean_1 23 rfl rfl
theorem dksX8_mean_3 : cX8_mean.data.toList.drop 69 = dktX8_mean_3 := dk_seg dksX8_mean_2 22 rfl rfl
theorem dksX8_mean_4 : cX8_mean.data.toList.drop 93 = dktX8_mean_4 := dk_seg dksX8_mean_3 24 rfl rfl
theorem dksX8_mean_5 : cX8_mean.data.toList.drop 116 = dktX8_mean_5 := dk_seg dksX8_mean_4 23 rfl rfl
theorem dksX8_mean_6 : cX8_mean.data.toList.drop 140 = dktX8_mean_6 := dk_seg dksX8_mean_5 24 rfl rfl
theorem dX8_mean_0 : decode cX8_mean 0 = .ok (.aload_n 0, 1) := dk_42 (dk_at dksX8_mean_0 0 rfl rfl)
theorem dX8_mean_1 : decode cX8_mean 1 = .ok (.iconst 0, 1) := dk_3 (dk_at dksX8_mean_0 1 rfl rfl)
theorem dX8_mean_2 : decode cX8_mean 2 = .ok (.putfield 70, 3) := dk_181 0 70 (dk_at dksX8_mean_0 2 rfl rfl)
theorem dX8_mean_5 : decode cX8_mean 5 = .ok (.aload_n 0, 1) := dk_42 (dk_at dksX8_mean_0 5 rfl rfl)
theorem dX8_mean_6 : decode cX8_mean 6 = .ok (.iconst 0, 1) := dk_3 (dk_at dksX8_mean_0 6 rfl rfl)
theorem dX8_mean_7 : decode cX8_mean 7 = .ok (.putfield 73, 3) := dk_181 0 73 (dk_at dksX8_mean_0 7 rfl rfl)
theorem dX8_mean_10 : decode cX8_mean 10 = .ok (.iload_n 2, 1) := dk_28 (dk_at dksX8_mean_0 10 rfl rfl)
theorem dX8_mean_11 : decode cX8_mean 11 = .ok (.i2l, 1) := dk_133 (dk_at dksX8_mean_0 11 rfl rfl)
theorem dX8_mean_12 : decode cX8_mean 12 = .ok (.lconst 1, 1) := dk_10 (dk_at dksX8_mean_0 12 rfl rfl)
theorem dX8_mean_13 : decode cX8_mean 13 = .ok (.ldc2_w 517, 3) := dk_20 2 5 (dk_at dksX8_mean_0 13 rfl rfl)
theorem dX8_mean_16 : decode cX8_mean 16 = .ok (.invokestatic 105, 3) := dk_184 0 105 (dk_at dksX8_mean_0 16 rfl rfl)
theorem dX8_mean_19 : decode cX8_mean 19 = .ok (.ifCond .eq 18, 3) := dk_153 0 18 (dk_at dksX8_mean_0 19 rfl rfl)
theorem dX8_mean_22 : decode cX8_mean 22 = .ok (.iload_n 1, 1) := dk_27 (dk_at dksX8_mean_0 22 rfl rfl)
theorem dX8_mean_23 : decode cX8_mean 23 = .ok (.i2l, 1) := dk_133 (dk_at dksX8_mean_0 23 rfl rfl)
theorem dX8_mean_24 : decode cX8_mean 24 = .ok (.lconst 0, 1) := dk_9 (dk_at dksX8_mean_1 0 rfl rfl)
theorem dX8_mean_25 : decode cX8_mean 25 = .ok (.sipush 10000, 3) := dk_17 39 16 (dk_at dksX8_mean_1 1 rfl rfl)
theorem dX8_mean_28 : decode cX8_mean 28 = .ok (.iload_n 2, 1) := dk_28 (dk_at dksX8_mean_1 4 rfl rfl)
theorem dX8_mean_29 : decode cX8_mean 29 = .ok (.isub, 1) := dk_100 (dk_at dksX8_mean_1 5 rfl rfl)
theorem dX8_mean_30 : decode cX8_mean 30 = .ok (.i2l, 1) := dk_133 (dk_at dksX8_mean_1 6 rfl rfl)
theorem dX8_mean_31 : decode cX8_mean 31 = .ok (.invokestatic 105, 3) := dk_184 0 105 (dk_at dksX8_mean_1 7 rfl rfl)
theorem dX8_mean_34 : decode cX8_mean 34 = .ok (.ifCond .ne 9, 3) := dk_154 0 9 (dk_at dksX8_mean_1 10 rfl rfl)
theorem dX8_mean_37 : decode cX8_mean 37 = .ok (.aload_n 0, 1) := dk_42 (dk_at dksX8_mean_1 13 rfl rfl)
theorem dX8_mean_38 : decode cX8_mean 38 = .ok (.iconst 5, 1) := dk_8 (dk_at dksX8_mean_1 14 rfl rfl)
theorem dX8_mean_39 : decode cX8_mean 39 = .ok (.invokevirtual 85, 3) := dk_182 0 85 (dk_at dksX8_mean_1 15 rfl rfl)
theorem dX8_mean_42 : decode cX8_mean 42 = .ok (.ireturn, 1) := dk_172 (dk_at dksX8_mean_1 18 rfl rfl)
theorem dX8_mean_43 : decode cX8_mean 43 = .ok (.aload_n 0, 1) := dk_42 (dk_at dksX8_mean_1 19 rfl rfl)
theorem dX8_mean_44 : decode cX8_mean 44 = .ok (.getfield 35, 3) := dk_180 0 35 (dk_at dksX8_mean_1 20 rfl rfl)
theorem dX8_mean_47 : decode cX8_mean 47 = .ok (.bipush 87, 2) := dk_16 87 (dk_at dksX8_mean_2 0 rfl rfl)
theorem dX8_mean_49 : decode cX8_mean 49 = .ok (.iaload, 1) := dk_46 (dk_at dksX8_mean_2 2 rfl rfl)
theorem dX8_mean_50 : decode cX8_mean 50 = .ok (.ifCond .ne 10, 3) := dk_154 0 10 (dk_at dksX8_mean_2 3 rfl rfl)
theorem dX8_mean_53 : decode cX8_mean 53 = .ok (.aload_n 0, 1) := dk_42 (dk_at dksX8_mean_2 6 rfl rfl)
theorem dX8_mean_54 : decode cX8_mean 54 = .ok (.bipush 8, 2) := dk_16 8 (dk_at dksX8_mean_2 7 rfl rfl)
theorem dX8_mean_56 : decode cX8_mean 56 = .ok (.invokevirtual 85, 3) := dk_182 0 85 (dk_at dksX8_mean_2 9 rfl rfl)
theorem dX8_mean_59 : decode cX8_mean 59 = .ok (.ireturn, 1) := dk_172 (dk_at dksX8_mean_2 12 rfl rfl)
theorem dX8_mean_60 : decode cX8_mean 60 = .ok (.iconst 0, 1) := dk_3 (dk_at dksX8_mean_2 13 rfl rfl)
theorem dX8_mean_61 : decode cX8_mean 61 = .ok (.istore_n 3, 1) := dk_62 (dk_at dksX8_mean_2 14 rfl rfl)
theorem dX8_mean_62 : decode cX8_mean 62 = .ok (.iload_n 3, 1) := dk_29 (dk_at dksX8_mean_2 15 rfl rfl)
theorem dX8_mean_63 : decode cX8_mean 63 = .ok (.bipush 87, 2) := dk_16 87 (dk_at dksX8_mean_2 16 rfl rfl)
theorem dX8_mean_65 : decode cX8_mean 65 = .ok (.if_icmp .ge 21, 3) := dk_162 0 21 (dk_at dksX8_mean_2 18 rfl rfl)
theorem dX8_mean_68 : decode cX8_mean 68 = .ok (.aload_n 0, 1) := dk_42 (dk_at dksX8_mean_2 21 rfl rfl)
theorem dX8_mean_69 : decode cX8_mean 69 = .ok (.getfield 38, 3) := dk_180 0 38 (dk_at dksX8_mean_3 0 rfl rfl)
theorem dX8_mean_72 : decode cX8_mean 72 = .ok (.iload_n 3, 1) := dk_29 (dk_at dksX8_mean_3 3 rfl rfl)
theorem dX8_mean_73 : decode cX8_mean 73 = .ok (.aload_n 0, 1) := dk_42 (dk_at dksX8_mean_3 4 rfl rfl)
theorem dX8_mean_74 : decode cX8_mean 74 = .ok (.getfield 35, 3) := dk_180 0 35 (dk_at dksX8_mean_3 5 rfl rfl)
theorem dX8_mean_77 : decode cX8_mean 77 = .ok (.iload_n 3, 1) := dk_29 (dk_at dksX8_mean_3 8 rfl rfl)
theorem dX8_mean_78 : decode cX8_mean 78 = .ok (.iaload, 1) := dk_46 (dk_at dksX8_mean_3 9 rfl rfl)
theorem dX8_mean_79 : decode cX8_mean 79 = .ok (.iastore, 1) := dk_79 (dk_at dksX8_mean_3 10 rfl rfl)
theorem dX8_mean_80 : decode cX8_mean 80 = .ok (.iinc 3 1, 3) := dk_132 3 1 (dk_at dksX8_mean_3 11 rfl rfl)
theorem dX8_mean_83 : decode cX8_mean 83 = .ok (.goto (-21), 3) := dk_167 255 235 (dk_at dksX8_mean_3 14 rfl rfl)
theorem dX8_mean_86 : decode cX8_mean 86 = .ok (.lconst 0, 1) := dk_9 (dk_at dksX8_mean_3 17 rfl rfl)
theorem dX8_mean_87 : decode cX8_mean 87 = .ok (.lstore_n 3, 1) := dk_66 (dk_at dksX8_mean_3 18 rfl rfl)
theorem dX8_mean_88 : decode cX8_mean 88 = .ok (.iconst 0, 1) := dk_3 (dk_at dksX8_mean_3 19 rfl rfl)
theorem dX8_mean_89 : decode cX8_mean 89 = .ok (.istore 5, 2) := dk_54 5 (dk_at dksX8_mean_3 20 rfl rfl)
theorem dX8_mean_91 : decode cX8_mean 91 = .ok (.iload 5, 2) := dk_21 5 (dk_at dksX8_mean_3 22 rfl rfl)
theorem dX8_mean_93 : decode cX8_mean 93 = .ok (.iload_n 2, 1) := dk_28 (dk_at dksX8_mean_4 0 rfl rfl)
theorem dX8_mean_94 : decode cX8_mean 94 = .ok (.if_icmp .ge 55, 3) := dk_162 0 55 (dk_at dksX8_mean_4 1 rfl rfl)
theorem dX8_mean_97 : decode cX8_mean 97 = .ok (.aload_n 0, 1) := dk_42 (dk_at dksX8_mean_4 4 rfl rfl)
theorem dX8_mean_98 : decode cX8_mean 98 = .ok (.iload_n 1, 1) := dk_27 (dk_at dksX8_mean_4 5 rfl rfl)
theorem dX8_mean_99 : decode cX8_mean 99 = .ok (.iload 5, 2) := dk_21 5 (dk_at dksX8_mean_4 6 rfl rfl)
theorem dX8_mean_101 : decode cX8_mean 101 = .ok (.iadd, 1) := dk_96 (dk_at dksX8_mean_4 8 rfl rfl)
theorem dX8_mean_102 : decode cX8_mean 102 = .ok (.invokevirtual 511, 3) := dk_182 1 255 (dk_at dksX8_mean_4 9 rfl rfl)
theorem dX8_mean_105 : decode cX8_mean 105 = .ok (.lload_n 3, 1) := dk_33 (dk_at dksX8_mean_4 12 rfl rfl)
theorem dX8_mean_106 : decode cX8_mean 106 = .ok (.aload_n 0, 1) := dk_42 (dk_at dksX8_mean_4 13 rfl rfl)
theorem dX8_mean_107 : decode cX8_mean 107 = .ok (.invokevirtual 503, 3) := dk_182 1 247 (dk_at dksX8_mean_4 14 rfl rfl)
theorem dX8_mean_110 : decode cX8_mean 110 = .ok (.i2l, 1) := dk_133 (dk_at dksX8_mean_4 17 rfl rfl)
theorem dX8_mean_111 : decode cX8_mean 111 = .ok (.ladd, 1) := dk_97 (dk_at dksX8_mean_4 18 rfl rfl)
theorem dX8_mean_112 : decode cX8_mean 112 = .ok (.lstore_n 3, 1) := dk_66 (dk_at dksX8_mean_4 19 rfl rfl)
theorem dX8_mean_113 : decode cX8_mean 113 = .ok (.iconst 0, 1) := dk_3 (dk_at dksX8_mean_4 20 rfl rfl)
theorem dX8_mean_114 : decode cX8_mean 114 = .ok (.istore 6, 2) := dk_54 6 (dk_at dksX8_mean_4 21 rfl rfl)
theorem dX8_mean_116 : decode cX8_mean 116 = .ok (.iload 6, 2) := dk_21 6 (dk_at dksX8_mean_5 0 rfl rfl)
theorem dX8_mean_118 : decode cX8_mean 118 = .ok (.bipush 87, 2) := dk_16 87 (dk_at dksX8_mean_5 2 rfl rfl)
theorem dX8_mean_120 : decode cX8_mean 120 = .ok (.if_icmp .ge 23, 3) := dk_162 0 23 (dk_at dksX8_mean_5 4 rfl rfl)
theorem dX8_mean_123 : decode cX8_mean 123 = .ok (.aload_n 0, 1) := dk_42 (dk_at dksX8_mean_5 7 rfl rfl)
theorem dX8_mean_124 : decode cX8_mean 124 = .ok (.getfield 35, 3) := dk_180 0 35 (dk_at dksX8_mean_5 8 rfl rfl)
theorem dX8_mean_127 : decode cX8_mean 127 = .ok (.iload 6, 2) := dk_21 6 (dk_at dksX8_mean_5 11 rfl rfl)
theorem dX8_mean_129 : decode cX8_mean 129 = .ok (.aload_n 0, 1) := dk_42 (dk_at dksX8_mean_5 13 rfl rfl)
theorem dX8_mean_130 : decode cX8_mean 130 = .ok (.getfield 38, 3) := dk_180 0 38 (dk_at dksX8_mean_5 14 rfl rfl)
theorem dX8_mean_133 : decode cX8_mean 133 = .ok (.iload 6, 2) := dk_21 6 (dk_at dksX8_mean_5 17 rfl rfl)
theorem dX8_mean_135 : decode cX8_mean 135 = .ok (.iaload, 1) := dk_46 (dk_at dksX8_mean_5 19 rfl rfl)
theorem dX8_mean_136 : decode cX8_mean 136 = .ok (.iastore, 1) := dk_79 (dk_at dksX8_mean_5 20 rfl rfl)
theorem dX8_mean_137 : decode cX8_mean 137 = .ok (.iinc 6 1, 3) := dk_132 6 1 (dk_at dksX8_mean_5 21 rfl rfl)
theorem dX8_mean_140 : decode cX8_mean 140 = .ok (.goto (-24), 3) := dk_167 255 232 (dk_at dksX8_mean_6 0 rfl rfl)
theorem dX8_mean_143 : decode cX8_mean 143 = .ok (.iinc 5 1, 3) := dk_132 5 1 (dk_at dksX8_mean_6 3 rfl rfl)
theorem dX8_mean_146 : decode cX8_mean 146 = .ok (.goto (-55), 3) := dk_167 255 201 (dk_at dksX8_mean_6 6 rfl rfl)
theorem dX8_mean_149 : decode cX8_mean 149 = .ok (.aload_n 0, 1) := dk_42 (dk_at dksX8_mean_6 9 rfl rfl)
theorem dX8_mean_150 : decode cX8_mean 150 = .ok (.lload_n 3, 1) := dk_33 (dk_at dksX8_mean_6 10 rfl rfl)
theorem dX8_mean_151 : decode cX8_mean 151 = .ok (.iload_n 2, 1) := dk_28 (dk_at dksX8_mean_6 11 rfl rfl)
theorem dX8_mean_152 : decode cX8_mean 152 = .ok (.i2l, 1) := dk_133 (dk_at dksX8_mean_6 12 rfl rfl)
theorem dX8_mean_153 : decode cX8_mean 153 = .ok (.invokevirtual 456, 3) := dk_182 1 200 (dk_at dksX8_mean_6 13 rfl rfl)
theorem dX8_mean_156 : decode cX8_mean 156 = .ok (.ireturn, 1) := dk_172 (dk_at dksX8_mean_6 16 rfl rfl)
abbrev cX8_mark : ByteArray := prog_14_method_153_code
def yX8_mark : MethodName := ⟨RX8, "mark", "()I"⟩
def dkwX8_mark_2 : List UInt8 := [172]
abbrev dktX8_mark_2 : List UInt8 := dkwX8_mark_2 ++ []
def dkwX8_mark_1 : List UInt8 := [172, 42, 89, 180, 2, 7, 4, 96, 181, 2, 7, 42, 3, 42, 180, 2, 7, 182, 1, 39, 42, 180, 2, 7]
abbrev dktX8_mark_1 : List UInt8 := dkwX8_mark_1 ++ dktX8_mark_2
def dkwX8_mark_0 : List UInt8 := [42, 3, 181, 0, 70, 42, 3, 181, 0, 73, 42, 180, 2, 7, 6, 160, 0, 10, 42, 16, 7, 182, 1, 71]
abbrev dktX8_mark_0 : List UInt8 := dkwX8_mark_0 ++ dktX8_mark_1
theorem dksX8_mark_0 : cX8_mark.data.toList.drop 0 = dktX8_mark_0 := by decide +kernel
theorem dksX8_mark_1 : cX8_mark.data.toList.drop 24 = dktX8_mark_1 := dk_seg dksX8_mark_0 24 rfl rfl
theorem dksX8_mark_2 : cX8_mark.data.toList.drop 48 = dktX8_mark_2 := dk_seg dksX8_mark_1 24 rfl rfl
theorem dX8_mark_0 : decode cX8_mark 0 = .ok (.aload_n 0, 1) := dk_42 (dk_at dksX8_mark_0 0 rfl rfl)
theorem dX8_mark_1 : decode cX8_mark 1 = .ok (.iconst 0, 1) := dk_3 (dk_at dksX8_mark_0 1 rfl rfl)
theorem dX8_mark_2 : decode cX8_mark 2 = .ok (.putfield 70, 3) := dk_181 0 70 (dk_at dksX8_mark_0 2 rfl rfl)
theorem dX8_mark_5 : decode cX8_mark 5 = .ok (.aload_n 0, 1) := dk_42 (dk_at dksX8_mark_0 5 rfl rfl)
theorem dX8_mark_6 : decode cX8_mark 6 = .ok (.iconst 0, 1) := dk_3 (dk_at dksX8_mark_0 6 rfl rfl)
theorem dX8_mark_7 : decode cX8_mark 7 = .ok (.putfield 73, 3) := dk_181 0 73 (dk_at dksX8_mark_0 7 rfl rfl)
theorem dX8_mark_10 : decode cX8_mark 10 = .ok (.aload_n 0, 1) := dk_42 (dk_at dksX8_mark_0 10 rfl rfl)
theorem dX8_mark_11 : decode cX8_mark 11 = .ok (.getfield 519, 3) := dk_180 2 7 (dk_at dksX8_mark_0 11 rfl rfl)
theorem dX8_mark_14 : decode cX8_mark 14 = .ok (.iconst 3, 1) := dk_6 (dk_at dksX8_mark_0 14 rfl rfl)
theorem dX8_mark_15 : decode cX8_mark 15 = .ok (.if_icmp .ne 10, 3) := dk_160 0 10 (dk_at dksX8_mark_0 15 rfl rfl)
theorem dX8_mark_18 : decode cX8_mark 18 = .ok (.aload_n 0, 1) := dk_42 (dk_at dksX8_mark_0 18 rfl rfl)
theorem dX8_mark_19 : decode cX8_mark 19 = .ok (.bipush 7, 2) := dk_16 7 (dk_at dksX8_mark_0 19 rfl rfl)
theorem dX8_mark_21 : decode cX8_mark 21 = .ok (.invokevirtual 327, 3) := dk_182 1 71 (dk_at dksX8_mark_0 21 rfl rfl)
theorem dX8_mark_24 : decode cX8_mark 24 = .ok (.ireturn, 1) := dk_172 (dk_at dksX8_mark_1 0 rfl rfl)
theorem dX8_mark_25 : decode cX8_mark 25 = .ok (.aload_n 0, 1) := dk_42 (dk_at dksX8_mark_1 1 rfl rfl)
theorem dX8_mark_26 : decode cX8_mark 26 = .ok (.dup, 1) := dk_89 (dk_at dksX8_mark_1 2 rfl rfl)
theorem dX8_mark_27 : decode cX8_mark 27 = .ok (.getfield 519, 3) := dk_180 2 7 (dk_at dksX8_mark_1 3 rfl rfl)
theorem dX8_mark_30 : decode cX8_mark 30 = .ok (.iconst 1, 1) := dk_4 (dk_at dksX8_mark_1 6 rfl rfl)
theorem dX8_mark_31 : decode cX8_mark 31 = .ok (.iadd, 1) := dk_96 (dk_at dksX8_mark_1 7 rfl rfl)
theorem dX8_mark_32 : decode cX8_mark 32 = .ok (.putfield 519, 3) := dk_181 2 7 (dk_at dksX8_mark_1 8 rfl rfl)
theorem dX8_mark_35 : decode cX8_mark 35 = .ok (.aload_n 0, 1) := dk_42 (dk_at dksX8_mark_1 11 rfl rfl)
theorem dX8_mark_36 : decode cX8_mark 36 = .ok (.iconst 0, 1) := dk_3 (dk_at dksX8_mark_1 12 rfl rfl)
theorem dX8_mark_37 : decode cX8_mark 37 = .ok (.aload_n 0, 1) := dk_42 (dk_at dksX8_mark_1 13 rfl rfl)
theorem dX8_mark_38 : decode cX8_mark 38 = .ok (.getfield 519, 3) := dk_180 2 7 (dk_at dksX8_mark_1 14 rfl rfl)
theorem dX8_mark_41 : decode cX8_mark 41 = .ok (.invokevirtual 295, 3) := dk_182 1 39 (dk_at dksX8_mark_1 17 rfl rfl)
theorem dX8_mark_44 : decode cX8_mark 44 = .ok (.aload_n 0, 1) := dk_42 (dk_at dksX8_mark_1 20 rfl rfl)
theorem dX8_mark_45 : decode cX8_mark 45 = .ok (.getfield 519, 3) := dk_180 2 7 (dk_at dksX8_mark_1 21 rfl rfl)
theorem dX8_mark_48 : decode cX8_mark 48 = .ok (.ireturn, 1) := dk_172 (dk_at dksX8_mark_2 0 rfl rfl)
abbrev cX8_back : ByteArray := prog_14_method_154_code
def yX8_back : MethodName := ⟨RX8, "back", "()I"⟩
def dkwX8_back_1 : List UInt8 := [42, 42, 180, 2, 7, 3, 182, 1, 39, 42, 89, 180, 2, 7, 4, 100, 181, 2, 7, 42, 180, 2, 7, 172]
abbrev dktX8_back_1 : List UInt8 := dkwX8_back_1 ++ []
def dkwX8_back_0 : List UInt8 := [42, 3, 181, 0, 70, 42, 3, 181, 0, 73, 42, 180, 2, 7, 154, 0, 10, 42, 16, 8, 182, 1, 71, 172]
abbrev dktX8_back_0 : List UInt8 := dkwX8_back_0 ++ dktX8_back_1
theorem dksX8_back_0 : cX8_back.data.toList.drop 0 = dktX8_back_0 := by decide +kernel
theorem dksX8_back_1 : cX8_back.data.toList.drop 24 = dktX8_back_1 := dk_seg dksX8_back_0 24 rfl rfl
theorem dX8_back_0 : decode cX8_back 0 = .ok (.aload_n 0, 1) := dk_42 (dk_at dksX8_back_0 0 rfl rfl)
theorem dX8_back_1 : decode cX8_back 1 = .ok (.iconst 0, 1) := dk_3 (dk_at dksX8_back_0 1 rfl rfl)
theorem dX8_back_2 : decode cX8_back 2 = .ok (.putfield 70, 3) := dk_181 0 70 (dk_at dksX8_back_0 2 rfl rfl)
theorem dX8_back_5 : decode cX8_back 5 = .ok (.aload_n 0, 1) := dk_42 (dk_at dksX8_back_0 5 rfl rfl)
theorem dX8_back_6 : decode cX8_back 6 = .ok (.iconst 0, 1) := dk_3 (dk_at dksX8_back_0 6 rfl rfl)
theorem dX8_back_7 : decode cX8_back 7 = .ok (.putfield 73, 3) := dk_181 0 73 (dk_at dksX8_back_0 7 rfl rfl)
theorem dX8_back_10 : decode cX8_back 10 = .ok (.aload_n 0, 1) := dk_42 (dk_at dksX8_back_0 10 rfl rfl)
theorem dX8_back_11 : decode cX8_back 11 = .ok (.getfield 519, 3) := dk_180 2 7 (dk_at dksX8_back_0 11 rfl rfl)
theorem dX8_back_14 : decode cX8_back 14 = .ok (.ifCond .ne 10, 3) := dk_154 0 10 (dk_at dksX8_back_0 14 rfl rfl)
theorem dX8_back_17 : decode cX8_back 17 = .ok (.aload_n 0, 1) := dk_42 (dk_at dksX8_back_0 17 rfl rfl)
theorem dX8_back_18 : decode cX8_back 18 = .ok (.bipush 8, 2) := dk_16 8 (dk_at dksX8_back_0 18 rfl rfl)
theorem dX8_back_20 : decode cX8_back 20 = .ok (.invokevirtual 327, 3) := dk_182 1 71 (dk_at dksX8_back_0 20 rfl rfl)
theorem dX8_back_23 : decode cX8_back 23 = .ok (.ireturn, 1) := dk_172 (dk_at dksX8_back_0 23 rfl rfl)
theorem dX8_back_24 : decode cX8_back 24 = .ok (.aload_n 0, 1) := dk_42 (dk_at dksX8_back_1 0 rfl rfl)
theorem dX8_back_25 : decode cX8_back 25 = .ok (.aload_n 0, 1) := dk_42 (dk_at dksX8_back_1 1 rfl rfl)
theorem dX8_back_26 : decode cX8_back 26 = .ok (.getfield 519, 3) := dk_180 2 7 (dk_at dksX8_back_1 2 rfl rfl)
theorem dX8_back_29 : decode cX8_back 29 = .ok (.iconst 0, 1) := dk_3 (dk_at dksX8_back_1 5 rfl rfl)
theorem dX8_back_30 : decode cX8_back 30 = .ok (.invokevirtual 295, 3) := dk_182 1 39 (dk_at dksX8_back_1 6 rfl rfl)
theorem dX8_back_33 : decode cX8_back 33 = .ok (.aload_n 0, 1) := dk_42 (dk_at dksX8_back_1 9 rfl rfl)
theorem dX8_back_34 : decode cX8_back 34 = .ok (.dup, 1) := dk_89 (dk_at dksX8_back_1 10 rfl rfl)
theorem dX8_back_35 : decode cX8_back 35 = .ok (.getfield 519, 3) := dk_180 2 7 (dk_at dksX8_back_1 11 rfl rfl)
theorem dX8_back_38 : decode cX8_back 38 = .ok (.iconst 1, 1) := dk_4 (dk_at dksX8_back_1 14 rfl rfl)
theorem dX8_back_39 : decode cX8_back 39 = .ok (.isub, 1) := dk_100 (dk_at dksX8_back_1 15 rfl rfl)
theorem dX8_back_40 : decode cX8_back 40 = .ok (.putfield 519, 3) := dk_181 2 7 (dk_at dksX8_back_1 16 rfl rfl)
theorem dX8_back_43 : decode cX8_back 43 = .ok (.aload_n 0, 1) := dk_42 (dk_at dksX8_back_1 19 rfl rfl)
theorem dX8_back_44 : decode cX8_back 44 = .ok (.getfield 519, 3) := dk_180 2 7 (dk_at dksX8_back_1 20 rfl rfl)
theorem dX8_back_47 : decode cX8_back 47 = .ok (.ireturn, 1) := dk_172 (dk_at dksX8_back_1 23 rfl rfl)
theorem q164 : (Jvm.Cond.initialized "TinFenModel") ∈ lw_all := lw_g (lw_at lw_m1 12 rfl) rfl
theorem q1484 : (Jvm.Cond.instantiable "TinFenModel" (47 : Nat)) ∈ lw_all := lw_g (lw_at lw_m6 132 rfl) rfl
theorem q1486 : (Jvm.Cond.instanceMethod ({ cls := "TinFenModel", name := "<init>", desc := "()V" } : Jvm.MethodName)) ∈ lw_all := lw_g (lw_at lw_m6 134 rfl) rfl
theorem q1487 : (Jvm.Cond.code ({ cls := "TinFenModel", name := "<init>", desc := "()V" } : Jvm.MethodName) prog_14_method_1_code (2 : Nat) (Option.none : Option Jvm.ClassFile.FieldType)) ∈ lw_all := lw_g (lw_at lw_m6 135 rfl) rfl
theorem q1488 : (Jvm.Cond.methodLink "TinFenModel" (1 : Nat) ({ cls := "java/lang/Object", name := "<init>", desc := "()V" } : Jvm.MethodName)) ∈ lw_all := lw_g (lw_at lw_m6 136 rfl) rfl
theorem q1489 : (Jvm.Cond.methodLink "TinFenModel" (66 : Nat) ({ cls := "TinFenModel", name := "empties", desc := "(I)V" } : Jvm.MethodName)) ∈ lw_all := lw_g (lw_at lw_m6 137 rfl) rfl
theorem q1490 : (Jvm.Cond.privateMethod ({ cls := "TinFenModel", name := "empties", desc := "(I)V" } : Jvm.MethodName)) ∈ lw_tbl := lw_at lw_m6 138 rfl
theorem q1491 : (Jvm.Cond.instanceMethod ({ cls := "TinFenModel", name := "empties", desc := "(I)V" } : Jvm.MethodName)) ∈ lw_all := lw_g (lw_at lw_m6 139 rfl) rfl
theorem q1492 : (Jvm.Cond.code ({ cls := "TinFenModel", name := "empties", desc := "(I)V" } : Jvm.MethodName) prog_14_method_54_code (4 : Nat) (Option.none : Option Jvm.ClassFile.FieldType)) ∈ lw_all := lw_g (lw_at lw_m6 140 rfl) rfl
theorem q1493 : (Jvm.Cond.fieldLink "TinFenModel" (73 : Nat) "TinFenModel" "status" "I") ∈ lw_all := lw_g (lw_at lw_m6 141 rfl) rfl
theorem q1494 : (Jvm.Cond.fieldLink "TinFenModel" (70 : Nat) "TinFenModel" "thrown" "I") ∈ lw_all := lw_g (lw_at lw_m6 142 rfl) rfl
theorem q1495 : (Jvm.Cond.fieldLink "TinFenModel" (76 : Nat) "TinFenModel" "above" "J") ∈ lw_all := lw_g (lw_at lw_m6 143 rfl) rfl
theorem q1496 : (Jvm.Cond.fieldLink "TinFenModel" (7 : Nat) "TinFenModel" "under" "J") ∈ lw_all := lw_g (lw_at lw_m6 144 rfl) rfl
theorem q1497 : (Jvm.Cond.fieldLink "TinFenModel" (13 : Nat) "TinFenModel" "traySort" "[I") ∈ lw_all := lw_g (lw_at lw_m6 145 rfl) rfl
theorem q1498 : (Jvm.Cond.fieldLink "TinFenModel" (17 : Nat) "TinFenModel" "trayMany" "[I") ∈ lw_all := lw_g (lw_at lw_m6 146 rfl) rfl
theorem q1499 : (Jvm.Cond.fieldLink "TinFenModel" (20 : Nat) "TinFenModel" "numbers" "[J") ∈ lw_all := lw_g (lw_at lw_m6 147 rfl) rfl
theorem q1500 : (Jvm.Cond.fieldLink "TinFenModel" (24 : Nat) "TinFenModel" "tape" "[B") ∈ lw_all := lw_g (lw_at lw_m6 148 rfl) rfl
theorem q1501 : (Jvm.Cond.fieldLink "TinFenModel" (218 : Nat) "TinFenModel" "taped" "I") ∈ lw_all := lw_g (lw_at lw_m6 149 rfl) rfl
theorem q1502 : (Jvm.Cond.fieldLink "TinFenModel" (113 : Nat) "TinFenModel" "textEnd" "I") ∈ lw_all := lw_g (lw_at lw_m6 150 rfl) rfl
theorem q1503 : (Jvm.Cond.fieldLink "TinFenModel" (28 : Nat) "TinFenModel" "faultKind" "I") ∈ lw_all := lw_g (lw_at lw_m6 151 rfl) rfl
theorem q1504 : (Jvm.Cond.fieldLink "TinFenModel" (32 : Nat) "TinFenModel" "faultAt" "I") ∈ lw_all := lw_g (lw_at lw_m6 152 rfl) rfl
theorem q1505 : (Jvm.Cond.fieldLink "TinFenModel" (202 : Nat) "TinFenModel" "bad" "I") ∈ lw_all := lw_g (lw_at lw_m6 153 rfl) rfl
theorem q1506 : (Jvm.Cond.fieldLink "TinFenModel" (205 : Nat) "TinFenModel" "badAt" "I") ∈ lw_all := lw_g (lw_at lw_m6 154 rfl) rfl
theorem q1507 : (Jvm.Cond.fieldLink "TinFenModel" (125 : Nat) "TinFenModel" "token" "I") ∈ lw_all := lw_g (lw_at lw_m6 155 rfl) rfl
theorem q1508 : (Jvm.Cond.fieldLink "TinFenModel" (119 : Nat) "TinFenModel" "at" "I") ∈ lw_all := lw_g (lw_at lw_m6 156 rfl) rfl
theorem q1509 : (Jvm.Cond.fieldLink "TinFenModel" (116 : Nat) "TinFenModel" "behind" "I") ∈ lw_all := lw_g (lw_at lw_m6 157 rfl) rfl
theorem q1510 : (Jvm.Cond.fieldLink "TinFenModel" (144 : Nat) "TinFenModel" "number" "I") ∈ lw_all := lw_g (lw_at lw_m6 158 rfl) rfl
theorem q1511 : (Jvm.Cond.fieldLink "TinFenModel" (138 : Nat) "TinFenModel" "letters" "I") ∈ lw_all := lw_g (lw_at lw_m6 159 rfl) rfl
theorem q1512 : (Jvm.Cond.fieldLink "TinFenModel" (131 : Nat) "TinFenModel" "word" "J") ∈ lw_all := lw_g (lw_at lw_m6 160 rfl) rfl
theorem q1513 : (Jvm.Cond.fieldLink "TinFenModel" (35 : Nat) "TinFenModel" "c" "[I") ∈ lw_all := lw_g (lw_at lw_m6 161 rfl) rfl
theorem q1514 : (Jvm.Cond.fieldLink "TinFenModel" (38 : Nat) "TinFenModel" "before" "[I") ∈ lw_all := lw_g (lw_at lw_m6 162 rfl) rfl
theorem q1515 : (Jvm.Cond.fieldLink "TinFenModel" (41 : Nat) "TinFenModel" "words" "[J") ∈ lw_all := lw_g (lw_at lw_m6 163 rfl) rfl
theorem q1516 : (Jvm.Cond.fieldLink "TinFenModel" (519 : Nat) "TinFenModel" "markMany" "I") ∈ lw_all := lw_g (lw_at lw_m6 164 rfl) rfl
theorem q1517 : (Jvm.Cond.fieldLink "TinFenModel" (243 : Nat) "TinFenModel" "toldOdds" "Z") ∈ lw_all := lw_g (lw_at lw_m6 165 rfl) rfl
theorem q1518 : (Jvm.Cond.fieldLink "TinFenModel" (301 : Nat) "TinFenModel" "newSteps" "I") ∈ lw_all := lw_g (lw_at lw_m6 166 rfl) rfl
theorem q1519 : (Jvm.Cond.fieldLink "TinFenModel" (44 : Nat) "TinFenModel" "fars" "[I") ∈ lw_all := lw_g (lw_at lw_m6 167 rfl) rfl
theorem q1520 : (Jvm.Cond.fieldLink "TinFenModel" (47 : Nat) "TinFenModel" "row" "[I") ∈ lw_all := lw_g (lw_at lw_m6 168 rfl) rfl
theorem q1521 : (Jvm.Cond.fieldLink "TinFenModel" (50 : Nat) "TinFenModel" "bestRow" "[I") ∈ lw_all := lw_g (lw_at lw_m6 169 rfl) rfl
theorem q1522 : (Jvm.Cond.fieldLink "TinFenModel" (383 : Nat) "TinFenModel" "bestLong" "I") ∈ lw_all := lw_g (lw_at lw_m6 170 rfl) rfl
theorem q1523 : (Jvm.Cond.fieldLink "TinFenModel" (53 : Nat) "TinFenModel" "ways" "[I") ∈ lw_all := lw_g (lw_at lw_m6 171 rfl) rfl
theorem q1524 : (Jvm.Cond.fieldLink "TinFenModel" (432 : Nat) "TinFenModel" "fitMany" "I") ∈ lw_all := lw_g (lw_at lw_m6 172 rfl) rfl
theorem q1525 : (Jvm.Cond.fieldLink "TinFenModel" (435 : Nat) "TinFenModel" "fitAll" "I") ∈ lw_all := lw_g (lw_at lw_m6 173 rfl) rfl
theorem q1526 : (Jvm.Cond.fieldLink "TinFenModel" (423 : Nat) "TinFenModel" "toldOf" "I") ∈ lw_all := lw_g (lw_at lw_m6 174 rfl) rfl
theorem q1527 : (Jvm.Cond.fieldLink "TinFenModel" (56 : Nat) "TinFenModel" "isFit" "[Z") ∈ lw_all := lw_g (lw_at lw_m6 175 rfl) rfl
theorem q1528 : (Jvm.Cond.fieldLink "TinFenModel" (450 : Nat) "TinFenModel" "firstMove" "I") ∈ lw_all := lw_g (lw_at lw_m6 176 rfl) rfl
theorem q1529 : (Jvm.Cond.fieldLink "TinFenModel" (60 : Nat) "TinFenModel" "chances" "[J") ∈ lw_all := lw_g (lw_at lw_m6 177 rfl) rfl
theorem q1530 : (Jvm.Cond.fieldLink "TinFenModel" (63 : Nat) "TinFenModel" "livedLast" "[I") ∈ lw_all := lw_g (lw_at lw_m6 178 rfl) rfl
theorem q1531 : (Jvm.Cond.fieldLink "TinFenModel" (514 : Nat) "TinFenModel" "hasLived" "Z") ∈ lw_all := lw_g (lw_at lw_m6 179 rfl) rfl
theorem q1532 : (Jvm.Cond.fieldLink "TinFenModel" (479 : Nat) "TinFenModel" "isOver" "Z") ∈ lw_all := lw_g (lw_at lw_m6 180 rfl) rfl
theorem q1533 : (Jvm.Cond.fieldLink "TinFenModel" (460 : Nat) "TinFenModel" "random" "I") ∈ lw_all := lw_g (lw_at lw_m6 181 rfl) rfl
theorem q1534 : (Jvm.Cond.fieldLink "TinFenModel" (476 : Nat) "TinFenModel" "done" "I") ∈ lw_all := lw_g (lw_at lw_m6 182 rfl) rfl
theorem q1535 : (Jvm.Cond.fieldLink "TinFenModel" (485 : Nat) "TinFenModel" "missed" "I") ∈ lw_all := lw_g (lw_at lw_m6 183 rfl) rfl
theorem q1536 : (Jvm.Cond.fieldLink "TinFenModel" (500 : Nat) "TinFenModel" "passesAhead" "I") ∈ lw_all := lw_g (lw_at lw_m6 184 rfl) rfl
theorem q1537 : (Jvm.Cond.fieldLink "TinFenModel" (467 : Nat) "TinFenModel" "foundNow" "I") ∈ lw_all := lw_g (lw_at lw_m6 185 rfl) rfl
theorem q1538 : (Jvm.Cond.fieldLink "TinFenModel" (506 : Nat) "TinFenModel" "gotAhead" "I") ∈ lw_all := lw_g (lw_at lw_m6 186 rfl) rfl
theorem q1539 : (Jvm.Cond.fieldLink "TinFenModel" (482 : Nat) "TinFenModel" "leftOver" "I") ∈ lw_all := lw_g (lw_at lw_m6 187 rfl) rfl
theorem q1540 : (Jvm.Cond.lays "TinFenModel" "TinFenModel" "status" "I") ∈ lw_all := lw_g (lw_at lw_m6 188 rfl) rfl
theorem q1541 : (Jvm.Cond.soleField "TinFenModel" "status") ∈ lw_all := lw_g (lw_at lw_m6 189 rfl) rfl
theorem q1542 : (Jvm.Cond.lays "TinFenModel" "TinFenModel" "thrown" "I") ∈ lw_all := lw_g (lw_at lw_m6 190 rfl) rfl
theorem q1543 : (Jvm.Cond.soleField "TinFenModel" "thrown") ∈ lw_all := lw_g (lw_at lw_m6 191 rfl) rfl
theorem q1544 : (Jvm.Cond.lays "TinFenModel" "TinFenModel" "above" "J") ∈ lw_all := lw_g (lw_at lw_m6 192 rfl) rfl
theorem q1545 : (Jvm.Cond.soleField "TinFenModel" "above") ∈ lw_all := lw_g (lw_at lw_m6 193 rfl) rfl
theorem q1546 : (Jvm.Cond.lays "TinFenModel" "TinFenModel" "under" "J") ∈ lw_all := lw_g (lw_at lw_m6 194 rfl) rfl
theorem q1547 : (Jvm.Cond.soleField "TinFenModel" "under") ∈ lw_all := lw_g (lw_at lw_m6 195 rfl) rfl
theorem q1548 : (Jvm.Cond.laysFinal "TinFenModel" "TinFenModel" "traySort" "[I") ∈ lw_all := lw_g (lw_at lw_m6 196 rfl) rfl
theorem q1549 : (Jvm.Cond.soleField "TinFenModel" "traySort") ∈ lw_all := lw_g (lw_at lw_m6 197 rfl) rfl
theorem q1550 : (Jvm.Cond.laysFinal "TinFenModel" "TinFenModel" "trayMany" "[I") ∈ lw_all := lw_g (lw_at lw_m6 198 rfl) rfl
theorem q1551 : (Jvm.Cond.soleField "TinFenModel" "trayMany") ∈ lw_all := lw_g (lw_at lw_m6 199 rfl) rfl
theorem q1552 : (Jvm.Cond.laysFinal "TinFenModel" "TinFenModel" "numbers" "[J") ∈ lw_all := lw_g (lw_at lw_m6 200 rfl) rfl
theorem q1553 : (Jvm.Cond.soleField "TinFenModel" "numbers") ∈ lw_all := lw_g (lw_at lw_m6 201 rfl) rfl
theorem q1554 : (Jvm.Cond.laysFinal "TinFenModel" "TinFenModel" "tape" "[B") ∈ lw_all := lw_g (lw_at lw_m6 202 rfl) rfl
theorem q1555 : (Jvm.Cond.soleField "TinFenModel" "tape") ∈ lw_all := lw_g (lw_at lw_m6 203 rfl) rfl
theorem q1556 : (Jvm.Cond.lays "TinFenModel" "TinFenModel" "taped" "I") ∈ lw_all := lw_g (lw_at lw_m6 204 rfl) rfl
theorem q1557 : (Jvm.Cond.soleField "TinFenModel" "taped") ∈ lw_all := lw_g (lw_at lw_m6 205 rfl) rfl
theorem q1558 : (Jvm.Cond.lays "TinFenModel" "TinFenModel" "textEnd" "I") ∈ lw_all := lw_g (lw_at lw_m6 206 rfl) rfl
theorem q1559 : (Jvm.Cond.soleField "TinFenModel" "textEnd") ∈ lw_all := lw_g (lw_at lw_m6 207 rfl) rfl
theorem q1560 : (Jvm.Cond.lays "TinFenModel" "TinFenModel" "faultKind" "I") ∈ lw_all := lw_g (lw_at lw_m6 208 rfl) rfl
theorem q1561 : (Jvm.Cond.soleField "TinFenModel" "faultKind") ∈ lw_all := lw_g (lw_at lw_m6 209 rfl) rfl
theorem q1562 : (Jvm.Cond.lays "TinFenModel" "TinFenModel" "faultAt" "I") ∈ lw_all := lw_g (lw_at lw_m6 210 rfl) rfl
theorem q1563 : (Jvm.Cond.soleField "TinFenModel" "faultAt") ∈ lw_all := lw_g (lw_at lw_m6 211 rfl) rfl
theorem q1564 : (Jvm.Cond.lays "TinFenModel" "TinFenModel" "bad" "I") ∈ lw_all := lw_g (lw_at lw_m6 212 rfl) rfl
theorem q1565 : (Jvm.Cond.soleField "TinFenModel" "bad") ∈ lw_all := lw_g (lw_at lw_m6 213 rfl) rfl
theorem q1566 : (Jvm.Cond.lays "TinFenModel" "TinFenModel" "badAt" "I") ∈ lw_all := lw_g (lw_at lw_m6 214 rfl) rfl
theorem q1567 : (Jvm.Cond.soleField "TinFenModel" "badAt") ∈ lw_all := lw_g (lw_at lw_m6 215 rfl) rfl
theorem q1568 : (Jvm.Cond.lays "TinFenModel" "TinFenModel" "token" "I") ∈ lw_all := lw_g (lw_at lw_m6 216 rfl) rfl
theorem q1569 : (Jvm.Cond.soleField "TinFenModel" "token") ∈ lw_all := lw_g (lw_at lw_m6 217 rfl) rfl
theorem q1570 : (Jvm.Cond.lays "TinFenModel" "TinFenModel" "at" "I") ∈ lw_all := lw_g (lw_at lw_m6 218 rfl) rfl
theorem q1571 : (Jvm.Cond.soleField "TinFenModel" "at") ∈ lw_all := lw_g (lw_at lw_m6 219 rfl) rfl
theorem q1572 : (Jvm.Cond.lays "TinFenModel" "TinFenModel" "behind" "I") ∈ lw_all := lw_g (lw_at lw_m6 220 rfl) rfl
theorem q1573 : (Jvm.Cond.soleField "TinFenModel" "behind") ∈ lw_all := lw_g (lw_at lw_m6 221 rfl) rfl
theorem q1574 : (Jvm.Cond.lays "TinFenModel" "TinFenModel" "number" "I") ∈ lw_all := lw_g (lw_at lw_m6 222 rfl) rfl
theorem q1575 : (Jvm.Cond.soleField "TinFenModel" "number") ∈ lw_all := lw_g (lw_at lw_m6 223 rfl) rfl
theorem q1576 : (Jvm.Cond.lays "TinFenModel" "TinFenModel" "letters" "I") ∈ lw_all := lw_g (lw_at lw_m6 224 rfl) rfl
theorem q1577 : (Jvm.Cond.soleField "TinFenModel" "letters") ∈ lw_all := lw_g (lw_at lw_m6 225 rfl) rfl
theorem q1578 : (Jvm.Cond.lays "TinFenModel" "TinFenModel" "word" "J") ∈ lw_all := lw_g (lw_at lw_m6 226 rfl) rfl
theorem q1579 : (Jvm.Cond.soleField "TinFenModel" "word") ∈ lw_all := lw_g (lw_at lw_m6 227 rfl) rfl
theorem q1580 : (Jvm.Cond.laysFinal "TinFenModel" "TinFenModel" "c" "[I") ∈ lw_all := lw_g (lw_at lw_m6 228 rfl) rfl
theorem q1581 : (Jvm.Cond.soleField "TinFenModel" "c") ∈ lw_all := lw_g (lw_at lw_m6 229 rfl) rfl
theorem q1582 : (Jvm.Cond.laysFinal "TinFenModel" "TinFenModel" "before" "[I") ∈ lw_all := lw_g (lw_at lw_m6 230 rfl) rfl
theorem q1583 : (Jvm.Cond.soleField "TinFenModel" "before") ∈ lw_all := lw_g (lw_at lw_m6 231 rfl) rfl
theorem q1584 : (Jvm.Cond.laysFinal "TinFenModel" "TinFenModel" "words" "[J") ∈ lw_all := lw_g (lw_at lw_m6 232 rfl) rfl
theorem q1585 : (Jvm.Cond.soleField "TinFenModel" "words") ∈ lw_all := lw_g (lw_at lw_m6 233 rfl) rfl
theorem q1586 : (Jvm.Cond.lays "TinFenModel" "TinFenModel" "markMany" "I") ∈ lw_all := lw_g (lw_at lw_m6 234 rfl) rfl
theorem q1587 : (Jvm.Cond.soleField "TinFenModel" "markMany") ∈ lw_all := lw_g (lw_at lw_m6 235 rfl) rfl
theorem q1588 : (Jvm.Cond.lays "TinFenModel" "TinFenModel" "toldOdds" "Z") ∈ lw_all := lw_g (lw_at lw_m6 236 rfl) rfl
theorem q1589 : (Jvm.Cond.soleField "TinFenModel" "toldOdds") ∈ lw_all := lw_g (lw_at lw_m6 237 rfl) rfl
theorem q1590 : (Jvm.Cond.lays "TinFenModel" "TinFenModel" "newSteps" "I") ∈ lw_all := lw_g (lw_at lw_m6 238 rfl) rfl
theorem q1591 : (Jvm.Cond.soleField "TinFenModel" "newSteps") ∈ lw_all := lw_g (lw_at lw_m6 239 rfl) rfl
theorem q1592 : (Jvm.Cond.laysFinal "TinFenModel" "TinFenModel" "fars" "[I") ∈ lw_all := lw_g (lw_at lw_m7 0 rfl) rfl
theorem q1593 : (Jvm.Cond.soleField "TinFenModel" "fars") ∈ lw_all := lw_g (lw_at lw_m7 1 rfl) rfl
theorem q1594 : (Jvm.Cond.laysFinal "TinFenModel" "TinFenModel" "row" "[I") ∈ lw_all := lw_g (lw_at lw_m7 2 rfl) rfl
theorem q1595 : (Jvm.Cond.soleField "TinFenModel" "row") ∈ lw_all := lw_g (lw_at lw_m7 3 rfl) rfl
theorem q1596 : (Jvm.Cond.laysFinal "TinFenModel" "TinFenModel" "bestRow" "[I") ∈ lw_all := lw_g (lw_at lw_m7 4 rfl) rfl
theorem q1597 : (Jvm.Cond.soleField "TinFenModel" "bestRow") ∈ lw_all := lw_g (lw_at lw_m7 5 rfl) rfl
theorem q1598 : (Jvm.Cond.lays "TinFenModel" "TinFenModel" "bestLong" "I") ∈ lw_all := lw_g (lw_at lw_m7 6 rfl) rfl
theorem q1599 : (Jvm.Cond.soleField "TinFenModel" "bestLong") ∈ lw_all := lw_g (lw_at lw_m7 7 rfl) rfl
theorem q1600 : (Jvm.Cond.laysFinal "TinFenModel" "TinFenModel" "ways" "[I") ∈ lw_all := lw_g (lw_at lw_m7 8 rfl) rfl
theorem q1601 : (Jvm.Cond.soleField "TinFenModel" "ways") ∈ lw_all := lw_g (lw_at lw_m7 9 rfl) rfl
theorem q1602 : (Jvm.Cond.lays "TinFenModel" "TinFenModel" "fitMany" "I") ∈ lw_all := lw_g (lw_at lw_m7 10 rfl) rfl
theorem q1603 : (Jvm.Cond.soleField "TinFenModel" "fitMany") ∈ lw_all := lw_g (lw_at lw_m7 11 rfl) rfl
theorem q1604 : (Jvm.Cond.lays "TinFenModel" "TinFenModel" "fitAll" "I") ∈ lw_all := lw_g (lw_at lw_m7 12 rfl) rfl
theorem q1605 : (Jvm.Cond.soleField "TinFenModel" "fitAll") ∈ lw_all := lw_g (lw_at lw_m7 13 rfl) rfl
theorem q1606 : (Jvm.Cond.lays "TinFenModel" "TinFenModel" "toldOf" "I") ∈ lw_all := lw_g (lw_at lw_m7 14 rfl) rfl
theorem q1607 : (Jvm.Cond.soleField "TinFenModel" "toldOf") ∈ lw_all := lw_g (lw_at lw_m7 15 rfl) rfl
theorem q1608 : (Jvm.Cond.laysFinal "TinFenModel" "TinFenModel" "isFit" "[Z") ∈ lw_all := lw_g (lw_at lw_m7 16 rfl) rfl
theorem q1609 : (Jvm.Cond.soleField "TinFenModel" "isFit") ∈ lw_all := lw_g (lw_at lw_m7 17 rfl) rfl
theorem q1610 : (Jvm.Cond.lays "TinFenModel" "TinFenModel" "firstMove" "I") ∈ lw_all := lw_g (lw_at lw_m7 18 rfl) rfl
theorem q1611 : (Jvm.Cond.soleField "TinFenModel" "firstMove") ∈ lw_all := lw_g (lw_at lw_m7 19 rfl) rfl
theorem q1612 : (Jvm.Cond.laysFinal "TinFenModel" "TinFenModel" "chances" "[J") ∈ lw_all := lw_g (lw_at lw_m7 20 rfl) rfl
theorem q1613 : (Jvm.Cond.soleField "TinFenModel" "chances") ∈ lw_all := lw_g (lw_at lw_m7 21 rfl) rfl
theorem q1614 : (Jvm.Cond.laysFinal "TinFenModel" "TinFenModel" "livedLast" "[I") ∈ lw_all := lw_g (lw_at lw_m7 22 rfl) rfl
theorem q1615 : (Jvm.Cond.soleField "TinFenModel" "livedLast") ∈ lw_all := lw_g (lw_at lw_m7 23 rfl) rfl
theorem q1616 : (Jvm.Cond.lays "TinFenModel" "TinFenModel" "hasLived" "Z") ∈ lw_all := lw_g (lw_at lw_m7 24 rfl) rfl
theorem q1617 : (Jvm.Cond.soleField "TinFenModel" "hasLived") ∈ lw_all := lw_g (lw_at lw_m7 25 rfl) rfl
theorem q1618 : (Jvm.Cond.lays "TinFenModel" "TinFenModel" "isOver" "Z") ∈ lw_all := lw_g (lw_at lw_m7 26 rfl) rfl
theorem q1619 : (Jvm.Cond.soleField "TinFenModel" "isOver") ∈ lw_all := lw_g (lw_at lw_m7 27 rfl) rfl
theorem q1620 : (Jvm.Cond.lays "TinFenModel" "TinFenModel" "random" "I") ∈ lw_all := lw_g (lw_at lw_m7 28 rfl) rfl
theorem q1621 : (Jvm.Cond.soleField "TinFenModel" "random") ∈ lw_all := lw_g (lw_at lw_m7 29 rfl) rfl
theorem q1622 : (Jvm.Cond.lays "TinFenModel" "TinFenModel" "done" "I") ∈ lw_all := lw_g (lw_at lw_m7 30 rfl) rfl
theorem q1623 : (Jvm.Cond.soleField "TinFenModel" "done") ∈ lw_all := lw_g (lw_at lw_m7 31 rfl) rfl
theorem q1624 : (Jvm.Cond.lays "TinFenModel" "TinFenModel" "missed" "I") ∈ lw_all := lw_g (lw_at lw_m7 32 rfl) rfl
theorem q1625 : (Jvm.Cond.soleField "TinFenModel" "missed") ∈ lw_all := lw_g (lw_at lw_m7 33 rfl) rfl
theorem q1626 : (Jvm.Cond.lays "TinFenModel" "TinFenModel" "passesAhead" "I") ∈ lw_all := lw_g (lw_at lw_m7 34 rfl) rfl
theorem q1627 : (Jvm.Cond.soleField "TinFenModel" "passesAhead") ∈ lw_all := lw_g (lw_at lw_m7 35 rfl) rfl
theorem q1628 : (Jvm.Cond.lays "TinFenModel" "TinFenModel" "foundNow" "I") ∈ lw_all := lw_g (lw_at lw_m7 36 rfl) rfl
theorem q1629 : (Jvm.Cond.soleField "TinFenModel" "foundNow") ∈ lw_all := lw_g (lw_at lw_m7 37 rfl) rfl
theorem q1630 : (Jvm.Cond.lays "TinFenModel" "TinFenModel" "gotAhead" "I") ∈ lw_all := lw_g (lw_at lw_m7 38 rfl) rfl
theorem q1631 : (Jvm.Cond.soleField "TinFenModel" "gotAhead") ∈ lw_all := lw_g (lw_at lw_m7 39 rfl) rfl
theorem q1632 : (Jvm.Cond.lays "TinFenModel" "TinFenModel" "leftOver" "I") ∈ lw_all := lw_g (lw_at lw_m7 40 rfl) rfl
theorem q1633 : (Jvm.Cond.soleField "TinFenModel" "leftOver") ∈ lw_all := lw_g (lw_at lw_m7 41 rfl) rfl
theorem q1634 : (Jvm.Cond.superclass "TinFenModel" "java/lang/Object") ∈ lw_all := lw_g (lw_at lw_m7 42 rfl) rfl
theorem q1637 : (Jvm.Cond.instanceMethod ({ cls := "TinFenModel", name := "status", desc := "()I" } : Jvm.MethodName)) ∈ lw_all := lw_g (lw_at lw_m7 45 rfl) rfl
theorem q1638 : (Jvm.Cond.selects "TinFenModel" ({ cls := "TinFenModel", name := "status", desc := "()I" } : Jvm.MethodName) ({ cls := "TinFenModel", name := "status", desc := "()I" } : Jvm.MethodName)) ∈ lw_all := lw_g (lw_at lw_m7 46 rfl) rfl
theorem q1639 : (Jvm.Cond.code ({ cls := "TinFenModel", name := "status", desc := "()I" } : Jvm.MethodName) prog_14_method_3_code (1 : Nat) (Option.some Jvm.ClassFile.FieldType.int)) ∈ lw_all := lw_g (lw_at lw_m7 47 rfl) rfl
theorem q1641 : (Jvm.Cond.instanceMethod ({ cls := "TinFenModel", name := "top", desc := "()J" } : Jvm.MethodName)) ∈ lw_all := lw_g (lw_at lw_m7 49 rfl) rfl
theorem q1642 : (Jvm.Cond.selects "TinFenModel" ({ cls := "TinFenModel", name := "top", desc := "()J" } : Jvm.MethodName) ({ cls := "TinFenModel", name := "top", desc := "()J" } : Jvm.MethodName)) ∈ lw_all := lw_g (lw_at lw_m7 50 rfl) rfl
theorem q1643 : (Jvm.Cond.code ({ cls := "TinFenModel", name := "top", desc := "()J" } : Jvm.MethodName) prog_14_method_4_code (1 : Nat) (Option.some Jvm.ClassFile.FieldType.long)) ∈ lw_all := lw_g (lw_at lw_m7 51 rfl) rfl
theorem q1645 : (Jvm.Cond.instanceMethod ({ cls := "TinFenModel", name := "bottom", desc := "()J" } : Jvm.MethodName)) ∈ lw_all := lw_g (lw_at lw_m7 53 rfl) rfl
theorem q1646 : (Jvm.Cond.selects "TinFenModel" ({ cls := "TinFenModel", name := "bottom", desc := "()J" } : Jvm.MethodName) ({ cls := "TinFenModel", name := "bottom", desc := "()J" } : Jvm.MethodName)) ∈ lw_all := lw_g (lw_at lw_m7 54 rfl) rfl
theorem q1647 : (Jvm.Cond.code ({ cls := "TinFenModel", name := "bottom", desc := "()J" } : Jvm.MethodName) prog_14_method_5_code (1 : Nat) (Option.some Jvm.ClassFile.FieldType.long)) ∈ lw_all := lw_g (lw_at lw_m7 55 rfl) rfl
theorem q1649 : (Jvm.Cond.instanceMethod ({ cls := "TinFenModel", name := "tray", desc := "(III)Z" } : Jvm.MethodName)) ∈ lw_all := lw_g (lw_at lw_m7 57 rfl) rfl
theorem q1650 : (Jvm.Cond.selects "TinFenModel" ({ cls := "TinFenModel", name := "tray", desc := "(III)Z" } : Jvm.MethodName) ({ cls := "TinFenModel", name := "tray", desc := "(III)Z" } : Jvm.MethodName)) ∈ lw_all := lw_g (lw_at lw_m7 58 rfl) rfl
theorem q1651 : (Jvm.Cond.code ({ cls := "TinFenModel", name := "tray", desc := "(III)Z" } : Jvm.MethodName) prog_14_method_11_code (5 : Nat) (Option.some Jvm.ClassFile.FieldType.boolean)) ∈ lw_all := lw_g (lw_at lw_m7 59 rfl) rfl
theorem q1652 : (Jvm.Cond.methodLink "TinFenModel" (85 : Nat) ({ cls := "TinFenModel", name := "no", desc := "(I)Z" } : Jvm.MethodName)) ∈ lw_all := lw_g (lw_at lw_m7 60 rfl) rfl
theorem q1653 : (Jvm.Cond.privateMethod ({ cls := "TinFenModel", name := "no", desc := "(I)Z" } : Jvm.MethodName)) ∈ lw_tbl := lw_at lw_m7 61 rfl
theorem q1654 : (Jvm.Cond.instanceMethod ({ cls := "TinFenModel", name := "no", desc := "(I)Z" } : Jvm.MethodName)) ∈ lw_all := lw_g (lw_at lw_m7 62 rfl) rfl
theorem q1655 : (Jvm.Cond.code ({ cls := "TinFenModel", name := "no", desc := "(I)Z" } : Jvm.MethodName) prog_14_method_7_code (2 : Nat) (Option.some Jvm.ClassFile.FieldType.boolean)) ∈ lw_all := lw_g (lw_at lw_m7 63 rfl) rfl
theorem q1657 : (Jvm.Cond.instanceMethod ({ cls := "TinFenModel", name := "write", desc := "(IIJ)Z" } : Jvm.MethodName)) ∈ lw_all := lw_g (lw_at lw_m7 65 rfl) rfl
theorem q1658 : (Jvm.Cond.selects "TinFenModel" ({ cls := "TinFenModel", name := "write", desc := "(IIJ)Z" } : Jvm.MethodName) ({ cls := "TinFenModel", name := "write", desc := "(IIJ)Z" } : Jvm.MethodName)) ∈ lw_all := lw_g (lw_at lw_m7 66 rfl) rfl
theorem q1659 : (Jvm.Cond.code ({ cls := "TinFenModel", name := "write", desc := "(IIJ)Z" } : Jvm.MethodName) prog_14_method_14_code (5 : Nat) (Option.some Jvm.ClassFile.FieldType.boolean)) ∈ lw_all := lw_g (lw_at lw_m7 67 rfl) rfl
theorem q1660 : (Jvm.Cond.methodLink "TinFenModel" (93 : Nat) ({ cls := "TinFenModel", name := "placed", desc := "(II)I" } : Jvm.MethodName)) ∈ lw_all := lw_g (lw_at lw_m7 68 rfl) rfl
theorem q1661 : (Jvm.Cond.privateMethod ({ cls := "TinFenModel", name := "placed", desc := "(II)I" } : Jvm.MethodName)) ∈ lw_tbl := lw_at lw_m7 69 rfl
theorem q1662 : (Jvm.Cond.instanceMethod ({ cls := "TinFenModel", name := "placed", desc := "(II)I" } : Jvm.MethodName)) ∈ lw_all := lw_g (lw_at lw_m7 70 rfl) rfl
theorem q1663 : (Jvm.Cond.code ({ cls := "TinFenModel", name := "placed", desc := "(II)I" } : Jvm.MethodName) prog_14_method_13_code (4 : Nat) (Option.some Jvm.ClassFile.FieldType.int)) ∈ lw_all := lw_g (lw_at lw_m7 71 rfl) rfl
theorem q1664 : (Jvm.Cond.methodLink "TinFenModel" (89 : Nat) ({ cls := "TinFenModel", name := "trayed", desc := "(I)I" } : Jvm.MethodName)) ∈ lw_all := lw_g (lw_at lw_m7 72 rfl) rfl
theorem q1665 : (Jvm.Cond.privateMethod ({ cls := "TinFenModel", name := "trayed", desc := "(I)I" } : Jvm.MethodName)) ∈ lw_tbl := lw_at lw_m7 73 rfl
theorem q1666 : (Jvm.Cond.instanceMethod ({ cls := "TinFenModel", name := "trayed", desc := "(I)I" } : Jvm.MethodName)) ∈ lw_all := lw_g (lw_at lw_m7 74 rfl) rfl
theorem q1667 : (Jvm.Cond.code ({ cls := "TinFenModel", name := "trayed", desc := "(I)I" } : Jvm.MethodName) prog_14_method_12_code (2 : Nat) (Option.some Jvm.ClassFile.FieldType.int)) ∈ lw_all := lw_g (lw_at lw_m7 75 rfl) rfl
theorem q1668 : (Jvm.Cond.methodLink "TinFenModel" (97 : Nat) ({ cls := "TinFenModel", name := "cut", desc := "(IJ)J" } : Jvm.MethodName)) ∈ lw_all := lw_g (lw_at lw_m7 76 rfl) rfl
theorem q1669 : (Jvm.Cond.static ({ cls := "TinFenModel", name := "cut", desc := "(IJ)J" } : Jvm.MethodName)) ∈ lw_all := lw_g (lw_at lw_m7 77 rfl) rfl
theorem q1670 : (Jvm.Cond.code ({ cls := "TinFenModel", name := "cut", desc := "(IJ)J" } : Jvm.MethodName) prog_14_method_10_code (3 : Nat) (Option.some Jvm.ClassFile.FieldType.long)) ∈ lw_all := lw_g (lw_at lw_m7 78 rfl) rfl
theorem q1672 : (Jvm.Cond.instanceMethod ({ cls := "TinFenModel", name := "read", desc := "(II)J" } : Jvm.MethodName)) ∈ lw_all := lw_g (lw_at lw_m7 80 rfl) rfl
theorem q1673 : (Jvm.Cond.selects "TinFenModel" ({ cls := "TinFenModel", name := "read", desc := "(II)J" } : Jvm.MethodName) ({ cls := "TinFenModel", name := "read", desc := "(II)J" } : Jvm.MethodName)) ∈ lw_all := lw_g (lw_at lw_m7 81 rfl) rfl
theorem q1674 : (Jvm.Cond.code ({ cls := "TinFenModel", name := "read", desc := "(II)J" } : Jvm.MethodName) prog_14_method_15_code (3 : Nat) (Option.some Jvm.ClassFile.FieldType.long)) ∈ lw_all := lw_g (lw_at lw_m7 82 rfl) rfl
theorem q1675 : (Jvm.Cond.constantLong "TinFenModel" (101 : Nat) (-1 : Int64)) ∈ lw_all := lw_g (lw_at lw_m7 83 rfl) rfl
theorem q1677 : (Jvm.Cond.instanceMethod ({ cls := "TinFenModel", name := "pour", desc := "(IIIII)Z" } : Jvm.MethodName)) ∈ lw_all := lw_g (lw_at lw_m7 85 rfl) rfl
theorem q1678 : (Jvm.Cond.selects "TinFenModel" ({ cls := "TinFenModel", name := "pour", desc := "(IIIII)Z" } : Jvm.MethodName) ({ cls := "TinFenModel", name := "pour", desc := "(IIIII)Z" } : Jvm.MethodName)) ∈ lw_all := lw_g (lw_at lw_m7 86 rfl) rfl
theorem q1679 : (Jvm.Cond.code ({ cls := "TinFenModel", name := "pour", desc := "(IIIII)Z" } : Jvm.MethodName) prog_14_method_16_code (9 : Nat) (Option.some Jvm.ClassFile.FieldType.boolean)) ∈ lw_all := lw_g (lw_at lw_m7 87 rfl) rfl
theorem q1681 : (Jvm.Cond.instanceMethod ({ cls := "TinFenModel", name := "feed", desc := "(IIIII)I" } : Jvm.MethodName)) ∈ lw_all := lw_g (lw_at lw_m7 89 rfl) rfl
theorem q1682 : (Jvm.Cond.selects "TinFenModel" ({ cls := "TinFenModel", name := "feed", desc := "(IIIII)I" } : Jvm.MethodName) ({ cls := "TinFenModel", name := "feed", desc := "(IIIII)I" } : Jvm.MethodName)) ∈ lw_all := lw_g (lw_at lw_m7 90 rfl) rfl
theorem q1683 : (Jvm.Cond.code ({ cls := "TinFenModel", name := "feed", desc := "(IIIII)I" } : Jvm.MethodName) prog_14_method_49_code (6 : Nat) (Option.some Jvm.ClassFile.FieldType.int)) ∈ lw_all := lw_g (lw_at lw_m7 91 rfl) rfl
theorem q1684 : (Jvm.Cond.methodLink "TinFenModel" (221 : Nat) ({ cls := "TinFenModel", name := "lay", desc := "(I)V" } : Jvm.MethodName)) ∈ lw_all := lw_g (lw_at lw_m7 92 rfl) rfl
theorem q1685 : (Jvm.Cond.privateMethod ({ cls := "TinFenModel", name := "lay", desc := "(I)V" } : Jvm.MethodName)) ∈ lw_tbl := lw_at lw_m7 93 rfl
theorem q1686 : (Jvm.Cond.instanceMethod ({ cls := "TinFenModel", name := "lay", desc := "(I)V" } : Jvm.MethodName)) ∈ lw_all := lw_g (lw_at lw_m7 94 rfl) rfl
theorem q1687 : (Jvm.Cond.code ({ cls := "TinFenModel", name := "lay", desc := "(I)V" } : Jvm.MethodName) prog_14_method_50_code (3 : Nat) (Option.none : Option Jvm.ClassFile.FieldType)) ∈ lw_all := lw_g (lw_at lw_m7 95 rfl) rfl
theorem q1689 : (Jvm.Cond.instanceMethod ({ cls := "TinFenModel", name := "fault", desc := "(I)I" } : Jvm.MethodName)) ∈ lw_all := lw_g (lw_at lw_m7 97 rfl) rfl
theorem q1690 : (Jvm.Cond.selects "TinFenModel" ({ cls := "TinFenModel", name := "fault", desc := "(I)I" } : Jvm.MethodName) ({ cls := "TinFenModel", name := "fault", desc := "(I)I" } : Jvm.MethodName)) ∈ lw_all := lw_g (lw_at lw_m7 98 rfl) rfl
theorem q1691 : (Jvm.Cond.code ({ cls := "TinFenModel", name := "fault", desc := "(I)I" } : Jvm.MethodName) prog_14_method_53_code (2 : Nat) (Option.some Jvm.ClassFile.FieldType.int)) ∈ lw_all := lw_g (lw_at lw_m7 99 rfl) rfl
theorem q1693 : (Jvm.Cond.instanceMethod ({ cls := "TinFenModel", name := "fen", desc := "(I)I" } : Jvm.MethodName)) ∈ lw_all := lw_g (lw_at lw_m7 101 rfl) rfl
theorem q1694 : (Jvm.Cond.selects "TinFenModel" ({ cls := "TinFenModel", name := "fen", desc := "(I)I" } : Jvm.MethodName) ({ cls := "TinFenModel", name := "fen", desc := "(I)I" } : Jvm.MethodName)) ∈ lw_all := lw_g (lw_at lw_m7 102 rfl) rfl
theorem q1695 : (Jvm.Cond.code ({ cls := "TinFenModel", name := "fen", desc := "(I)I" } : Jvm.MethodName) prog_14_method_68_code (2 : Nat) (Option.some Jvm.ClassFile.FieldType.int)) ∈ lw_all := lw_g (lw_at lw_m7 103 rfl) rfl
theorem q1696 : (Jvm.Cond.methodLink "TinFenModel" (283 : Nat) ({ cls := "TinFenModel", name := "starts", desc := "(II)Z" } : Jvm.MethodName)) ∈ lw_all := lw_g (lw_at lw_m7 104 rfl) rfl
theorem q1697 : (Jvm.Cond.privateMethod ({ cls := "TinFenModel", name := "starts", desc := "(II)Z" } : Jvm.MethodName)) ∈ lw_tbl := lw_at lw_m7 105 rfl
theorem q1698 : (Jvm.Cond.instanceMethod ({ cls := "TinFenModel", name := "starts", desc := "(II)Z" } : Jvm.MethodName)) ∈ lw_all := lw_g (lw_at lw_m7 106 rfl) rfl
theorem q1699 : (Jvm.Cond.code ({ cls := "TinFenModel", name := "starts", desc := "(II)Z" } : Jvm.MethodName) prog_14_method_51_code (3 : Nat) (Option.some Jvm.ClassFile.FieldType.boolean)) ∈ lw_all := lw_g (lw_at lw_m7 107 rfl) rfl
theorem q1700 : (Jvm.Cond.methodLink "TinFenModel" (212 : Nat) ({ cls := "TinFenModel", name := "advance", desc := "()V" } : Jvm.MethodName)) ∈ lw_all := lw_g (lw_at lw_m7 108 rfl) rfl
theorem q1701 : (Jvm.Cond.privateMethod ({ cls := "TinFenModel", name := "advance", desc := "()V" } : Jvm.MethodName)) ∈ lw_tbl := lw_at lw_m7 109 rfl
theorem q1702 : (Jvm.Cond.instanceMethod ({ cls := "TinFenModel", name := "advance", desc := "()V" } : Jvm.MethodName)) ∈ lw_all := lw_g (lw_at lw_m7 110 rfl) rfl
theorem q1703 : (Jvm.Cond.code ({ cls := "TinFenModel", name := "advance", desc := "()V" } : Jvm.MethodName) prog_14_method_25_code (2 : Nat) (Option.none : Option Jvm.ClassFile.FieldType)) ∈ lw_all := lw_g (lw_at lw_m7 111 rfl) rfl
theorem q1704 : (Jvm.Cond.methodLink "TinFenModel" (122 : Nat) ({ cls := "TinFenModel", name := "look2", desc := "(I)I" } : Jvm.MethodName)) ∈ lw_all := lw_g (lw_at lw_m7 112 rfl) rfl
theorem q1705 : (Jvm.Cond.privateMethod ({ cls := "TinFenModel", name := "look2", desc := "(I)I" } : Jvm.MethodName)) ∈ lw_tbl := lw_at lw_m7 113 rfl
theorem q1706 : (Jvm.Cond.instanceMethod ({ cls := "TinFenModel", name := "look2", desc := "(I)I" } : Jvm.MethodName)) ∈ lw_all := lw_g (lw_at lw_m7 114 rfl) rfl
theorem q1707 : (Jvm.Cond.code ({ cls := "TinFenModel", name := "look2", desc := "(I)I" } : Jvm.MethodName) prog_14_method_21_code (2 : Nat) (Option.some Jvm.ClassFile.FieldType.int)) ∈ lw_all := lw_g (lw_at lw_m7 115 rfl) rfl
theorem q1708 : (Jvm.Cond.methodLink "TinFenModel" (128 : Nat) ({ cls := "TinFenModel", name := "isLetter", desc := "(I)Z" } : Jvm.MethodName)) ∈ lw_all := lw_g (lw_at lw_m7 116 rfl) rfl
theorem q1709 : (Jvm.Cond.static ({ cls := "TinFenModel", name := "isLetter", desc := "(I)Z" } : Jvm.MethodName)) ∈ lw_all := lw_g (lw_at lw_m7 117 rfl) rfl
theorem q1710 : (Jvm.Cond.code ({ cls := "TinFenModel", name := "isLetter", desc := "(I)Z" } : Jvm.MethodName) prog_14_method_22_code (1 : Nat) (Option.some Jvm.ClassFile.FieldType.boolean)) ∈ lw_all := lw_g (lw_at lw_m7 118 rfl) rfl
theorem q1711 : (Jvm.Cond.constantLong "TinFenModel" (134 : Nat) (32 : Int64)) ∈ lw_all := lw_g (lw_at lw_m7 119 rfl) rfl
theorem q1712 : (Jvm.Cond.constantLong "TinFenModel" (136 : Nat) (96 : Int64)) ∈ lw_all := lw_g (lw_at lw_m7 120 rfl) rfl
theorem q1713 : (Jvm.Cond.methodLink "TinFenModel" (141 : Nat) ({ cls := "TinFenModel", name := "isDigit", desc := "(I)Z" } : Jvm.MethodName)) ∈ lw_all := lw_g (lw_at lw_m7 121 rfl) rfl
theorem q1714 : (Jvm.Cond.static ({ cls := "TinFenModel", name := "isDigit", desc := "(I)Z" } : Jvm.MethodName)) ∈ lw_all := lw_g (lw_at lw_m7 122 rfl) rfl
theorem q1715 : (Jvm.Cond.code ({ cls := "TinFenModel", name := "isDigit", desc := "(I)Z" } : Jvm.MethodName) prog_14_method_23_code (1 : Nat) (Option.some Jvm.ClassFile.FieldType.boolean)) ∈ lw_all := lw_g (lw_at lw_m7 123 rfl) rfl
theorem q1716 : (Jvm.Cond.methodLink "TinFenModel" (147 : Nat) ({ cls := "TinFenModel", name := "isSignByte", desc := "(I)Z" } : Jvm.MethodName)) ∈ lw_all := lw_g (lw_at lw_m7 124 rfl) rfl
theorem q1717 : (Jvm.Cond.privateMethod ({ cls := "TinFenModel", name := "isSignByte", desc := "(I)Z" } : Jvm.MethodName)) ∈ lw_tbl := lw_at lw_m7 125 rfl
theorem q1718 : (Jvm.Cond.instanceMethod ({ cls := "TinFenModel", name := "isSignByte", desc := "(I)Z" } : Jvm.MethodName)) ∈ lw_all := lw_g (lw_at lw_m7 126 rfl) rfl
theorem q1719 : (Jvm.Cond.code ({ cls := "TinFenModel", name := "isSignByte", desc := "(I)Z" } : Jvm.MethodName) prog_14_method_24_code (2 : Nat) (Option.some Jvm.ClassFile.FieldType.boolean)) ∈ lw_all := lw_g (lw_at lw_m7 127 rfl) rfl
theorem q1720 : (Jvm.Cond.methodLink "TinFenModel" (286 : Nat) ({ cls := "TinFenModel", name := "readPart", desc := "()V" } : Jvm.MethodName)) ∈ lw_all := lw_g (lw_at lw_m7 128 rfl) rfl
theorem q1721 : (Jvm.Cond.privateMethod ({ cls := "TinFenModel", name := "readPart", desc := "()V" } : Jvm.MethodName)) ∈ lw_tbl := lw_at lw_m7 129 rfl
theorem q1722 : (Jvm.Cond.instanceMethod ({ cls := "TinFenModel", name := "readPart", desc := "()V" } : Jvm.MethodName)) ∈ lw_all := lw_g (lw_at lw_m7 130 rfl) rfl
theorem q1723 : (Jvm.Cond.code ({ cls := "TinFenModel", name := "readPart", desc := "()V" } : Jvm.MethodName) prog_14_method_67_code (1 : Nat) (Option.none : Option Jvm.ClassFile.FieldType)) ∈ lw_all := lw_g (lw_at lw_m7 131 rfl) rfl
theorem q1724 : (Jvm.Cond.methodLink "TinFenModel" (162 : Nat) ({ cls := "TinFenModel", name := "isOdds", desc := "()Z" } : Jvm.MethodName)) ∈ lw_all := lw_g (lw_at lw_m7 132 rfl) rfl
theorem q1725 : (Jvm.Cond.privateMethod ({ cls := "TinFenModel", name := "isOdds", desc := "()Z" } : Jvm.MethodName)) ∈ lw_tbl := lw_at lw_m7 133 rfl
theorem q1726 : (Jvm.Cond.instanceMethod ({ cls := "TinFenModel", name := "isOdds", desc := "()Z" } : Jvm.MethodName)) ∈ lw_all := lw_g (lw_at lw_m7 134 rfl) rfl
theorem q1727 : (Jvm.Cond.code ({ cls := "TinFenModel", name := "isOdds", desc := "()Z" } : Jvm.MethodName) prog_14_method_29_code (1 : Nat) (Option.some Jvm.ClassFile.FieldType.boolean)) ∈ lw_all := lw_g (lw_at lw_m7 135 rfl) rfl
theorem q1728 : (Jvm.Cond.methodLink "TinFenModel" (150 : Nat) ({ cls := "TinFenModel", name := "spelled", desc := "(IIIIII)J" } : Jvm.MethodName)) ∈ lw_all := lw_g (lw_at lw_m7 136 rfl) rfl
theorem q1729 : (Jvm.Cond.static ({ cls := "TinFenModel", name := "spelled", desc := "(IIIIII)J" } : Jvm.MethodName)) ∈ lw_all := lw_g (lw_at lw_m7 137 rfl) rfl
theorem q1730 : (Jvm.Cond.code ({ cls := "TinFenModel", name := "spelled", desc := "(IIIIII)J" } : Jvm.MethodName) prog_14_method_27_code (8 : Nat) (Option.some Jvm.ClassFile.FieldType.long)) ∈ lw_all := lw_g (lw_at lw_m7 138 rfl) rfl
theorem q1731 : (Jvm.Cond.methodLink "TinFenModel" (154 : Nat) ({ cls := "TinFenModel", name := "isWord", desc := "(J)Z" } : Jvm.MethodName)) ∈ lw_all := lw_g (lw_at lw_m7 139 rfl) rfl
theorem q1732 : (Jvm.Cond.privateMethod ({ cls := "TinFenModel", name := "isWord", desc := "(J)Z" } : Jvm.MethodName)) ∈ lw_tbl := lw_at lw_m7 140 rfl
theorem q1733 : (Jvm.Cond.instanceMethod ({ cls := "TinFenModel", name := "isWord", desc := "(J)Z" } : Jvm.MethodName)) ∈ lw_all := lw_g (lw_at lw_m7 141 rfl) rfl
theorem q1734 : (Jvm.Cond.code ({ cls := "TinFenModel", name := "isWord", desc := "(J)Z" } : Jvm.MethodName) prog_14_method_28_code (3 : Nat) (Option.some Jvm.ClassFile.FieldType.boolean)) ∈ lw_all := lw_g (lw_at lw_m7 142 rfl) rfl
theorem q1735 : (Jvm.Cond.methodLink "TinFenModel" (268 : Nat) ({ cls := "TinFenModel", name := "readOdds", desc := "()V" } : Jvm.MethodName)) ∈ lw_all := lw_g (lw_at lw_m7 143 rfl) rfl
theorem q1736 : (Jvm.Cond.privateMethod ({ cls := "TinFenModel", name := "readOdds", desc := "()V" } : Jvm.MethodName)) ∈ lw_tbl := lw_at lw_m7 144 rfl
theorem q1737 : (Jvm.Cond.instanceMethod ({ cls := "TinFenModel", name := "readOdds", desc := "()V" } : Jvm.MethodName)) ∈ lw_all := lw_g (lw_at lw_m7 145 rfl) rfl
theorem q1738 : (Jvm.Cond.code ({ cls := "TinFenModel", name := "readOdds", desc := "()V" } : Jvm.MethodName) prog_14_method_60_code (1 : Nat) (Option.none : Option Jvm.ClassFile.FieldType)) ∈ lw_all := lw_g (lw_at lw_m7 146 rfl) rfl
theorem q1739 : (Jvm.Cond.methodLink "TinFenModel" (208 : Nat) ({ cls := "TinFenModel", name := "fail", desc := "(II)V" } : Jvm.MethodName)) ∈ lw_all := lw_g (lw_at lw_m7 147 rfl) rfl
theorem q1740 : (Jvm.Cond.privateMethod ({ cls := "TinFenModel", name := "fail", desc := "(II)V" } : Jvm.MethodName)) ∈ lw_tbl := lw_at lw_m7 148 rfl
theorem q1741 : (Jvm.Cond.instanceMethod ({ cls := "TinFenModel", name := "fail", desc := "(II)V" } : Jvm.MethodName)) ∈ lw_all := lw_g (lw_at lw_m7 149 rfl) rfl
theorem q1742 : (Jvm.Cond.code ({ cls := "TinFenModel", name := "fail", desc := "(II)V" } : Jvm.MethodName) prog_14_method_44_code (3 : Nat) (Option.none : Option Jvm.ClassFile.FieldType)) ∈ lw_all := lw_g (lw_at lw_m7 150 rfl) rfl
theorem q1743 : (Jvm.Cond.methodLink "TinFenModel" (247 : Nat) ({ cls := "TinFenModel", name := "count", desc := "(II)I" } : Jvm.MethodName)) ∈ lw_all := lw_g (lw_at lw_m7 151 rfl) rfl
theorem q1744 : (Jvm.Cond.privateMethod ({ cls := "TinFenModel", name := "count", desc := "(II)I" } : Jvm.MethodName)) ∈ lw_tbl := lw_at lw_m7 152 rfl
theorem q1745 : (Jvm.Cond.instanceMethod ({ cls := "TinFenModel", name := "count", desc := "(II)I" } : Jvm.MethodName)) ∈ lw_all := lw_g (lw_at lw_m7 153 rfl) rfl
theorem q1746 : (Jvm.Cond.code ({ cls := "TinFenModel", name := "count", desc := "(II)I" } : Jvm.MethodName) prog_14_method_47_code (4 : Nat) (Option.some Jvm.ClassFile.FieldType.int)) ∈ lw_all := lw_g (lw_at lw_m7 154 rfl) rfl
theorem q1747 : (Jvm.Cond.methodLink "TinFenModel" (215 : Nat) ({ cls := "TinFenModel", name := "amiss", desc := "()V" } : Jvm.MethodName)) ∈ lw_all := lw_g (lw_at lw_m7 155 rfl) rfl
theorem q1748 : (Jvm.Cond.privateMethod ({ cls := "TinFenModel", name := "amiss", desc := "()V" } : Jvm.MethodName)) ∈ lw_tbl := lw_at lw_m7 156 rfl
theorem q1749 : (Jvm.Cond.instanceMethod ({ cls := "TinFenModel", name := "amiss", desc := "()V" } : Jvm.MethodName)) ∈ lw_all := lw_g (lw_at lw_m7 157 rfl) rfl
theorem q1750 : (Jvm.Cond.code ({ cls := "TinFenModel", name := "amiss", desc := "()V" } : Jvm.MethodName) prog_14_method_45_code (1 : Nat) (Option.none : Option Jvm.ClassFile.FieldType)) ∈ lw_all := lw_g (lw_at lw_m7 158 rfl) rfl
theorem q1751 : (Jvm.Cond.methodLink "TinFenModel" (105 : Nat) ({ cls := "TinFenModel", name := "isIn", desc := "(JJJ)Z" } : Jvm.MethodName)) ∈ lw_all := lw_g (lw_at lw_m7 159 rfl) rfl
theorem q1752 : (Jvm.Cond.static ({ cls := "TinFenModel", name := "isIn", desc := "(JJJ)Z" } : Jvm.MethodName)) ∈ lw_all := lw_g (lw_at lw_m7 160 rfl) rfl
theorem q1753 : (Jvm.Cond.code ({ cls := "TinFenModel", name := "isIn", desc := "(JJJ)Z" } : Jvm.MethodName) prog_14_method_8_code (6 : Nat) (Option.some Jvm.ClassFile.FieldType.boolean)) ∈ lw_all := lw_g (lw_at lw_m7 161 rfl) rfl
theorem q1754 : (Jvm.Cond.methodLink "TinFenModel" (165 : Nat) ({ cls := "TinFenModel", name := "isTrait", desc := "()Z" } : Jvm.MethodName)) ∈ lw_all := lw_g (lw_at lw_m7 162 rfl) rfl
theorem q1755 : (Jvm.Cond.privateMethod ({ cls := "TinFenModel", name := "isTrait", desc := "()Z" } : Jvm.MethodName)) ∈ lw_tbl := lw_at lw_m7 163 rfl
theorem q1756 : (Jvm.Cond.instanceMethod ({ cls := "TinFenModel", name := "isTrait", desc := "()Z" } : Jvm.MethodName)) ∈ lw_all := lw_g (lw_at lw_m7 164 rfl) rfl
theorem q1757 : (Jvm.Cond.code ({ cls := "TinFenModel", name := "isTrait", desc := "()Z" } : Jvm.MethodName) prog_14_method_30_code (1 : Nat) (Option.some Jvm.ClassFile.FieldType.boolean)) ∈ lw_all := lw_g (lw_at lw_m7 165 rfl) rfl
theorem q1758 : (Jvm.Cond.methodLink "TinFenModel" (271 : Nat) ({ cls := "TinFenModel", name := "readTrait", desc := "()V" } : Jvm.MethodName)) ∈ lw_all := lw_g (lw_at lw_m7 166 rfl) rfl
theorem q1759 : (Jvm.Cond.privateMethod ({ cls := "TinFenModel", name := "readTrait", desc := "()V" } : Jvm.MethodName)) ∈ lw_tbl := lw_at lw_m7 167 rfl
theorem q1760 : (Jvm.Cond.instanceMethod ({ cls := "TinFenModel", name := "readTrait", desc := "()V" } : Jvm.MethodName)) ∈ lw_all := lw_g (lw_at lw_m7 168 rfl) rfl
theorem q1761 : (Jvm.Cond.code ({ cls := "TinFenModel", name := "readTrait", desc := "()V" } : Jvm.MethodName) prog_14_method_61_code (3 : Nat) (Option.none : Option Jvm.ClassFile.FieldType)) ∈ lw_all := lw_g (lw_at lw_m7 169 rfl) rfl
theorem q1762 : (Jvm.Cond.methodLink "TinFenModel" (250 : Nat) ({ cls := "TinFenModel", name := "readNew", desc := "(II)I" } : Jvm.MethodName)) ∈ lw_all := lw_g (lw_at lw_m7 170 rfl) rfl
theorem q1763 : (Jvm.Cond.privateMethod ({ cls := "TinFenModel", name := "readNew", desc := "(II)I" } : Jvm.MethodName)) ∈ lw_tbl := lw_at lw_m7 171 rfl
theorem q1764 : (Jvm.Cond.instanceMethod ({ cls := "TinFenModel", name := "readNew", desc := "(II)I" } : Jvm.MethodName)) ∈ lw_all := lw_g (lw_at lw_m7 172 rfl) rfl
theorem q1765 : (Jvm.Cond.code ({ cls := "TinFenModel", name := "readNew", desc := "(II)I" } : Jvm.MethodName) prog_14_method_57_code (4 : Nat) (Option.some Jvm.ClassFile.FieldType.int)) ∈ lw_all := lw_g (lw_at lw_m7 173 rfl) rfl
theorem q1766 : (Jvm.Cond.methodLink "TinFenModel" (227 : Nat) ({ cls := "TinFenModel", name := "isName", desc := "()Z" } : Jvm.MethodName)) ∈ lw_all := lw_g (lw_at lw_m7 174 rfl) rfl
theorem q1767 : (Jvm.Cond.privateMethod ({ cls := "TinFenModel", name := "isName", desc := "()Z" } : Jvm.MethodName)) ∈ lw_tbl := lw_at lw_m7 175 rfl
theorem q1768 : (Jvm.Cond.instanceMethod ({ cls := "TinFenModel", name := "isName", desc := "()Z" } : Jvm.MethodName)) ∈ lw_all := lw_g (lw_at lw_m7 176 rfl) rfl
theorem q1769 : (Jvm.Cond.code ({ cls := "TinFenModel", name := "isName", desc := "()Z" } : Jvm.MethodName) prog_14_method_43_code (1 : Nat) (Option.some Jvm.ClassFile.FieldType.boolean)) ∈ lw_all := lw_g (lw_at lw_m7 177 rfl) rfl
theorem q1770 : (Jvm.Cond.methodLink "TinFenModel" (199 : Nat) ({ cls := "TinFenModel", name := "isKept", desc := "()Z" } : Jvm.MethodName)) ∈ lw_all := lw_g (lw_at lw_m7 178 rfl) rfl
theorem q1771 : (Jvm.Cond.privateMethod ({ cls := "TinFenModel", name := "isKept", desc := "()Z" } : Jvm.MethodName)) ∈ lw_tbl := lw_at lw_m7 179 rfl
theorem q1772 : (Jvm.Cond.instanceMethod ({ cls := "TinFenModel", name := "isKept", desc := "()Z" } : Jvm.MethodName)) ∈ lw_all := lw_g (lw_at lw_m7 180 rfl) rfl
theorem q1773 : (Jvm.Cond.code ({ cls := "TinFenModel", name := "isKept", desc := "()Z" } : Jvm.MethodName) prog_14_method_42_code (1 : Nat) (Option.some Jvm.ClassFile.FieldType.boolean)) ∈ lw_all := lw_g (lw_at lw_m7 181 rfl) rfl
theorem q1774 : (Jvm.Cond.methodLink "TinFenModel" (168 : Nat) ({ cls := "TinFenModel", name := "isWorth", desc := "()Z" } : Jvm.MethodName)) ∈ lw_all := lw_g (lw_at lw_m7 182 rfl) rfl
theorem q1775 : (Jvm.Cond.privateMethod ({ cls := "TinFenModel", name := "isWorth", desc := "()Z" } : Jvm.MethodName)) ∈ lw_tbl := lw_at lw_m7 183 rfl
theorem q1776 : (Jvm.Cond.instanceMethod ({ cls := "TinFenModel", name := "isWorth", desc := "()Z" } : Jvm.MethodName)) ∈ lw_all := lw_g (lw_at lw_m7 184 rfl) rfl
theorem q1777 : (Jvm.Cond.code ({ cls := "TinFenModel", name := "isWorth", desc := "()Z" } : Jvm.MethodName) prog_14_method_31_code (1 : Nat) (Option.some Jvm.ClassFile.FieldType.boolean)) ∈ lw_all := lw_g (lw_at lw_m7 185 rfl) rfl
theorem q1778 : (Jvm.Cond.methodLink "TinFenModel" (171 : Nat) ({ cls := "TinFenModel", name := "isPerson", desc := "()Z" } : Jvm.MethodName)) ∈ lw_all := lw_g (lw_at lw_m7 186 rfl) rfl
theorem q1779 : (Jvm.Cond.privateMethod ({ cls := "TinFenModel", name := "isPerson", desc := "()Z" } : Jvm.MethodName)) ∈ lw_tbl := lw_at lw_m7 187 rfl
theorem q1780 : (Jvm.Cond.instanceMethod ({ cls := "TinFenModel", name := "isPerson", desc := "()Z" } : Jvm.MethodName)) ∈ lw_all := lw_g (lw_at lw_m7 188 rfl) rfl
theorem q1781 : (Jvm.Cond.code ({ cls := "TinFenModel", name := "isPerson", desc := "()Z" } : Jvm.MethodName) prog_14_method_32_code (1 : Nat) (Option.some Jvm.ClassFile.FieldType.boolean)) ∈ lw_all := lw_g (lw_at lw_m7 189 rfl) rfl
theorem q1782 : (Jvm.Cond.methodLink "TinFenModel" (174 : Nat) ({ cls := "TinFenModel", name := "isIs", desc := "()Z" } : Jvm.MethodName)) ∈ lw_all := lw_g (lw_at lw_m7 190 rfl) rfl
theorem q1783 : (Jvm.Cond.privateMethod ({ cls := "TinFenModel", name := "isIs", desc := "()Z" } : Jvm.MethodName)) ∈ lw_tbl := lw_at lw_m7 191 rfl
theorem q1784 : (Jvm.Cond.instanceMethod ({ cls := "TinFenModel", name := "isIs", desc := "()Z" } : Jvm.MethodName)) ∈ lw_all := lw_g (lw_at lw_m7 192 rfl) rfl
theorem q1785 : (Jvm.Cond.code ({ cls := "TinFenModel", name := "isIs", desc := "()Z" } : Jvm.MethodName) prog_14_method_33_code (1 : Nat) (Option.some Jvm.ClassFile.FieldType.boolean)) ∈ lw_all := lw_g (lw_at lw_m7 193 rfl) rfl
theorem q1786 : (Jvm.Cond.methodLink "TinFenModel" (177 : Nat) ({ cls := "TinFenModel", name := "isLane", desc := "()Z" } : Jvm.MethodName)) ∈ lw_all := lw_g (lw_at lw_m7 194 rfl) rfl
theorem q1787 : (Jvm.Cond.privateMethod ({ cls := "TinFenModel", name := "isLane", desc := "()Z" } : Jvm.MethodName)) ∈ lw_tbl := lw_at lw_m7 195 rfl
theorem q1788 : (Jvm.Cond.instanceMethod ({ cls := "TinFenModel", name := "isLane", desc := "()Z" } : Jvm.MethodName)) ∈ lw_all := lw_g (lw_at lw_m7 196 rfl) rfl
theorem q1789 : (Jvm.Cond.code ({ cls := "TinFenModel", name := "isLane", desc := "()Z" } : Jvm.MethodName) prog_14_method_34_code (1 : Nat) (Option.some Jvm.ClassFile.FieldType.boolean)) ∈ lw_all := lw_g (lw_at lw_m7 197 rfl) rfl
theorem q1790 : (Jvm.Cond.methodLink "TinFenModel" (180 : Nat) ({ cls := "TinFenModel", name := "isTin", desc := "()Z" } : Jvm.MethodName)) ∈ lw_all := lw_g (lw_at lw_m7 198 rfl) rfl
theorem q1791 : (Jvm.Cond.privateMethod ({ cls := "TinFenModel", name := "isTin", desc := "()Z" } : Jvm.MethodName)) ∈ lw_tbl := lw_at lw_m7 199 rfl
theorem q1792 : (Jvm.Cond.instanceMethod ({ cls := "TinFenModel", name := "isTin", desc := "()Z" } : Jvm.MethodName)) ∈ lw_all := lw_g (lw_at lw_m7 200 rfl) rfl
theorem q1793 : (Jvm.Cond.code ({ cls := "TinFenModel", name := "isTin", desc := "()Z" } : Jvm.MethodName) prog_14_method_35_code (1 : Nat) (Option.some Jvm.ClassFile.FieldType.boolean)) ∈ lw_all := lw_g (lw_at lw_m7 201 rfl) rfl
theorem q1794 : (Jvm.Cond.methodLink "TinFenModel" (183 : Nat) ({ cls := "TinFenModel", name := "isOf", desc := "()Z" } : Jvm.MethodName)) ∈ lw_all := lw_g (lw_at lw_m7 202 rfl) rfl
theorem q1795 : (Jvm.Cond.privateMethod ({ cls := "TinFenModel", name := "isOf", desc := "()Z" } : Jvm.MethodName)) ∈ lw_tbl := lw_at lw_m7 203 rfl
theorem q1796 : (Jvm.Cond.instanceMethod ({ cls := "TinFenModel", name := "isOf", desc := "()Z" } : Jvm.MethodName)) ∈ lw_all := lw_g (lw_at lw_m7 204 rfl) rfl
theorem q1797 : (Jvm.Cond.code ({ cls := "TinFenModel", name := "isOf", desc := "()Z" } : Jvm.MethodName) prog_14_method_36_code (1 : Nat) (Option.some Jvm.ClassFile.FieldType.boolean)) ∈ lw_all := lw_g (lw_at lw_m7 205 rfl) rfl
theorem q1798 : (Jvm.Cond.methodLink "TinFenModel" (186 : Nat) ({ cls := "TinFenModel", name := "isLead", desc := "()Z" } : Jvm.MethodName)) ∈ lw_all := lw_g (lw_at lw_m7 206 rfl) rfl
theorem q1799 : (Jvm.Cond.privateMethod ({ cls := "TinFenModel", name := "isLead", desc := "()Z" } : Jvm.MethodName)) ∈ lw_tbl := lw_at lw_m7 207 rfl
theorem q1800 : (Jvm.Cond.instanceMethod ({ cls := "TinFenModel", name := "isLead", desc := "()Z" } : Jvm.MethodName)) ∈ lw_all := lw_g (lw_at lw_m7 208 rfl) rfl
theorem q1801 : (Jvm.Cond.code ({ cls := "TinFenModel", name := "isLead", desc := "()Z" } : Jvm.MethodName) prog_14_method_38_code (1 : Nat) (Option.some Jvm.ClassFile.FieldType.boolean)) ∈ lw_all := lw_g (lw_at lw_m7 209 rfl) rfl
theorem q1802 : (Jvm.Cond.methodLink "TinFenModel" (189 : Nat) ({ cls := "TinFenModel", name := "stepWord", desc := "()I" } : Jvm.MethodName)) ∈ lw_all := lw_g (lw_at lw_m7 210 rfl) rfl
theorem q1803 : (Jvm.Cond.privateMethod ({ cls := "TinFenModel", name := "stepWord", desc := "()I" } : Jvm.MethodName)) ∈ lw_tbl := lw_at lw_m7 211 rfl
theorem q1804 : (Jvm.Cond.instanceMethod ({ cls := "TinFenModel", name := "stepWord", desc := "()I" } : Jvm.MethodName)) ∈ lw_all := lw_g (lw_at lw_m7 212 rfl) rfl
theorem q1805 : (Jvm.Cond.code ({ cls := "TinFenModel", name := "stepWord", desc := "()I" } : Jvm.MethodName) prog_14_method_39_code (1 : Nat) (Option.some Jvm.ClassFile.FieldType.int)) ∈ lw_all := lw_g (lw_at lw_m7 213 rfl) rfl
theorem q1806 : (Jvm.Cond.methodLink "TinFenModel" (193 : Nat) ({ cls := "TinFenModel", name := "testWord", desc := "()I" } : Jvm.MethodName)) ∈ lw_all := lw_g (lw_at lw_m7 214 rfl) rfl
theorem q1807 : (Jvm.Cond.privateMethod ({ cls := "TinFenModel", name := "testWord", desc := "()I" } : Jvm.MethodName)) ∈ lw_tbl := lw_at lw_m7 215 rfl
theorem q1808 : (Jvm.Cond.instanceMethod ({ cls := "TinFenModel", name := "testWord", desc := "()I" } : Jvm.MethodName)) ∈ lw_all := lw_g (lw_at lw_m7 216 rfl) rfl
theorem q1809 : (Jvm.Cond.code ({ cls := "TinFenModel", name := "testWord", desc := "()I" } : Jvm.MethodName) prog_14_method_40_code (1 : Nat) (Option.some Jvm.ClassFile.FieldType.int)) ∈ lw_all := lw_g (lw_at lw_m7 217 rfl) rfl
theorem q1810 : (Jvm.Cond.methodLink "TinFenModel" (158 : Nat) ({ cls := "TinFenModel", name := "isOn", desc := "()Z" } : Jvm.MethodName)) ∈ lw_all := lw_g (lw_at lw_m7 218 rfl) rfl
theorem q1811 : (Jvm.Cond.privateMethod ({ cls := "TinFenModel", name := "isOn", desc := "()Z" } : Jvm.MethodName)) ∈ lw_tbl := lw_at lw_m7 219 rfl
theorem q1812 : (Jvm.Cond.instanceMethod ({ cls := "TinFenModel", name := "isOn", desc := "()Z" } : Jvm.MethodName)) ∈ lw_all := lw_g (lw_at lw_m7 220 rfl) rfl
theorem q1813 : (Jvm.Cond.code ({ cls := "TinFenModel", name := "isOn", desc := "()Z" } : Jvm.MethodName) prog_14_method_37_code (1 : Nat) (Option.some Jvm.ClassFile.FieldType.boolean)) ∈ lw_all := lw_g (lw_at lw_m7 221 rfl) rfl
theorem q1814 : (Jvm.Cond.methodLink "TinFenModel" (196 : Nat) ({ cls := "TinFenModel", name := "isEnd", desc := "()Z" } : Jvm.MethodName)) ∈ lw_all := lw_g (lw_at lw_m7 222 rfl) rfl
theorem q1815 : (Jvm.Cond.privateMethod ({ cls := "TinFenModel", name := "isEnd", desc := "()Z" } : Jvm.MethodName)) ∈ lw_tbl := lw_at lw_m7 223 rfl
theorem q1816 : (Jvm.Cond.instanceMethod ({ cls := "TinFenModel", name := "isEnd", desc := "()Z" } : Jvm.MethodName)) ∈ lw_all := lw_g (lw_at lw_m7 224 rfl) rfl
theorem q1817 : (Jvm.Cond.code ({ cls := "TinFenModel", name := "isEnd", desc := "()Z" } : Jvm.MethodName) prog_14_method_41_code (1 : Nat) (Option.some Jvm.ClassFile.FieldType.boolean)) ∈ lw_all := lw_g (lw_at lw_m7 225 rfl) rfl
theorem q1818 : (Jvm.Cond.methodLink "TinFenModel" (230 : Nat) ({ cls := "TinFenModel", name := "named", desc := "(II)I" } : Jvm.MethodName)) ∈ lw_all := lw_g (lw_at lw_m7 226 rfl) rfl
theorem q1819 : (Jvm.Cond.privateMethod ({ cls := "TinFenModel", name := "named", desc := "(II)I" } : Jvm.MethodName)) ∈ lw_tbl := lw_at lw_m7 227 rfl
theorem q1820 : (Jvm.Cond.instanceMethod ({ cls := "TinFenModel", name := "named", desc := "(II)I" } : Jvm.MethodName)) ∈ lw_all := lw_g (lw_at lw_m7 228 rfl) rfl
theorem q1821 : (Jvm.Cond.code ({ cls := "TinFenModel", name := "named", desc := "(II)I" } : Jvm.MethodName) prog_14_method_56_code (4 : Nat) (Option.some Jvm.ClassFile.FieldType.int)) ∈ lw_all := lw_g (lw_at lw_m7 229 rfl) rfl
theorem q1822 : (Jvm.Cond.methodLink "TinFenModel" (224 : Nat) ({ cls := "TinFenModel", name := "namesFrom", desc := "(I)I" } : Jvm.MethodName)) ∈ lw_all := lw_g (lw_at lw_m7 230 rfl) rfl
theorem q1823 : (Jvm.Cond.static ({ cls := "TinFenModel", name := "namesFrom", desc := "(I)I" } : Jvm.MethodName)) ∈ lw_all := lw_g (lw_at lw_m7 231 rfl) rfl
theorem q1824 : (Jvm.Cond.code ({ cls := "TinFenModel", name := "namesFrom", desc := "(I)I" } : Jvm.MethodName) prog_14_method_55_code (1 : Nat) (Option.some Jvm.ClassFile.FieldType.int)) ∈ lw_all := lw_g (lw_at lw_m7 232 rfl) rfl
theorem q1825 : (Jvm.Cond.methodLink "TinFenModel" (239 : Nat) ({ cls := "TinFenModel", name := "must", desc := "(Z)V" } : Jvm.MethodName)) ∈ lw_all := lw_g (lw_at lw_m7 233 rfl) rfl
theorem q1826 : (Jvm.Cond.privateMethod ({ cls := "TinFenModel", name := "must", desc := "(Z)V" } : Jvm.MethodName)) ∈ lw_tbl := lw_at lw_m7 234 rfl
theorem q1827 : (Jvm.Cond.instanceMethod ({ cls := "TinFenModel", name := "must", desc := "(Z)V" } : Jvm.MethodName)) ∈ lw_all := lw_g (lw_at lw_m7 235 rfl) rfl
theorem q1828 : (Jvm.Cond.code ({ cls := "TinFenModel", name := "must", desc := "(Z)V" } : Jvm.MethodName) prog_14_method_46_code (2 : Nat) (Option.none : Option Jvm.ClassFile.FieldType)) ∈ lw_all := lw_g (lw_at lw_m7 236 rfl) rfl
theorem q1829 : (Jvm.Cond.methodLink "TinFenModel" (274 : Nat) ({ cls := "TinFenModel", name := "readPerson", desc := "()V" } : Jvm.MethodName)) ∈ lw_all := lw_g (lw_at lw_m7 237 rfl) rfl
theorem q1830 : (Jvm.Cond.privateMethod ({ cls := "TinFenModel", name := "readPerson", desc := "()V" } : Jvm.MethodName)) ∈ lw_tbl := lw_at lw_m7 238 rfl
theorem q1831 : (Jvm.Cond.instanceMethod ({ cls := "TinFenModel", name := "readPerson", desc := "()V" } : Jvm.MethodName)) ∈ lw_all := lw_g (lw_at lw_m7 239 rfl) rfl
theorem q1832 : (Jvm.Cond.code ({ cls := "TinFenModel", name := "readPerson", desc := "()V" } : Jvm.MethodName) prog_14_method_62_code (4 : Nat) (Option.none : Option Jvm.ClassFile.FieldType)) ∈ lw_all := lw_g (lw_at lw_m8 0 rfl) rfl
theorem q1833 : (Jvm.Cond.methodLink "TinFenModel" (253 : Nat) ({ cls := "TinFenModel", name := "perhaps", desc := "(Z)Z" } : Jvm.MethodName)) ∈ lw_all := lw_g (lw_at lw_m8 1 rfl) rfl
theorem q1834 : (Jvm.Cond.privateMethod ({ cls := "TinFenModel", name := "perhaps", desc := "(Z)Z" } : Jvm.MethodName)) ∈ lw_tbl := lw_at lw_m8 2 rfl
theorem q1835 : (Jvm.Cond.instanceMethod ({ cls := "TinFenModel", name := "perhaps", desc := "(Z)Z" } : Jvm.MethodName)) ∈ lw_all := lw_g (lw_at lw_m8 3 rfl) rfl
theorem q1836 : (Jvm.Cond.code ({ cls := "TinFenModel", name := "perhaps", desc := "(Z)Z" } : Jvm.MethodName) prog_14_method_48_code (2 : Nat) (Option.some Jvm.ClassFile.FieldType.boolean)) ∈ lw_all := lw_g (lw_at lw_m8 4 rfl) rfl
theorem q1837 : (Jvm.Cond.methodLink "TinFenModel" (236 : Nat) ({ cls := "TinFenModel", name := "told", desc := "(II)I" } : Jvm.MethodName)) ∈ lw_all := lw_g (lw_at lw_m8 5 rfl) rfl
theorem q1838 : (Jvm.Cond.privateMethod ({ cls := "TinFenModel", name := "told", desc := "(II)I" } : Jvm.MethodName)) ∈ lw_tbl := lw_at lw_m8 6 rfl
theorem q1839 : (Jvm.Cond.instanceMethod ({ cls := "TinFenModel", name := "told", desc := "(II)I" } : Jvm.MethodName)) ∈ lw_all := lw_g (lw_at lw_m8 7 rfl) rfl
theorem q1840 : (Jvm.Cond.code ({ cls := "TinFenModel", name := "told", desc := "(II)I" } : Jvm.MethodName) prog_14_method_58_code (4 : Nat) (Option.some Jvm.ClassFile.FieldType.int)) ∈ lw_all := lw_g (lw_at lw_m8 8 rfl) rfl
theorem q1841 : (Jvm.Cond.methodLink "TinFenModel" (233 : Nat) ({ cls := "java/lang/Math", name := "max", desc := "(II)I" } : Jvm.MethodName)) ∈ lw_all := lw_g (lw_at lw_m8 9 rfl) rfl
theorem q1842 : (Jvm.Cond.methodLink "TinFenModel" (109 : Nat) ({ cls := "TinFenModel", name := "has", desc := "(II)Z" } : Jvm.MethodName)) ∈ lw_all := lw_g (lw_at lw_m8 10 rfl) rfl
theorem q1843 : (Jvm.Cond.static ({ cls := "TinFenModel", name := "has", desc := "(II)Z" } : Jvm.MethodName)) ∈ lw_all := lw_g (lw_at lw_m8 11 rfl) rfl
theorem q1844 : (Jvm.Cond.code ({ cls := "TinFenModel", name := "has", desc := "(II)Z" } : Jvm.MethodName) prog_14_method_19_code (2 : Nat) (Option.some Jvm.ClassFile.FieldType.boolean)) ∈ lw_all := lw_g (lw_at lw_m8 12 rfl) rfl
theorem q1845 : (Jvm.Cond.methodLink "TinFenModel" (277 : Nat) ({ cls := "TinFenModel", name := "readLane", desc := "()V" } : Jvm.MethodName)) ∈ lw_all := lw_g (lw_at lw_m8 13 rfl) rfl
theorem q1846 : (Jvm.Cond.privateMethod ({ cls := "TinFenModel", name := "readLane", desc := "()V" } : Jvm.MethodName)) ∈ lw_tbl := lw_at lw_m8 14 rfl
theorem q1847 : (Jvm.Cond.instanceMethod ({ cls := "TinFenModel", name := "readLane", desc := "()V" } : Jvm.MethodName)) ∈ lw_all := lw_g (lw_at lw_m8 15 rfl) rfl
theorem q1848 : (Jvm.Cond.code ({ cls := "TinFenModel", name := "readLane", desc := "()V" } : Jvm.MethodName) prog_14_method_64_code (3 : Nat) (Option.none : Option Jvm.ClassFile.FieldType)) ∈ lw_all := lw_g (lw_at lw_m8 16 rfl) rfl
theorem q1849 : (Jvm.Cond.methodLink "TinFenModel" (257 : Nat) ({ cls := "TinFenModel", name := "readTold", desc := "(II)I" } : Jvm.MethodName)) ∈ lw_all := lw_g (lw_at lw_m8 17 rfl) rfl
theorem q1850 : (Jvm.Cond.privateMethod ({ cls := "TinFenModel", name := "readTold", desc := "(II)I" } : Jvm.MethodName)) ∈ lw_tbl := lw_at lw_m8 18 rfl
theorem q1851 : (Jvm.Cond.instanceMethod ({ cls := "TinFenModel", name := "readTold", desc := "(II)I" } : Jvm.MethodName)) ∈ lw_all := lw_g (lw_at lw_m8 19 rfl) rfl
theorem q1852 : (Jvm.Cond.code ({ cls := "TinFenModel", name := "readTold", desc := "(II)I" } : Jvm.MethodName) prog_14_method_59_code (4 : Nat) (Option.some Jvm.ClassFile.FieldType.int)) ∈ lw_all := lw_g (lw_at lw_m8 20 rfl) rfl
theorem q1853 : (Jvm.Cond.methodLink "TinFenModel" (260 : Nat) ({ cls := "TinFenModel", name := "meet", desc := "(III)V" } : Jvm.MethodName)) ∈ lw_all := lw_g (lw_at lw_m8 21 rfl) rfl
theorem q1854 : (Jvm.Cond.privateMethod ({ cls := "TinFenModel", name := "meet", desc := "(III)V" } : Jvm.MethodName)) ∈ lw_tbl := lw_at lw_m8 22 rfl
theorem q1855 : (Jvm.Cond.instanceMethod ({ cls := "TinFenModel", name := "meet", desc := "(III)V" } : Jvm.MethodName)) ∈ lw_all := lw_g (lw_at lw_m8 23 rfl) rfl
theorem q1856 : (Jvm.Cond.code ({ cls := "TinFenModel", name := "meet", desc := "(III)V" } : Jvm.MethodName) prog_14_method_63_code (5 : Nat) (Option.none : Option Jvm.ClassFile.FieldType)) ∈ lw_all := lw_g (lw_at lw_m8 24 rfl) rfl
theorem q1857 : (Jvm.Cond.methodLink "TinFenModel" (280 : Nat) ({ cls := "TinFenModel", name := "readTin", desc := "()V" } : Jvm.MethodName)) ∈ lw_all := lw_g (lw_at lw_m8 25 rfl) rfl
theorem q1858 : (Jvm.Cond.privateMethod ({ cls := "TinFenModel", name := "readTin", desc := "()V" } : Jvm.MethodName)) ∈ lw_tbl := lw_at lw_m8 26 rfl
theorem q1859 : (Jvm.Cond.instanceMethod ({ cls := "TinFenModel", name := "readTin", desc := "()V" } : Jvm.MethodName)) ∈ lw_all := lw_g (lw_at lw_m8 27 rfl) rfl
theorem q1860 : (Jvm.Cond.code ({ cls := "TinFenModel", name := "readTin", desc := "()V" } : Jvm.MethodName) prog_14_method_66_code (5 : Nat) (Option.none : Option Jvm.ClassFile.FieldType)) ∈ lw_all := lw_g (lw_at lw_m8 28 rfl) rfl
theorem q1861 : (Jvm.Cond.methodLink "TinFenModel" (264 : Nat) ({ cls := "TinFenModel", name := "strikes", desc := "(IIIII)V" } : Jvm.MethodName)) ∈ lw_all := lw_g (lw_at lw_m8 29 rfl) rfl
theorem q1862 : (Jvm.Cond.privateMethod ({ cls := "TinFenModel", name := "strikes", desc := "(IIIII)V" } : Jvm.MethodName)) ∈ lw_tbl := lw_at lw_m8 30 rfl
theorem q1863 : (Jvm.Cond.instanceMethod ({ cls := "TinFenModel", name := "strikes", desc := "(IIIII)V" } : Jvm.MethodName)) ∈ lw_all := lw_g (lw_at lw_m8 31 rfl) rfl
theorem q1864 : (Jvm.Cond.code ({ cls := "TinFenModel", name := "strikes", desc := "(IIIII)V" } : Jvm.MethodName) prog_14_method_65_code (7 : Nat) (Option.none : Option Jvm.ClassFile.FieldType)) ∈ lw_all := lw_g (lw_at lw_m8 32 rfl) rfl
theorem q1865 : (Jvm.Cond.methodLink "TinFenModel" (289 : Nat) ({ cls := "TinFenModel", name := "isSign", desc := "(I)Z" } : Jvm.MethodName)) ∈ lw_all := lw_g (lw_at lw_m8 33 rfl) rfl
theorem q1866 : (Jvm.Cond.privateMethod ({ cls := "TinFenModel", name := "isSign", desc := "(I)Z" } : Jvm.MethodName)) ∈ lw_tbl := lw_at lw_m8 34 rfl
theorem q1867 : (Jvm.Cond.instanceMethod ({ cls := "TinFenModel", name := "isSign", desc := "(I)Z" } : Jvm.MethodName)) ∈ lw_all := lw_g (lw_at lw_m8 35 rfl) rfl
theorem q1868 : (Jvm.Cond.code ({ cls := "TinFenModel", name := "isSign", desc := "(I)Z" } : Jvm.MethodName) prog_14_method_26_code (2 : Nat) (Option.some Jvm.ClassFile.FieldType.boolean)) ∈ lw_all := lw_g (lw_at lw_m8 36 rfl) rfl
theorem q1869 : (Jvm.Cond.methodLink "TinFenModel" (292 : Nat) ({ cls := "TinFenModel", name := "isWell", desc := "()Z" } : Jvm.MethodName)) ∈ lw_all := lw_g (lw_at lw_m8 37 rfl) rfl
theorem q1870 : (Jvm.Cond.privateMethod ({ cls := "TinFenModel", name := "isWell", desc := "()Z" } : Jvm.MethodName)) ∈ lw_tbl := lw_at lw_m8 38 rfl
theorem q1871 : (Jvm.Cond.instanceMethod ({ cls := "TinFenModel", name := "isWell", desc := "()Z" } : Jvm.MethodName)) ∈ lw_all := lw_g (lw_at lw_m8 39 rfl) rfl
theorem q1872 : (Jvm.Cond.code ({ cls := "TinFenModel", name := "isWell", desc := "()Z" } : Jvm.MethodName) prog_14_method_52_code (1 : Nat) (Option.some Jvm.ClassFile.FieldType.boolean)) ∈ lw_all := lw_g (lw_at lw_m8 40 rfl) rfl
theorem q1873 : (Jvm.Cond.methodLink "TinFenModel" (295 : Nat) ({ cls := "TinFenModel", name := "copy", desc := "(II)V" } : Jvm.MethodName)) ∈ lw_all := lw_g (lw_at lw_m8 41 rfl) rfl
theorem q1874 : (Jvm.Cond.privateMethod ({ cls := "TinFenModel", name := "copy", desc := "(II)V" } : Jvm.MethodName)) ∈ lw_tbl := lw_at lw_m8 42 rfl
theorem q1875 : (Jvm.Cond.instanceMethod ({ cls := "TinFenModel", name := "copy", desc := "(II)V" } : Jvm.MethodName)) ∈ lw_all := lw_g (lw_at lw_m8 43 rfl) rfl
theorem q1876 : (Jvm.Cond.code ({ cls := "TinFenModel", name := "copy", desc := "(II)V" } : Jvm.MethodName) prog_14_method_152_code (4 : Nat) (Option.none : Option Jvm.ClassFile.FieldType)) ∈ lw_all := lw_g (lw_at lw_m8 44 rfl) rfl
theorem q1878 : (Jvm.Cond.instanceMethod ({ cls := "TinFenModel", name := "years", desc := "(I)I" } : Jvm.MethodName)) ∈ lw_all := lw_g (lw_at lw_m8 46 rfl) rfl
theorem q1879 : (Jvm.Cond.selects "TinFenModel" ({ cls := "TinFenModel", name := "years", desc := "(I)I" } : Jvm.MethodName) ({ cls := "TinFenModel", name := "years", desc := "(I)I" } : Jvm.MethodName)) ∈ lw_all := lw_g (lw_at lw_m8 47 rfl) rfl
theorem q1880 : (Jvm.Cond.code ({ cls := "TinFenModel", name := "years", desc := "(I)I" } : Jvm.MethodName) prog_14_method_72_code (3 : Nat) (Option.some Jvm.ClassFile.FieldType.int)) ∈ lw_all := lw_g (lw_at lw_m8 48 rfl) rfl
theorem q1881 : (Jvm.Cond.methodLink "TinFenModel" (307 : Nat) ({ cls := "TinFenModel", name := "readStep", desc := "(I)V" } : Jvm.MethodName)) ∈ lw_all := lw_g (lw_at lw_m8 49 rfl) rfl
theorem q1882 : (Jvm.Cond.privateMethod ({ cls := "TinFenModel", name := "readStep", desc := "(I)V" } : Jvm.MethodName)) ∈ lw_tbl := lw_at lw_m8 50 rfl
theorem q1883 : (Jvm.Cond.instanceMethod ({ cls := "TinFenModel", name := "readStep", desc := "(I)V" } : Jvm.MethodName)) ∈ lw_all := lw_g (lw_at lw_m8 51 rfl) rfl
theorem q1884 : (Jvm.Cond.code ({ cls := "TinFenModel", name := "readStep", desc := "(I)V" } : Jvm.MethodName) prog_14_method_71_code (5 : Nat) (Option.none : Option Jvm.ClassFile.FieldType)) ∈ lw_all := lw_g (lw_at lw_m8 52 rfl) rfl
theorem q1885 : (Jvm.Cond.methodLink "TinFenModel" (304 : Nat) ({ cls := "TinFenModel", name := "readRest", desc := "(I)V" } : Jvm.MethodName)) ∈ lw_all := lw_g (lw_at lw_m8 53 rfl) rfl
theorem q1886 : (Jvm.Cond.privateMethod ({ cls := "TinFenModel", name := "readRest", desc := "(I)V" } : Jvm.MethodName)) ∈ lw_tbl := lw_at lw_m8 54 rfl
theorem q1887 : (Jvm.Cond.instanceMethod ({ cls := "TinFenModel", name := "readRest", desc := "(I)V" } : Jvm.MethodName)) ∈ lw_all := lw_g (lw_at lw_m8 55 rfl) rfl
theorem q1888 : (Jvm.Cond.code ({ cls := "TinFenModel", name := "readRest", desc := "(I)V" } : Jvm.MethodName) prog_14_method_70_code (3 : Nat) (Option.none : Option Jvm.ClassFile.FieldType)) ∈ lw_all := lw_g (lw_at lw_m8 56 rfl) rfl
theorem q1889 : (Jvm.Cond.methodLink "TinFenModel" (298 : Nat) ({ cls := "TinFenModel", name := "readTest", desc := "(I)V" } : Jvm.MethodName)) ∈ lw_all := lw_g (lw_at lw_m8 57 rfl) rfl
theorem q1890 : (Jvm.Cond.privateMethod ({ cls := "TinFenModel", name := "readTest", desc := "(I)V" } : Jvm.MethodName)) ∈ lw_tbl := lw_at lw_m8 58 rfl
theorem q1891 : (Jvm.Cond.instanceMethod ({ cls := "TinFenModel", name := "readTest", desc := "(I)V" } : Jvm.MethodName)) ∈ lw_all := lw_g (lw_at lw_m8 59 rfl) rfl
theorem q1892 : (Jvm.Cond.code ({ cls := "TinFenModel", name := "readTest", desc := "(I)V" } : Jvm.MethodName) prog_14_method_69_code (3 : Nat) (Option.none : Option Jvm.ClassFile.FieldType)) ∈ lw_all := lw_g (lw_at lw_m8 60 rfl) rfl
theorem q1894 : (Jvm.Cond.instanceMethod ({ cls := "TinFenModel", name := "many", desc := "(I)I" } : Jvm.MethodName)) ∈ lw_all := lw_g (lw_at lw_m8 62 rfl) rfl
theorem q1895 : (Jvm.Cond.selects "TinFenModel" ({ cls := "TinFenModel", name := "many", desc := "(I)I" } : Jvm.MethodName) ({ cls := "TinFenModel", name := "many", desc := "(I)I" } : Jvm.MethodName)) ∈ lw_all := lw_g (lw_at lw_m8 63 rfl) rfl
theorem q1896 : (Jvm.Cond.code ({ cls := "TinFenModel", name := "many", desc := "(I)I" } : Jvm.MethodName) prog_14_method_84_code (2 : Nat) (Option.some Jvm.ClassFile.FieldType.int)) ∈ lw_all := lw_g (lw_at lw_m8 64 rfl) rfl
theorem q1897 : (Jvm.Cond.constantLong "TinFenModel" (325 : Nat) (9 : Int64)) ∈ lw_all := lw_g (lw_at lw_m8 65 rfl) rfl
theorem q1898 : (Jvm.Cond.methodLink "TinFenModel" (327 : Nat) ({ cls := "TinFenModel", name := "refuse", desc := "(I)I" } : Jvm.MethodName)) ∈ lw_all := lw_g (lw_at lw_m8 66 rfl) rfl
theorem q1899 : (Jvm.Cond.privateMethod ({ cls := "TinFenModel", name := "refuse", desc := "(I)I" } : Jvm.MethodName)) ∈ lw_tbl := lw_at lw_m8 67 rfl
theorem q1900 : (Jvm.Cond.instanceMethod ({ cls := "TinFenModel", name := "refuse", desc := "(I)I" } : Jvm.MethodName)) ∈ lw_all := lw_g (lw_at lw_m8 68 rfl) rfl
theorem q1901 : (Jvm.Cond.code ({ cls := "TinFenModel", name := "refuse", desc := "(I)I" } : Jvm.MethodName) prog_14_method_6_code (2 : Nat) (Option.some Jvm.ClassFile.FieldType.int)) ∈ lw_all := lw_g (lw_at lw_m8 69 rfl) rfl
theorem q1902 : (Jvm.Cond.methodLink "TinFenModel" (319 : Nat) ({ cls := "TinFenModel", name := "tinsThat", desc := "(I)I" } : Jvm.MethodName)) ∈ lw_all := lw_g (lw_at lw_m8 70 rfl) rfl
theorem q1903 : (Jvm.Cond.privateMethod ({ cls := "TinFenModel", name := "tinsThat", desc := "(I)I" } : Jvm.MethodName)) ∈ lw_tbl := lw_at lw_m8 71 rfl
theorem q1904 : (Jvm.Cond.instanceMethod ({ cls := "TinFenModel", name := "tinsThat", desc := "(I)I" } : Jvm.MethodName)) ∈ lw_all := lw_g (lw_at lw_m8 72 rfl) rfl
theorem q1905 : (Jvm.Cond.code ({ cls := "TinFenModel", name := "tinsThat", desc := "(I)I" } : Jvm.MethodName) prog_14_method_79_code (4 : Nat) (Option.some Jvm.ClassFile.FieldType.int)) ∈ lw_all := lw_g (lw_at lw_m8 73 rfl) rfl
theorem q1906 : (Jvm.Cond.methodLink "TinFenModel" (310 : Nat) ({ cls := "TinFenModel", name := "isGone", desc := "(I)Z" } : Jvm.MethodName)) ∈ lw_all := lw_g (lw_at lw_m8 74 rfl) rfl
theorem q1907 : (Jvm.Cond.privateMethod ({ cls := "TinFenModel", name := "isGone", desc := "(I)Z" } : Jvm.MethodName)) ∈ lw_tbl := lw_at lw_m8 75 rfl
theorem q1908 : (Jvm.Cond.instanceMethod ({ cls := "TinFenModel", name := "isGone", desc := "(I)Z" } : Jvm.MethodName)) ∈ lw_all := lw_g (lw_at lw_m8 76 rfl) rfl
theorem q1909 : (Jvm.Cond.code ({ cls := "TinFenModel", name := "isGone", desc := "(I)Z" } : Jvm.MethodName) prog_14_method_76_code (2 : Nat) (Option.some Jvm.ClassFile.FieldType.boolean)) ∈ lw_all := lw_g (lw_at lw_m8 77 rfl) rfl
theorem q1910 : (Jvm.Cond.methodLink "TinFenModel" (330 : Nat) ({ cls := "TinFenModel", name := "allThere", desc := "()I" } : Jvm.MethodName)) ∈ lw_all := lw_g (lw_at lw_m8 78 rfl) rfl
theorem q1911 : (Jvm.Cond.privateMethod ({ cls := "TinFenModel", name := "allThere", desc := "()I" } : Jvm.MethodName)) ∈ lw_tbl := lw_at lw_m8 79 rfl
theorem q1912 : (Jvm.Cond.instanceMethod ({ cls := "TinFenModel", name := "allThere", desc := "()I" } : Jvm.MethodName)) ∈ lw_all := lw_g (lw_at lw_m8 80 rfl) rfl
theorem q1913 : (Jvm.Cond.code ({ cls := "TinFenModel", name := "allThere", desc := "()I" } : Jvm.MethodName) prog_14_method_83_code (1 : Nat) (Option.some Jvm.ClassFile.FieldType.int)) ∈ lw_all := lw_g (lw_at lw_m8 81 rfl) rfl
theorem q1914 : (Jvm.Cond.methodLink "TinFenModel" (316 : Nat) ({ cls := "TinFenModel", name := "allTins", desc := "()I" } : Jvm.MethodName)) ∈ lw_all := lw_g (lw_at lw_m8 82 rfl) rfl
theorem q1915 : (Jvm.Cond.privateMethod ({ cls := "TinFenModel", name := "allTins", desc := "()I" } : Jvm.MethodName)) ∈ lw_tbl := lw_at lw_m8 83 rfl
theorem q1916 : (Jvm.Cond.instanceMethod ({ cls := "TinFenModel", name := "allTins", desc := "()I" } : Jvm.MethodName)) ∈ lw_all := lw_g (lw_at lw_m8 84 rfl) rfl
theorem q1917 : (Jvm.Cond.code ({ cls := "TinFenModel", name := "allTins", desc := "()I" } : Jvm.MethodName) prog_14_method_82_code (1 : Nat) (Option.some Jvm.ClassFile.FieldType.int)) ∈ lw_all := lw_g (lw_at lw_m8 85 rfl) rfl
theorem q1918 : (Jvm.Cond.methodLink "TinFenModel" (322 : Nat) ({ cls := "TinFenModel", name := "worthAll", desc := "(I)I" } : Jvm.MethodName)) ∈ lw_all := lw_g (lw_at lw_m8 86 rfl) rfl
theorem q1919 : (Jvm.Cond.privateMethod ({ cls := "TinFenModel", name := "worthAll", desc := "(I)I" } : Jvm.MethodName)) ∈ lw_tbl := lw_at lw_m8 87 rfl
theorem q1920 : (Jvm.Cond.instanceMethod ({ cls := "TinFenModel", name := "worthAll", desc := "(I)I" } : Jvm.MethodName)) ∈ lw_all := lw_g (lw_at lw_m8 88 rfl) rfl
theorem q1921 : (Jvm.Cond.code ({ cls := "TinFenModel", name := "worthAll", desc := "(I)I" } : Jvm.MethodName) prog_14_method_81_code (4 : Nat) (Option.some Jvm.ClassFile.FieldType.int)) ∈ lw_all := lw_g (lw_at lw_m8 89 rfl) rfl
theorem q1922 : (Jvm.Cond.methodLink "TinFenModel" (313 : Nat) ({ cls := "TinFenModel", name := "worthOf", desc := "(I)I" } : Jvm.MethodName)) ∈ lw_all := lw_g (lw_at lw_m8 90 rfl) rfl
theorem q1923 : (Jvm.Cond.privateMethod ({ cls := "TinFenModel", name := "worthOf", desc := "(I)I" } : Jvm.MethodName)) ∈ lw_tbl := lw_at lw_m8 91 rfl
theorem q1924 : (Jvm.Cond.instanceMethod ({ cls := "TinFenModel", name := "worthOf", desc := "(I)I" } : Jvm.MethodName)) ∈ lw_all := lw_g (lw_at lw_m8 92 rfl) rfl
theorem q1925 : (Jvm.Cond.code ({ cls := "TinFenModel", name := "worthOf", desc := "(I)I" } : Jvm.MethodName) prog_14_method_77_code (2 : Nat) (Option.some Jvm.ClassFile.FieldType.int)) ∈ lw_all := lw_g (lw_at lw_m8 93 rfl) rfl
theorem q1927 : (Jvm.Cond.instanceMethod ({ cls := "TinFenModel", name := "worth", desc := "(I)I" } : Jvm.MethodName)) ∈ lw_all := lw_g (lw_at lw_m8 95 rfl) rfl
theorem q1928 : (Jvm.Cond.selects "TinFenModel" ({ cls := "TinFenModel", name := "worth", desc := "(I)I" } : Jvm.MethodName) ({ cls := "TinFenModel", name := "worth", desc := "(I)I" } : Jvm.MethodName)) ∈ lw_all := lw_g (lw_at lw_m8 96 rfl) rfl
theorem q1929 : (Jvm.Cond.code ({ cls := "TinFenModel", name := "worth", desc := "(I)I" } : Jvm.MethodName) prog_14_method_85_code (2 : Nat) (Option.some Jvm.ClassFile.FieldType.int)) ∈ lw_all := lw_g (lw_at lw_m8 97 rfl) rfl
theorem q1930 : (Jvm.Cond.methodLink "TinFenModel" (333 : Nat) ({ cls := "TinFenModel", name := "isTraitAt", desc := "(I)Z" } : Jvm.MethodName)) ∈ lw_all := lw_g (lw_at lw_m8 98 rfl) rfl
theorem q1931 : (Jvm.Cond.privateMethod ({ cls := "TinFenModel", name := "isTraitAt", desc := "(I)Z" } : Jvm.MethodName)) ∈ lw_tbl := lw_at lw_m8 99 rfl
theorem q1932 : (Jvm.Cond.instanceMethod ({ cls := "TinFenModel", name := "isTraitAt", desc := "(I)Z" } : Jvm.MethodName)) ∈ lw_all := lw_g (lw_at lw_m8 100 rfl) rfl
theorem q1933 : (Jvm.Cond.code ({ cls := "TinFenModel", name := "isTraitAt", desc := "(I)Z" } : Jvm.MethodName) prog_14_method_73_code (2 : Nat) (Option.some Jvm.ClassFile.FieldType.boolean)) ∈ lw_all := lw_g (lw_at lw_m8 101 rfl) rfl
theorem q1935 : (Jvm.Cond.instanceMethod ({ cls := "TinFenModel", name := "person", desc := "(II)I" } : Jvm.MethodName)) ∈ lw_all := lw_g (lw_at lw_m8 103 rfl) rfl
theorem q1936 : (Jvm.Cond.selects "TinFenModel" ({ cls := "TinFenModel", name := "person", desc := "(II)I" } : Jvm.MethodName) ({ cls := "TinFenModel", name := "person", desc := "(II)I" } : Jvm.MethodName)) ∈ lw_all := lw_g (lw_at lw_m8 104 rfl) rfl
theorem q1937 : (Jvm.Cond.code ({ cls := "TinFenModel", name := "person", desc := "(II)I" } : Jvm.MethodName) prog_14_method_86_code (3 : Nat) (Option.some Jvm.ClassFile.FieldType.int)) ∈ lw_all := lw_g (lw_at lw_m8 105 rfl) rfl
theorem q1938 : (Jvm.Cond.methodLink "TinFenModel" (336 : Nat) ({ cls := "TinFenModel", name := "isPersonAt", desc := "(J)Z" } : Jvm.MethodName)) ∈ lw_all := lw_g (lw_at lw_m8 106 rfl) rfl
theorem q1939 : (Jvm.Cond.privateMethod ({ cls := "TinFenModel", name := "isPersonAt", desc := "(J)Z" } : Jvm.MethodName)) ∈ lw_tbl := lw_at lw_m8 107 rfl
theorem q1940 : (Jvm.Cond.instanceMethod ({ cls := "TinFenModel", name := "isPersonAt", desc := "(J)Z" } : Jvm.MethodName)) ∈ lw_all := lw_g (lw_at lw_m8 108 rfl) rfl
theorem q1941 : (Jvm.Cond.code ({ cls := "TinFenModel", name := "isPersonAt", desc := "(J)Z" } : Jvm.MethodName) prog_14_method_74_code (3 : Nat) (Option.some Jvm.ClassFile.FieldType.boolean)) ∈ lw_all := lw_g (lw_at lw_m8 109 rfl) rfl
theorem q1942 : (Jvm.Cond.constantLong "TinFenModel" (339 : Nat) (4 : Int64)) ∈ lw_all := lw_g (lw_at lw_m8 110 rfl) rfl
theorem q1943 : (Jvm.Cond.methodLink "TinFenModel" (341 : Nat) ({ cls := "TinFenModel", name := "tinsOn", desc := "(I)I" } : Jvm.MethodName)) ∈ lw_all := lw_g (lw_at lw_m8 111 rfl) rfl
theorem q1944 : (Jvm.Cond.privateMethod ({ cls := "TinFenModel", name := "tinsOn", desc := "(I)I" } : Jvm.MethodName)) ∈ lw_tbl := lw_at lw_m8 112 rfl
theorem q1945 : (Jvm.Cond.instanceMethod ({ cls := "TinFenModel", name := "tinsOn", desc := "(I)I" } : Jvm.MethodName)) ∈ lw_all := lw_g (lw_at lw_m8 113 rfl) rfl
theorem q1946 : (Jvm.Cond.code ({ cls := "TinFenModel", name := "tinsOn", desc := "(I)I" } : Jvm.MethodName) prog_14_method_80_code (4 : Nat) (Option.some Jvm.ClassFile.FieldType.int)) ∈ lw_all := lw_g (lw_at lw_m8 114 rfl) rfl
theorem q1948 : (Jvm.Cond.instanceMethod ({ cls := "TinFenModel", name := "tin", desc := "(II)I" } : Jvm.MethodName)) ∈ lw_all := lw_g (lw_at lw_m8 116 rfl) rfl
theorem q1949 : (Jvm.Cond.selects "TinFenModel" ({ cls := "TinFenModel", name := "tin", desc := "(II)I" } : Jvm.MethodName) ({ cls := "TinFenModel", name := "tin", desc := "(II)I" } : Jvm.MethodName)) ∈ lw_all := lw_g (lw_at lw_m8 117 rfl) rfl
theorem q1950 : (Jvm.Cond.code ({ cls := "TinFenModel", name := "tin", desc := "(II)I" } : Jvm.MethodName) prog_14_method_87_code (3 : Nat) (Option.some Jvm.ClassFile.FieldType.int)) ∈ lw_all := lw_g (lw_at lw_m8 118 rfl) rfl
theorem q1951 : (Jvm.Cond.methodLink "TinFenModel" (344 : Nat) ({ cls := "TinFenModel", name := "isTinAt", desc := "(I)Z" } : Jvm.MethodName)) ∈ lw_all := lw_g (lw_at lw_m8 119 rfl) rfl
theorem q1952 : (Jvm.Cond.privateMethod ({ cls := "TinFenModel", name := "isTinAt", desc := "(I)Z" } : Jvm.MethodName)) ∈ lw_tbl := lw_at lw_m8 120 rfl
theorem q1953 : (Jvm.Cond.instanceMethod ({ cls := "TinFenModel", name := "isTinAt", desc := "(I)Z" } : Jvm.MethodName)) ∈ lw_all := lw_g (lw_at lw_m8 121 rfl) rfl
theorem q1954 : (Jvm.Cond.code ({ cls := "TinFenModel", name := "isTinAt", desc := "(I)Z" } : Jvm.MethodName) prog_14_method_75_code (2 : Nat) (Option.some Jvm.ClassFile.FieldType.boolean)) ∈ lw_all := lw_g (lw_at lw_m8 122 rfl) rfl
theorem q1956 : (Jvm.Cond.instanceMethod ({ cls := "TinFenModel", name := "copyGot", desc := "(I)I" } : Jvm.MethodName)) ∈ lw_all := lw_g (lw_at lw_m8 124 rfl) rfl
theorem q1957 : (Jvm.Cond.selects "TinFenModel" ({ cls := "TinFenModel", name := "copyGot", desc := "(I)I" } : Jvm.MethodName) ({ cls := "TinFenModel", name := "copyGot", desc := "(I)I" } : Jvm.MethodName)) ∈ lw_all := lw_g (lw_at lw_m8 125 rfl) rfl
theorem q1958 : (Jvm.Cond.code ({ cls := "TinFenModel", name := "copyGot", desc := "(I)I" } : Jvm.MethodName) prog_14_method_88_code (3 : Nat) (Option.some Jvm.ClassFile.FieldType.int)) ∈ lw_all := lw_g (lw_at lw_m8 126 rfl) rfl
theorem q1959 : (Jvm.Cond.methodLink "TinFenModel" (347 : Nat) ({ cls := "TinFenModel", name := "isTray", desc := "(I)Z" } : Jvm.MethodName)) ∈ lw_all := lw_g (lw_at lw_m8 127 rfl) rfl
theorem q1960 : (Jvm.Cond.privateMethod ({ cls := "TinFenModel", name := "isTray", desc := "(I)Z" } : Jvm.MethodName)) ∈ lw_tbl := lw_at lw_m8 128 rfl
theorem q1961 : (Jvm.Cond.instanceMethod ({ cls := "TinFenModel", name := "isTray", desc := "(I)Z" } : Jvm.MethodName)) ∈ lw_all := lw_g (lw_at lw_m8 129 rfl) rfl
theorem q1962 : (Jvm.Cond.code ({ cls := "TinFenModel", name := "isTray", desc := "(I)Z" } : Jvm.MethodName) prog_14_method_18_code (2 : Nat) (Option.some Jvm.ClassFile.FieldType.boolean)) ∈ lw_all := lw_g (lw_at lw_m8 130 rfl) rfl
theorem q1963 : (Jvm.Cond.constantLong "TinFenModel" (103 : Nat) (3 : Int64)) ∈ lw_all := lw_g (lw_at lw_m8 131 rfl) rfl
theorem q1964 : (Jvm.Cond.methodLink "TinFenModel" (350 : Nat) ({ cls := "TinFenModel", name := "write", desc := "(IIJ)Z" } : Jvm.MethodName)) ∈ lw_all := lw_g (lw_at lw_m8 132 rfl) rfl
theorem q1966 : (Jvm.Cond.instanceMethod ({ cls := "TinFenModel", name := "pass", desc := "(II)I" } : Jvm.MethodName)) ∈ lw_all := lw_g (lw_at lw_m8 134 rfl) rfl
theorem q1967 : (Jvm.Cond.selects "TinFenModel" ({ cls := "TinFenModel", name := "pass", desc := "(II)I" } : Jvm.MethodName) ({ cls := "TinFenModel", name := "pass", desc := "(II)I" } : Jvm.MethodName)) ∈ lw_all := lw_g (lw_at lw_m8 135 rfl) rfl
theorem q1968 : (Jvm.Cond.code ({ cls := "TinFenModel", name := "pass", desc := "(II)I" } : Jvm.MethodName) prog_14_method_91_code (4 : Nat) (Option.some Jvm.ClassFile.FieldType.int)) ∈ lw_all := lw_g (lw_at lw_m8 136 rfl) rfl
theorem q1969 : (Jvm.Cond.methodLink "TinFenModel" (360 : Nat) ({ cls := "TinFenModel", name := "passes", desc := "(II)Z" } : Jvm.MethodName)) ∈ lw_all := lw_g (lw_at lw_m8 137 rfl) rfl
theorem q1970 : (Jvm.Cond.privateMethod ({ cls := "TinFenModel", name := "passes", desc := "(II)Z" } : Jvm.MethodName)) ∈ lw_tbl := lw_at lw_m8 138 rfl
theorem q1971 : (Jvm.Cond.instanceMethod ({ cls := "TinFenModel", name := "passes", desc := "(II)Z" } : Jvm.MethodName)) ∈ lw_all := lw_g (lw_at lw_m8 139 rfl) rfl
theorem q1972 : (Jvm.Cond.code ({ cls := "TinFenModel", name := "passes", desc := "(II)Z" } : Jvm.MethodName) prog_14_method_90_code (4 : Nat) (Option.some Jvm.ClassFile.FieldType.boolean)) ∈ lw_all := lw_g (lw_at lw_m8 140 rfl) rfl
theorem q1973 : (Jvm.Cond.methodLink "TinFenModel" (357 : Nat) ({ cls := "TinFenModel", name := "nextOf", desc := "(II)I" } : Jvm.MethodName)) ∈ lw_all := lw_g (lw_at lw_m8 141 rfl) rfl
theorem q1974 : (Jvm.Cond.privateMethod ({ cls := "TinFenModel", name := "nextOf", desc := "(II)I" } : Jvm.MethodName)) ∈ lw_tbl := lw_at lw_m8 142 rfl
theorem q1975 : (Jvm.Cond.instanceMethod ({ cls := "TinFenModel", name := "nextOf", desc := "(II)I" } : Jvm.MethodName)) ∈ lw_all := lw_g (lw_at lw_m8 143 rfl) rfl
theorem q1976 : (Jvm.Cond.code ({ cls := "TinFenModel", name := "nextOf", desc := "(II)I" } : Jvm.MethodName) prog_14_method_89_code (5 : Nat) (Option.some Jvm.ClassFile.FieldType.int)) ∈ lw_all := lw_g (lw_at lw_m8 144 rfl) rfl
theorem q1977 : (Jvm.Cond.methodLink "TinFenModel" (354 : Nat) ({ cls := "TinFenModel", name := "isTrue", desc := "(II)Z" } : Jvm.MethodName)) ∈ lw_all := lw_g (lw_at lw_m8 145 rfl) rfl
theorem q1978 : (Jvm.Cond.privateMethod ({ cls := "TinFenModel", name := "isTrue", desc := "(II)Z" } : Jvm.MethodName)) ∈ lw_tbl := lw_at lw_m8 146 rfl
theorem q1979 : (Jvm.Cond.instanceMethod ({ cls := "TinFenModel", name := "isTrue", desc := "(II)Z" } : Jvm.MethodName)) ∈ lw_all := lw_g (lw_at lw_m8 147 rfl) rfl
theorem q1980 : (Jvm.Cond.code ({ cls := "TinFenModel", name := "isTrue", desc := "(II)Z" } : Jvm.MethodName) prog_14_method_78_code (3 : Nat) (Option.some Jvm.ClassFile.FieldType.boolean)) ∈ lw_all := lw_g (lw_at lw_m8 148 rfl) rfl
theorem q1982 : (Jvm.Cond.instanceMethod ({ cls := "TinFenModel", name := "bite", desc := "(I)I" } : Jvm.MethodName)) ∈ lw_all := lw_g (lw_at lw_m8 150 rfl) rfl
theorem q1983 : (Jvm.Cond.selects "TinFenModel" ({ cls := "TinFenModel", name := "bite", desc := "(I)I" } : Jvm.MethodName) ({ cls := "TinFenModel", name := "bite", desc := "(I)I" } : Jvm.MethodName)) ∈ lw_all := lw_g (lw_at lw_m8 151 rfl) rfl
theorem q1984 : (Jvm.Cond.code ({ cls := "TinFenModel", name := "bite", desc := "(I)I" } : Jvm.MethodName) prog_14_method_92_code (2 : Nat) (Option.some Jvm.ClassFile.FieldType.int)) ∈ lw_all := lw_g (lw_at lw_m8 152 rfl) rfl
theorem q1985 : (Jvm.Cond.methodLink "TinFenModel" (363 : Nat) ({ cls := "TinFenModel", name := "finds", desc := "(I)V" } : Jvm.MethodName)) ∈ lw_all := lw_g (lw_at lw_m8 153 rfl) rfl
theorem q1986 : (Jvm.Cond.privateMethod ({ cls := "TinFenModel", name := "finds", desc := "(I)V" } : Jvm.MethodName)) ∈ lw_tbl := lw_at lw_m8 154 rfl
theorem q1987 : (Jvm.Cond.instanceMethod ({ cls := "TinFenModel", name := "finds", desc := "(I)V" } : Jvm.MethodName)) ∈ lw_all := lw_g (lw_at lw_m8 155 rfl) rfl
theorem q1988 : (Jvm.Cond.code ({ cls := "TinFenModel", name := "finds", desc := "(I)V" } : Jvm.MethodName) prog_14_method_93_code (2 : Nat) (Option.none : Option Jvm.ClassFile.FieldType)) ∈ lw_all := lw_g (lw_at lw_m8 156 rfl) rfl
theorem q1990 : (Jvm.Cond.instanceMethod ({ cls := "TinFenModel", name := "recite", desc := "(II)Z" } : Jvm.MethodName)) ∈ lw_all := lw_g (lw_at lw_m8 158 rfl) rfl
theorem q1991 : (Jvm.Cond.selects "TinFenModel" ({ cls := "TinFenModel", name := "recite", desc := "(II)Z" } : Jvm.MethodName) ({ cls := "TinFenModel", name := "recite", desc := "(II)Z" } : Jvm.MethodName)) ∈ lw_all := lw_g (lw_at lw_m8 159 rfl) rfl
theorem q1992 : (Jvm.Cond.code ({ cls := "TinFenModel", name := "recite", desc := "(II)Z" } : Jvm.MethodName) prog_14_method_94_code (3 : Nat) (Option.some Jvm.ClassFile.FieldType.boolean)) ∈ lw_all := lw_g (lw_at lw_m8 160 rfl) rfl
theorem q1994 : (Jvm.Cond.instanceMethod ({ cls := "TinFenModel", name := "drop", desc := "(I)I" } : Jvm.MethodName)) ∈ lw_all := lw_g (lw_at lw_m8 162 rfl) rfl
theorem q1995 : (Jvm.Cond.selects "TinFenModel" ({ cls := "TinFenModel", name := "drop", desc := "(I)I" } : Jvm.MethodName) ({ cls := "TinFenModel", name := "drop", desc := "(I)I" } : Jvm.MethodName)) ∈ lw_all := lw_g (lw_at lw_m8 163 rfl) rfl
theorem q1996 : (Jvm.Cond.code ({ cls := "TinFenModel", name := "drop", desc := "(I)I" } : Jvm.MethodName) prog_14_method_95_code (3 : Nat) (Option.some Jvm.ClassFile.FieldType.int)) ∈ lw_all := lw_g (lw_at lw_m8 164 rfl) rfl
theorem q1998 : (Jvm.Cond.instanceMethod ({ cls := "TinFenModel", name := "strike", desc := "(IIZ)I" } : Jvm.MethodName)) ∈ lw_all := lw_g (lw_at lw_m8 166 rfl) rfl
theorem q1999 : (Jvm.Cond.selects "TinFenModel" ({ cls := "TinFenModel", name := "strike", desc := "(IIZ)I" } : Jvm.MethodName) ({ cls := "TinFenModel", name := "strike", desc := "(IIZ)I" } : Jvm.MethodName)) ∈ lw_all := lw_g (lw_at lw_m8 167 rfl) rfl
theorem q2000 : (Jvm.Cond.code ({ cls := "TinFenModel", name := "strike", desc := "(IIZ)I" } : Jvm.MethodName) prog_14_method_96_code (5 : Nat) (Option.some Jvm.ClassFile.FieldType.int)) ∈ lw_all := lw_g (lw_at lw_m8 168 rfl) rfl
theorem q2002 : (Jvm.Cond.instanceMethod ({ cls := "TinFenModel", name := "teach", desc := "(IIZ)Z" } : Jvm.MethodName)) ∈ lw_all := lw_g (lw_at lw_m8 170 rfl) rfl
theorem q2003 : (Jvm.Cond.selects "TinFenModel" ({ cls := "TinFenModel", name := "teach", desc := "(IIZ)Z" } : Jvm.MethodName) ({ cls := "TinFenModel", name := "teach", desc := "(IIZ)Z" } : Jvm.MethodName)) ∈ lw_all := lw_g (lw_at lw_m8 171 rfl) rfl
theorem q2004 : (Jvm.Cond.code ({ cls := "TinFenModel", name := "teach", desc := "(IIZ)Z" } : Jvm.MethodName) prog_14_method_98_code (4 : Nat) (Option.some Jvm.ClassFile.FieldType.boolean)) ∈ lw_all := lw_g (lw_at lw_m8 172 rfl) rfl
theorem q2005 : (Jvm.Cond.methodLink "TinFenModel" (366 : Nat) ({ cls := "TinFenModel", name := "teaches", desc := "(IIZ)Z" } : Jvm.MethodName)) ∈ lw_all := lw_g (lw_at lw_m8 173 rfl) rfl
theorem q2006 : (Jvm.Cond.privateMethod ({ cls := "TinFenModel", name := "teaches", desc := "(IIZ)Z" } : Jvm.MethodName)) ∈ lw_tbl := lw_at lw_m8 174 rfl
theorem q2007 : (Jvm.Cond.instanceMethod ({ cls := "TinFenModel", name := "teaches", desc := "(IIZ)Z" } : Jvm.MethodName)) ∈ lw_all := lw_g (lw_at lw_m8 175 rfl) rfl
theorem q2008 : (Jvm.Cond.code ({ cls := "TinFenModel", name := "teaches", desc := "(IIZ)Z" } : Jvm.MethodName) prog_14_method_97_code (4 : Nat) (Option.some Jvm.ClassFile.FieldType.boolean)) ∈ lw_all := lw_g (lw_at lw_m8 176 rfl) rfl
theorem q2010 : (Jvm.Cond.instanceMethod ({ cls := "TinFenModel", name := "lane", desc := "(II)I" } : Jvm.MethodName)) ∈ lw_all := lw_g (lw_at lw_m8 178 rfl) rfl
theorem q2011 : (Jvm.Cond.selects "TinFenModel" ({ cls := "TinFenModel", name := "lane", desc := "(II)I" } : Jvm.MethodName) ({ cls := "TinFenModel", name := "lane", desc := "(II)I" } : Jvm.MethodName)) ∈ lw_all := lw_g (lw_at lw_m8 179 rfl) rfl
theorem q2012 : (Jvm.Cond.code ({ cls := "TinFenModel", name := "lane", desc := "(II)I" } : Jvm.MethodName) prog_14_method_99_code (3 : Nat) (Option.some Jvm.ClassFile.FieldType.int)) ∈ lw_all := lw_g (lw_at lw_m8 180 rfl) rfl
theorem q2014 : (Jvm.Cond.instanceMethod ({ cls := "TinFenModel", name := "price", desc := "(II)Z" } : Jvm.MethodName)) ∈ lw_all := lw_g (lw_at lw_m8 182 rfl) rfl
theorem q2015 : (Jvm.Cond.selects "TinFenModel" ({ cls := "TinFenModel", name := "price", desc := "(II)Z" } : Jvm.MethodName) ({ cls := "TinFenModel", name := "price", desc := "(II)Z" } : Jvm.MethodName)) ∈ lw_all := lw_g (lw_at lw_m8 183 rfl) rfl
theorem q2016 : (Jvm.Cond.code ({ cls := "TinFenModel", name := "price", desc := "(II)Z" } : Jvm.MethodName) prog_14_method_100_code (3 : Nat) (Option.some Jvm.ClassFile.FieldType.boolean)) ∈ lw_all := lw_g (lw_at lw_m8 184 rfl) rfl
theorem q2017 : (Jvm.Cond.constantLong "TinFenModel" (370 : Nat) (99 : Int64)) ∈ lw_all := lw_g (lw_at lw_m8 185 rfl) rfl
theorem q2019 : (Jvm.Cond.instanceMethod ({ cls := "TinFenModel", name := "rule", desc := "(I)Z" } : Jvm.MethodName)) ∈ lw_all := lw_g (lw_at lw_m8 187 rfl) rfl
theorem q2020 : (Jvm.Cond.selects "TinFenModel" ({ cls := "TinFenModel", name := "rule", desc := "(I)Z" } : Jvm.MethodName) ({ cls := "TinFenModel", name := "rule", desc := "(I)Z" } : Jvm.MethodName)) ∈ lw_all := lw_g (lw_at lw_m8 188 rfl) rfl
theorem q2021 : (Jvm.Cond.code ({ cls := "TinFenModel", name := "rule", desc := "(I)Z" } : Jvm.MethodName) prog_14_method_101_code (2 : Nat) (Option.some Jvm.ClassFile.FieldType.boolean)) ∈ lw_all := lw_g (lw_at lw_m8 189 rfl) rfl
theorem q2022 : (Jvm.Cond.constantLong "TinFenModel" (372 : Nat) (16 : Int64)) ∈ lw_all := lw_g (lw_at lw_m8 190 rfl) rfl
theorem q2024 : (Jvm.Cond.instanceMethod ({ cls := "TinFenModel", name := "way", desc := "(II)I" } : Jvm.MethodName)) ∈ lw_all := lw_g (lw_at lw_m8 192 rfl) rfl
theorem q2025 : (Jvm.Cond.selects "TinFenModel" ({ cls := "TinFenModel", name := "way", desc := "(II)I" } : Jvm.MethodName) ({ cls := "TinFenModel", name := "way", desc := "(II)I" } : Jvm.MethodName)) ∈ lw_all := lw_g (lw_at lw_m8 193 rfl) rfl
theorem q2026 : (Jvm.Cond.code ({ cls := "TinFenModel", name := "way", desc := "(II)I" } : Jvm.MethodName) prog_14_method_104_code (4 : Nat) (Option.some Jvm.ClassFile.FieldType.int)) ∈ lw_all := lw_g (lw_at lw_m8 194 rfl) rfl
theorem q2027 : (Jvm.Cond.methodLink "TinFenModel" (374 : Nat) ({ cls := "TinFenModel", name := "whyNoWay", desc := "(II)I" } : Jvm.MethodName)) ∈ lw_all := lw_g (lw_at lw_m8 195 rfl) rfl
theorem q2028 : (Jvm.Cond.privateMethod ({ cls := "TinFenModel", name := "whyNoWay", desc := "(II)I" } : Jvm.MethodName)) ∈ lw_tbl := lw_at lw_m8 196 rfl
theorem q2029 : (Jvm.Cond.instanceMethod ({ cls := "TinFenModel", name := "whyNoWay", desc := "(II)I" } : Jvm.MethodName)) ∈ lw_all := lw_g (lw_at lw_m8 197 rfl) rfl
theorem q2030 : (Jvm.Cond.code ({ cls := "TinFenModel", name := "whyNoWay", desc := "(II)I" } : Jvm.MethodName) prog_14_method_103_code (3 : Nat) (Option.some Jvm.ClassFile.FieldType.int)) ∈ lw_all := lw_g (lw_at lw_m8 198 rfl) rfl
theorem q2031 : (Jvm.Cond.methodLink "TinFenModel" (377 : Nat) ({ cls := "TinFenModel", name := "laysFar", desc := "(II)V" } : Jvm.MethodName)) ∈ lw_all := lw_g (lw_at lw_m8 199 rfl) rfl
theorem q2032 : (Jvm.Cond.privateMethod ({ cls := "TinFenModel", name := "laysFar", desc := "(II)V" } : Jvm.MethodName)) ∈ lw_tbl := lw_at lw_m8 200 rfl
theorem q2033 : (Jvm.Cond.instanceMethod ({ cls := "TinFenModel", name := "laysFar", desc := "(II)V" } : Jvm.MethodName)) ∈ lw_all := lw_g (lw_at lw_m8 201 rfl) rfl
theorem q2034 : (Jvm.Cond.code ({ cls := "TinFenModel", name := "laysFar", desc := "(II)V" } : Jvm.MethodName) prog_14_method_102_code (7 : Nat) (Option.none : Option Jvm.ClassFile.FieldType)) ∈ lw_all := lw_g (lw_at lw_m8 202 rfl) rfl
theorem q2036 : (Jvm.Cond.instanceMethod ({ cls := "TinFenModel", name := "wayAt", desc := "(III)I" } : Jvm.MethodName)) ∈ lw_all := lw_g (lw_at lw_m8 204 rfl) rfl
theorem q2037 : (Jvm.Cond.selects "TinFenModel" ({ cls := "TinFenModel", name := "wayAt", desc := "(III)I" } : Jvm.MethodName) ({ cls := "TinFenModel", name := "wayAt", desc := "(III)I" } : Jvm.MethodName)) ∈ lw_all := lw_g (lw_at lw_m8 205 rfl) rfl
theorem q2038 : (Jvm.Cond.code ({ cls := "TinFenModel", name := "wayAt", desc := "(III)I" } : Jvm.MethodName) prog_14_method_105_code (8 : Nat) (Option.some Jvm.ClassFile.FieldType.int)) ∈ lw_all := lw_g (lw_at lw_m8 206 rfl) rfl
theorem q2040 : (Jvm.Cond.instanceMethod ({ cls := "TinFenModel", name := "reach", desc := "(I)I" } : Jvm.MethodName)) ∈ lw_all := lw_g (lw_at lw_m8 208 rfl) rfl
theorem q2041 : (Jvm.Cond.selects "TinFenModel" ({ cls := "TinFenModel", name := "reach", desc := "(I)I" } : Jvm.MethodName) ({ cls := "TinFenModel", name := "reach", desc := "(I)I" } : Jvm.MethodName)) ∈ lw_all := lw_g (lw_at lw_m8 209 rfl) rfl
theorem q2042 : (Jvm.Cond.code ({ cls := "TinFenModel", name := "reach", desc := "(I)I" } : Jvm.MethodName) prog_14_method_107_code (5 : Nat) (Option.some Jvm.ClassFile.FieldType.int)) ∈ lw_all := lw_g (lw_at lw_m8 210 rfl) rfl
theorem q2043 : (Jvm.Cond.methodLink "TinFenModel" (380 : Nat) ({ cls := "TinFenModel", name := "whyNoTin", desc := "(I)I" } : Jvm.MethodName)) ∈ lw_all := lw_g (lw_at lw_m8 211 rfl) rfl
theorem q2044 : (Jvm.Cond.privateMethod ({ cls := "TinFenModel", name := "whyNoTin", desc := "(I)I" } : Jvm.MethodName)) ∈ lw_tbl := lw_at lw_m8 212 rfl
theorem q2045 : (Jvm.Cond.instanceMethod ({ cls := "TinFenModel", name := "whyNoTin", desc := "(I)I" } : Jvm.MethodName)) ∈ lw_all := lw_g (lw_at lw_m8 213 rfl) rfl
theorem q2046 : (Jvm.Cond.code ({ cls := "TinFenModel", name := "whyNoTin", desc := "(I)I" } : Jvm.MethodName) prog_14_method_106_code (2 : Nat) (Option.some Jvm.ClassFile.FieldType.int)) ∈ lw_all := lw_g (lw_at lw_m8 214 rfl) rfl
theorem q2048 : (Jvm.Cond.instanceMethod ({ cls := "TinFenModel", name := "next", desc := "(I)I" } : Jvm.MethodName)) ∈ lw_all := lw_g (lw_at lw_m8 216 rfl) rfl
theorem q2049 : (Jvm.Cond.selects "TinFenModel" ({ cls := "TinFenModel", name := "next", desc := "(I)I" } : Jvm.MethodName) ({ cls := "TinFenModel", name := "next", desc := "(I)I" } : Jvm.MethodName)) ∈ lw_all := lw_g (lw_at lw_m8 217 rfl) rfl
theorem q2050 : (Jvm.Cond.code ({ cls := "TinFenModel", name := "next", desc := "(I)I" } : Jvm.MethodName) prog_14_method_108_code (2 : Nat) (Option.some Jvm.ClassFile.FieldType.int)) ∈ lw_all := lw_g (lw_at lw_m8 218 rfl) rfl
theorem q2052 : (Jvm.Cond.instanceMethod ({ cls := "TinFenModel", name := "round", desc := "(I)I" } : Jvm.MethodName)) ∈ lw_all := lw_g (lw_at lw_m8 220 rfl) rfl
theorem q2053 : (Jvm.Cond.selects "TinFenModel" ({ cls := "TinFenModel", name := "round", desc := "(I)I" } : Jvm.MethodName) ({ cls := "TinFenModel", name := "round", desc := "(I)I" } : Jvm.MethodName)) ∈ lw_all := lw_g (lw_at lw_m8 221 rfl) rfl
theorem q2054 : (Jvm.Cond.code ({ cls := "TinFenModel", name := "round", desc := "(I)I" } : Jvm.MethodName) prog_14_method_111_code (2 : Nat) (Option.some Jvm.ClassFile.FieldType.int)) ∈ lw_all := lw_g (lw_at lw_m8 222 rfl) rfl
theorem q2055 : (Jvm.Cond.methodLink "TinFenModel" (389 : Nat) ({ cls := "TinFenModel", name := "laysRound", desc := "(I)V" } : Jvm.MethodName)) ∈ lw_all := lw_g (lw_at lw_m8 223 rfl) rfl
theorem q2056 : (Jvm.Cond.privateMethod ({ cls := "TinFenModel", name := "laysRound", desc := "(I)V" } : Jvm.MethodName)) ∈ lw_tbl := lw_at lw_m8 224 rfl
theorem q2057 : (Jvm.Cond.instanceMethod ({ cls := "TinFenModel", name := "laysRound", desc := "(I)V" } : Jvm.MethodName)) ∈ lw_all := lw_g (lw_at lw_m8 225 rfl) rfl
theorem q2058 : (Jvm.Cond.code ({ cls := "TinFenModel", name := "laysRound", desc := "(I)V" } : Jvm.MethodName) prog_14_method_110_code (2 : Nat) (Option.none : Option Jvm.ClassFile.FieldType)) ∈ lw_all := lw_g (lw_at lw_m8 226 rfl) rfl
theorem q2059 : (Jvm.Cond.methodLink "TinFenModel" (386 : Nat) ({ cls := "TinFenModel", name := "goesRound", desc := "(III)V" } : Jvm.MethodName)) ∈ lw_all := lw_g (lw_at lw_m8 227 rfl) rfl
theorem q2060 : (Jvm.Cond.privateMethod ({ cls := "TinFenModel", name := "goesRound", desc := "(III)V" } : Jvm.MethodName)) ∈ lw_tbl := lw_at lw_m8 228 rfl
theorem q2061 : (Jvm.Cond.instanceMethod ({ cls := "TinFenModel", name := "goesRound", desc := "(III)V" } : Jvm.MethodName)) ∈ lw_all := lw_g (lw_at lw_m8 229 rfl) rfl
theorem q2062 : (Jvm.Cond.code ({ cls := "TinFenModel", name := "goesRound", desc := "(III)V" } : Jvm.MethodName) prog_14_method_109_code (6 : Nat) (Option.none : Option Jvm.ClassFile.FieldType)) ∈ lw_all := lw_g (lw_at lw_m8 230 rfl) rfl
theorem q2064 : (Jvm.Cond.instanceMethod ({ cls := "TinFenModel", name := "roundAt", desc := "(II)I" } : Jvm.MethodName)) ∈ lw_all := lw_g (lw_at lw_m8 232 rfl) rfl
theorem q2065 : (Jvm.Cond.selects "TinFenModel" ({ cls := "TinFenModel", name := "roundAt", desc := "(II)I" } : Jvm.MethodName) ({ cls := "TinFenModel", name := "roundAt", desc := "(II)I" } : Jvm.MethodName)) ∈ lw_all := lw_g (lw_at lw_m8 233 rfl) rfl
theorem q2066 : (Jvm.Cond.code ({ cls := "TinFenModel", name := "roundAt", desc := "(II)I" } : Jvm.MethodName) prog_14_method_112_code (3 : Nat) (Option.some Jvm.ClassFile.FieldType.int)) ∈ lw_all := lw_g (lw_at lw_m8 234 rfl) rfl
theorem q2068 : (Jvm.Cond.instanceMethod ({ cls := "TinFenModel", name := "most", desc := "(I)I" } : Jvm.MethodName)) ∈ lw_all := lw_g (lw_at lw_m8 236 rfl) rfl
theorem q2069 : (Jvm.Cond.selects "TinFenModel" ({ cls := "TinFenModel", name := "most", desc := "(I)I" } : Jvm.MethodName) ({ cls := "TinFenModel", name := "most", desc := "(I)I" } : Jvm.MethodName)) ∈ lw_all := lw_g (lw_at lw_m8 237 rfl) rfl
theorem q2070 : (Jvm.Cond.code ({ cls := "TinFenModel", name := "most", desc := "(I)I" } : Jvm.MethodName) prog_14_method_116_code (2 : Nat) (Option.some Jvm.ClassFile.FieldType.int)) ∈ lw_all := lw_g (lw_at lw_m8 238 rfl) rfl
theorem q2071 : (Jvm.Cond.methodLink "TinFenModel" (399 : Nat) ({ cls := "TinFenModel", name := "whyNoTins", desc := "(I)I" } : Jvm.MethodName)) ∈ lw_all := lw_g (lw_at lw_m8 239 rfl) rfl
theorem q2072 : (Jvm.Cond.privateMethod ({ cls := "TinFenModel", name := "whyNoTins", desc := "(I)I" } : Jvm.MethodName)) ∈ lw_tbl := lw_at lw_m9 0 rfl
theorem q2073 : (Jvm.Cond.instanceMethod ({ cls := "TinFenModel", name := "whyNoTins", desc := "(I)I" } : Jvm.MethodName)) ∈ lw_all := lw_g (lw_at lw_m9 1 rfl) rfl
theorem q2074 : (Jvm.Cond.code ({ cls := "TinFenModel", name := "whyNoTins", desc := "(I)I" } : Jvm.MethodName) prog_14_method_115_code (2 : Nat) (Option.some Jvm.ClassFile.FieldType.int)) ∈ lw_all := lw_g (lw_at lw_m9 2 rfl) rfl
theorem q2075 : (Jvm.Cond.methodLink "TinFenModel" (402 : Nat) ({ cls := "TinFenModel", name := "laysGivings", desc := "(IIIZ)I" } : Jvm.MethodName)) ∈ lw_all := lw_g (lw_at lw_m9 3 rfl) rfl
theorem q2076 : (Jvm.Cond.privateMethod ({ cls := "TinFenModel", name := "laysGivings", desc := "(IIIZ)I" } : Jvm.MethodName)) ∈ lw_tbl := lw_at lw_m9 4 rfl
theorem q2077 : (Jvm.Cond.instanceMethod ({ cls := "TinFenModel", name := "laysGivings", desc := "(IIIZ)I" } : Jvm.MethodName)) ∈ lw_all := lw_g (lw_at lw_m9 5 rfl) rfl
theorem q2078 : (Jvm.Cond.code ({ cls := "TinFenModel", name := "laysGivings", desc := "(IIIZ)I" } : Jvm.MethodName) prog_14_method_113_code (7 : Nat) (Option.some Jvm.ClassFile.FieldType.int)) ∈ lw_all := lw_g (lw_at lw_m9 6 rfl) rfl
theorem q2079 : (Jvm.Cond.methodLink "TinFenModel" (392 : Nat) ({ cls := "TinFenModel", name := "laysTin", desc := "(IZ)V" } : Jvm.MethodName)) ∈ lw_all := lw_g (lw_at lw_m9 7 rfl) rfl
theorem q2080 : (Jvm.Cond.privateMethod ({ cls := "TinFenModel", name := "laysTin", desc := "(IZ)V" } : Jvm.MethodName)) ∈ lw_tbl := lw_at lw_m9 8 rfl
theorem q2081 : (Jvm.Cond.instanceMethod ({ cls := "TinFenModel", name := "laysTin", desc := "(IZ)V" } : Jvm.MethodName)) ∈ lw_all := lw_g (lw_at lw_m9 9 rfl) rfl
theorem q2082 : (Jvm.Cond.code ({ cls := "TinFenModel", name := "laysTin", desc := "(IZ)V" } : Jvm.MethodName) prog_14_method_114_code (6 : Nat) (Option.none : Option Jvm.ClassFile.FieldType)) ∈ lw_all := lw_g (lw_at lw_m9 10 rfl) rfl
theorem q2083 : (Jvm.Cond.methodLink "TinFenModel" (396 : Nat) ({ cls := "TinFenModel", name := "sizeOf", desc := "(I)I" } : Jvm.MethodName)) ∈ lw_all := lw_g (lw_at lw_m9 11 rfl) rfl
theorem q2084 : (Jvm.Cond.static ({ cls := "TinFenModel", name := "sizeOf", desc := "(I)I" } : Jvm.MethodName)) ∈ lw_all := lw_g (lw_at lw_m9 12 rfl) rfl
theorem q2085 : (Jvm.Cond.code ({ cls := "TinFenModel", name := "sizeOf", desc := "(I)I" } : Jvm.MethodName) prog_14_method_20_code (3 : Nat) (Option.some Jvm.ClassFile.FieldType.int)) ∈ lw_all := lw_g (lw_at lw_m9 13 rfl) rfl
theorem q2087 : (Jvm.Cond.instanceMethod ({ cls := "TinFenModel", name := "givings", desc := "(I)I" } : Jvm.MethodName)) ∈ lw_all := lw_g (lw_at lw_m9 15 rfl) rfl
theorem q2088 : (Jvm.Cond.selects "TinFenModel" ({ cls := "TinFenModel", name := "givings", desc := "(I)I" } : Jvm.MethodName) ({ cls := "TinFenModel", name := "givings", desc := "(I)I" } : Jvm.MethodName)) ∈ lw_all := lw_g (lw_at lw_m9 16 rfl) rfl
theorem q2089 : (Jvm.Cond.code ({ cls := "TinFenModel", name := "givings", desc := "(I)I" } : Jvm.MethodName) prog_14_method_117_code (2 : Nat) (Option.some Jvm.ClassFile.FieldType.int)) ∈ lw_all := lw_g (lw_at lw_m9 17 rfl) rfl
theorem q2091 : (Jvm.Cond.instanceMethod ({ cls := "TinFenModel", name := "given", desc := "(II)I" } : Jvm.MethodName)) ∈ lw_all := lw_g (lw_at lw_m9 19 rfl) rfl
theorem q2092 : (Jvm.Cond.selects "TinFenModel" ({ cls := "TinFenModel", name := "given", desc := "(II)I" } : Jvm.MethodName) ({ cls := "TinFenModel", name := "given", desc := "(II)I" } : Jvm.MethodName)) ∈ lw_all := lw_g (lw_at lw_m9 20 rfl) rfl
theorem q2093 : (Jvm.Cond.code ({ cls := "TinFenModel", name := "given", desc := "(II)I" } : Jvm.MethodName) prog_14_method_118_code (6 : Nat) (Option.some Jvm.ClassFile.FieldType.int)) ∈ lw_all := lw_g (lw_at lw_m9 21 rfl) rfl
theorem q2095 : (Jvm.Cond.instanceMethod ({ cls := "TinFenModel", name := "cover", desc := "()I" } : Jvm.MethodName)) ∈ lw_all := lw_g (lw_at lw_m9 23 rfl) rfl
theorem q2096 : (Jvm.Cond.selects "TinFenModel" ({ cls := "TinFenModel", name := "cover", desc := "()I" } : Jvm.MethodName) ({ cls := "TinFenModel", name := "cover", desc := "()I" } : Jvm.MethodName)) ∈ lw_all := lw_g (lw_at lw_m9 24 rfl) rfl
theorem q2097 : (Jvm.Cond.code ({ cls := "TinFenModel", name := "cover", desc := "()I" } : Jvm.MethodName) prog_14_method_120_code (2 : Nat) (Option.some Jvm.ClassFile.FieldType.int)) ∈ lw_all := lw_g (lw_at lw_m9 25 rfl) rfl
theorem q2098 : (Jvm.Cond.methodLink "TinFenModel" (406 : Nat) ({ cls := "TinFenModel", name := "covering", desc := "()I" } : Jvm.MethodName)) ∈ lw_all := lw_g (lw_at lw_m9 26 rfl) rfl
theorem q2099 : (Jvm.Cond.privateMethod ({ cls := "TinFenModel", name := "covering", desc := "()I" } : Jvm.MethodName)) ∈ lw_tbl := lw_at lw_m9 27 rfl
theorem q2100 : (Jvm.Cond.instanceMethod ({ cls := "TinFenModel", name := "covering", desc := "()I" } : Jvm.MethodName)) ∈ lw_all := lw_g (lw_at lw_m9 28 rfl) rfl
theorem q2101 : (Jvm.Cond.code ({ cls := "TinFenModel", name := "covering", desc := "()I" } : Jvm.MethodName) prog_14_method_119_code (5 : Nat) (Option.some Jvm.ClassFile.FieldType.int)) ∈ lw_all := lw_g (lw_at lw_m9 29 rfl) rfl
theorem q2103 : (Jvm.Cond.instanceMethod ({ cls := "TinFenModel", name := "coverSet", desc := "()I" } : Jvm.MethodName)) ∈ lw_all := lw_g (lw_at lw_m9 31 rfl) rfl
theorem q2104 : (Jvm.Cond.selects "TinFenModel" ({ cls := "TinFenModel", name := "coverSet", desc := "()I" } : Jvm.MethodName) ({ cls := "TinFenModel", name := "coverSet", desc := "()I" } : Jvm.MethodName)) ∈ lw_all := lw_g (lw_at lw_m9 32 rfl) rfl
theorem q2105 : (Jvm.Cond.code ({ cls := "TinFenModel", name := "coverSet", desc := "()I" } : Jvm.MethodName) prog_14_method_121_code (2 : Nat) (Option.some Jvm.ClassFile.FieldType.int)) ∈ lw_all := lw_g (lw_at lw_m9 33 rfl) rfl
theorem q2107 : (Jvm.Cond.instanceMethod ({ cls := "TinFenModel", name := "blamed", desc := "()I" } : Jvm.MethodName)) ∈ lw_all := lw_g (lw_at lw_m9 35 rfl) rfl
theorem q2108 : (Jvm.Cond.selects "TinFenModel" ({ cls := "TinFenModel", name := "blamed", desc := "()I" } : Jvm.MethodName) ({ cls := "TinFenModel", name := "blamed", desc := "()I" } : Jvm.MethodName)) ∈ lw_all := lw_g (lw_at lw_m9 36 rfl) rfl
theorem q2109 : (Jvm.Cond.code ({ cls := "TinFenModel", name := "blamed", desc := "()I" } : Jvm.MethodName) prog_14_method_123_code (1 : Nat) (Option.some Jvm.ClassFile.FieldType.int)) ∈ lw_all := lw_g (lw_at lw_m9 37 rfl) rfl
theorem q2110 : (Jvm.Cond.methodLink "TinFenModel" (409 : Nat) ({ cls := "TinFenModel", name := "blaming", desc := "()I" } : Jvm.MethodName)) ∈ lw_all := lw_g (lw_at lw_m9 38 rfl) rfl
theorem q2111 : (Jvm.Cond.privateMethod ({ cls := "TinFenModel", name := "blaming", desc := "()I" } : Jvm.MethodName)) ∈ lw_tbl := lw_at lw_m9 39 rfl
theorem q2112 : (Jvm.Cond.instanceMethod ({ cls := "TinFenModel", name := "blaming", desc := "()I" } : Jvm.MethodName)) ∈ lw_all := lw_g (lw_at lw_m9 40 rfl) rfl
theorem q2113 : (Jvm.Cond.code ({ cls := "TinFenModel", name := "blaming", desc := "()I" } : Jvm.MethodName) prog_14_method_122_code (5 : Nat) (Option.some Jvm.ClassFile.FieldType.int)) ∈ lw_all := lw_g (lw_at lw_m9 41 rfl) rfl
theorem q2115 : (Jvm.Cond.instanceMethod ({ cls := "TinFenModel", name := "blamedSet", desc := "()I" } : Jvm.MethodName)) ∈ lw_all := lw_g (lw_at lw_m9 43 rfl) rfl
theorem q2116 : (Jvm.Cond.selects "TinFenModel" ({ cls := "TinFenModel", name := "blamedSet", desc := "()I" } : Jvm.MethodName) ({ cls := "TinFenModel", name := "blamedSet", desc := "()I" } : Jvm.MethodName)) ∈ lw_all := lw_g (lw_at lw_m9 44 rfl) rfl
theorem q2117 : (Jvm.Cond.code ({ cls := "TinFenModel", name := "blamedSet", desc := "()I" } : Jvm.MethodName) prog_14_method_124_code (1 : Nat) (Option.some Jvm.ClassFile.FieldType.int)) ∈ lw_all := lw_g (lw_at lw_m9 45 rfl) rfl
theorem q2119 : (Jvm.Cond.instanceMethod ({ cls := "TinFenModel", name := "wheels", desc := "(I)I" } : Jvm.MethodName)) ∈ lw_all := lw_g (lw_at lw_m9 47 rfl) rfl
theorem q2120 : (Jvm.Cond.selects "TinFenModel" ({ cls := "TinFenModel", name := "wheels", desc := "(I)I" } : Jvm.MethodName) ({ cls := "TinFenModel", name := "wheels", desc := "(I)I" } : Jvm.MethodName)) ∈ lw_all := lw_g (lw_at lw_m9 48 rfl) rfl
theorem q2121 : (Jvm.Cond.code ({ cls := "TinFenModel", name := "wheels", desc := "(I)I" } : Jvm.MethodName) prog_14_method_127_code (4 : Nat) (Option.some Jvm.ClassFile.FieldType.int)) ∈ lw_all := lw_g (lw_at lw_m9 49 rfl) rfl
theorem q2122 : (Jvm.Cond.constantLong "TinFenModel" (419 : Nat) (2 : Int64)) ∈ lw_all := lw_g (lw_at lw_m9 50 rfl) rfl
theorem q2123 : (Jvm.Cond.constantLong "TinFenModel" (421 : Nat) (7 : Int64)) ∈ lw_all := lw_g (lw_at lw_m9 51 rfl) rfl
theorem q2124 : (Jvm.Cond.methodLink "TinFenModel" (415 : Nat) ({ cls := "TinFenModel", name := "rolls", desc := "(IIII)I" } : Jvm.MethodName)) ∈ lw_all := lw_g (lw_at lw_m9 52 rfl) rfl
theorem q2125 : (Jvm.Cond.privateMethod ({ cls := "TinFenModel", name := "rolls", desc := "(IIII)I" } : Jvm.MethodName)) ∈ lw_tbl := lw_at lw_m9 53 rfl
theorem q2126 : (Jvm.Cond.instanceMethod ({ cls := "TinFenModel", name := "rolls", desc := "(IIII)I" } : Jvm.MethodName)) ∈ lw_all := lw_g (lw_at lw_m9 54 rfl) rfl
theorem q2127 : (Jvm.Cond.code ({ cls := "TinFenModel", name := "rolls", desc := "(IIII)I" } : Jvm.MethodName) prog_14_method_126_code (7 : Nat) (Option.some Jvm.ClassFile.FieldType.int)) ∈ lw_all := lw_g (lw_at lw_m9 55 rfl) rfl
theorem q2128 : (Jvm.Cond.methodLink "TinFenModel" (412 : Nat) ({ cls := "TinFenModel", name := "canGive", desc := "(II)Z" } : Jvm.MethodName)) ∈ lw_all := lw_g (lw_at lw_m9 56 rfl) rfl
theorem q2129 : (Jvm.Cond.privateMethod ({ cls := "TinFenModel", name := "canGive", desc := "(II)Z" } : Jvm.MethodName)) ∈ lw_tbl := lw_at lw_m9 57 rfl
theorem q2130 : (Jvm.Cond.instanceMethod ({ cls := "TinFenModel", name := "canGive", desc := "(II)Z" } : Jvm.MethodName)) ∈ lw_all := lw_g (lw_at lw_m9 58 rfl) rfl
theorem q2131 : (Jvm.Cond.code ({ cls := "TinFenModel", name := "canGive", desc := "(II)Z" } : Jvm.MethodName) prog_14_method_125_code (4 : Nat) (Option.some Jvm.ClassFile.FieldType.boolean)) ∈ lw_all := lw_g (lw_at lw_m9 59 rfl) rfl
theorem q2133 : (Jvm.Cond.instanceMethod ({ cls := "TinFenModel", name := "whose", desc := "(II)I" } : Jvm.MethodName)) ∈ lw_all := lw_g (lw_at lw_m9 61 rfl) rfl
theorem q2134 : (Jvm.Cond.selects "TinFenModel" ({ cls := "TinFenModel", name := "whose", desc := "(II)I" } : Jvm.MethodName) ({ cls := "TinFenModel", name := "whose", desc := "(II)I" } : Jvm.MethodName)) ∈ lw_all := lw_g (lw_at lw_m9 62 rfl) rfl
theorem q2135 : (Jvm.Cond.code ({ cls := "TinFenModel", name := "whose", desc := "(II)I" } : Jvm.MethodName) prog_14_method_130_code (3 : Nat) (Option.some Jvm.ClassFile.FieldType.int)) ∈ lw_all := lw_g (lw_at lw_m9 63 rfl) rfl
theorem q2136 : (Jvm.Cond.methodLink "TinFenModel" (438 : Nat) ({ cls := "TinFenModel", name := "whyNoWhose", desc := "(II)I" } : Jvm.MethodName)) ∈ lw_all := lw_g (lw_at lw_m9 64 rfl) rfl
theorem q2137 : (Jvm.Cond.privateMethod ({ cls := "TinFenModel", name := "whyNoWhose", desc := "(II)I" } : Jvm.MethodName)) ∈ lw_tbl := lw_at lw_m9 65 rfl
theorem q2138 : (Jvm.Cond.instanceMethod ({ cls := "TinFenModel", name := "whyNoWhose", desc := "(II)I" } : Jvm.MethodName)) ∈ lw_all := lw_g (lw_at lw_m9 66 rfl) rfl
theorem q2139 : (Jvm.Cond.code ({ cls := "TinFenModel", name := "whyNoWhose", desc := "(II)I" } : Jvm.MethodName) prog_14_method_128_code (4 : Nat) (Option.some Jvm.ClassFile.FieldType.int)) ∈ lw_all := lw_g (lw_at lw_m9 67 rfl) rfl
theorem q2140 : (Jvm.Cond.methodLink "TinFenModel" (426 : Nat) ({ cls := "TinFenModel", name := "numberOf", desc := "(II)J" } : Jvm.MethodName)) ∈ lw_all := lw_g (lw_at lw_m9 68 rfl) rfl
theorem q2141 : (Jvm.Cond.privateMethod ({ cls := "TinFenModel", name := "numberOf", desc := "(II)J" } : Jvm.MethodName)) ∈ lw_tbl := lw_at lw_m9 69 rfl
theorem q2142 : (Jvm.Cond.instanceMethod ({ cls := "TinFenModel", name := "numberOf", desc := "(II)J" } : Jvm.MethodName)) ∈ lw_all := lw_g (lw_at lw_m9 70 rfl) rfl
theorem q2143 : (Jvm.Cond.code ({ cls := "TinFenModel", name := "numberOf", desc := "(II)J" } : Jvm.MethodName) prog_14_method_17_code (3 : Nat) (Option.some Jvm.ClassFile.FieldType.long)) ∈ lw_all := lw_g (lw_at lw_m9 71 rfl) rfl
theorem q2144 : (Jvm.Cond.constantLong "TinFenModel" (430 : Nat) (6 : Int64)) ∈ lw_all := lw_g (lw_at lw_m9 72 rfl) rfl
theorem q2145 : (Jvm.Cond.methodLink "TinFenModel" (441 : Nat) ({ cls := "TinFenModel", name := "laysWhose", desc := "(II)V" } : Jvm.MethodName)) ∈ lw_all := lw_g (lw_at lw_m9 73 rfl) rfl
theorem q2146 : (Jvm.Cond.privateMethod ({ cls := "TinFenModel", name := "laysWhose", desc := "(II)V" } : Jvm.MethodName)) ∈ lw_tbl := lw_at lw_m9 74 rfl
theorem q2147 : (Jvm.Cond.instanceMethod ({ cls := "TinFenModel", name := "laysWhose", desc := "(II)V" } : Jvm.MethodName)) ∈ lw_all := lw_g (lw_at lw_m9 75 rfl) rfl
theorem q2148 : (Jvm.Cond.code ({ cls := "TinFenModel", name := "laysWhose", desc := "(II)V" } : Jvm.MethodName) prog_14_method_129_code (5 : Nat) (Option.none : Option Jvm.ClassFile.FieldType)) ∈ lw_all := lw_g (lw_at lw_m9 76 rfl) rfl
theorem q2150 : (Jvm.Cond.instanceMethod ({ cls := "TinFenModel", name := "sure", desc := "(II)I" } : Jvm.MethodName)) ∈ lw_all := lw_g (lw_at lw_m9 78 rfl) rfl
theorem q2151 : (Jvm.Cond.selects "TinFenModel" ({ cls := "TinFenModel", name := "sure", desc := "(II)I" } : Jvm.MethodName) ({ cls := "TinFenModel", name := "sure", desc := "(II)I" } : Jvm.MethodName)) ∈ lw_all := lw_g (lw_at lw_m9 79 rfl) rfl
theorem q2152 : (Jvm.Cond.code ({ cls := "TinFenModel", name := "sure", desc := "(II)I" } : Jvm.MethodName) prog_14_method_131_code (3 : Nat) (Option.some Jvm.ClassFile.FieldType.int)) ∈ lw_all := lw_g (lw_at lw_m9 80 rfl) rfl
theorem q2154 : (Jvm.Cond.instanceMethod ({ cls := "TinFenModel", name := "ask", desc := "(II)I" } : Jvm.MethodName)) ∈ lw_all := lw_g (lw_at lw_m9 82 rfl) rfl
theorem q2155 : (Jvm.Cond.selects "TinFenModel" ({ cls := "TinFenModel", name := "ask", desc := "(II)I" } : Jvm.MethodName) ({ cls := "TinFenModel", name := "ask", desc := "(II)I" } : Jvm.MethodName)) ∈ lw_all := lw_g (lw_at lw_m9 83 rfl) rfl
theorem q2156 : (Jvm.Cond.code ({ cls := "TinFenModel", name := "ask", desc := "(II)I" } : Jvm.MethodName) prog_14_method_133_code (5 : Nat) (Option.some Jvm.ClassFile.FieldType.int)) ∈ lw_all := lw_g (lw_at lw_m9 84 rfl) rfl
theorem q2157 : (Jvm.Cond.methodLink "TinFenModel" (444 : Nat) ({ cls := "TinFenModel", name := "mostAlike", desc := "(I)I" } : Jvm.MethodName)) ∈ lw_all := lw_g (lw_at lw_m9 85 rfl) rfl
theorem q2158 : (Jvm.Cond.privateMethod ({ cls := "TinFenModel", name := "mostAlike", desc := "(I)I" } : Jvm.MethodName)) ∈ lw_tbl := lw_at lw_m9 86 rfl
theorem q2159 : (Jvm.Cond.instanceMethod ({ cls := "TinFenModel", name := "mostAlike", desc := "(I)I" } : Jvm.MethodName)) ∈ lw_all := lw_g (lw_at lw_m9 87 rfl) rfl
theorem q2160 : (Jvm.Cond.code ({ cls := "TinFenModel", name := "mostAlike", desc := "(I)I" } : Jvm.MethodName) prog_14_method_132_code (6 : Nat) (Option.some Jvm.ClassFile.FieldType.int)) ∈ lw_all := lw_g (lw_at lw_m9 88 rfl) rfl
theorem q2162 : (Jvm.Cond.instanceMethod ({ cls := "TinFenModel", name := "game", desc := "(III)I" } : Jvm.MethodName)) ∈ lw_all := lw_g (lw_at lw_m9 90 rfl) rfl
theorem q2163 : (Jvm.Cond.selects "TinFenModel" ({ cls := "TinFenModel", name := "game", desc := "(III)I" } : Jvm.MethodName) ({ cls := "TinFenModel", name := "game", desc := "(III)I" } : Jvm.MethodName)) ∈ lw_all := lw_g (lw_at lw_m9 91 rfl) rfl
theorem q2164 : (Jvm.Cond.code ({ cls := "TinFenModel", name := "game", desc := "(III)I" } : Jvm.MethodName) prog_14_method_136_code (4 : Nat) (Option.some Jvm.ClassFile.FieldType.int)) ∈ lw_all := lw_g (lw_at lw_m9 92 rfl) rfl
theorem q2165 : (Jvm.Cond.methodLink "TinFenModel" (453 : Nat) ({ cls := "TinFenModel", name := "whyNoGame", desc := "(IIII)I" } : Jvm.MethodName)) ∈ lw_all := lw_g (lw_at lw_m9 93 rfl) rfl
theorem q2166 : (Jvm.Cond.privateMethod ({ cls := "TinFenModel", name := "whyNoGame", desc := "(IIII)I" } : Jvm.MethodName)) ∈ lw_tbl := lw_at lw_m9 94 rfl
theorem q2167 : (Jvm.Cond.instanceMethod ({ cls := "TinFenModel", name := "whyNoGame", desc := "(IIII)I" } : Jvm.MethodName)) ∈ lw_all := lw_g (lw_at lw_m9 95 rfl) rfl
theorem q2168 : (Jvm.Cond.code ({ cls := "TinFenModel", name := "whyNoGame", desc := "(IIII)I" } : Jvm.MethodName) prog_14_method_135_code (5 : Nat) (Option.some Jvm.ClassFile.FieldType.int)) ∈ lw_all := lw_g (lw_at lw_m9 96 rfl) rfl
theorem q2169 : (Jvm.Cond.methodLink "TinFenModel" (447 : Nat) ({ cls := "TinFenModel", name := "plays", desc := "(IIII)I" } : Jvm.MethodName)) ∈ lw_all := lw_g (lw_at lw_m9 97 rfl) rfl
theorem q2170 : (Jvm.Cond.privateMethod ({ cls := "TinFenModel", name := "plays", desc := "(IIII)I" } : Jvm.MethodName)) ∈ lw_tbl := lw_at lw_m9 98 rfl
theorem q2171 : (Jvm.Cond.instanceMethod ({ cls := "TinFenModel", name := "plays", desc := "(IIII)I" } : Jvm.MethodName)) ∈ lw_all := lw_g (lw_at lw_m9 99 rfl) rfl
theorem q2172 : (Jvm.Cond.code ({ cls := "TinFenModel", name := "plays", desc := "(IIII)I" } : Jvm.MethodName) prog_14_method_134_code (12 : Nat) (Option.some Jvm.ClassFile.FieldType.int)) ∈ lw_all := lw_g (lw_at lw_m9 100 rfl) rfl
theorem q2174 : (Jvm.Cond.instanceMethod ({ cls := "TinFenModel", name := "moveOf", desc := "(IIII)I" } : Jvm.MethodName)) ∈ lw_all := lw_g (lw_at lw_m9 102 rfl) rfl
theorem q2175 : (Jvm.Cond.selects "TinFenModel" ({ cls := "TinFenModel", name := "moveOf", desc := "(IIII)I" } : Jvm.MethodName) ({ cls := "TinFenModel", name := "moveOf", desc := "(IIII)I" } : Jvm.MethodName)) ∈ lw_all := lw_g (lw_at lw_m9 103 rfl) rfl
theorem q2176 : (Jvm.Cond.code ({ cls := "TinFenModel", name := "moveOf", desc := "(IIII)I" } : Jvm.MethodName) prog_14_method_137_code (5 : Nat) (Option.some Jvm.ClassFile.FieldType.int)) ∈ lw_all := lw_g (lw_at lw_m9 104 rfl) rfl
theorem q2178 : (Jvm.Cond.instanceMethod ({ cls := "TinFenModel", name := "bites", desc := "(II)Z" } : Jvm.MethodName)) ∈ lw_all := lw_g (lw_at lw_m9 106 rfl) rfl
theorem q2179 : (Jvm.Cond.selects "TinFenModel" ({ cls := "TinFenModel", name := "bites", desc := "(II)Z" } : Jvm.MethodName) ({ cls := "TinFenModel", name := "bites", desc := "(II)Z" } : Jvm.MethodName)) ∈ lw_all := lw_g (lw_at lw_m9 107 rfl) rfl
theorem q2180 : (Jvm.Cond.code ({ cls := "TinFenModel", name := "bites", desc := "(II)Z" } : Jvm.MethodName) prog_14_method_138_code (9 : Nat) (Option.some Jvm.ClassFile.FieldType.boolean)) ∈ lw_all := lw_g (lw_at lw_m9 108 rfl) rfl
theorem q2181 : (Jvm.Cond.methodLink "TinFenModel" (456 : Nat) ({ cls := "TinFenModel", name := "fraction", desc := "(JJ)Z" } : Jvm.MethodName)) ∈ lw_all := lw_g (lw_at lw_m9 109 rfl) rfl
theorem q2182 : (Jvm.Cond.privateMethod ({ cls := "TinFenModel", name := "fraction", desc := "(JJ)Z" } : Jvm.MethodName)) ∈ lw_tbl := lw_at lw_m9 110 rfl
theorem q2183 : (Jvm.Cond.instanceMethod ({ cls := "TinFenModel", name := "fraction", desc := "(JJ)Z" } : Jvm.MethodName)) ∈ lw_all := lw_g (lw_at lw_m9 111 rfl) rfl
theorem q2184 : (Jvm.Cond.code ({ cls := "TinFenModel", name := "fraction", desc := "(JJ)Z" } : Jvm.MethodName) prog_14_method_9_code (11 : Nat) (Option.some Jvm.ClassFile.FieldType.boolean)) ∈ lw_all := lw_g (lw_at lw_m9 112 rfl) rfl
theorem q2185 : (Jvm.Cond.methodLink "TinFenModel" (79 : Nat) ({ cls := "java/lang/Math", name := "abs", desc := "(J)J" } : Jvm.MethodName)) ∈ lw_all := lw_g (lw_at lw_m9 113 rfl) rfl
theorem q2189 : (Jvm.Cond.instanceMethod ({ cls := "TinFenModel", name := "share", desc := "(I)Z" } : Jvm.MethodName)) ∈ lw_all := lw_g (lw_at lw_m9 117 rfl) rfl
theorem q2190 : (Jvm.Cond.selects "TinFenModel" ({ cls := "TinFenModel", name := "share", desc := "(I)Z" } : Jvm.MethodName) ({ cls := "TinFenModel", name := "share", desc := "(I)Z" } : Jvm.MethodName)) ∈ lw_all := lw_g (lw_at lw_m9 118 rfl) rfl
theorem q2191 : (Jvm.Cond.code ({ cls := "TinFenModel", name := "share", desc := "(I)Z" } : Jvm.MethodName) prog_14_method_139_code (3 : Nat) (Option.some Jvm.ClassFile.FieldType.boolean)) ∈ lw_all := lw_g (lw_at lw_m9 119 rfl) rfl
theorem q2193 : (Jvm.Cond.instanceMethod ({ cls := "TinFenModel", name := "live", desc := "(I)I" } : Jvm.MethodName)) ∈ lw_all := lw_g (lw_at lw_m9 121 rfl) rfl
theorem q2194 : (Jvm.Cond.selects "TinFenModel" ({ cls := "TinFenModel", name := "live", desc := "(I)I" } : Jvm.MethodName) ({ cls := "TinFenModel", name := "live", desc := "(I)I" } : Jvm.MethodName)) ∈ lw_all := lw_g (lw_at lw_m9 122 rfl) rfl
theorem q2195 : (Jvm.Cond.code ({ cls := "TinFenModel", name := "live", desc := "(I)I" } : Jvm.MethodName) prog_14_method_149_code (2 : Nat) (Option.some Jvm.ClassFile.FieldType.int)) ∈ lw_all := lw_g (lw_at lw_m9 123 rfl) rfl
theorem q2196 : (Jvm.Cond.constantLong "TinFenModel" (509 : Nat) (9999 : Int64)) ∈ lw_all := lw_g (lw_at lw_m9 124 rfl) rfl
theorem q2197 : (Jvm.Cond.methodLink "TinFenModel" (511 : Nat) ({ cls := "TinFenModel", name := "runsYears", desc := "(I)V" } : Jvm.MethodName)) ∈ lw_all := lw_g (lw_at lw_m9 125 rfl) rfl
theorem q2198 : (Jvm.Cond.privateMethod ({ cls := "TinFenModel", name := "runsYears", desc := "(I)V" } : Jvm.MethodName)) ∈ lw_tbl := lw_at lw_m9 126 rfl
theorem q2199 : (Jvm.Cond.instanceMethod ({ cls := "TinFenModel", name := "runsYears", desc := "(I)V" } : Jvm.MethodName)) ∈ lw_all := lw_g (lw_at lw_m9 127 rfl) rfl
theorem q2200 : (Jvm.Cond.code ({ cls := "TinFenModel", name := "runsYears", desc := "(I)V" } : Jvm.MethodName) prog_14_method_148_code (2 : Nat) (Option.none : Option Jvm.ClassFile.FieldType)) ∈ lw_all := lw_g (lw_at lw_m9 128 rfl) rfl
theorem q2201 : (Jvm.Cond.methodLink "TinFenModel" (503 : Nat) ({ cls := "TinFenModel", name := "allGot", desc := "()I" } : Jvm.MethodName)) ∈ lw_all := lw_g (lw_at lw_m9 129 rfl) rfl
theorem q2202 : (Jvm.Cond.privateMethod ({ cls := "TinFenModel", name := "allGot", desc := "()I" } : Jvm.MethodName)) ∈ lw_tbl := lw_at lw_m9 130 rfl
theorem q2203 : (Jvm.Cond.instanceMethod ({ cls := "TinFenModel", name := "allGot", desc := "()I" } : Jvm.MethodName)) ∈ lw_all := lw_g (lw_at lw_m9 131 rfl) rfl
theorem q2204 : (Jvm.Cond.code ({ cls := "TinFenModel", name := "allGot", desc := "()I" } : Jvm.MethodName) prog_14_method_141_code (3 : Nat) (Option.some Jvm.ClassFile.FieldType.int)) ∈ lw_all := lw_g (lw_at lw_m9 132 rfl) rfl
theorem q2205 : (Jvm.Cond.methodLink "TinFenModel" (494 : Nat) ({ cls := "TinFenModel", name := "doAll", desc := "(II)V" } : Jvm.MethodName)) ∈ lw_all := lw_g (lw_at lw_m9 133 rfl) rfl
theorem q2206 : (Jvm.Cond.privateMethod ({ cls := "TinFenModel", name := "doAll", desc := "(II)V" } : Jvm.MethodName)) ∈ lw_tbl := lw_at lw_m9 134 rfl
theorem q2207 : (Jvm.Cond.instanceMethod ({ cls := "TinFenModel", name := "doAll", desc := "(II)V" } : Jvm.MethodName)) ∈ lw_all := lw_g (lw_at lw_m9 135 rfl) rfl
theorem q2208 : (Jvm.Cond.code ({ cls := "TinFenModel", name := "doAll", desc := "(II)V" } : Jvm.MethodName) prog_14_method_147_code (4 : Nat) (Option.none : Option Jvm.ClassFile.FieldType)) ∈ lw_all := lw_g (lw_at lw_m9 136 rfl) rfl
theorem q2209 : (Jvm.Cond.methodLink "TinFenModel" (497 : Nat) ({ cls := "TinFenModel", name := "doOne", desc := "(I)V" } : Jvm.MethodName)) ∈ lw_all := lw_g (lw_at lw_m9 137 rfl) rfl
theorem q2210 : (Jvm.Cond.privateMethod ({ cls := "TinFenModel", name := "doOne", desc := "(I)V" } : Jvm.MethodName)) ∈ lw_tbl := lw_at lw_m9 138 rfl
theorem q2211 : (Jvm.Cond.instanceMethod ({ cls := "TinFenModel", name := "doOne", desc := "(I)V" } : Jvm.MethodName)) ∈ lw_all := lw_g (lw_at lw_m9 139 rfl) rfl
theorem q2212 : (Jvm.Cond.code ({ cls := "TinFenModel", name := "doOne", desc := "(I)V" } : Jvm.MethodName) prog_14_method_146_code (5 : Nat) (Option.none : Option Jvm.ClassFile.FieldType)) ∈ lw_all := lw_g (lw_at lw_m9 140 rfl) rfl
theorem q2213 : (Jvm.Cond.methodLink "TinFenModel" (488 : Nat) ({ cls := "TinFenModel", name := "does", desc := "(I)Z" } : Jvm.MethodName)) ∈ lw_all := lw_g (lw_at lw_m9 141 rfl) rfl
theorem q2214 : (Jvm.Cond.privateMethod ({ cls := "TinFenModel", name := "does", desc := "(I)Z" } : Jvm.MethodName)) ∈ lw_tbl := lw_at lw_m9 142 rfl
theorem q2215 : (Jvm.Cond.instanceMethod ({ cls := "TinFenModel", name := "does", desc := "(I)Z" } : Jvm.MethodName)) ∈ lw_all := lw_g (lw_at lw_m9 143 rfl) rfl
theorem q2216 : (Jvm.Cond.code ({ cls := "TinFenModel", name := "does", desc := "(I)Z" } : Jvm.MethodName) prog_14_method_144_code (5 : Nat) (Option.some Jvm.ClassFile.FieldType.boolean)) ∈ lw_all := lw_g (lw_at lw_m9 144 rfl) rfl
theorem q2217 : (Jvm.Cond.methodLink "TinFenModel" (470 : Nat) ({ cls := "TinFenModel", name := "isBitten", desc := "(I)Z" } : Jvm.MethodName)) ∈ lw_all := lw_g (lw_at lw_m9 145 rfl) rfl
theorem q2218 : (Jvm.Cond.privateMethod ({ cls := "TinFenModel", name := "isBitten", desc := "(I)Z" } : Jvm.MethodName)) ∈ lw_tbl := lw_at lw_m9 146 rfl
theorem q2219 : (Jvm.Cond.instanceMethod ({ cls := "TinFenModel", name := "isBitten", desc := "(I)Z" } : Jvm.MethodName)) ∈ lw_all := lw_g (lw_at lw_m9 147 rfl) rfl
theorem q2220 : (Jvm.Cond.code ({ cls := "TinFenModel", name := "isBitten", desc := "(I)Z" } : Jvm.MethodName) prog_14_method_142_code (2 : Nat) (Option.some Jvm.ClassFile.FieldType.boolean)) ∈ lw_all := lw_g (lw_at lw_m9 148 rfl) rfl
theorem q2221 : (Jvm.Cond.methodLink "TinFenModel" (464 : Nat) ({ cls := "TinFenModel", name := "draw", desc := "(I)I" } : Jvm.MethodName)) ∈ lw_all := lw_g (lw_at lw_m9 149 rfl) rfl
theorem q2222 : (Jvm.Cond.privateMethod ({ cls := "TinFenModel", name := "draw", desc := "(I)I" } : Jvm.MethodName)) ∈ lw_tbl := lw_at lw_m9 150 rfl
theorem q2223 : (Jvm.Cond.instanceMethod ({ cls := "TinFenModel", name := "draw", desc := "(I)I" } : Jvm.MethodName)) ∈ lw_all := lw_g (lw_at lw_m9 151 rfl) rfl
theorem q2224 : (Jvm.Cond.code ({ cls := "TinFenModel", name := "draw", desc := "(I)I" } : Jvm.MethodName) prog_14_method_140_code (2 : Nat) (Option.some Jvm.ClassFile.FieldType.int)) ∈ lw_all := lw_g (lw_at lw_m9 152 rfl) rfl
theorem q2225 : (Jvm.Cond.constant "TinFenModel" (463 : Nat) (65536 : Int32)) ∈ lw_all := lw_g (lw_at lw_m9 153 rfl) rfl
theorem q2226 : (Jvm.Cond.methodLink "TinFenModel" (473 : Nat) ({ cls := "TinFenModel", name := "isAny", desc := "()Z" } : Jvm.MethodName)) ∈ lw_all := lw_g (lw_at lw_m9 154 rfl) rfl
theorem q2227 : (Jvm.Cond.privateMethod ({ cls := "TinFenModel", name := "isAny", desc := "()Z" } : Jvm.MethodName)) ∈ lw_tbl := lw_at lw_m9 155 rfl
theorem q2228 : (Jvm.Cond.instanceMethod ({ cls := "TinFenModel", name := "isAny", desc := "()Z" } : Jvm.MethodName)) ∈ lw_all := lw_g (lw_at lw_m9 156 rfl) rfl
theorem q2229 : (Jvm.Cond.code ({ cls := "TinFenModel", name := "isAny", desc := "()Z" } : Jvm.MethodName) prog_14_method_143_code (2 : Nat) (Option.some Jvm.ClassFile.FieldType.boolean)) ∈ lw_all := lw_g (lw_at lw_m9 157 rfl) rfl
theorem q2230 : (Jvm.Cond.methodLink "TinFenModel" (491 : Nat) ({ cls := "TinFenModel", name := "isSo", desc := "(I)Z" } : Jvm.MethodName)) ∈ lw_all := lw_g (lw_at lw_m9 158 rfl) rfl
theorem q2231 : (Jvm.Cond.privateMethod ({ cls := "TinFenModel", name := "isSo", desc := "(I)Z" } : Jvm.MethodName)) ∈ lw_tbl := lw_at lw_m9 159 rfl
theorem q2232 : (Jvm.Cond.instanceMethod ({ cls := "TinFenModel", name := "isSo", desc := "(I)Z" } : Jvm.MethodName)) ∈ lw_all := lw_g (lw_at lw_m9 160 rfl) rfl
theorem q2233 : (Jvm.Cond.code ({ cls := "TinFenModel", name := "isSo", desc := "(I)Z" } : Jvm.MethodName) prog_14_method_145_code (5 : Nat) (Option.some Jvm.ClassFile.FieldType.boolean)) ∈ lw_all := lw_g (lw_at lw_m9 161 rfl) rfl
theorem q2235 : (Jvm.Cond.instanceMethod ({ cls := "TinFenModel", name := "lived", desc := "(I)I" } : Jvm.MethodName)) ∈ lw_all := lw_g (lw_at lw_m9 163 rfl) rfl
theorem q2236 : (Jvm.Cond.selects "TinFenModel" ({ cls := "TinFenModel", name := "lived", desc := "(I)I" } : Jvm.MethodName) ({ cls := "TinFenModel", name := "lived", desc := "(I)I" } : Jvm.MethodName)) ∈ lw_all := lw_g (lw_at lw_m9 164 rfl) rfl
theorem q2237 : (Jvm.Cond.code ({ cls := "TinFenModel", name := "lived", desc := "(I)I" } : Jvm.MethodName) prog_14_method_150_code (2 : Nat) (Option.some Jvm.ClassFile.FieldType.int)) ∈ lw_all := lw_g (lw_at lw_m9 165 rfl) rfl
theorem q2239 : (Jvm.Cond.instanceMethod ({ cls := "TinFenModel", name := "mean", desc := "(II)Z" } : Jvm.MethodName)) ∈ lw_all := lw_g (lw_at lw_m9 167 rfl) rfl
theorem q2240 : (Jvm.Cond.selects "TinFenModel" ({ cls := "TinFenModel", name := "mean", desc := "(II)Z" } : Jvm.MethodName) ({ cls := "TinFenModel", name := "mean", desc := "(II)Z" } : Jvm.MethodName)) ∈ lw_all := lw_g (lw_at lw_m9 168 rfl) rfl
theorem q2241 : (Jvm.Cond.code ({ cls := "TinFenModel", name := "mean", desc := "(II)Z" } : Jvm.MethodName) prog_14_method_151_code (7 : Nat) (Option.some Jvm.ClassFile.FieldType.boolean)) ∈ lw_all := lw_g (lw_at lw_m9 169 rfl) rfl
theorem q2242 : (Jvm.Cond.constantLong "TinFenModel" (517 : Nat) (20 : Int64)) ∈ lw_all := lw_g (lw_at lw_m9 170 rfl) rfl
theorem q2244 : (Jvm.Cond.instanceMethod ({ cls := "TinFenModel", name := "mark", desc := "()I" } : Jvm.MethodName)) ∈ lw_all := lw_g (lw_at lw_m9 172 rfl) rfl
theorem q2245 : (Jvm.Cond.selects "TinFenModel" ({ cls := "TinFenModel", name := "mark", desc := "()I" } : Jvm.MethodName) ({ cls := "TinFenModel", name := "mark", desc := "()I" } : Jvm.MethodName)) ∈ lw_all := lw_g (lw_at lw_m9 173 rfl) rfl
theorem q2246 : (Jvm.Cond.code ({ cls := "TinFenModel", name := "mark", desc := "()I" } : Jvm.MethodName) prog_14_method_153_code (1 : Nat) (Option.some Jvm.ClassFile.FieldType.int)) ∈ lw_all := lw_g (lw_at lw_m9 174 rfl) rfl
theorem q2248 : (Jvm.Cond.instanceMethod ({ cls := "TinFenModel", name := "back", desc := "()I" } : Jvm.MethodName)) ∈ lw_all := lw_g (lw_at lw_m9 176 rfl) rfl
theorem q2249 : (Jvm.Cond.selects "TinFenModel" ({ cls := "TinFenModel", name := "back", desc := "()I" } : Jvm.MethodName) ({ cls := "TinFenModel", name := "back", desc := "()I" } : Jvm.MethodName)) ∈ lw_all := lw_g (lw_at lw_m9 177 rfl) rfl
theorem q2250 : (Jvm.Cond.code ({ cls := "TinFenModel", name := "back", desc := "()I" } : Jvm.MethodName) prog_14_method_154_code (1 : Nat) (Option.some Jvm.ClassFile.FieldType.int)) ∈ lw_all := lw_g (lw_at lw_m9 178 rfl) rfl
theorem in_X8 : ∀ w ∈ wsX80, w ∈ lw_all := lw_in wsX80 [1540, 1542, 1544, 1546, 1548, 1550, 1552, 1554, 1556, 1558, 1560, 1562, 1564, 1566, 1568, 1570, 1572, 1574, 1576, 1578, 1580, 1582, 1584, 1586, 1588, 1590, 1592, 1594, 1596, 1598, 1600, 1602, 1604, 1606, 1608, 1610, 1612, 1614, 1616, 1618, 1620, 1622, 1624, 1626, 1628, 1630, 1632] (by decide +kernel) (by decide +kernel)
