/-! TinFen -/
set_option maxRecDepth 100000
def RX0 : String := "TinFen"
def TX0 : u_T := fun k => match k with
  | 0 => ("TinFen", "trays", "[LTinFen$Tray;", true)
  | 1 => ("TinFen", "reader", "LTinFen$Reader;", true)
  | 2 => ("TinFen", "fen", "LTinFen$Fen;", false)
  | 3 => ("TinFen", "steps", "[LTinFen$Step;", false)
  | 4 => ("TinFen", "stepMany", "I", false)
  | 5 => ("TinFen", "status", "I", false)
  | 6 => ("TinFen", "faultKind", "I", false)
  | 7 => ("TinFen", "faultPlace", "I", false)
  | 8 => ("TinFen", "top", "J", false)
  | 9 => ("TinFen", "bottom", "J", false)
  | 10 => ("TinFen", "farBy", "[I", true)
  | 11 => ("TinFen", "rowBy", "[I", true)
  | 12 => ("TinFen", "roundBy", "[I", true)
  | 13 => ("TinFen", "roundMany", "I", false)
  | 14 => ("TinFen", "numbers", "[I", true)
  | 15 => ("TinFen", "levels", "[LTinFen$Fen;", true)
  | 16 => ("TinFen", "firstMove", "I", false)
  | 17 => ("TinFen", "foundBy", "[J", true)
  | 18 => ("TinFen", "drawn", "I", false)
  | 19 => ("TinFen", "ranSteps", "I", false)
  | 20 => ("TinFen", "ran", "[I", true)
  | 21 => ("TinFen", "lasted", "[I", true)
  | 22 => ("TinFen", "isLasted", "Z", false)
  | 23 => ("TinFen", "kept", "[LTinFen$Kept;", true)
  | _ => ("TinFen", "marks", "I", false)
def tyX0 : Nat → FieldType := fun k => match k with
  | 0 => .array (.object "TinFen$Tray")
  | 1 => .object "TinFen$Reader"
  | 2 => .object "TinFen$Fen"
  | 3 => .array (.object "TinFen$Step")
  | 4 => .int
  | 5 => .int
  | 6 => .int
  | 7 => .int
  | 8 => .long
  | 9 => .long
  | 10 => .array .int
  | 11 => .array .int
  | 12 => .array .int
  | 13 => .int
  | 14 => .array .int
  | 15 => .array (.object "TinFen$Fen")
  | 16 => .int
  | 17 => .array .long
  | 18 => .int
  | 19 => .int
  | 20 => .array .int
  | 21 => .array .int
  | 22 => .boolean
  | 23 => .array (.object "TinFen$Kept")
  | _ => .int
abbrev wsX00 : List Cond := u_ws RX0 TX0 25
set_option maxRecDepth 100000 in
theorem nmX0 : ∀ a, a < 25 → ∀ b, b < 25 → a ≠ b → (TX0 a).2.1 ≠ (TX0 b).2.1 := by decide +kernel
set_option maxRecDepth 100000 in
theorem tyX0_ok : ∀ k, k < 25 → parseFieldDescriptor (TX0 k).2.2.1 = some (tyX0 k) := by decide +kernel
abbrev cX0_init : ByteArray := prog_1_method_4_code
def yX0_init : MethodName := ⟨RX0, "<init>", "()V"⟩
def dkwX0_init_6 : List UInt8 := [183, 0, 82, 83, 132, 1, 1, 167, 255, 235, 177]
abbrev dktX0_init_6 : List UInt8 := dkwX0_init_6 ++ []
def dkwX0_init_5 : List UInt8 := [189, 0, 76, 181, 0, 78, 3, 60, 27, 7, 162, 0, 22, 42, 180, 0, 15, 27, 187, 0, 13, 89]
abbrev dktX0_init_5 : List UInt8 := dkwX0_init_5 ++ dktX0_init_6
def dkwX0_init_4 : List UInt8 := [42, 16, 10, 188, 11, 181, 0, 66, 42, 8, 188, 10, 181, 0, 70, 42, 8, 188, 10, 181, 0, 73, 42, 6]
abbrev dktX0_init_4 : List UInt8 := dkwX0_init_4 ++ dktX0_init_5
def dkwX0_init_3 : List UInt8 := [42, 16, 7, 188, 10, 181, 0, 56, 42, 16, 7, 188, 10, 181, 0, 59, 42, 7, 189, 0, 31, 181, 0, 62]
abbrev dktX0_init_3 : List UInt8 := dkwX0_init_3 ++ dktX0_init_4
def dkwX0_init_2 : List UInt8 := [181, 0, 42, 42, 10, 181, 0, 45, 42, 16, 7, 188, 10, 181, 0, 49, 42, 16, 7, 188, 10, 181, 0, 53]
abbrev dktX0_init_2 : List UInt8 := dkwX0_init_2 ++ dktX0_init_3
def dkwX0_init_1 : List UInt8 := [183, 0, 24, 181, 0, 27, 42, 187, 0, 31, 89, 183, 0, 33, 181, 0, 34, 42, 2, 181, 0, 38, 42, 2]
abbrev dktX0_init_1 : List UInt8 := dkwX0_init_1 ++ dktX0_init_2
def dkwX0_init_0 : List UInt8 := [42, 183, 0, 7, 42, 7, 189, 0, 13, 181, 0, 15, 42, 187, 0, 19, 89, 187, 0, 21, 89, 183, 0, 23]
abbrev dktX0_init_0 : List UInt8 := dkwX0_init_0 ++ dktX0_init_1
theorem dksX0_init_0 : cX0_init.data.toList.drop 0 = dktX0_init_0 := by decide +kernel
theorem dksX0_init_1 : cX0_init.data.toList.drop 24 = dktX0_init_1 := dk_seg dksX0_init_0 24 rfl rfl
theorem dksX0_init_2 : cX0_init.data.toList.drop 48 = dktX0_init_2 := dk_seg dksX0_init_1 24 rfl rfl
theorem dksX0_init_3 : cX0_init.data.toList.drop 72 = dktX0_init_3 := dk_seg dksX0_init_2 24 rfl rfl
theorem dksX0_init_4 : cX0_init.data.toList.drop 96 = dktX0_init_4 := dk_seg dksX0_init_3 24 rfl rfl
theorem dksX0_init_5 : cX0_init.data.toList.drop 120 = dktX0_init_5 := dk_seg dksX0_init_4 24 rfl rfl
theorem dksX0_init_6 : cX0_init.data.toList.drop 142 = dktX0_init_6 := dk_seg dksX0_init_5 22 rfl rfl
theorem dX0_init_0 : decode cX0_init 0 = .ok (.aload_n 0, 1) := dk_42 (dk_at dksX0_init_0 0 rfl rfl)
theorem dX0_init_1 : decode cX0_init 1 = .ok (.invokespecial 7, 3) := dk_183 0 7 (dk_at dksX0_init_0 1 rfl rfl)
theorem dX0_init_4 : decode cX0_init 4 = .ok (.aload_n 0, 1) := dk_42 (dk_at dksX0_init_0 4 rfl rfl)
theorem dX0_init_5 : decode cX0_init 5 = .ok (.iconst 4, 1) := dk_7 (dk_at dksX0_init_0 5 rfl rfl)
theorem dX0_init_6 : decode cX0_init 6 = .ok (.anewarray 13, 3) := dk_189 0 13 (dk_at dksX0_init_0 6 rfl rfl)
theorem dX0_init_9 : decode cX0_init 9 = .ok (.putfield 15, 3) := dk_181 0 15 (dk_at dksX0_init_0 9 rfl rfl)
theorem dX0_init_12 : decode cX0_init 12 = .ok (.aload_n 0, 1) := dk_42 (dk_at dksX0_init_0 12 rfl rfl)
theorem dX0_init_13 : decode cX0_init 13 = .ok (.new 19, 3) := dk_187 0 19 (dk_at dksX0_init_0 13 rfl rfl)
theorem dX0_init_16 : decode cX0_init 16 = .ok (.dup, 1) := dk_89 (dk_at dksX0_init_0 16 rfl rfl)
theorem dX0_init_17 : decode cX0_init 17 = .ok (.new 21, 3) := dk_187 0 21 (dk_at dksX0_init_0 17 rfl rfl)
theorem dX0_init_20 : decode cX0_init 20 = .ok (.dup, 1) := dk_89 (dk_at dksX0_init_0 20 rfl rfl)
theorem dX0_init_21 : decode cX0_init 21 = .ok (.invokespecial 23, 3) := dk_183 0 23 (dk_at dksX0_init_0 21 rfl rfl)
theorem dX0_init_24 : decode cX0_init 24 = .ok (.invokespecial 24, 3) := dk_183 0 24 (dk_at dksX0_init_1 0 rfl rfl)
theorem dX0_init_27 : decode cX0_init 27 = .ok (.putfield 27, 3) := dk_181 0 27 (dk_at dksX0_init_1 3 rfl rfl)
theorem dX0_init_30 : decode cX0_init 30 = .ok (.aload_n 0, 1) := dk_42 (dk_at dksX0_init_1 6 rfl rfl)
theorem dX0_init_31 : decode cX0_init 31 = .ok (.new 31, 3) := dk_187 0 31 (dk_at dksX0_init_1 7 rfl rfl)
theorem dX0_init_34 : decode cX0_init 34 = .ok (.dup, 1) := dk_89 (dk_at dksX0_init_1 10 rfl rfl)
theorem dX0_init_35 : decode cX0_init 35 = .ok (.invokespecial 33, 3) := dk_183 0 33 (dk_at dksX0_init_1 11 rfl rfl)
theorem dX0_init_38 : decode cX0_init 38 = .ok (.putfield 34, 3) := dk_181 0 34 (dk_at dksX0_init_1 14 rfl rfl)
theorem dX0_init_41 : decode cX0_init 41 = .ok (.aload_n 0, 1) := dk_42 (dk_at dksX0_init_1 17 rfl rfl)
theorem dX0_init_42 : decode cX0_init 42 = .ok (.iconst (-1), 1) := dk_2 (dk_at dksX0_init_1 18 rfl rfl)
theorem dX0_init_43 : decode cX0_init 43 = .ok (.putfield 38, 3) := dk_181 0 38 (dk_at dksX0_init_1 19 rfl rfl)
theorem dX0_init_46 : decode cX0_init 46 = .ok (.aload_n 0, 1) := dk_42 (dk_at dksX0_init_1 22 rfl rfl)
theorem dX0_init_47 : decode cX0_init 47 = .ok (.iconst (-1), 1) := dk_2 (dk_at dksX0_init_1 23 rfl rfl)
theorem dX0_init_48 : decode cX0_init 48 = .ok (.putfield 42, 3) := dk_181 0 42 (dk_at dksX0_init_2 0 rfl rfl)
theorem dX0_init_51 : decode cX0_init 51 = .ok (.aload_n 0, 1) := dk_42 (dk_at dksX0_init_2 3 rfl rfl)
theorem dX0_init_52 : decode cX0_init 52 = .ok (.lconst 1, 1) := dk_10 (dk_at dksX0_init_2 4 rfl rfl)
theorem dX0_init_53 : decode cX0_init 53 = .ok (.putfield 45, 3) := dk_181 0 45 (dk_at dksX0_init_2 5 rfl rfl)
theorem dX0_init_56 : decode cX0_init 56 = .ok (.aload_n 0, 1) := dk_42 (dk_at dksX0_init_2 8 rfl rfl)
theorem dX0_init_57 : decode cX0_init 57 = .ok (.bipush 7, 2) := dk_16 7 (dk_at dksX0_init_2 9 rfl rfl)
theorem dX0_init_59 : decode cX0_init 59 = .ok (.newarray .int, 2) := dk_188_10 (dk_at dksX0_init_2 11 rfl rfl)
theorem dX0_init_61 : decode cX0_init 61 = .ok (.putfield 49, 3) := dk_181 0 49 (dk_at dksX0_init_2 13 rfl rfl)
theorem dX0_init_64 : decode cX0_init 64 = .ok (.aload_n 0, 1) := dk_42 (dk_at dksX0_init_2 16 rfl rfl)
theorem dX0_init_65 : decode cX0_init 65 = .ok (.bipush 7, 2) := dk_16 7 (dk_at dksX0_init_2 17 rfl rfl)
theorem dX0_init_67 : decode cX0_init 67 = .ok (.newarray .int, 2) := dk_188_10 (dk_at dksX0_init_2 19 rfl rfl)
theorem dX0_init_69 : decode cX0_init 69 = .ok (.putfield 53, 3) := dk_181 0 53 (dk_at dksX0_init_2 21 rfl rfl)
theorem dX0_init_72 : decode cX0_init 72 = .ok (.aload_n 0, 1) := dk_42 (dk_at dksX0_init_3 0 rfl rfl)
theorem dX0_init_73 : decode cX0_init 73 = .ok (.bipush 7, 2) := dk_16 7 (dk_at dksX0_init_3 1 rfl rfl)
theorem dX0_init_75 : decode cX0_init 75 = .ok (.newarray .int, 2) := dk_188_10 (dk_at dksX0_init_3 3 rfl rfl)
theorem dX0_init_77 : decode cX0_init 77 = .ok (.putfield 56, 3) := dk_181 0 56 (dk_at dksX0_init_3 5 rfl rfl)
theorem dX0_init_80 : decode cX0_init 80 = .ok (.aload_n 0, 1) := dk_42 (dk_at dksX0_init_3 8 rfl rfl)
theorem dX0_init_81 : decode cX0_init 81 = .ok (.bipush 7, 2) := dk_16 7 (dk_at dksX0_init_3 9 rfl rfl)
theorem dX0_init_83 : decode cX0_init 83 = .ok (.newarray .int, 2) := dk_188_10 (dk_at dksX0_init_3 11 rfl rfl)
theorem dX0_init_85 : decode cX0_init 85 = .ok (.putfield 59, 3) := dk_181 0 59 (dk_at dksX0_init_3 13 rfl rfl)
theorem dX0_init_88 : decode cX0_init 88 = .ok (.aload_n 0, 1) := dk_42 (dk_at dksX0_init_3 16 rfl rfl)
theorem dX0_init_89 : decode cX0_init 89 = .ok (.iconst 4, 1) := dk_7 (dk_at dksX0_init_3 17 rfl rfl)
theorem dX0_init_90 : decode cX0_init 90 = .ok (.anewarray 31, 3) := dk_189 0 31 (dk_at dksX0_init_3 18 rfl rfl)
theorem dX0_init_93 : decode cX0_init 93 = .ok (.putfield 62, 3) := dk_181 0 62 (dk_at dksX0_init_3 21 rfl rfl)
theorem dX0_init_96 : decode cX0_init 96 = .ok (.aload_n 0, 1) := dk_42 (dk_at dksX0_init_4 0 rfl rfl)
theorem dX0_init_97 : decode cX0_init 97 = .ok (.bipush 10, 2) := dk_16 10 (dk_at dksX0_init_4 1 rfl rfl)
theorem dX0_init_99 : decode cX0_init 99 = .ok (.newarray .long, 2) := dk_188_11 (dk_at dksX0_init_4 3 rfl rfl)
theorem dX0_init_101 : decode cX0_init 101 = .ok (.putfield 66, 3) := dk_181 0 66 (dk_at dksX0_init_4 5 rfl rfl)
theorem dX0_init_104 : decode cX0_init 104 = .ok (.aload_n 0, 1) := dk_42 (dk_at dksX0_init_4 8 rfl rfl)
theorem dX0_init_105 : decode cX0_init 105 = .ok (.iconst 5, 1) := dk_8 (dk_at dksX0_init_4 9 rfl rfl)
theorem dX0_init_106 : decode cX0_init 106 = .ok (.newarray .int, 2) := dk_188_10 (dk_at dksX0_init_4 10 rfl rfl)
theorem dX0_init_108 : decode cX0_init 108 = .ok (.putfield 70, 3) := dk_181 0 70 (dk_at dksX0_init_4 12 rfl rfl)
theorem dX0_init_111 : decode cX0_init 111 = .ok (.aload_n 0, 1) := dk_42 (dk_at dksX0_init_4 15 rfl rfl)
theorem dX0_init_112 : decode cX0_init 112 = .ok (.iconst 5, 1) := dk_8 (dk_at dksX0_init_4 16 rfl rfl)
theorem dX0_init_113 : decode cX0_init 113 = .ok (.newarray .int, 2) := dk_188_10 (dk_at dksX0_init_4 17 rfl rfl)
theorem dX0_init_115 : decode cX0_init 115 = .ok (.putfield 73, 3) := dk_181 0 73 (dk_at dksX0_init_4 19 rfl rfl)
theorem dX0_init_118 : decode cX0_init 118 = .ok (.aload_n 0, 1) := dk_42 (dk_at dksX0_init_4 22 rfl rfl)
theorem dX0_init_119 : decode cX0_init 119 = .ok (.iconst 3, 1) := dk_6 (dk_at dksX0_init_4 23 rfl rfl)
theorem dX0_init_120 : decode cX0_init 120 = .ok (.anewarray 76, 3) := dk_189 0 76 (dk_at dksX0_init_5 0 rfl rfl)
theorem dX0_init_123 : decode cX0_init 123 = .ok (.putfield 78, 3) := dk_181 0 78 (dk_at dksX0_init_5 3 rfl rfl)
theorem dX0_init_126 : decode cX0_init 126 = .ok (.iconst 0, 1) := dk_3 (dk_at dksX0_init_5 6 rfl rfl)
theorem dX0_init_127 : decode cX0_init 127 = .ok (.istore_n 1, 1) := dk_60 (dk_at dksX0_init_5 7 rfl rfl)
theorem dX0_init_128 : decode cX0_init 128 = .ok (.iload_n 1, 1) := dk_27 (dk_at dksX0_init_5 8 rfl rfl)
theorem dX0_init_129 : decode cX0_init 129 = .ok (.iconst 4, 1) := dk_7 (dk_at dksX0_init_5 9 rfl rfl)
theorem dX0_init_130 : decode cX0_init 130 = .ok (.if_icmp .ge 22, 3) := dk_162 0 22 (dk_at dksX0_init_5 10 rfl rfl)
theorem dX0_init_133 : decode cX0_init 133 = .ok (.aload_n 0, 1) := dk_42 (dk_at dksX0_init_5 13 rfl rfl)
theorem dX0_init_134 : decode cX0_init 134 = .ok (.getfield 15, 3) := dk_180 0 15 (dk_at dksX0_init_5 14 rfl rfl)
theorem dX0_init_137 : decode cX0_init 137 = .ok (.iload_n 1, 1) := dk_27 (dk_at dksX0_init_5 17 rfl rfl)
theorem dX0_init_138 : decode cX0_init 138 = .ok (.new 13, 3) := dk_187 0 13 (dk_at dksX0_init_5 18 rfl rfl)
theorem dX0_init_141 : decode cX0_init 141 = .ok (.dup, 1) := dk_89 (dk_at dksX0_init_5 21 rfl rfl)
theorem dX0_init_142 : decode cX0_init 142 = .ok (.invokespecial 82, 3) := dk_183 0 82 (dk_at dksX0_init_6 0 rfl rfl)
theorem dX0_init_145 : decode cX0_init 145 = .ok (.aastore, 1) := dk_83 (dk_at dksX0_init_6 3 rfl rfl)
theorem dX0_init_146 : decode cX0_init 146 = .ok (.iinc 1 1, 3) := dk_132 1 1 (dk_at dksX0_init_6 4 rfl rfl)
theorem dX0_init_149 : decode cX0_init 149 = .ok (.goto (-21), 3) := dk_167 255 235 (dk_at dksX0_init_6 7 rfl rfl)
theorem dX0_init_152 : decode cX0_init 152 = .ok (.return_, 1) := dk_177 (dk_at dksX0_init_6 10 rfl rfl)
abbrev cX0_status : ByteArray := prog_1_method_5_code
def yX0_status : MethodName := ⟨RX0, "status", "()I"⟩
theorem dX0_status_0 : decode cX0_status 0 = .ok (.aload_n 0, 1) := by decide +kernel
theorem dX0_status_1 : decode cX0_status 1 = .ok (.getfield 83, 3) := by decide +kernel
theorem dX0_status_4 : decode cX0_status 4 = .ok (.ireturn, 1) := by decide +kernel
abbrev cX0_top : ByteArray := prog_1_method_6_code
def yX0_top : MethodName := ⟨RX0, "top", "()J"⟩
theorem dX0_top_0 : decode cX0_top 0 = .ok (.aload_n 0, 1) := by decide +kernel
theorem dX0_top_1 : decode cX0_top 1 = .ok (.getfield 86, 3) := by decide +kernel
theorem dX0_top_4 : decode cX0_top 4 = .ok (.lreturn, 1) := by decide +kernel
abbrev cX0_bottom : ByteArray := prog_1_method_7_code
def yX0_bottom : MethodName := ⟨RX0, "bottom", "()J"⟩
theorem dX0_bottom_0 : decode cX0_bottom 0 = .ok (.aload_n 0, 1) := by decide +kernel
theorem dX0_bottom_1 : decode cX0_bottom 1 = .ok (.getfield 45, 3) := by decide +kernel
theorem dX0_bottom_4 : decode cX0_bottom 4 = .ok (.lreturn, 1) := by decide +kernel
abbrev cX0_tray : ByteArray := prog_1_method_14_code
def yX0_tray : MethodName := ⟨RX0, "tray", "(III)Z"⟩
def dkwX0_tray_2 : List UInt8 := [167, 0, 12, 58, 4, 42, 16, 6, 182, 0, 96, 172, 42, 3, 182, 0, 96, 172]
abbrev dktX0_tray_2 : List UInt8 := dkwX0_tray_2 ++ []
def dkwX0_tray_1 : List UInt8 := [16, 60, 164, 0, 9, 42, 8, 182, 0, 96, 172, 42, 180, 0, 15, 27, 50, 28, 29, 182, 0, 103]
abbrev dktX0_tray_1 : List UInt8 := dkwX0_tray_1 ++ dktX0_tray_2
def dkwX0_tray_0 : List UInt8 := [27, 184, 0, 100, 153, 0, 12, 28, 155, 0, 8, 28, 6, 164, 0, 9, 42, 4, 182, 0, 96, 172, 29]
abbrev dktX0_tray_0 : List UInt8 := dkwX0_tray_0 ++ dktX0_tray_1
theorem dksX0_tray_0 : cX0_tray.data.toList.drop 0 = dktX0_tray_0 := by decide +kernel
theorem dksX0_tray_1 : cX0_tray.data.toList.drop 23 = dktX0_tray_1 := dk_seg dksX0_tray_0 23 rfl rfl
theorem dksX0_tray_2 : cX0_tray.data.toList.drop 45 = dktX0_tray_2 := dk_seg dksX0_tray_1 22 rfl rfl
theorem dX0_tray_0 : decode cX0_tray 0 = .ok (.iload_n 1, 1) := dk_27 (dk_at dksX0_tray_0 0 rfl rfl)
theorem dX0_tray_1 : decode cX0_tray 1 = .ok (.invokestatic 100, 3) := dk_184 0 100 (dk_at dksX0_tray_0 1 rfl rfl)
theorem dX0_tray_4 : decode cX0_tray 4 = .ok (.ifCond .eq 12, 3) := dk_153 0 12 (dk_at dksX0_tray_0 4 rfl rfl)
theorem dX0_tray_7 : decode cX0_tray 7 = .ok (.iload_n 2, 1) := dk_28 (dk_at dksX0_tray_0 7 rfl rfl)
theorem dX0_tray_8 : decode cX0_tray 8 = .ok (.ifCond .lt 8, 3) := dk_155 0 8 (dk_at dksX0_tray_0 8 rfl rfl)
theorem dX0_tray_11 : decode cX0_tray 11 = .ok (.iload_n 2, 1) := dk_28 (dk_at dksX0_tray_0 11 rfl rfl)
theorem dX0_tray_12 : decode cX0_tray 12 = .ok (.iconst 3, 1) := dk_6 (dk_at dksX0_tray_0 12 rfl rfl)
theorem dX0_tray_13 : decode cX0_tray 13 = .ok (.if_icmp .le 9, 3) := dk_164 0 9 (dk_at dksX0_tray_0 13 rfl rfl)
theorem dX0_tray_16 : decode cX0_tray 16 = .ok (.aload_n 0, 1) := dk_42 (dk_at dksX0_tray_0 16 rfl rfl)
theorem dX0_tray_17 : decode cX0_tray 17 = .ok (.iconst 1, 1) := dk_4 (dk_at dksX0_tray_0 17 rfl rfl)
theorem dX0_tray_18 : decode cX0_tray 18 = .ok (.invokevirtual 96, 3) := dk_182 0 96 (dk_at dksX0_tray_0 18 rfl rfl)
theorem dX0_tray_21 : decode cX0_tray 21 = .ok (.ireturn, 1) := dk_172 (dk_at dksX0_tray_0 21 rfl rfl)
theorem dX0_tray_22 : decode cX0_tray 22 = .ok (.iload_n 3, 1) := dk_29 (dk_at dksX0_tray_0 22 rfl rfl)
theorem dX0_tray_23 : decode cX0_tray 23 = .ok (.bipush 60, 2) := dk_16 60 (dk_at dksX0_tray_1 0 rfl rfl)
theorem dX0_tray_25 : decode cX0_tray 25 = .ok (.if_icmp .le 9, 3) := dk_164 0 9 (dk_at dksX0_tray_1 2 rfl rfl)
theorem dX0_tray_28 : decode cX0_tray 28 = .ok (.aload_n 0, 1) := dk_42 (dk_at dksX0_tray_1 5 rfl rfl)
theorem dX0_tray_29 : decode cX0_tray 29 = .ok (.iconst 5, 1) := dk_8 (dk_at dksX0_tray_1 6 rfl rfl)
theorem dX0_tray_30 : decode cX0_tray 30 = .ok (.invokevirtual 96, 3) := dk_182 0 96 (dk_at dksX0_tray_1 7 rfl rfl)
theorem dX0_tray_33 : decode cX0_tray 33 = .ok (.ireturn, 1) := dk_172 (dk_at dksX0_tray_1 10 rfl rfl)
theorem dX0_tray_34 : decode cX0_tray 34 = .ok (.aload_n 0, 1) := dk_42 (dk_at dksX0_tray_1 11 rfl rfl)
theorem dX0_tray_35 : decode cX0_tray 35 = .ok (.getfield 15, 3) := dk_180 0 15 (dk_at dksX0_tray_1 12 rfl rfl)
theorem dX0_tray_38 : decode cX0_tray 38 = .ok (.iload_n 1, 1) := dk_27 (dk_at dksX0_tray_1 15 rfl rfl)
theorem dX0_tray_39 : decode cX0_tray 39 = .ok (.aaload, 1) := dk_50 (dk_at dksX0_tray_1 16 rfl rfl)
theorem dX0_tray_40 : decode cX0_tray 40 = .ok (.iload_n 2, 1) := dk_28 (dk_at dksX0_tray_1 17 rfl rfl)
theorem dX0_tray_41 : decode cX0_tray 41 = .ok (.iload_n 3, 1) := dk_29 (dk_at dksX0_tray_1 18 rfl rfl)
theorem dX0_tray_42 : decode cX0_tray 42 = .ok (.invokevirtual 103, 3) := dk_182 0 103 (dk_at dksX0_tray_1 19 rfl rfl)
theorem dX0_tray_45 : decode cX0_tray 45 = .ok (.goto 12, 3) := dk_167 0 12 (dk_at dksX0_tray_2 0 rfl rfl)
theorem dX0_tray_48 : decode cX0_tray 48 = .ok (.astore 4, 2) := dk_58 4 (dk_at dksX0_tray_2 3 rfl rfl)
theorem dX0_tray_50 : decode cX0_tray 50 = .ok (.aload_n 0, 1) := dk_42 (dk_at dksX0_tray_2 5 rfl rfl)
theorem dX0_tray_51 : decode cX0_tray 51 = .ok (.bipush 6, 2) := dk_16 6 (dk_at dksX0_tray_2 6 rfl rfl)
theorem dX0_tray_53 : decode cX0_tray 53 = .ok (.invokevirtual 96, 3) := dk_182 0 96 (dk_at dksX0_tray_2 8 rfl rfl)
theorem dX0_tray_56 : decode cX0_tray 56 = .ok (.ireturn, 1) := dk_172 (dk_at dksX0_tray_2 11 rfl rfl)
theorem dX0_tray_57 : decode cX0_tray 57 = .ok (.aload_n 0, 1) := dk_42 (dk_at dksX0_tray_2 12 rfl rfl)
theorem dX0_tray_58 : decode cX0_tray 58 = .ok (.iconst 0, 1) := dk_3 (dk_at dksX0_tray_2 13 rfl rfl)
theorem dX0_tray_59 : decode cX0_tray 59 = .ok (.invokevirtual 96, 3) := dk_182 0 96 (dk_at dksX0_tray_2 14 rfl rfl)
theorem dX0_tray_62 : decode cX0_tray 62 = .ok (.ireturn, 1) := dk_172 (dk_at dksX0_tray_2 17 rfl rfl)
abbrev cX0_isTray : ByteArray := prog_1_method_13_code
def yX0_isTray : MethodName := ⟨RX0, "isTray", "(I)Z"⟩
def dkwX0_isTray_0 : List UInt8 := [26, 155, 0, 12, 26, 7, 162, 0, 7, 4, 167, 0, 4, 3, 172]
abbrev dktX0_isTray_0 : List UInt8 := dkwX0_isTray_0 ++ []
theorem dksX0_isTray_0 : cX0_isTray.data.toList.drop 0 = dktX0_isTray_0 := by decide +kernel
theorem dX0_isTray_0 : decode cX0_isTray 0 = .ok (.iload_n 0, 1) := dk_26 (dk_at dksX0_isTray_0 0 rfl rfl)
theorem dX0_isTray_1 : decode cX0_isTray 1 = .ok (.ifCond .lt 12, 3) := dk_155 0 12 (dk_at dksX0_isTray_0 1 rfl rfl)
theorem dX0_isTray_4 : decode cX0_isTray 4 = .ok (.iload_n 0, 1) := dk_26 (dk_at dksX0_isTray_0 4 rfl rfl)
theorem dX0_isTray_5 : decode cX0_isTray 5 = .ok (.iconst 4, 1) := dk_7 (dk_at dksX0_isTray_0 5 rfl rfl)
theorem dX0_isTray_6 : decode cX0_isTray 6 = .ok (.if_icmp .ge 7, 3) := dk_162 0 7 (dk_at dksX0_isTray_0 6 rfl rfl)
theorem dX0_isTray_9 : decode cX0_isTray 9 = .ok (.iconst 1, 1) := dk_4 (dk_at dksX0_isTray_0 9 rfl rfl)
theorem dX0_isTray_10 : decode cX0_isTray 10 = .ok (.goto 4, 3) := dk_167 0 4 (dk_at dksX0_isTray_0 10 rfl rfl)
theorem dX0_isTray_13 : decode cX0_isTray 13 = .ok (.iconst 0, 1) := dk_3 (dk_at dksX0_isTray_0 13 rfl rfl)
theorem dX0_isTray_14 : decode cX0_isTray 14 = .ok (.ireturn, 1) := dk_172 (dk_at dksX0_isTray_0 14 rfl rfl)
abbrev cX0_is : ByteArray := prog_1_method_8_code
def yX0_is : MethodName := ⟨RX0, "is", "(I)Z"⟩
def dkwX0_is_0 : List UInt8 := [42, 27, 181, 0, 83, 27, 154, 0, 7, 4, 167, 0, 4, 3, 172]
abbrev dktX0_is_0 : List UInt8 := dkwX0_is_0 ++ []
theorem dksX0_is_0 : cX0_is.data.toList.drop 0 = dktX0_is_0 := by decide +kernel
theorem dX0_is_0 : decode cX0_is 0 = .ok (.aload_n 0, 1) := dk_42 (dk_at dksX0_is_0 0 rfl rfl)
theorem dX0_is_1 : decode cX0_is 1 = .ok (.iload_n 1, 1) := dk_27 (dk_at dksX0_is_0 1 rfl rfl)
theorem dX0_is_2 : decode cX0_is 2 = .ok (.putfield 83, 3) := dk_181 0 83 (dk_at dksX0_is_0 2 rfl rfl)
theorem dX0_is_5 : decode cX0_is 5 = .ok (.iload_n 1, 1) := dk_27 (dk_at dksX0_is_0 5 rfl rfl)
theorem dX0_is_6 : decode cX0_is 6 = .ok (.ifCond .ne 7, 3) := dk_154 0 7 (dk_at dksX0_is_0 6 rfl rfl)
theorem dX0_is_9 : decode cX0_is 9 = .ok (.iconst 1, 1) := dk_4 (dk_at dksX0_is_0 9 rfl rfl)
theorem dX0_is_10 : decode cX0_is 10 = .ok (.goto 4, 3) := dk_167 0 4 (dk_at dksX0_is_0 10 rfl rfl)
theorem dX0_is_13 : decode cX0_is 13 = .ok (.iconst 0, 1) := dk_3 (dk_at dksX0_is_0 13 rfl rfl)
theorem dX0_is_14 : decode cX0_is 14 = .ok (.ireturn, 1) := dk_172 (dk_at dksX0_is_0 14 rfl rfl)
abbrev cX0_write : ByteArray := prog_1_method_15_code
def yX0_write : MethodName := ⟨RX0, "write", "(IIJ)Z"⟩
def dkwX0_write_2 : List UInt8 := [172]
abbrev dktX0_write_2 : List UInt8 := dkwX0_write_2 ++ []
def dkwX0_write_1 : List UInt8 := [167, 0, 19, 58, 5, 42, 6, 182, 0, 96, 172, 58, 5, 42, 7, 182, 0, 96, 172, 42, 3, 182, 0, 96]
abbrev dktX0_write_1 : List UInt8 := dkwX0_write_1 ++ dktX0_write_2
def dkwX0_write_0 : List UInt8 := [27, 184, 0, 100, 154, 0, 9, 42, 4, 182, 0, 96, 172, 42, 180, 0, 15, 27, 50, 28, 33, 182, 0, 109]
abbrev dktX0_write_0 : List UInt8 := dkwX0_write_0 ++ dktX0_write_1
theorem dksX0_write_0 : cX0_write.data.toList.drop 0 = dktX0_write_0 := by decide +kernel
theorem dksX0_write_1 : cX0_write.data.toList.drop 24 = dktX0_write_1 := dk_seg dksX0_write_0 24 rfl rfl
theorem dksX0_write_2 : cX0_write.data.toList.drop 48 = dktX0_write_2 := dk_seg dksX0_write_1 24 rfl rfl
theorem dX0_write_0 : decode cX0_write 0 = .ok (.iload_n 1, 1) := dk_27 (dk_at dksX0_write_0 0 rfl rfl)
theorem dX0_write_1 : decode cX0_write 1 = .ok (.invokestatic 100, 3) := dk_184 0 100 (dk_at dksX0_write_0 1 rfl rfl)
theorem dX0_write_4 : decode cX0_write 4 = .ok (.ifCond .ne 9, 3) := dk_154 0 9 (dk_at dksX0_write_0 4 rfl rfl)
theorem dX0_write_7 : decode cX0_write 7 = .ok (.aload_n 0, 1) := dk_42 (dk_at dksX0_write_0 7 rfl rfl)
theorem dX0_write_8 : decode cX0_write 8 = .ok (.iconst 1, 1) := dk_4 (dk_at dksX0_write_0 8 rfl rfl)
theorem dX0_write_9 : decode cX0_write 9 = .ok (.invokevirtual 96, 3) := dk_182 0 96 (dk_at dksX0_write_0 9 rfl rfl)
theorem dX0_write_12 : decode cX0_write 12 = .ok (.ireturn, 1) := dk_172 (dk_at dksX0_write_0 12 rfl rfl)
theorem dX0_write_13 : decode cX0_write 13 = .ok (.aload_n 0, 1) := dk_42 (dk_at dksX0_write_0 13 rfl rfl)
theorem dX0_write_14 : decode cX0_write 14 = .ok (.getfield 15, 3) := dk_180 0 15 (dk_at dksX0_write_0 14 rfl rfl)
theorem dX0_write_17 : decode cX0_write 17 = .ok (.iload_n 1, 1) := dk_27 (dk_at dksX0_write_0 17 rfl rfl)
theorem dX0_write_18 : decode cX0_write 18 = .ok (.aaload, 1) := dk_50 (dk_at dksX0_write_0 18 rfl rfl)
theorem dX0_write_19 : decode cX0_write 19 = .ok (.iload_n 2, 1) := dk_28 (dk_at dksX0_write_0 19 rfl rfl)
theorem dX0_write_20 : decode cX0_write 20 = .ok (.lload_n 3, 1) := dk_33 (dk_at dksX0_write_0 20 rfl rfl)
theorem dX0_write_21 : decode cX0_write 21 = .ok (.invokevirtual 109, 3) := dk_182 0 109 (dk_at dksX0_write_0 21 rfl rfl)
theorem dX0_write_24 : decode cX0_write 24 = .ok (.goto 19, 3) := dk_167 0 19 (dk_at dksX0_write_1 0 rfl rfl)
theorem dX0_write_27 : decode cX0_write 27 = .ok (.astore 5, 2) := dk_58 5 (dk_at dksX0_write_1 3 rfl rfl)
theorem dX0_write_29 : decode cX0_write 29 = .ok (.aload_n 0, 1) := dk_42 (dk_at dksX0_write_1 5 rfl rfl)
theorem dX0_write_30 : decode cX0_write 30 = .ok (.iconst 3, 1) := dk_6 (dk_at dksX0_write_1 6 rfl rfl)
theorem dX0_write_31 : decode cX0_write 31 = .ok (.invokevirtual 96, 3) := dk_182 0 96 (dk_at dksX0_write_1 7 rfl rfl)
theorem dX0_write_34 : decode cX0_write 34 = .ok (.ireturn, 1) := dk_172 (dk_at dksX0_write_1 10 rfl rfl)
theorem dX0_write_35 : decode cX0_write 35 = .ok (.astore 5, 2) := dk_58 5 (dk_at dksX0_write_1 11 rfl rfl)
theorem dX0_write_37 : decode cX0_write 37 = .ok (.aload_n 0, 1) := dk_42 (dk_at dksX0_write_1 13 rfl rfl)
theorem dX0_write_38 : decode cX0_write 38 = .ok (.iconst 4, 1) := dk_7 (dk_at dksX0_write_1 14 rfl rfl)
theorem dX0_write_39 : decode cX0_write 39 = .ok (.invokevirtual 96, 3) := dk_182 0 96 (dk_at dksX0_write_1 15 rfl rfl)
theorem dX0_write_42 : decode cX0_write 42 = .ok (.ireturn, 1) := dk_172 (dk_at dksX0_write_1 18 rfl rfl)
theorem dX0_write_43 : decode cX0_write 43 = .ok (.aload_n 0, 1) := dk_42 (dk_at dksX0_write_1 19 rfl rfl)
theorem dX0_write_44 : decode cX0_write 44 = .ok (.iconst 0, 1) := dk_3 (dk_at dksX0_write_1 20 rfl rfl)
theorem dX0_write_45 : decode cX0_write 45 = .ok (.invokevirtual 96, 3) := dk_182 0 96 (dk_at dksX0_write_1 21 rfl rfl)
theorem dX0_write_48 : decode cX0_write 48 = .ok (.ireturn, 1) := dk_172 (dk_at dksX0_write_2 0 rfl rfl)
abbrev cX0_read : ByteArray := prog_1_method_16_code
def yX0_read : MethodName := ⟨RX0, "read", "(II)J"⟩
def dkwX0_read_2 : List UInt8 := [173]
abbrev dktX0_read_2 : List UInt8 := dkwX0_read_2 ++ []
def dkwX0_read_1 : List UInt8 := [50, 28, 182, 0, 117, 173, 78, 42, 6, 181, 0, 83, 167, 0, 9, 78, 42, 7, 181, 0, 83, 20, 0, 121]
abbrev dktX0_read_1 : List UInt8 := dkwX0_read_1 ++ dktX0_read_2
def dkwX0_read_0 : List UInt8 := [27, 184, 0, 100, 154, 0, 10, 42, 4, 182, 0, 89, 133, 173, 42, 3, 181, 0, 83, 42, 180, 0, 15, 27]
abbrev dktX0_read_0 : List UInt8 := dkwX0_read_0 ++ dktX0_read_1
theorem dksX0_read_0 : cX0_read.data.toList.drop 0 = dktX0_read_0 := by decide +kernel
theorem dksX0_read_1 : cX0_read.data.toList.drop 24 = dktX0_read_1 := dk_seg dksX0_read_0 24 rfl rfl
theorem dksX0_read_2 : cX0_read.data.toList.drop 48 = dktX0_read_2 := dk_seg dksX0_read_1 24 rfl rfl
theorem dX0_read_0 : decode cX0_read 0 = .ok (.iload_n 1, 1) := dk_27 (dk_at dksX0_read_0 0 rfl rfl)
theorem dX0_read_1 : decode cX0_read 1 = .ok (.invokestatic 100, 3) := dk_184 0 100 (dk_at dksX0_read_0 1 rfl rfl)
theorem dX0_read_4 : decode cX0_read 4 = .ok (.ifCond .ne 10, 3) := dk_154 0 10 (dk_at dksX0_read_0 4 rfl rfl)
theorem dX0_read_7 : decode cX0_read 7 = .ok (.aload_n 0, 1) := dk_42 (dk_at dksX0_read_0 7 rfl rfl)
theorem dX0_read_8 : decode cX0_read 8 = .ok (.iconst 1, 1) := dk_4 (dk_at dksX0_read_0 8 rfl rfl)
theorem dX0_read_9 : decode cX0_read 9 = .ok (.invokevirtual 89, 3) := dk_182 0 89 (dk_at dksX0_read_0 9 rfl rfl)
theorem dX0_read_12 : decode cX0_read 12 = .ok (.i2l, 1) := dk_133 (dk_at dksX0_read_0 12 rfl rfl)
theorem dX0_read_13 : decode cX0_read 13 = .ok (.lreturn, 1) := dk_173 (dk_at dksX0_read_0 13 rfl rfl)
theorem dX0_read_14 : decode cX0_read 14 = .ok (.aload_n 0, 1) := dk_42 (dk_at dksX0_read_0 14 rfl rfl)
theorem dX0_read_15 : decode cX0_read 15 = .ok (.iconst 0, 1) := dk_3 (dk_at dksX0_read_0 15 rfl rfl)
theorem dX0_read_16 : decode cX0_read 16 = .ok (.putfield 83, 3) := dk_181 0 83 (dk_at dksX0_read_0 16 rfl rfl)
theorem dX0_read_19 : decode cX0_read 19 = .ok (.aload_n 0, 1) := dk_42 (dk_at dksX0_read_0 19 rfl rfl)
theorem dX0_read_20 : decode cX0_read 20 = .ok (.getfield 15, 3) := dk_180 0 15 (dk_at dksX0_read_0 20 rfl rfl)
theorem dX0_read_23 : decode cX0_read 23 = .ok (.iload_n 1, 1) := dk_27 (dk_at dksX0_read_0 23 rfl rfl)
theorem dX0_read_24 : decode cX0_read 24 = .ok (.aaload, 1) := dk_50 (dk_at dksX0_read_1 0 rfl rfl)
theorem dX0_read_25 : decode cX0_read 25 = .ok (.iload_n 2, 1) := dk_28 (dk_at dksX0_read_1 1 rfl rfl)
theorem dX0_read_26 : decode cX0_read 26 = .ok (.invokevirtual 117, 3) := dk_182 0 117 (dk_at dksX0_read_1 2 rfl rfl)
theorem dX0_read_29 : decode cX0_read 29 = .ok (.lreturn, 1) := dk_173 (dk_at dksX0_read_1 5 rfl rfl)
theorem dX0_read_30 : decode cX0_read 30 = .ok (.astore_n 3, 1) := dk_78 (dk_at dksX0_read_1 6 rfl rfl)
theorem dX0_read_31 : decode cX0_read 31 = .ok (.aload_n 0, 1) := dk_42 (dk_at dksX0_read_1 7 rfl rfl)
theorem dX0_read_32 : decode cX0_read 32 = .ok (.iconst 3, 1) := dk_6 (dk_at dksX0_read_1 8 rfl rfl)
theorem dX0_read_33 : decode cX0_read 33 = .ok (.putfield 83, 3) := dk_181 0 83 (dk_at dksX0_read_1 9 rfl rfl)
theorem dX0_read_36 : decode cX0_read 36 = .ok (.goto 9, 3) := dk_167 0 9 (dk_at dksX0_read_1 12 rfl rfl)
theorem dX0_read_39 : decode cX0_read 39 = .ok (.astore_n 3, 1) := dk_78 (dk_at dksX0_read_1 15 rfl rfl)
theorem dX0_read_40 : decode cX0_read 40 = .ok (.aload_n 0, 1) := dk_42 (dk_at dksX0_read_1 16 rfl rfl)
theorem dX0_read_41 : decode cX0_read 41 = .ok (.iconst 4, 1) := dk_7 (dk_at dksX0_read_1 17 rfl rfl)
theorem dX0_read_42 : decode cX0_read 42 = .ok (.putfield 83, 3) := dk_181 0 83 (dk_at dksX0_read_1 18 rfl rfl)
theorem dX0_read_45 : decode cX0_read 45 = .ok (.ldc2_w 121, 3) := dk_20 0 121 (dk_at dksX0_read_1 21 rfl rfl)
theorem dX0_read_48 : decode cX0_read 48 = .ok (.lreturn, 1) := dk_173 (dk_at dksX0_read_2 0 rfl rfl)
abbrev cX0_none : ByteArray := prog_1_method_9_code
def yX0_none : MethodName := ⟨RX0, "none", "(I)I"⟩
def dkwX0_none_0 : List UInt8 := [42, 27, 181, 0, 83, 2, 172]
abbrev dktX0_none_0 : List UInt8 := dkwX0_none_0 ++ []
theorem dksX0_none_0 : cX0_none.data.toList.drop 0 = dktX0_none_0 := by decide +kernel
theorem dX0_none_0 : decode cX0_none 0 = .ok (.aload_n 0, 1) := dk_42 (dk_at dksX0_none_0 0 rfl rfl)
theorem dX0_none_1 : decode cX0_none 1 = .ok (.iload_n 1, 1) := dk_27 (dk_at dksX0_none_0 1 rfl rfl)
theorem dX0_none_2 : decode cX0_none 2 = .ok (.putfield 83, 3) := dk_181 0 83 (dk_at dksX0_none_0 2 rfl rfl)
theorem dX0_none_5 : decode cX0_none 5 = .ok (.iconst (-1), 1) := dk_2 (dk_at dksX0_none_0 5 rfl rfl)
theorem dX0_none_6 : decode cX0_none 6 = .ok (.ireturn, 1) := dk_172 (dk_at dksX0_none_0 6 rfl rfl)
abbrev cX0_pour : ByteArray := prog_1_method_17_code
def yX0_pour : MethodName := ⟨RX0, "pour", "(IIIII)Z"⟩
def dkwX0_pour_5 : List UInt8 := [7, 182, 0, 96, 172, 42, 3, 182, 0, 96, 172]
abbrev dktX0_pour_5 : List UInt8 := dkwX0_pour_5 ++ []
def dkwX0_pour_4 : List UInt8 := [167, 0, 29, 58, 8, 42, 6, 182, 0, 96, 172, 58, 8, 42, 21, 5, 156, 0, 8, 16, 6, 167, 0, 4]
abbrev dktX0_pour_4 : List UInt8 := dkwX0_pour_4 ++ dktX0_pour_5
def dkwX0_pour_3 : List UInt8 := [159, 0, 10, 42, 16, 11, 182, 0, 96, 172, 25, 6, 28, 25, 7, 21, 4, 21, 5, 184, 0, 130]
abbrev dktX0_pour_3 : List UInt8 := dkwX0_pour_3 ++ dktX0_pour_4
def dkwX0_pour_2 : List UInt8 := [25, 7, 198, 0, 31, 42, 180, 0, 15, 27, 50, 180, 0, 127, 42, 180, 0, 15, 29, 50, 180, 0, 127]
abbrev dktX0_pour_2 : List UInt8 := dkwX0_pour_2 ++ dktX0_pour_3
def dkwX0_pour_1 : List UInt8 := [27, 50, 180, 0, 123, 58, 6, 42, 180, 0, 15, 29, 50, 180, 0, 123, 58, 7, 25, 6, 198, 0, 36]
abbrev dktX0_pour_1 : List UInt8 := dkwX0_pour_1 ++ dktX0_pour_2
def dkwX0_pour_0 : List UInt8 := [27, 184, 0, 100, 153, 0, 10, 29, 184, 0, 100, 154, 0, 9, 42, 4, 182, 0, 96, 172, 42, 180, 0, 15]
abbrev dktX0_pour_0 : List UInt8 := dkwX0_pour_0 ++ dktX0_pour_1
theorem dksX0_pour_0 : cX0_pour.data.toList.drop 0 = dktX0_pour_0 := by decide +kernel
theorem dksX0_pour_1 : cX0_pour.data.toList.drop 24 = dktX0_pour_1 := dk_seg dksX0_pour_0 24 rfl rfl
theorem dksX0_pour_2 : cX0_pour.data.toList.drop 47 = dktX0_pour_2 := dk_seg dksX0_pour_1 23 rfl rfl
theorem dksX0_pour_3 : cX0_pour.data.toList.drop 70 = dktX0_pour_3 := dk_seg dksX0_pour_2 23 rfl rfl
theorem dksX0_pour_4 : cX0_pour.data.toList.drop 92 = dktX0_pour_4 := dk_seg dksX0_pour_3 22 rfl rfl
theorem dksX0_pour_5 : cX0_pour.data.toList.drop 116 = dktX0_pour_5 := dk_seg dksX0_pour_4 24 rfl rfl
theorem dX0_pour_0 : decode cX0_pour 0 = .ok (.iload_n 1, 1) := dk_27 (dk_at dksX0_pour_0 0 rfl rfl)
theorem dX0_pour_1 : decode cX0_pour 1 = .ok (.invokestatic 100, 3) := dk_184 0 100 (dk_at dksX0_pour_0 1 rfl rfl)
theorem dX0_pour_4 : decode cX0_pour 4 = .ok (.ifCond .eq 10, 3) := dk_153 0 10 (dk_at dksX0_pour_0 4 rfl rfl)
theorem dX0_pour_7 : decode cX0_pour 7 = .ok (.iload_n 3, 1) := dk_29 (dk_at dksX0_pour_0 7 rfl rfl)
theorem dX0_pour_8 : decode cX0_pour 8 = .ok (.invokestatic 100, 3) := dk_184 0 100 (dk_at dksX0_pour_0 8 rfl rfl)
theorem dX0_pour_11 : decode cX0_pour 11 = .ok (.ifCond .ne 9, 3) := dk_154 0 9 (dk_at dksX0_pour_0 11 rfl rfl)
theorem dX0_pour_14 : decode cX0_pour 14 = .ok (.aload_n 0, 1) := dk_42 (dk_at dksX0_pour_0 14 rfl rfl)
theorem dX0_pour_15 : decode cX0_pour 15 = .ok (.iconst 1, 1) := dk_4 (dk_at dksX0_pour_0 15 rfl rfl)
theorem dX0_pour_16 : decode cX0_pour 16 = .ok (.invokevirtual 96, 3) := dk_182 0 96 (dk_at dksX0_pour_0 16 rfl rfl)
theorem dX0_pour_19 : decode cX0_pour 19 = .ok (.ireturn, 1) := dk_172 (dk_at dksX0_pour_0 19 rfl rfl)
theorem dX0_pour_20 : decode cX0_pour 20 = .ok (.aload_n 0, 1) := dk_42 (dk_at dksX0_pour_0 20 rfl rfl)
theorem dX0_pour_21 : decode cX0_pour 21 = .ok (.getfield 15, 3) := dk_180 0 15 (dk_at dksX0_pour_0 21 rfl rfl)
theorem dX0_pour_24 : decode cX0_pour 24 = .ok (.iload_n 1, 1) := dk_27 (dk_at dksX0_pour_1 0 rfl rfl)
theorem dX0_pour_25 : decode cX0_pour 25 = .ok (.aaload, 1) := dk_50 (dk_at dksX0_pour_1 1 rfl rfl)
theorem dX0_pour_26 : decode cX0_pour 26 = .ok (.getfield 123, 3) := dk_180 0 123 (dk_at dksX0_pour_1 2 rfl rfl)
theorem dX0_pour_29 : decode cX0_pour 29 = .ok (.astore 6, 2) := dk_58 6 (dk_at dksX0_pour_1 5 rfl rfl)
theorem dX0_pour_31 : decode cX0_pour 31 = .ok (.aload_n 0, 1) := dk_42 (dk_at dksX0_pour_1 7 rfl rfl)
theorem dX0_pour_32 : decode cX0_pour 32 = .ok (.getfield 15, 3) := dk_180 0 15 (dk_at dksX0_pour_1 8 rfl rfl)
theorem dX0_pour_35 : decode cX0_pour 35 = .ok (.iload_n 3, 1) := dk_29 (dk_at dksX0_pour_1 11 rfl rfl)
theorem dX0_pour_36 : decode cX0_pour 36 = .ok (.aaload, 1) := dk_50 (dk_at dksX0_pour_1 12 rfl rfl)
theorem dX0_pour_37 : decode cX0_pour 37 = .ok (.getfield 123, 3) := dk_180 0 123 (dk_at dksX0_pour_1 13 rfl rfl)
theorem dX0_pour_40 : decode cX0_pour 40 = .ok (.astore 7, 2) := dk_58 7 (dk_at dksX0_pour_1 16 rfl rfl)
theorem dX0_pour_42 : decode cX0_pour 42 = .ok (.aload 6, 2) := dk_25 6 (dk_at dksX0_pour_1 18 rfl rfl)
theorem dX0_pour_44 : decode cX0_pour 44 = .ok (.ifnull 36, 3) := dk_198 0 36 (dk_at dksX0_pour_1 20 rfl rfl)
theorem dX0_pour_47 : decode cX0_pour 47 = .ok (.aload 7, 2) := dk_25 7 (dk_at dksX0_pour_2 0 rfl rfl)
theorem dX0_pour_49 : decode cX0_pour 49 = .ok (.ifnull 31, 3) := dk_198 0 31 (dk_at dksX0_pour_2 2 rfl rfl)
theorem dX0_pour_52 : decode cX0_pour 52 = .ok (.aload_n 0, 1) := dk_42 (dk_at dksX0_pour_2 5 rfl rfl)
theorem dX0_pour_53 : decode cX0_pour 53 = .ok (.getfield 15, 3) := dk_180 0 15 (dk_at dksX0_pour_2 6 rfl rfl)
theorem dX0_pour_56 : decode cX0_pour 56 = .ok (.iload_n 1, 1) := dk_27 (dk_at dksX0_pour_2 9 rfl rfl)
theorem dX0_pour_57 : decode cX0_pour 57 = .ok (.aaload, 1) := dk_50 (dk_at dksX0_pour_2 10 rfl rfl)
theorem dX0_pour_58 : decode cX0_pour 58 = .ok (.getfield 127, 3) := dk_180 0 127 (dk_at dksX0_pour_2 11 rfl rfl)
theorem dX0_pour_61 : decode cX0_pour 61 = .ok (.aload_n 0, 1) := dk_42 (dk_at dksX0_pour_2 14 rfl rfl)
theorem dX0_pour_62 : decode cX0_pour 62 = .ok (.getfield 15, 3) := dk_180 0 15 (dk_at dksX0_pour_2 15 rfl rfl)
theorem dX0_pour_65 : decode cX0_pour 65 = .ok (.iload_n 3, 1) := dk_29 (dk_at dksX0_pour_2 18 rfl rfl)
theorem dX0_pour_66 : decode cX0_pour 66 = .ok (.aaload, 1) := dk_50 (dk_at dksX0_pour_2 19 rfl rfl)
theorem dX0_pour_67 : decode cX0_pour 67 = .ok (.getfield 127, 3) := dk_180 0 127 (dk_at dksX0_pour_2 20 rfl rfl)
theorem dX0_pour_70 : decode cX0_pour 70 = .ok (.if_icmp .eq 10, 3) := dk_159 0 10 (dk_at dksX0_pour_3 0 rfl rfl)
theorem dX0_pour_73 : decode cX0_pour 73 = .ok (.aload_n 0, 1) := dk_42 (dk_at dksX0_pour_3 3 rfl rfl)
theorem dX0_pour_74 : decode cX0_pour 74 = .ok (.bipush 11, 2) := dk_16 11 (dk_at dksX0_pour_3 4 rfl rfl)
theorem dX0_pour_76 : decode cX0_pour 76 = .ok (.invokevirtual 96, 3) := dk_182 0 96 (dk_at dksX0_pour_3 6 rfl rfl)
theorem dX0_pour_79 : decode cX0_pour 79 = .ok (.ireturn, 1) := dk_172 (dk_at dksX0_pour_3 9 rfl rfl)
theorem dX0_pour_80 : decode cX0_pour 80 = .ok (.aload 6, 2) := dk_25 6 (dk_at dksX0_pour_3 10 rfl rfl)
theorem dX0_pour_82 : decode cX0_pour 82 = .ok (.iload_n 2, 1) := dk_28 (dk_at dksX0_pour_3 12 rfl rfl)
theorem dX0_pour_83 : decode cX0_pour 83 = .ok (.aload 7, 2) := dk_25 7 (dk_at dksX0_pour_3 13 rfl rfl)
theorem dX0_pour_85 : decode cX0_pour 85 = .ok (.iload 4, 2) := dk_21 4 (dk_at dksX0_pour_3 15 rfl rfl)
theorem dX0_pour_87 : decode cX0_pour 87 = .ok (.iload 5, 2) := dk_21 5 (dk_at dksX0_pour_3 17 rfl rfl)
theorem dX0_pour_89 : decode cX0_pour 89 = .ok (.invokestatic 130, 3) := dk_184 0 130 (dk_at dksX0_pour_3 19 rfl rfl)
theorem dX0_pour_92 : decode cX0_pour 92 = .ok (.goto 29, 3) := dk_167 0 29 (dk_at dksX0_pour_4 0 rfl rfl)
theorem dX0_pour_95 : decode cX0_pour 95 = .ok (.astore 8, 2) := dk_58 8 (dk_at dksX0_pour_4 3 rfl rfl)
theorem dX0_pour_97 : decode cX0_pour 97 = .ok (.aload_n 0, 1) := dk_42 (dk_at dksX0_pour_4 5 rfl rfl)
theorem dX0_pour_98 : decode cX0_pour 98 = .ok (.iconst 3, 1) := dk_6 (dk_at dksX0_pour_4 6 rfl rfl)
theorem dX0_pour_99 : decode cX0_pour 99 = .ok (.invokevirtual 96, 3) := dk_182 0 96 (dk_at dksX0_pour_4 7 rfl rfl)
theorem dX0_pour_102 : decode cX0_pour 102 = .ok (.ireturn, 1) := dk_172 (dk_at dksX0_pour_4 10 rfl rfl)
theorem dX0_pour_103 : decode cX0_pour 103 = .ok (.astore 8, 2) := dk_58 8 (dk_at dksX0_pour_4 11 rfl rfl)
theorem dX0_pour_105 : decode cX0_pour 105 = .ok (.aload_n 0, 1) := dk_42 (dk_at dksX0_pour_4 13 rfl rfl)
theorem dX0_pour_106 : decode cX0_pour 106 = .ok (.iload 5, 2) := dk_21 5 (dk_at dksX0_pour_4 14 rfl rfl)
theorem dX0_pour_108 : decode cX0_pour 108 = .ok (.ifCond .ge 8, 3) := dk_156 0 8 (dk_at dksX0_pour_4 16 rfl rfl)
theorem dX0_pour_111 : decode cX0_pour 111 = .ok (.bipush 6, 2) := dk_16 6 (dk_at dksX0_pour_4 19 rfl rfl)
theorem dX0_pour_113 : decode cX0_pour 113 = .ok (.goto 4, 3) := dk_167 0 4 (dk_at dksX0_pour_4 21 rfl rfl)
theorem dX0_pour_116 : decode cX0_pour 116 = .ok (.iconst 4, 1) := dk_7 (dk_at dksX0_pour_5 0 rfl rfl)
theorem dX0_pour_117 : decode cX0_pour 117 = .ok (.invokevirtual 96, 3) := dk_182 0 96 (dk_at dksX0_pour_5 1 rfl rfl)
theorem dX0_pour_120 : decode cX0_pour 120 = .ok (.ireturn, 1) := dk_172 (dk_at dksX0_pour_5 4 rfl rfl)
theorem dX0_pour_121 : decode cX0_pour 121 = .ok (.aload_n 0, 1) := dk_42 (dk_at dksX0_pour_5 5 rfl rfl)
theorem dX0_pour_122 : decode cX0_pour 122 = .ok (.iconst 0, 1) := dk_3 (dk_at dksX0_pour_5 6 rfl rfl)
theorem dX0_pour_123 : decode cX0_pour 123 = .ok (.invokevirtual 96, 3) := dk_182 0 96 (dk_at dksX0_pour_5 7 rfl rfl)
theorem dX0_pour_126 : decode cX0_pour 126 = .ok (.ireturn, 1) := dk_172 (dk_at dksX0_pour_5 10 rfl rfl)
abbrev cX0_feed : ByteArray := prog_1_method_23_code
def yX0_feed : MethodName := ⟨RX0, "feed", "(IIIII)I"⟩
def dkwX0_feed_2 : List UInt8 := [180, 0, 27, 180, 0, 151, 172]
abbrev dktX0_feed_2 : List UInt8 := dkwX0_feed_2 ++ []
def dkwX0_feed_1 : List UInt8 := [28, 182, 0, 154, 42, 29, 182, 0, 154, 42, 21, 4, 182, 0, 154, 42, 21, 5, 182, 0, 154, 42]
abbrev dktX0_feed_1 : List UInt8 := dkwX0_feed_1 ++ dktX0_feed_2
def dkwX0_feed_0 : List UInt8 := [42, 180, 0, 27, 180, 0, 151, 16, 20, 96, 17, 3, 132, 164, 0, 5, 2, 172, 42, 27, 182, 0, 154, 42]
abbrev dktX0_feed_0 : List UInt8 := dkwX0_feed_0 ++ dktX0_feed_1
theorem dksX0_feed_0 : cX0_feed.data.toList.drop 0 = dktX0_feed_0 := by decide +kernel
theorem dksX0_feed_1 : cX0_feed.data.toList.drop 24 = dktX0_feed_1 := dk_seg dksX0_feed_0 24 rfl rfl
theorem dksX0_feed_2 : cX0_feed.data.toList.drop 46 = dktX0_feed_2 := dk_seg dksX0_feed_1 22 rfl rfl
theorem dX0_feed_0 : decode cX0_feed 0 = .ok (.aload_n 0, 1) := dk_42 (dk_at dksX0_feed_0 0 rfl rfl)
theorem dX0_feed_1 : decode cX0_feed 1 = .ok (.getfield 27, 3) := dk_180 0 27 (dk_at dksX0_feed_0 1 rfl rfl)
theorem dX0_feed_4 : decode cX0_feed 4 = .ok (.getfield 151, 3) := dk_180 0 151 (dk_at dksX0_feed_0 4 rfl rfl)
theorem dX0_feed_7 : decode cX0_feed 7 = .ok (.bipush 20, 2) := dk_16 20 (dk_at dksX0_feed_0 7 rfl rfl)
theorem dX0_feed_9 : decode cX0_feed 9 = .ok (.iadd, 1) := dk_96 (dk_at dksX0_feed_0 9 rfl rfl)
theorem dX0_feed_10 : decode cX0_feed 10 = .ok (.sipush 900, 3) := dk_17 3 132 (dk_at dksX0_feed_0 10 rfl rfl)
theorem dX0_feed_13 : decode cX0_feed 13 = .ok (.if_icmp .le 5, 3) := dk_164 0 5 (dk_at dksX0_feed_0 13 rfl rfl)
theorem dX0_feed_16 : decode cX0_feed 16 = .ok (.iconst (-1), 1) := dk_2 (dk_at dksX0_feed_0 16 rfl rfl)
theorem dX0_feed_17 : decode cX0_feed 17 = .ok (.ireturn, 1) := dk_172 (dk_at dksX0_feed_0 17 rfl rfl)
theorem dX0_feed_18 : decode cX0_feed 18 = .ok (.aload_n 0, 1) := dk_42 (dk_at dksX0_feed_0 18 rfl rfl)
theorem dX0_feed_19 : decode cX0_feed 19 = .ok (.iload_n 1, 1) := dk_27 (dk_at dksX0_feed_0 19 rfl rfl)
theorem dX0_feed_20 : decode cX0_feed 20 = .ok (.invokevirtual 154, 3) := dk_182 0 154 (dk_at dksX0_feed_0 20 rfl rfl)
theorem dX0_feed_23 : decode cX0_feed 23 = .ok (.aload_n 0, 1) := dk_42 (dk_at dksX0_feed_0 23 rfl rfl)
theorem dX0_feed_24 : decode cX0_feed 24 = .ok (.iload_n 2, 1) := dk_28 (dk_at dksX0_feed_1 0 rfl rfl)
theorem dX0_feed_25 : decode cX0_feed 25 = .ok (.invokevirtual 154, 3) := dk_182 0 154 (dk_at dksX0_feed_1 1 rfl rfl)
theorem dX0_feed_28 : decode cX0_feed 28 = .ok (.aload_n 0, 1) := dk_42 (dk_at dksX0_feed_1 4 rfl rfl)
theorem dX0_feed_29 : decode cX0_feed 29 = .ok (.iload_n 3, 1) := dk_29 (dk_at dksX0_feed_1 5 rfl rfl)
theorem dX0_feed_30 : decode cX0_feed 30 = .ok (.invokevirtual 154, 3) := dk_182 0 154 (dk_at dksX0_feed_1 6 rfl rfl)
theorem dX0_feed_33 : decode cX0_feed 33 = .ok (.aload_n 0, 1) := dk_42 (dk_at dksX0_feed_1 9 rfl rfl)
theorem dX0_feed_34 : decode cX0_feed 34 = .ok (.iload 4, 2) := dk_21 4 (dk_at dksX0_feed_1 10 rfl rfl)
theorem dX0_feed_36 : decode cX0_feed 36 = .ok (.invokevirtual 154, 3) := dk_182 0 154 (dk_at dksX0_feed_1 12 rfl rfl)
theorem dX0_feed_39 : decode cX0_feed 39 = .ok (.aload_n 0, 1) := dk_42 (dk_at dksX0_feed_1 15 rfl rfl)
theorem dX0_feed_40 : decode cX0_feed 40 = .ok (.iload 5, 2) := dk_21 5 (dk_at dksX0_feed_1 16 rfl rfl)
theorem dX0_feed_42 : decode cX0_feed 42 = .ok (.invokevirtual 154, 3) := dk_182 0 154 (dk_at dksX0_feed_1 18 rfl rfl)
theorem dX0_feed_45 : decode cX0_feed 45 = .ok (.aload_n 0, 1) := dk_42 (dk_at dksX0_feed_1 21 rfl rfl)
theorem dX0_feed_46 : decode cX0_feed 46 = .ok (.getfield 27, 3) := dk_180 0 27 (dk_at dksX0_feed_2 0 rfl rfl)
theorem dX0_feed_49 : decode cX0_feed 49 = .ok (.getfield 151, 3) := dk_180 0 151 (dk_at dksX0_feed_2 3 rfl rfl)
theorem dX0_feed_52 : decode cX0_feed 52 = .ok (.ireturn, 1) := dk_172 (dk_at dksX0_feed_2 6 rfl rfl)
abbrev cX0_four : ByteArray := prog_1_method_24_code
def yX0_four : MethodName := ⟨RX0, "four", "(I)V"⟩
def dkwX0_four_1 : List UInt8 := [145, 84, 42, 180, 0, 27, 89, 180, 0, 151, 4, 96, 181, 0, 151, 132, 2, 248, 167, 255, 217, 177]
abbrev dktX0_four_1 : List UInt8 := dkwX0_four_1 ++ []
def dkwX0_four_0 : List UInt8 := [16, 24, 61, 28, 155, 0, 41, 42, 180, 0, 27, 180, 0, 158, 42, 180, 0, 27, 180, 0, 151, 27, 28, 122]
abbrev dktX0_four_0 : List UInt8 := dkwX0_four_0 ++ dktX0_four_1
theorem dksX0_four_0 : cX0_four.data.toList.drop 0 = dktX0_four_0 := by decide +kernel
theorem dksX0_four_1 : cX0_four.data.toList.drop 24 = dktX0_four_1 := dk_seg dksX0_four_0 24 rfl rfl
theorem dX0_four_0 : decode cX0_four 0 = .ok (.bipush 24, 2) := dk_16 24 (dk_at dksX0_four_0 0 rfl rfl)
theorem dX0_four_2 : decode cX0_four 2 = .ok (.istore_n 2, 1) := dk_61 (dk_at dksX0_four_0 2 rfl rfl)
theorem dX0_four_3 : decode cX0_four 3 = .ok (.iload_n 2, 1) := dk_28 (dk_at dksX0_four_0 3 rfl rfl)
theorem dX0_four_4 : decode cX0_four 4 = .ok (.ifCond .lt 41, 3) := dk_155 0 41 (dk_at dksX0_four_0 4 rfl rfl)
theorem dX0_four_7 : decode cX0_four 7 = .ok (.aload_n 0, 1) := dk_42 (dk_at dksX0_four_0 7 rfl rfl)
theorem dX0_four_8 : decode cX0_four 8 = .ok (.getfield 27, 3) := dk_180 0 27 (dk_at dksX0_four_0 8 rfl rfl)
theorem dX0_four_11 : decode cX0_four 11 = .ok (.getfield 158, 3) := dk_180 0 158 (dk_at dksX0_four_0 11 rfl rfl)
theorem dX0_four_14 : decode cX0_four 14 = .ok (.aload_n 0, 1) := dk_42 (dk_at dksX0_four_0 14 rfl rfl)
theorem dX0_four_15 : decode cX0_four 15 = .ok (.getfield 27, 3) := dk_180 0 27 (dk_at dksX0_four_0 15 rfl rfl)
theorem dX0_four_18 : decode cX0_four 18 = .ok (.getfield 151, 3) := dk_180 0 151 (dk_at dksX0_four_0 18 rfl rfl)
theorem dX0_four_21 : decode cX0_four 21 = .ok (.iload_n 1, 1) := dk_27 (dk_at dksX0_four_0 21 rfl rfl)
theorem dX0_four_22 : decode cX0_four 22 = .ok (.iload_n 2, 1) := dk_28 (dk_at dksX0_four_0 22 rfl rfl)
theorem dX0_four_23 : decode cX0_four 23 = .ok (.ishr, 1) := dk_122 (dk_at dksX0_four_0 23 rfl rfl)
theorem dX0_four_24 : decode cX0_four 24 = .ok (.i2b, 1) := dk_145 (dk_at dksX0_four_1 0 rfl rfl)
theorem dX0_four_25 : decode cX0_four 25 = .ok (.bastore, 1) := dk_84 (dk_at dksX0_four_1 1 rfl rfl)
theorem dX0_four_26 : decode cX0_four 26 = .ok (.aload_n 0, 1) := dk_42 (dk_at dksX0_four_1 2 rfl rfl)
theorem dX0_four_27 : decode cX0_four 27 = .ok (.getfield 27, 3) := dk_180 0 27 (dk_at dksX0_four_1 3 rfl rfl)
theorem dX0_four_30 : decode cX0_four 30 = .ok (.dup, 1) := dk_89 (dk_at dksX0_four_1 6 rfl rfl)
theorem dX0_four_31 : decode cX0_four 31 = .ok (.getfield 151, 3) := dk_180 0 151 (dk_at dksX0_four_1 7 rfl rfl)
theorem dX0_four_34 : decode cX0_four 34 = .ok (.iconst 1, 1) := dk_4 (dk_at dksX0_four_1 10 rfl rfl)
theorem dX0_four_35 : decode cX0_four 35 = .ok (.iadd, 1) := dk_96 (dk_at dksX0_four_1 11 rfl rfl)
theorem dX0_four_36 : decode cX0_four 36 = .ok (.putfield 151, 3) := dk_181 0 151 (dk_at dksX0_four_1 12 rfl rfl)
theorem dX0_four_39 : decode cX0_four 39 = .ok (.iinc 2 (-8), 3) := dk_132 2 248 (dk_at dksX0_four_1 15 rfl rfl)
theorem dX0_four_42 : decode cX0_four 42 = .ok (.goto (-39), 3) := dk_167 255 217 (dk_at dksX0_four_1 18 rfl rfl)
theorem dX0_four_45 : decode cX0_four 45 = .ok (.return_, 1) := dk_177 (dk_at dksX0_four_1 21 rfl rfl)
abbrev cX0_fen : ByteArray := prog_1_method_27_code
def yX0_fen : MethodName := ⟨RX0, "fen", "(I)I"⟩
def dkwX0_fen_2 : List UInt8 := [181, 0, 182, 42, 42, 180, 0, 34, 180, 0, 144, 182, 0, 93, 172]
abbrev dktX0_fen_2 : List UInt8 := dkwX0_fen_2 ++ []
def dkwX0_fen_1 : List UInt8 := [182, 0, 171, 181, 0, 34, 167, 0, 10, 77, 42, 44, 182, 0, 174, 172, 42, 1, 181, 0, 178, 42, 3]
abbrev dktX0_fen_1 : List UInt8 := dkwX0_fen_1 ++ dktX0_fen_2
def dkwX0_fen_0 : List UInt8 := [42, 27, 17, 3, 132, 182, 0, 168, 154, 0, 9, 42, 8, 182, 0, 89, 172, 42, 42, 180, 0, 27, 27]
abbrev dktX0_fen_0 : List UInt8 := dkwX0_fen_0 ++ dktX0_fen_1
theorem dksX0_fen_0 : cX0_fen.data.toList.drop 0 = dktX0_fen_0 := by decide +kernel
theorem dksX0_fen_1 : cX0_fen.data.toList.drop 23 = dktX0_fen_1 := dk_seg dksX0_fen_0 23 rfl rfl
theorem dksX0_fen_2 : cX0_fen.data.toList.drop 46 = dktX0_fen_2 := dk_seg dksX0_fen_1 23 rfl rfl
theorem dX0_fen_0 : decode cX0_fen 0 = .ok (.aload_n 0, 1) := dk_42 (dk_at dksX0_fen_0 0 rfl rfl)
theorem dX0_fen_1 : decode cX0_fen 1 = .ok (.iload_n 1, 1) := dk_27 (dk_at dksX0_fen_0 1 rfl rfl)
theorem dX0_fen_2 : decode cX0_fen 2 = .ok (.sipush 900, 3) := dk_17 3 132 (dk_at dksX0_fen_0 2 rfl rfl)
theorem dX0_fen_5 : decode cX0_fen 5 = .ok (.invokevirtual 168, 3) := dk_182 0 168 (dk_at dksX0_fen_0 5 rfl rfl)
theorem dX0_fen_8 : decode cX0_fen 8 = .ok (.ifCond .ne 9, 3) := dk_154 0 9 (dk_at dksX0_fen_0 8 rfl rfl)
theorem dX0_fen_11 : decode cX0_fen 11 = .ok (.aload_n 0, 1) := dk_42 (dk_at dksX0_fen_0 11 rfl rfl)
theorem dX0_fen_12 : decode cX0_fen 12 = .ok (.iconst 5, 1) := dk_8 (dk_at dksX0_fen_0 12 rfl rfl)
theorem dX0_fen_13 : decode cX0_fen 13 = .ok (.invokevirtual 89, 3) := dk_182 0 89 (dk_at dksX0_fen_0 13 rfl rfl)
theorem dX0_fen_16 : decode cX0_fen 16 = .ok (.ireturn, 1) := dk_172 (dk_at dksX0_fen_0 16 rfl rfl)
theorem dX0_fen_17 : decode cX0_fen 17 = .ok (.aload_n 0, 1) := dk_42 (dk_at dksX0_fen_0 17 rfl rfl)
theorem dX0_fen_18 : decode cX0_fen 18 = .ok (.aload_n 0, 1) := dk_42 (dk_at dksX0_fen_0 18 rfl rfl)
theorem dX0_fen_19 : decode cX0_fen 19 = .ok (.getfield 27, 3) := dk_180 0 27 (dk_at dksX0_fen_0 19 rfl rfl)
theorem dX0_fen_22 : decode cX0_fen 22 = .ok (.iload_n 1, 1) := dk_27 (dk_at dksX0_fen_0 22 rfl rfl)
theorem dX0_fen_23 : decode cX0_fen 23 = .ok (.invokevirtual 171, 3) := dk_182 0 171 (dk_at dksX0_fen_1 0 rfl rfl)
theorem dX0_fen_26 : decode cX0_fen 26 = .ok (.putfield 34, 3) := dk_181 0 34 (dk_at dksX0_fen_1 3 rfl rfl)
theorem dX0_fen_29 : decode cX0_fen 29 = .ok (.goto 10, 3) := dk_167 0 10 (dk_at dksX0_fen_1 6 rfl rfl)
theorem dX0_fen_32 : decode cX0_fen 32 = .ok (.astore_n 2, 1) := dk_77 (dk_at dksX0_fen_1 9 rfl rfl)
theorem dX0_fen_33 : decode cX0_fen 33 = .ok (.aload_n 0, 1) := dk_42 (dk_at dksX0_fen_1 10 rfl rfl)
theorem dX0_fen_34 : decode cX0_fen 34 = .ok (.aload_n 2, 1) := dk_44 (dk_at dksX0_fen_1 11 rfl rfl)
theorem dX0_fen_35 : decode cX0_fen 35 = .ok (.invokevirtual 174, 3) := dk_182 0 174 (dk_at dksX0_fen_1 12 rfl rfl)
theorem dX0_fen_38 : decode cX0_fen 38 = .ok (.ireturn, 1) := dk_172 (dk_at dksX0_fen_1 15 rfl rfl)
theorem dX0_fen_39 : decode cX0_fen 39 = .ok (.aload_n 0, 1) := dk_42 (dk_at dksX0_fen_1 16 rfl rfl)
theorem dX0_fen_40 : decode cX0_fen 40 = .ok (.aconst_null, 1) := dk_1 (dk_at dksX0_fen_1 17 rfl rfl)
theorem dX0_fen_41 : decode cX0_fen 41 = .ok (.putfield 178, 3) := dk_181 0 178 (dk_at dksX0_fen_1 18 rfl rfl)
theorem dX0_fen_44 : decode cX0_fen 44 = .ok (.aload_n 0, 1) := dk_42 (dk_at dksX0_fen_1 21 rfl rfl)
theorem dX0_fen_45 : decode cX0_fen 45 = .ok (.iconst 0, 1) := dk_3 (dk_at dksX0_fen_1 22 rfl rfl)
theorem dX0_fen_46 : decode cX0_fen 46 = .ok (.putfield 182, 3) := dk_181 0 182 (dk_at dksX0_fen_2 0 rfl rfl)
theorem dX0_fen_49 : decode cX0_fen 49 = .ok (.aload_n 0, 1) := dk_42 (dk_at dksX0_fen_2 3 rfl rfl)
theorem dX0_fen_50 : decode cX0_fen 50 = .ok (.aload_n 0, 1) := dk_42 (dk_at dksX0_fen_2 4 rfl rfl)
theorem dX0_fen_51 : decode cX0_fen 51 = .ok (.getfield 34, 3) := dk_180 0 34 (dk_at dksX0_fen_2 5 rfl rfl)
theorem dX0_fen_54 : decode cX0_fen 54 = .ok (.getfield 144, 3) := dk_180 0 144 (dk_at dksX0_fen_2 8 rfl rfl)
theorem dX0_fen_57 : decode cX0_fen 57 = .ok (.invokevirtual 93, 3) := dk_182 0 93 (dk_at dksX0_fen_2 11 rfl rfl)
theorem dX0_fen_60 : decode cX0_fen 60 = .ok (.ireturn, 1) := dk_172 (dk_at dksX0_fen_2 14 rfl rfl)
abbrev cX0_accepts : ByteArray := prog_1_method_25_code
def yX0_accepts : MethodName := ⟨RX0, "accepts", "(II)Z"⟩
def dkwX0_accepts_1 : List UInt8 := [180, 0, 27, 3, 181, 0, 151, 42, 3, 181, 0, 38, 42, 2, 181, 0, 42, 4, 172]
abbrev dktX0_accepts_1 : List UInt8 := dkwX0_accepts_1 ++ []
def dkwX0_accepts_0 : List UInt8 := [27, 155, 0, 19, 27, 42, 180, 0, 27, 180, 0, 151, 163, 0, 8, 27, 28, 164, 0, 5, 3, 172, 42]
abbrev dktX0_accepts_0 : List UInt8 := dkwX0_accepts_0 ++ dktX0_accepts_1
theorem dksX0_accepts_0 : cX0_accepts.data.toList.drop 0 = dktX0_accepts_0 := by decide +kernel
theorem dksX0_accepts_1 : cX0_accepts.data.toList.drop 23 = dktX0_accepts_1 := dk_seg dksX0_accepts_0 23 rfl rfl
theorem dX0_accepts_0 : decode cX0_accepts 0 = .ok (.iload_n 1, 1) := dk_27 (dk_at dksX0_accepts_0 0 rfl rfl)
theorem dX0_accepts_1 : decode cX0_accepts 1 = .ok (.ifCond .lt 19, 3) := dk_155 0 19 (dk_at dksX0_accepts_0 1 rfl rfl)
theorem dX0_accepts_4 : decode cX0_accepts 4 = .ok (.iload_n 1, 1) := dk_27 (dk_at dksX0_accepts_0 4 rfl rfl)
theorem dX0_accepts_5 : decode cX0_accepts 5 = .ok (.aload_n 0, 1) := dk_42 (dk_at dksX0_accepts_0 5 rfl rfl)
theorem dX0_accepts_6 : decode cX0_accepts 6 = .ok (.getfield 27, 3) := dk_180 0 27 (dk_at dksX0_accepts_0 6 rfl rfl)
theorem dX0_accepts_9 : decode cX0_accepts 9 = .ok (.getfield 151, 3) := dk_180 0 151 (dk_at dksX0_accepts_0 9 rfl rfl)
theorem dX0_accepts_12 : decode cX0_accepts 12 = .ok (.if_icmp .gt 8, 3) := dk_163 0 8 (dk_at dksX0_accepts_0 12 rfl rfl)
theorem dX0_accepts_15 : decode cX0_accepts 15 = .ok (.iload_n 1, 1) := dk_27 (dk_at dksX0_accepts_0 15 rfl rfl)
theorem dX0_accepts_16 : decode cX0_accepts 16 = .ok (.iload_n 2, 1) := dk_28 (dk_at dksX0_accepts_0 16 rfl rfl)
theorem dX0_accepts_17 : decode cX0_accepts 17 = .ok (.if_icmp .le 5, 3) := dk_164 0 5 (dk_at dksX0_accepts_0 17 rfl rfl)
theorem dX0_accepts_20 : decode cX0_accepts 20 = .ok (.iconst 0, 1) := dk_3 (dk_at dksX0_accepts_0 20 rfl rfl)
theorem dX0_accepts_21 : decode cX0_accepts 21 = .ok (.ireturn, 1) := dk_172 (dk_at dksX0_accepts_0 21 rfl rfl)
theorem dX0_accepts_22 : decode cX0_accepts 22 = .ok (.aload_n 0, 1) := dk_42 (dk_at dksX0_accepts_0 22 rfl rfl)
theorem dX0_accepts_23 : decode cX0_accepts 23 = .ok (.getfield 27, 3) := dk_180 0 27 (dk_at dksX0_accepts_1 0 rfl rfl)
theorem dX0_accepts_26 : decode cX0_accepts 26 = .ok (.iconst 0, 1) := dk_3 (dk_at dksX0_accepts_1 3 rfl rfl)
theorem dX0_accepts_27 : decode cX0_accepts 27 = .ok (.putfield 151, 3) := dk_181 0 151 (dk_at dksX0_accepts_1 4 rfl rfl)
theorem dX0_accepts_30 : decode cX0_accepts 30 = .ok (.aload_n 0, 1) := dk_42 (dk_at dksX0_accepts_1 7 rfl rfl)
theorem dX0_accepts_31 : decode cX0_accepts 31 = .ok (.iconst 0, 1) := dk_3 (dk_at dksX0_accepts_1 8 rfl rfl)
theorem dX0_accepts_32 : decode cX0_accepts 32 = .ok (.putfield 38, 3) := dk_181 0 38 (dk_at dksX0_accepts_1 9 rfl rfl)
theorem dX0_accepts_35 : decode cX0_accepts 35 = .ok (.aload_n 0, 1) := dk_42 (dk_at dksX0_accepts_1 12 rfl rfl)
theorem dX0_accepts_36 : decode cX0_accepts 36 = .ok (.iconst (-1), 1) := dk_2 (dk_at dksX0_accepts_1 13 rfl rfl)
theorem dX0_accepts_37 : decode cX0_accepts 37 = .ok (.putfield 42, 3) := dk_181 0 42 (dk_at dksX0_accepts_1 14 rfl rfl)
theorem dX0_accepts_40 : decode cX0_accepts 40 = .ok (.iconst 1, 1) := dk_4 (dk_at dksX0_accepts_1 17 rfl rfl)
theorem dX0_accepts_41 : decode cX0_accepts 41 = .ok (.ireturn, 1) := dk_172 (dk_at dksX0_accepts_1 18 rfl rfl)
abbrev cX0_isIn : ByteArray := prog_1_method_2_code
def yX0_isIn : MethodName := ⟨RX0, "isIn", "(II)Z"⟩
def dkwX0_isIn_0 : List UInt8 := [26, 27, 122, 4, 126, 4, 160, 0, 7, 4, 167, 0, 4, 3, 172]
abbrev dktX0_isIn_0 : List UInt8 := dkwX0_isIn_0 ++ []
theorem dksX0_isIn_0 : cX0_isIn.data.toList.drop 0 = dktX0_isIn_0 := by decide +kernel
theorem dX0_isIn_0 : decode cX0_isIn 0 = .ok (.iload_n 0, 1) := dk_26 (dk_at dksX0_isIn_0 0 rfl rfl)
theorem dX0_isIn_1 : decode cX0_isIn 1 = .ok (.iload_n 1, 1) := dk_27 (dk_at dksX0_isIn_0 1 rfl rfl)
theorem dX0_isIn_2 : decode cX0_isIn 2 = .ok (.ishr, 1) := dk_122 (dk_at dksX0_isIn_0 2 rfl rfl)
theorem dX0_isIn_3 : decode cX0_isIn 3 = .ok (.iconst 1, 1) := dk_4 (dk_at dksX0_isIn_0 3 rfl rfl)
theorem dX0_isIn_4 : decode cX0_isIn 4 = .ok (.iand, 1) := dk_126 (dk_at dksX0_isIn_0 4 rfl rfl)
theorem dX0_isIn_5 : decode cX0_isIn 5 = .ok (.iconst 1, 1) := dk_4 (dk_at dksX0_isIn_0 5 rfl rfl)
theorem dX0_isIn_6 : decode cX0_isIn 6 = .ok (.if_icmp .ne 7, 3) := dk_160 0 7 (dk_at dksX0_isIn_0 6 rfl rfl)
theorem dX0_isIn_9 : decode cX0_isIn 9 = .ok (.iconst 1, 1) := dk_4 (dk_at dksX0_isIn_0 9 rfl rfl)
theorem dX0_isIn_10 : decode cX0_isIn 10 = .ok (.goto 4, 3) := dk_167 0 4 (dk_at dksX0_isIn_0 10 rfl rfl)
theorem dX0_isIn_13 : decode cX0_isIn 13 = .ok (.iconst 0, 1) := dk_3 (dk_at dksX0_isIn_0 13 rfl rfl)
theorem dX0_isIn_14 : decode cX0_isIn 14 = .ok (.ireturn, 1) := dk_172 (dk_at dksX0_isIn_0 14 rfl rfl)
abbrev cX0_refused : ByteArray := prog_1_method_26_code
def yX0_refused : MethodName := ⟨RX0, "refused", "(LTinFen$Wrong;)I"⟩
def dkwX0_refused_0 : List UInt8 := [42, 43, 180, 0, 162, 181, 0, 38, 42, 43, 180, 0, 165, 181, 0, 42, 42, 16, 10, 182, 0, 89, 172]
abbrev dktX0_refused_0 : List UInt8 := dkwX0_refused_0 ++ []
theorem dksX0_refused_0 : cX0_refused.data.toList.drop 0 = dktX0_refused_0 := by decide +kernel
theorem dX0_refused_0 : decode cX0_refused 0 = .ok (.aload_n 0, 1) := dk_42 (dk_at dksX0_refused_0 0 rfl rfl)
theorem dX0_refused_1 : decode cX0_refused 1 = .ok (.aload_n 1, 1) := dk_43 (dk_at dksX0_refused_0 1 rfl rfl)
theorem dX0_refused_2 : decode cX0_refused 2 = .ok (.getfield 162, 3) := dk_180 0 162 (dk_at dksX0_refused_0 2 rfl rfl)
theorem dX0_refused_5 : decode cX0_refused 5 = .ok (.putfield 38, 3) := dk_181 0 38 (dk_at dksX0_refused_0 5 rfl rfl)
theorem dX0_refused_8 : decode cX0_refused 8 = .ok (.aload_n 0, 1) := dk_42 (dk_at dksX0_refused_0 8 rfl rfl)
theorem dX0_refused_9 : decode cX0_refused 9 = .ok (.aload_n 1, 1) := dk_43 (dk_at dksX0_refused_0 9 rfl rfl)
theorem dX0_refused_10 : decode cX0_refused 10 = .ok (.getfield 165, 3) := dk_180 0 165 (dk_at dksX0_refused_0 10 rfl rfl)
theorem dX0_refused_13 : decode cX0_refused 13 = .ok (.putfield 42, 3) := dk_181 0 42 (dk_at dksX0_refused_0 13 rfl rfl)
theorem dX0_refused_16 : decode cX0_refused 16 = .ok (.aload_n 0, 1) := dk_42 (dk_at dksX0_refused_0 16 rfl rfl)
theorem dX0_refused_17 : decode cX0_refused 17 = .ok (.bipush 10, 2) := dk_16 10 (dk_at dksX0_refused_0 17 rfl rfl)
theorem dX0_refused_19 : decode cX0_refused 19 = .ok (.invokevirtual 89, 3) := dk_182 0 89 (dk_at dksX0_refused_0 19 rfl rfl)
theorem dX0_refused_22 : decode cX0_refused 22 = .ok (.ireturn, 1) := dk_172 (dk_at dksX0_refused_0 22 rfl rfl)
abbrev cX0_gives : ByteArray := prog_1_method_10_code
def yX0_gives : MethodName := ⟨RX0, "gives", "(I)I"⟩
def dkwX0_gives_0 : List UInt8 := [42, 3, 181, 0, 83, 27, 172]
abbrev dktX0_gives_0 : List UInt8 := dkwX0_gives_0 ++ []
theorem dksX0_gives_0 : cX0_gives.data.toList.drop 0 = dktX0_gives_0 := by decide +kernel
theorem dX0_gives_0 : decode cX0_gives 0 = .ok (.aload_n 0, 1) := dk_42 (dk_at dksX0_gives_0 0 rfl rfl)
theorem dX0_gives_1 : decode cX0_gives 1 = .ok (.iconst 0, 1) := dk_3 (dk_at dksX0_gives_0 1 rfl rfl)
theorem dX0_gives_2 : decode cX0_gives 2 = .ok (.putfield 83, 3) := dk_181 0 83 (dk_at dksX0_gives_0 2 rfl rfl)
theorem dX0_gives_5 : decode cX0_gives 5 = .ok (.iload_n 1, 1) := dk_27 (dk_at dksX0_gives_0 5 rfl rfl)
theorem dX0_gives_6 : decode cX0_gives 6 = .ok (.ireturn, 1) := dk_172 (dk_at dksX0_gives_0 6 rfl rfl)
abbrev cX0_years : ByteArray := prog_1_method_28_code
def yX0_years : MethodName := ⟨RX0, "years", "(I)I"⟩
def dkwX0_years_2 : List UInt8 := [180, 0, 189, 181, 0, 182, 42, 42, 180, 0, 27, 180, 0, 190, 182, 0, 93, 172]
abbrev dktX0_years_2 : List UInt8 := dkwX0_years_2 ++ []
def dkwX0_years_1 : List UInt8 := [180, 0, 34, 182, 0, 185, 181, 0, 178, 167, 0, 10, 77, 42, 44, 182, 0, 174, 172, 42, 42, 180, 0, 27]
abbrev dktX0_years_1 : List UInt8 := dkwX0_years_1 ++ dktX0_years_2
def dkwX0_years_0 : List UInt8 := [42, 27, 17, 1, 44, 182, 0, 168, 154, 0, 9, 42, 8, 182, 0, 89, 172, 42, 42, 180, 0, 27, 27, 42]
abbrev dktX0_years_0 : List UInt8 := dkwX0_years_0 ++ dktX0_years_1
theorem dksX0_years_0 : cX0_years.data.toList.drop 0 = dktX0_years_0 := by decide +kernel
theorem dksX0_years_1 : cX0_years.data.toList.drop 24 = dktX0_years_1 := dk_seg dksX0_years_0 24 rfl rfl
theorem dksX0_years_2 : cX0_years.data.toList.drop 48 = dktX0_years_2 := dk_seg dksX0_years_1 24 rfl rfl
theorem dX0_years_0 : decode cX0_years 0 = .ok (.aload_n 0, 1) := dk_42 (dk_at dksX0_years_0 0 rfl rfl)
theorem dX0_years_1 : decode cX0_years 1 = .ok (.iload_n 1, 1) := dk_27 (dk_at dksX0_years_0 1 rfl rfl)
theorem dX0_years_2 : decode cX0_years 2 = .ok (.sipush 300, 3) := dk_17 1 44 (dk_at dksX0_years_0 2 rfl rfl)
theorem dX0_years_5 : decode cX0_years 5 = .ok (.invokevirtual 168, 3) := dk_182 0 168 (dk_at dksX0_years_0 5 rfl rfl)
theorem dX0_years_8 : decode cX0_years 8 = .ok (.ifCond .ne 9, 3) := dk_154 0 9 (dk_at dksX0_years_0 8 rfl rfl)
theorem dX0_years_11 : decode cX0_years 11 = .ok (.aload_n 0, 1) := dk_42 (dk_at dksX0_years_0 11 rfl rfl)
theorem dX0_years_12 : decode cX0_years 12 = .ok (.iconst 5, 1) := dk_8 (dk_at dksX0_years_0 12 rfl rfl)
theorem dX0_years_13 : decode cX0_years 13 = .ok (.invokevirtual 89, 3) := dk_182 0 89 (dk_at dksX0_years_0 13 rfl rfl)
theorem dX0_years_16 : decode cX0_years 16 = .ok (.ireturn, 1) := dk_172 (dk_at dksX0_years_0 16 rfl rfl)
theorem dX0_years_17 : decode cX0_years 17 = .ok (.aload_n 0, 1) := dk_42 (dk_at dksX0_years_0 17 rfl rfl)
theorem dX0_years_18 : decode cX0_years 18 = .ok (.aload_n 0, 1) := dk_42 (dk_at dksX0_years_0 18 rfl rfl)
theorem dX0_years_19 : decode cX0_years 19 = .ok (.getfield 27, 3) := dk_180 0 27 (dk_at dksX0_years_0 19 rfl rfl)
theorem dX0_years_22 : decode cX0_years 22 = .ok (.iload_n 1, 1) := dk_27 (dk_at dksX0_years_0 22 rfl rfl)
theorem dX0_years_23 : decode cX0_years 23 = .ok (.aload_n 0, 1) := dk_42 (dk_at dksX0_years_0 23 rfl rfl)
theorem dX0_years_24 : decode cX0_years 24 = .ok (.getfield 34, 3) := dk_180 0 34 (dk_at dksX0_years_1 0 rfl rfl)
theorem dX0_years_27 : decode cX0_years 27 = .ok (.invokevirtual 185, 3) := dk_182 0 185 (dk_at dksX0_years_1 3 rfl rfl)
theorem dX0_years_30 : decode cX0_years 30 = .ok (.putfield 178, 3) := dk_181 0 178 (dk_at dksX0_years_1 6 rfl rfl)
theorem dX0_years_33 : decode cX0_years 33 = .ok (.goto 10, 3) := dk_167 0 10 (dk_at dksX0_years_1 9 rfl rfl)
theorem dX0_years_36 : decode cX0_years 36 = .ok (.astore_n 2, 1) := dk_77 (dk_at dksX0_years_1 12 rfl rfl)
theorem dX0_years_37 : decode cX0_years 37 = .ok (.aload_n 0, 1) := dk_42 (dk_at dksX0_years_1 13 rfl rfl)
theorem dX0_years_38 : decode cX0_years 38 = .ok (.aload_n 2, 1) := dk_44 (dk_at dksX0_years_1 14 rfl rfl)
theorem dX0_years_39 : decode cX0_years 39 = .ok (.invokevirtual 174, 3) := dk_182 0 174 (dk_at dksX0_years_1 15 rfl rfl)
theorem dX0_years_42 : decode cX0_years 42 = .ok (.ireturn, 1) := dk_172 (dk_at dksX0_years_1 18 rfl rfl)
theorem dX0_years_43 : decode cX0_years 43 = .ok (.aload_n 0, 1) := dk_42 (dk_at dksX0_years_1 19 rfl rfl)
theorem dX0_years_44 : decode cX0_years 44 = .ok (.aload_n 0, 1) := dk_42 (dk_at dksX0_years_1 20 rfl rfl)
theorem dX0_years_45 : decode cX0_years 45 = .ok (.getfield 27, 3) := dk_180 0 27 (dk_at dksX0_years_1 21 rfl rfl)
theorem dX0_years_48 : decode cX0_years 48 = .ok (.getfield 189, 3) := dk_180 0 189 (dk_at dksX0_years_2 0 rfl rfl)
theorem dX0_years_51 : decode cX0_years 51 = .ok (.putfield 182, 3) := dk_181 0 182 (dk_at dksX0_years_2 3 rfl rfl)
theorem dX0_years_54 : decode cX0_years 54 = .ok (.aload_n 0, 1) := dk_42 (dk_at dksX0_years_2 6 rfl rfl)
theorem dX0_years_55 : decode cX0_years 55 = .ok (.aload_n 0, 1) := dk_42 (dk_at dksX0_years_2 7 rfl rfl)
theorem dX0_years_56 : decode cX0_years 56 = .ok (.getfield 27, 3) := dk_180 0 27 (dk_at dksX0_years_2 8 rfl rfl)
theorem dX0_years_59 : decode cX0_years 59 = .ok (.getfield 190, 3) := dk_180 0 190 (dk_at dksX0_years_2 11 rfl rfl)
theorem dX0_years_62 : decode cX0_years 62 = .ok (.invokevirtual 93, 3) := dk_182 0 93 (dk_at dksX0_years_2 14 rfl rfl)
theorem dX0_years_65 : decode cX0_years 65 = .ok (.ireturn, 1) := dk_172 (dk_at dksX0_years_2 17 rfl rfl)
abbrev cX0_fault : ByteArray := prog_1_method_29_code
def yX0_fault : MethodName := ⟨RX0, "fault", "(I)I"⟩
def dkwX0_fault_1 : List UInt8 := [172]
abbrev dktX0_fault_1 : List UInt8 := dkwX0_fault_1 ++ []
def dkwX0_fault_0 : List UInt8 := [27, 154, 0, 10, 42, 180, 0, 38, 167, 0, 16, 27, 4, 160, 0, 10, 42, 180, 0, 42, 167, 0, 4, 2]
abbrev dktX0_fault_0 : List UInt8 := dkwX0_fault_0 ++ dktX0_fault_1
theorem dksX0_fault_0 : cX0_fault.data.toList.drop 0 = dktX0_fault_0 := by decide +kernel
theorem dksX0_fault_1 : cX0_fault.data.toList.drop 24 = dktX0_fault_1 := dk_seg dksX0_fault_0 24 rfl rfl
theorem dX0_fault_0 : decode cX0_fault 0 = .ok (.iload_n 1, 1) := dk_27 (dk_at dksX0_fault_0 0 rfl rfl)
theorem dX0_fault_1 : decode cX0_fault 1 = .ok (.ifCond .ne 10, 3) := dk_154 0 10 (dk_at dksX0_fault_0 1 rfl rfl)
theorem dX0_fault_4 : decode cX0_fault 4 = .ok (.aload_n 0, 1) := dk_42 (dk_at dksX0_fault_0 4 rfl rfl)
theorem dX0_fault_5 : decode cX0_fault 5 = .ok (.getfield 38, 3) := dk_180 0 38 (dk_at dksX0_fault_0 5 rfl rfl)
theorem dX0_fault_8 : decode cX0_fault 8 = .ok (.goto 16, 3) := dk_167 0 16 (dk_at dksX0_fault_0 8 rfl rfl)
theorem dX0_fault_11 : decode cX0_fault 11 = .ok (.iload_n 1, 1) := dk_27 (dk_at dksX0_fault_0 11 rfl rfl)
theorem dX0_fault_12 : decode cX0_fault 12 = .ok (.iconst 1, 1) := dk_4 (dk_at dksX0_fault_0 12 rfl rfl)
theorem dX0_fault_13 : decode cX0_fault 13 = .ok (.if_icmp .ne 10, 3) := dk_160 0 10 (dk_at dksX0_fault_0 13 rfl rfl)
theorem dX0_fault_16 : decode cX0_fault 16 = .ok (.aload_n 0, 1) := dk_42 (dk_at dksX0_fault_0 16 rfl rfl)
theorem dX0_fault_17 : decode cX0_fault 17 = .ok (.getfield 42, 3) := dk_180 0 42 (dk_at dksX0_fault_0 17 rfl rfl)
theorem dX0_fault_20 : decode cX0_fault 20 = .ok (.goto 4, 3) := dk_167 0 4 (dk_at dksX0_fault_0 20 rfl rfl)
theorem dX0_fault_23 : decode cX0_fault 23 = .ok (.iconst (-1), 1) := dk_2 (dk_at dksX0_fault_0 23 rfl rfl)
theorem dX0_fault_24 : decode cX0_fault 24 = .ok (.ireturn, 1) := dk_172 (dk_at dksX0_fault_1 0 rfl rfl)
abbrev cX0_many : ByteArray := prog_1_method_32_code
def yX0_many : MethodName := ⟨RX0, "many", "(I)I"⟩
def dkwX0_many_7 : List UInt8 := [182, 0, 215, 2, 130, 126, 182, 0, 228, 182, 0, 93, 172, 42, 8, 182, 0, 89, 172]
abbrev dktX0_many_7 : List UInt8 := dkwX0_many_7 ++ []
def dkwX0_many_6 : List UInt8 := [172, 42, 42, 182, 0, 222, 182, 0, 93, 172, 42, 42, 180, 0, 34, 42, 182, 0, 225, 42, 180, 0, 34, 2]
abbrev dktX0_many_6 : List UInt8 := dkwX0_many_6 ++ dktX0_many_7
def dkwX0_many_5 : List UInt8 := [42, 42, 180, 0, 34, 2, 182, 0, 215, 182, 0, 93, 172, 42, 42, 180, 0, 34, 182, 0, 218, 182, 0, 93]
abbrev dktX0_many_5 : List UInt8 := dkwX0_many_5 ++ dktX0_many_6
def dkwX0_many_4 : List UInt8 := [42, 42, 180, 0, 34, 180, 0, 209, 182, 0, 93, 172, 42, 42, 180, 0, 34, 180, 0, 212, 182, 0, 93, 172]
abbrev dktX0_many_4 : List UInt8 := dkwX0_many_4 ++ dktX0_many_5
def dkwX0_many_3 : List UInt8 := [42, 42, 180, 0, 34, 180, 0, 206, 182, 0, 93, 172, 42, 42, 180, 0, 34, 180, 0, 144, 182, 0, 93, 172]
abbrev dktX0_many_3 : List UInt8 := dkwX0_many_3 ++ dktX0_many_4
def dkwX0_many_2 : List UInt8 := [42, 42, 180, 0, 34, 180, 0, 138, 182, 0, 93, 172, 42, 42, 180, 0, 34, 180, 0, 141, 182, 0, 93, 172]
abbrev dktX0_many_2 : List UInt8 := dkwX0_many_2 ++ dktX0_many_3
def dkwX0_many_1 : List UInt8 := [170, 0, 0, 0, 0, 0, 188, 0, 0, 0, 0, 0, 0, 0, 9, 0, 0, 0, 55, 0, 0, 0, 67, 0, 0, 0, 79, 0, 0, 0, 91, 0, 0, 0, 103, 0, 0, 0, 115, 0, 0, 0, 127, 0, 0, 0, 140, 0, 0, 0, 152, 0, 0, 0, 161]
abbrev dktX0_many_1 : List UInt8 := dkwX0_many_1 ++ dktX0_many_2
def dkwX0_many_0 : List UInt8 := [27]
abbrev dktX0_many_0 : List UInt8 := dkwX0_many_0 ++ dktX0_many_1
theorem dksX0_many_0 : cX0_many.data.toList.drop 0 = dktX0_many_0 := by decide +kernel
theorem dksX0_many_1 : cX0_many.data.toList.drop 1 = dktX0_many_1 := dk_seg dksX0_many_0 1 rfl rfl
theorem dksX0_many_2 : cX0_many.data.toList.drop 56 = dktX0_many_2 := dk_seg dksX0_many_1 55 rfl rfl
theorem dksX0_many_3 : cX0_many.data.toList.drop 80 = dktX0_many_3 := dk_seg dksX0_many_2 24 rfl rfl
theorem dksX0_many_4 : cX0_many.data.toList.drop 104 = dktX0_many_4 := dk_seg dksX0_many_3 24 rfl rfl
theorem dksX0_many_5 : cX0_many.data.toList.drop 128 = dktX0_many_5 := dk_seg dksX0_many_4 24 rfl rfl
theorem dksX0_many_6 : cX0_many.data.toList.drop 152 = dktX0_many_6 := dk_seg dksX0_many_5 24 rfl rfl
theorem dksX0_many_7 : cX0_many.data.toList.drop 176 = dktX0_many_7 := dk_seg dksX0_many_6 24 rfl rfl
theorem dX0_many_0 : decode cX0_many 0 = .ok (.iload_n 1, 1) := dk_27 (dk_at dksX0_many_0 0 rfl rfl)
theorem dX0_many_1 : decode cX0_many 1 = .ok (.tableswitch 188 0 9 #[55, 67, 79, 91, 103, 115, 127, 140, 152, 161], 55) := by decide +kernel
theorem dX0_many_56 : decode cX0_many 56 = .ok (.aload_n 0, 1) := dk_42 (dk_at dksX0_many_2 0 rfl rfl)
theorem dX0_many_57 : decode cX0_many 57 = .ok (.aload_n 0, 1) := dk_42 (dk_at dksX0_many_2 1 rfl rfl)
theorem dX0_many_58 : decode cX0_many 58 = .ok (.getfield 34, 3) := dk_180 0 34 (dk_at dksX0_many_2 2 rfl rfl)
theorem dX0_many_61 : decode cX0_many 61 = .ok (.getfield 138, 3) := dk_180 0 138 (dk_at dksX0_many_2 5 rfl rfl)
theorem dX0_many_64 : decode cX0_many 64 = .ok (.invokevirtual 93, 3) := dk_182 0 93 (dk_at dksX0_many_2 8 rfl rfl)
theorem dX0_many_67 : decode cX0_many 67 = .ok (.ireturn, 1) := dk_172 (dk_at dksX0_many_2 11 rfl rfl)
theorem dX0_many_68 : decode cX0_many 68 = .ok (.aload_n 0, 1) := dk_42 (dk_at dksX0_many_2 12 rfl rfl)
theorem dX0_many_69 : decode cX0_many 69 = .ok (.aload_n 0, 1) := dk_42 (dk_at dksX0_many_2 13 rfl rfl)
theorem dX0_many_70 : decode cX0_many 70 = .ok (.getfield 34, 3) := dk_180 0 34 (dk_at dksX0_many_2 14 rfl rfl)
theorem dX0_many_73 : decode cX0_many 73 = .ok (.getfield 141, 3) := dk_180 0 141 (dk_at dksX0_many_2 17 rfl rfl)
theorem dX0_many_76 : decode cX0_many 76 = .ok (.invokevirtual 93, 3) := dk_182 0 93 (dk_at dksX0_many_2 20 rfl rfl)
theorem dX0_many_79 : decode cX0_many 79 = .ok (.ireturn, 1) := dk_172 (dk_at dksX0_many_2 23 rfl rfl)
theorem dX0_many_80 : decode cX0_many 80 = .ok (.aload_n 0, 1) := dk_42 (dk_at dksX0_many_3 0 rfl rfl)
theorem dX0_many_81 : decode cX0_many 81 = .ok (.aload_n 0, 1) := dk_42 (dk_at dksX0_many_3 1 rfl rfl)
theorem dX0_many_82 : decode cX0_many 82 = .ok (.getfield 34, 3) := dk_180 0 34 (dk_at dksX0_many_3 2 rfl rfl)
theorem dX0_many_85 : decode cX0_many 85 = .ok (.getfield 206, 3) := dk_180 0 206 (dk_at dksX0_many_3 5 rfl rfl)
theorem dX0_many_88 : decode cX0_many 88 = .ok (.invokevirtual 93, 3) := dk_182 0 93 (dk_at dksX0_many_3 8 rfl rfl)
theorem dX0_many_91 : decode cX0_many 91 = .ok (.ireturn, 1) := dk_172 (dk_at dksX0_many_3 11 rfl rfl)
theorem dX0_many_92 : decode cX0_many 92 = .ok (.aload_n 0, 1) := dk_42 (dk_at dksX0_many_3 12 rfl rfl)
theorem dX0_many_93 : decode cX0_many 93 = .ok (.aload_n 0, 1) := dk_42 (dk_at dksX0_many_3 13 rfl rfl)
theorem dX0_many_94 : decode cX0_many 94 = .ok (.getfield 34, 3) := dk_180 0 34 (dk_at dksX0_many_3 14 rfl rfl)
theorem dX0_many_97 : decode cX0_many 97 = .ok (.getfield 144, 3) := dk_180 0 144 (dk_at dksX0_many_3 17 rfl rfl)
theorem dX0_many_100 : decode cX0_many 100 = .ok (.invokevirtual 93, 3) := dk_182 0 93 (dk_at dksX0_many_3 20 rfl rfl)
theorem dX0_many_103 : decode cX0_many 103 = .ok (.ireturn, 1) := dk_172 (dk_at dksX0_many_3 23 rfl rfl)
theorem dX0_many_104 : decode cX0_many 104 = .ok (.aload_n 0, 1) := dk_42 (dk_at dksX0_many_4 0 rfl rfl)
theorem dX0_many_105 : decode cX0_many 105 = .ok (.aload_n 0, 1) := dk_42 (dk_at dksX0_many_4 1 rfl rfl)
theorem dX0_many_106 : decode cX0_many 106 = .ok (.getfield 34, 3) := dk_180 0 34 (dk_at dksX0_many_4 2 rfl rfl)
theorem dX0_many_109 : decode cX0_many 109 = .ok (.getfield 209, 3) := dk_180 0 209 (dk_at dksX0_many_4 5 rfl rfl)
theorem dX0_many_112 : decode cX0_many 112 = .ok (.invokevirtual 93, 3) := dk_182 0 93 (dk_at dksX0_many_4 8 rfl rfl)
theorem dX0_many_115 : decode cX0_many 115 = .ok (.ireturn, 1) := dk_172 (dk_at dksX0_many_4 11 rfl rfl)
theorem dX0_many_116 : decode cX0_many 116 = .ok (.aload_n 0, 1) := dk_42 (dk_at dksX0_many_4 12 rfl rfl)
theorem dX0_many_117 : decode cX0_many 117 = .ok (.aload_n 0, 1) := dk_42 (dk_at dksX0_many_4 13 rfl rfl)
theorem dX0_many_118 : decode cX0_many 118 = .ok (.getfield 34, 3) := dk_180 0 34 (dk_at dksX0_many_4 14 rfl rfl)
theorem dX0_many_121 : decode cX0_many 121 = .ok (.getfield 212, 3) := dk_180 0 212 (dk_at dksX0_many_4 17 rfl rfl)
theorem dX0_many_124 : decode cX0_many 124 = .ok (.invokevirtual 93, 3) := dk_182 0 93 (dk_at dksX0_many_4 20 rfl rfl)
theorem dX0_many_127 : decode cX0_many 127 = .ok (.ireturn, 1) := dk_172 (dk_at dksX0_many_4 23 rfl rfl)
theorem dX0_many_128 : decode cX0_many 128 = .ok (.aload_n 0, 1) := dk_42 (dk_at dksX0_many_5 0 rfl rfl)
theorem dX0_many_129 : decode cX0_many 129 = .ok (.aload_n 0, 1) := dk_42 (dk_at dksX0_many_5 1 rfl rfl)
theorem dX0_many_130 : decode cX0_many 130 = .ok (.getfield 34, 3) := dk_180 0 34 (dk_at dksX0_many_5 2 rfl rfl)
theorem dX0_many_133 : decode cX0_many 133 = .ok (.iconst (-1), 1) := dk_2 (dk_at dksX0_many_5 5 rfl rfl)
theorem dX0_many_134 : decode cX0_many 134 = .ok (.invokevirtual 215, 3) := dk_182 0 215 (dk_at dksX0_many_5 6 rfl rfl)
theorem dX0_many_137 : decode cX0_many 137 = .ok (.invokevirtual 93, 3) := dk_182 0 93 (dk_at dksX0_many_5 9 rfl rfl)
theorem dX0_many_140 : decode cX0_many 140 = .ok (.ireturn, 1) := dk_172 (dk_at dksX0_many_5 12 rfl rfl)
theorem dX0_many_141 : decode cX0_many 141 = .ok (.aload_n 0, 1) := dk_42 (dk_at dksX0_many_5 13 rfl rfl)
theorem dX0_many_142 : decode cX0_many 142 = .ok (.aload_n 0, 1) := dk_42 (dk_at dksX0_many_5 14 rfl rfl)
theorem dX0_many_143 : decode cX0_many 143 = .ok (.getfield 34, 3) := dk_180 0 34 (dk_at dksX0_many_5 15 rfl rfl)
theorem dX0_many_146 : decode cX0_many 146 = .ok (.invokevirtual 218, 3) := dk_182 0 218 (dk_at dksX0_many_5 18 rfl rfl)
theorem dX0_many_149 : decode cX0_many 149 = .ok (.invokevirtual 93, 3) := dk_182 0 93 (dk_at dksX0_many_5 21 rfl rfl)
theorem dX0_many_152 : decode cX0_many 152 = .ok (.ireturn, 1) := dk_172 (dk_at dksX0_many_6 0 rfl rfl)
theorem dX0_many_153 : decode cX0_many 153 = .ok (.aload_n 0, 1) := dk_42 (dk_at dksX0_many_6 1 rfl rfl)
theorem dX0_many_154 : decode cX0_many 154 = .ok (.aload_n 0, 1) := dk_42 (dk_at dksX0_many_6 2 rfl rfl)
theorem dX0_many_155 : decode cX0_many 155 = .ok (.invokevirtual 222, 3) := dk_182 0 222 (dk_at dksX0_many_6 3 rfl rfl)
theorem dX0_many_158 : decode cX0_many 158 = .ok (.invokevirtual 93, 3) := dk_182 0 93 (dk_at dksX0_many_6 6 rfl rfl)
theorem dX0_many_161 : decode cX0_many 161 = .ok (.ireturn, 1) := dk_172 (dk_at dksX0_many_6 9 rfl rfl)
theorem dX0_many_162 : decode cX0_many 162 = .ok (.aload_n 0, 1) := dk_42 (dk_at dksX0_many_6 10 rfl rfl)
theorem dX0_many_163 : decode cX0_many 163 = .ok (.aload_n 0, 1) := dk_42 (dk_at dksX0_many_6 11 rfl rfl)
theorem dX0_many_164 : decode cX0_many 164 = .ok (.getfield 34, 3) := dk_180 0 34 (dk_at dksX0_many_6 12 rfl rfl)
theorem dX0_many_167 : decode cX0_many 167 = .ok (.aload_n 0, 1) := dk_42 (dk_at dksX0_many_6 15 rfl rfl)
theorem dX0_many_168 : decode cX0_many 168 = .ok (.invokevirtual 225, 3) := dk_182 0 225 (dk_at dksX0_many_6 16 rfl rfl)
theorem dX0_many_171 : decode cX0_many 171 = .ok (.aload_n 0, 1) := dk_42 (dk_at dksX0_many_6 19 rfl rfl)
theorem dX0_many_172 : decode cX0_many 172 = .ok (.getfield 34, 3) := dk_180 0 34 (dk_at dksX0_many_6 20 rfl rfl)
theorem dX0_many_175 : decode cX0_many 175 = .ok (.iconst (-1), 1) := dk_2 (dk_at dksX0_many_6 23 rfl rfl)
theorem dX0_many_176 : decode cX0_many 176 = .ok (.invokevirtual 215, 3) := dk_182 0 215 (dk_at dksX0_many_7 0 rfl rfl)
theorem dX0_many_179 : decode cX0_many 179 = .ok (.iconst (-1), 1) := dk_2 (dk_at dksX0_many_7 3 rfl rfl)
theorem dX0_many_180 : decode cX0_many 180 = .ok (.ixor, 1) := dk_130 (dk_at dksX0_many_7 4 rfl rfl)
theorem dX0_many_181 : decode cX0_many 181 = .ok (.iand, 1) := dk_126 (dk_at dksX0_many_7 5 rfl rfl)
theorem dX0_many_182 : decode cX0_many 182 = .ok (.invokevirtual 228, 3) := dk_182 0 228 (dk_at dksX0_many_7 6 rfl rfl)
theorem dX0_many_185 : decode cX0_many 185 = .ok (.invokevirtual 93, 3) := dk_182 0 93 (dk_at dksX0_many_7 9 rfl rfl)
theorem dX0_many_188 : decode cX0_many 188 = .ok (.ireturn, 1) := dk_172 (dk_at dksX0_many_7 12 rfl rfl)
theorem dX0_many_189 : decode cX0_many 189 = .ok (.aload_n 0, 1) := dk_42 (dk_at dksX0_many_7 13 rfl rfl)
theorem dX0_many_190 : decode cX0_many 190 = .ok (.iconst 5, 1) := dk_8 (dk_at dksX0_many_7 14 rfl rfl)
theorem dX0_many_191 : decode cX0_many 191 = .ok (.invokevirtual 89, 3) := dk_182 0 89 (dk_at dksX0_many_7 15 rfl rfl)
theorem dX0_many_194 : decode cX0_many 194 = .ok (.ireturn, 1) := dk_172 (dk_at dksX0_many_7 18 rfl rfl)
abbrev cX0_ofLead : ByteArray := prog_1_method_30_code
def yX0_ofLead : MethodName := ⟨RX0, "ofLead", "()I"⟩
def dkwX0_ofLead_2 : List UInt8 := [132, 2, 1, 167, 255, 210, 27, 172]
abbrev dktX0_ofLead_2 : List UInt8 := dkwX0_ofLead_2 ++ []
def dkwX0_ofLead_1 : List UInt8 := [50, 180, 0, 197, 42, 180, 0, 27, 180, 0, 203, 166, 0, 9, 4, 28, 120, 167, 0, 4, 3, 128, 60]
abbrev dktX0_ofLead_1 : List UInt8 := dkwX0_ofLead_1 ++ dktX0_ofLead_2
def dkwX0_ofLead_0 : List UInt8 := [3, 60, 3, 61, 28, 42, 180, 0, 34, 180, 0, 144, 162, 0, 41, 27, 42, 180, 0, 34, 180, 0, 193, 28]
abbrev dktX0_ofLead_0 : List UInt8 := dkwX0_ofLead_0 ++ dktX0_ofLead_1
theorem dksX0_ofLead_0 : cX0_ofLead.data.toList.drop 0 = dktX0_ofLead_0 := by decide +kernel
theorem dksX0_ofLead_1 : cX0_ofLead.data.toList.drop 24 = dktX0_ofLead_1 := dk_seg dksX0_ofLead_0 24 rfl rfl
theorem dksX0_ofLead_2 : cX0_ofLead.data.toList.drop 47 = dktX0_ofLead_2 := dk_seg dksX0_ofLead_1 23 rfl rfl
theorem dX0_ofLead_0 : decode cX0_ofLead 0 = .ok (.iconst 0, 1) := dk_3 (dk_at dksX0_ofLead_0 0 rfl rfl)
theorem dX0_ofLead_1 : decode cX0_ofLead 1 = .ok (.istore_n 1, 1) := dk_60 (dk_at dksX0_ofLead_0 1 rfl rfl)
theorem dX0_ofLead_2 : decode cX0_ofLead 2 = .ok (.iconst 0, 1) := dk_3 (dk_at dksX0_ofLead_0 2 rfl rfl)
theorem dX0_ofLead_3 : decode cX0_ofLead 3 = .ok (.istore_n 2, 1) := dk_61 (dk_at dksX0_ofLead_0 3 rfl rfl)
theorem dX0_ofLead_4 : decode cX0_ofLead 4 = .ok (.iload_n 2, 1) := dk_28 (dk_at dksX0_ofLead_0 4 rfl rfl)
theorem dX0_ofLead_5 : decode cX0_ofLead 5 = .ok (.aload_n 0, 1) := dk_42 (dk_at dksX0_ofLead_0 5 rfl rfl)
theorem dX0_ofLead_6 : decode cX0_ofLead 6 = .ok (.getfield 34, 3) := dk_180 0 34 (dk_at dksX0_ofLead_0 6 rfl rfl)
theorem dX0_ofLead_9 : decode cX0_ofLead 9 = .ok (.getfield 144, 3) := dk_180 0 144 (dk_at dksX0_ofLead_0 9 rfl rfl)
theorem dX0_ofLead_12 : decode cX0_ofLead 12 = .ok (.if_icmp .ge 41, 3) := dk_162 0 41 (dk_at dksX0_ofLead_0 12 rfl rfl)
theorem dX0_ofLead_15 : decode cX0_ofLead 15 = .ok (.iload_n 1, 1) := dk_27 (dk_at dksX0_ofLead_0 15 rfl rfl)
theorem dX0_ofLead_16 : decode cX0_ofLead 16 = .ok (.aload_n 0, 1) := dk_42 (dk_at dksX0_ofLead_0 16 rfl rfl)
theorem dX0_ofLead_17 : decode cX0_ofLead 17 = .ok (.getfield 34, 3) := dk_180 0 34 (dk_at dksX0_ofLead_0 17 rfl rfl)
theorem dX0_ofLead_20 : decode cX0_ofLead 20 = .ok (.getfield 193, 3) := dk_180 0 193 (dk_at dksX0_ofLead_0 20 rfl rfl)
theorem dX0_ofLead_23 : decode cX0_ofLead 23 = .ok (.iload_n 2, 1) := dk_28 (dk_at dksX0_ofLead_0 23 rfl rfl)
theorem dX0_ofLead_24 : decode cX0_ofLead 24 = .ok (.aaload, 1) := dk_50 (dk_at dksX0_ofLead_1 0 rfl rfl)
theorem dX0_ofLead_25 : decode cX0_ofLead 25 = .ok (.getfield 197, 3) := dk_180 0 197 (dk_at dksX0_ofLead_1 1 rfl rfl)
theorem dX0_ofLead_28 : decode cX0_ofLead 28 = .ok (.aload_n 0, 1) := dk_42 (dk_at dksX0_ofLead_1 4 rfl rfl)
theorem dX0_ofLead_29 : decode cX0_ofLead 29 = .ok (.getfield 27, 3) := dk_180 0 27 (dk_at dksX0_ofLead_1 5 rfl rfl)
theorem dX0_ofLead_32 : decode cX0_ofLead 32 = .ok (.getfield 203, 3) := dk_180 0 203 (dk_at dksX0_ofLead_1 8 rfl rfl)
theorem dX0_ofLead_35 : decode cX0_ofLead 35 = .ok (.if_acmp .ne 9, 3) := dk_166 0 9 (dk_at dksX0_ofLead_1 11 rfl rfl)
theorem dX0_ofLead_38 : decode cX0_ofLead 38 = .ok (.iconst 1, 1) := dk_4 (dk_at dksX0_ofLead_1 14 rfl rfl)
theorem dX0_ofLead_39 : decode cX0_ofLead 39 = .ok (.iload_n 2, 1) := dk_28 (dk_at dksX0_ofLead_1 15 rfl rfl)
theorem dX0_ofLead_40 : decode cX0_ofLead 40 = .ok (.ishl, 1) := dk_120 (dk_at dksX0_ofLead_1 16 rfl rfl)
theorem dX0_ofLead_41 : decode cX0_ofLead 41 = .ok (.goto 4, 3) := dk_167 0 4 (dk_at dksX0_ofLead_1 17 rfl rfl)
theorem dX0_ofLead_44 : decode cX0_ofLead 44 = .ok (.iconst 0, 1) := dk_3 (dk_at dksX0_ofLead_1 20 rfl rfl)
theorem dX0_ofLead_45 : decode cX0_ofLead 45 = .ok (.ior, 1) := dk_128 (dk_at dksX0_ofLead_1 21 rfl rfl)
theorem dX0_ofLead_46 : decode cX0_ofLead 46 = .ok (.istore_n 1, 1) := dk_60 (dk_at dksX0_ofLead_1 22 rfl rfl)
theorem dX0_ofLead_47 : decode cX0_ofLead 47 = .ok (.iinc 2 1, 3) := dk_132 2 1 (dk_at dksX0_ofLead_2 0 rfl rfl)
theorem dX0_ofLead_50 : decode cX0_ofLead 50 = .ok (.goto (-46), 3) := dk_167 255 210 (dk_at dksX0_ofLead_2 3 rfl rfl)
theorem dX0_ofLead_53 : decode cX0_ofLead 53 = .ok (.iload_n 1, 1) := dk_27 (dk_at dksX0_ofLead_2 6 rfl rfl)
theorem dX0_ofLead_54 : decode cX0_ofLead 54 = .ok (.ireturn, 1) := dk_172 (dk_at dksX0_ofLead_2 7 rfl rfl)
abbrev cX0_allTins : ByteArray := prog_1_method_31_code
def yX0_allTins : MethodName := ⟨RX0, "allTins", "()I"⟩
def dkwX0_allTins_0 : List UInt8 := [4, 42, 180, 0, 34, 180, 0, 144, 120, 4, 100, 172]
abbrev dktX0_allTins_0 : List UInt8 := dkwX0_allTins_0 ++ []
theorem dksX0_allTins_0 : cX0_allTins.data.toList.drop 0 = dktX0_allTins_0 := by decide +kernel
theorem dX0_allTins_0 : decode cX0_allTins 0 = .ok (.iconst 1, 1) := dk_4 (dk_at dksX0_allTins_0 0 rfl rfl)
theorem dX0_allTins_1 : decode cX0_allTins 1 = .ok (.aload_n 0, 1) := dk_42 (dk_at dksX0_allTins_0 1 rfl rfl)
theorem dX0_allTins_2 : decode cX0_allTins 2 = .ok (.getfield 34, 3) := dk_180 0 34 (dk_at dksX0_allTins_0 2 rfl rfl)
theorem dX0_allTins_5 : decode cX0_allTins 5 = .ok (.getfield 144, 3) := dk_180 0 144 (dk_at dksX0_allTins_0 5 rfl rfl)
theorem dX0_allTins_8 : decode cX0_allTins 8 = .ok (.ishl, 1) := dk_120 (dk_at dksX0_allTins_0 8 rfl rfl)
theorem dX0_allTins_9 : decode cX0_allTins 9 = .ok (.iconst 1, 1) := dk_4 (dk_at dksX0_allTins_0 9 rfl rfl)
theorem dX0_allTins_10 : decode cX0_allTins 10 = .ok (.isub, 1) := dk_100 (dk_at dksX0_allTins_0 10 rfl rfl)
theorem dX0_allTins_11 : decode cX0_allTins 11 = .ok (.ireturn, 1) := dk_172 (dk_at dksX0_allTins_0 11 rfl rfl)
abbrev cX0_worth : ByteArray := prog_1_method_33_code
def yX0_worth : MethodName := ⟨RX0, "worth", "(I)I"⟩
def dkwX0_worth_1 : List UInt8 := [42, 5, 182, 0, 89, 172]
abbrev dktX0_worth_1 : List UInt8 := dkwX0_worth_1 ++ []
def dkwX0_worth_0 : List UInt8 := [42, 27, 182, 0, 231, 153, 0, 19, 42, 42, 180, 0, 34, 180, 0, 234, 27, 46, 182, 0, 93, 167, 0, 8]
abbrev dktX0_worth_0 : List UInt8 := dkwX0_worth_0 ++ dktX0_worth_1
theorem dksX0_worth_0 : cX0_worth.data.toList.drop 0 = dktX0_worth_0 := by decide +kernel
theorem dksX0_worth_1 : cX0_worth.data.toList.drop 24 = dktX0_worth_1 := dk_seg dksX0_worth_0 24 rfl rfl
theorem dX0_worth_0 : decode cX0_worth 0 = .ok (.aload_n 0, 1) := dk_42 (dk_at dksX0_worth_0 0 rfl rfl)
theorem dX0_worth_1 : decode cX0_worth 1 = .ok (.iload_n 1, 1) := dk_27 (dk_at dksX0_worth_0 1 rfl rfl)
theorem dX0_worth_2 : decode cX0_worth 2 = .ok (.invokevirtual 231, 3) := dk_182 0 231 (dk_at dksX0_worth_0 2 rfl rfl)
theorem dX0_worth_5 : decode cX0_worth 5 = .ok (.ifCond .eq 19, 3) := dk_153 0 19 (dk_at dksX0_worth_0 5 rfl rfl)
theorem dX0_worth_8 : decode cX0_worth 8 = .ok (.aload_n 0, 1) := dk_42 (dk_at dksX0_worth_0 8 rfl rfl)
theorem dX0_worth_9 : decode cX0_worth 9 = .ok (.aload_n 0, 1) := dk_42 (dk_at dksX0_worth_0 9 rfl rfl)
theorem dX0_worth_10 : decode cX0_worth 10 = .ok (.getfield 34, 3) := dk_180 0 34 (dk_at dksX0_worth_0 10 rfl rfl)
theorem dX0_worth_13 : decode cX0_worth 13 = .ok (.getfield 234, 3) := dk_180 0 234 (dk_at dksX0_worth_0 13 rfl rfl)
theorem dX0_worth_16 : decode cX0_worth 16 = .ok (.iload_n 1, 1) := dk_27 (dk_at dksX0_worth_0 16 rfl rfl)
theorem dX0_worth_17 : decode cX0_worth 17 = .ok (.iaload, 1) := dk_46 (dk_at dksX0_worth_0 17 rfl rfl)
theorem dX0_worth_18 : decode cX0_worth 18 = .ok (.invokevirtual 93, 3) := dk_182 0 93 (dk_at dksX0_worth_0 18 rfl rfl)
theorem dX0_worth_21 : decode cX0_worth 21 = .ok (.goto 8, 3) := dk_167 0 8 (dk_at dksX0_worth_0 21 rfl rfl)
theorem dX0_worth_24 : decode cX0_worth 24 = .ok (.aload_n 0, 1) := dk_42 (dk_at dksX0_worth_1 0 rfl rfl)
theorem dX0_worth_25 : decode cX0_worth 25 = .ok (.iconst 2, 1) := dk_5 (dk_at dksX0_worth_1 1 rfl rfl)
theorem dX0_worth_26 : decode cX0_worth 26 = .ok (.invokevirtual 89, 3) := dk_182 0 89 (dk_at dksX0_worth_1 2 rfl rfl)
theorem dX0_worth_29 : decode cX0_worth 29 = .ok (.ireturn, 1) := dk_172 (dk_at dksX0_worth_1 5 rfl rfl)
abbrev cX0_isTrait : ByteArray := prog_1_method_19_code
def yX0_isTrait : MethodName := ⟨RX0, "isTrait", "(I)Z"⟩
def dkwX0_isTrait_0 : List UInt8 := [27, 155, 0, 18, 27, 42, 180, 0, 34, 180, 0, 138, 162, 0, 7, 4, 167, 0, 4, 3, 172]
abbrev dktX0_isTrait_0 : List UInt8 := dkwX0_isTrait_0 ++ []
theorem dksX0_isTrait_0 : cX0_isTrait.data.toList.drop 0 = dktX0_isTrait_0 := by decide +kernel
theorem dX0_isTrait_0 : decode cX0_isTrait 0 = .ok (.iload_n 1, 1) := dk_27 (dk_at dksX0_isTrait_0 0 rfl rfl)
theorem dX0_isTrait_1 : decode cX0_isTrait 1 = .ok (.ifCond .lt 18, 3) := dk_155 0 18 (dk_at dksX0_isTrait_0 1 rfl rfl)
theorem dX0_isTrait_4 : decode cX0_isTrait 4 = .ok (.iload_n 1, 1) := dk_27 (dk_at dksX0_isTrait_0 4 rfl rfl)
theorem dX0_isTrait_5 : decode cX0_isTrait 5 = .ok (.aload_n 0, 1) := dk_42 (dk_at dksX0_isTrait_0 5 rfl rfl)
theorem dX0_isTrait_6 : decode cX0_isTrait 6 = .ok (.getfield 34, 3) := dk_180 0 34 (dk_at dksX0_isTrait_0 6 rfl rfl)
theorem dX0_isTrait_9 : decode cX0_isTrait 9 = .ok (.getfield 138, 3) := dk_180 0 138 (dk_at dksX0_isTrait_0 9 rfl rfl)
theorem dX0_isTrait_12 : decode cX0_isTrait 12 = .ok (.if_icmp .ge 7, 3) := dk_162 0 7 (dk_at dksX0_isTrait_0 12 rfl rfl)
theorem dX0_isTrait_15 : decode cX0_isTrait 15 = .ok (.iconst 1, 1) := dk_4 (dk_at dksX0_isTrait_0 15 rfl rfl)
theorem dX0_isTrait_16 : decode cX0_isTrait 16 = .ok (.goto 4, 3) := dk_167 0 4 (dk_at dksX0_isTrait_0 16 rfl rfl)
theorem dX0_isTrait_19 : decode cX0_isTrait 19 = .ok (.iconst 0, 1) := dk_3 (dk_at dksX0_isTrait_0 19 rfl rfl)
theorem dX0_isTrait_20 : decode cX0_isTrait 20 = .ok (.ireturn, 1) := dk_172 (dk_at dksX0_isTrait_0 20 rfl rfl)
abbrev cX0_person : ByteArray := prog_1_method_34_code
def yX0_person : MethodName := ⟨RX0, "person", "(II)I"⟩
def dkwX0_person_5 : List UInt8 := [180, 0, 34, 27, 182, 0, 215, 182, 0, 228, 182, 0, 93, 172, 42, 8, 182, 0, 89, 172]
abbrev dktX0_person_5 : List UInt8 := dkwX0_person_5 ++ []
def dkwX0_person_4 : List UInt8 := [182, 0, 215, 182, 0, 93, 172, 42, 45, 180, 0, 253, 182, 0, 93, 172, 42, 42, 180, 0, 34, 42]
abbrev dktX0_person_4 : List UInt8 := dkwX0_person_4 ++ dktX0_person_5
def dkwX0_person_3 : List UInt8 := [42, 45, 180, 0, 245, 182, 0, 93, 172, 42, 45, 180, 0, 250, 182, 0, 93, 172, 42, 42, 180, 0, 34, 27]
abbrev dktX0_person_3 : List UInt8 := dkwX0_person_3 ++ dktX0_person_4
def dkwX0_person_2 : List UInt8 := [170, 0, 0, 0, 0, 94, 0, 0, 0, 0, 0, 0, 0, 4, 0, 0, 0, 34, 0, 0, 0, 43, 0, 0, 0, 52, 0, 0, 0, 65, 0, 0, 0, 74]
abbrev dktX0_person_2 : List UInt8 := dkwX0_person_2 ++ dktX0_person_3
def dkwX0_person_1 : List UInt8 := [78, 28]
abbrev dktX0_person_1 : List UInt8 := dkwX0_person_1 ++ dktX0_person_2
def dkwX0_person_0 : List UInt8 := [42, 27, 133, 182, 0, 237, 154, 0, 9, 42, 5, 182, 0, 89, 172, 42, 180, 0, 34, 180, 0, 241, 27, 50]
abbrev dktX0_person_0 : List UInt8 := dkwX0_person_0 ++ dktX0_person_1
theorem dksX0_person_0 : cX0_person.data.toList.drop 0 = dktX0_person_0 := by decide +kernel
theorem dksX0_person_1 : cX0_person.data.toList.drop 24 = dktX0_person_1 := dk_seg dksX0_person_0 24 rfl rfl
theorem dksX0_person_2 : cX0_person.data.toList.drop 26 = dktX0_person_2 := dk_seg dksX0_person_1 2 rfl rfl
theorem dksX0_person_3 : cX0_person.data.toList.drop 60 = dktX0_person_3 := dk_seg dksX0_person_2 34 rfl rfl
theorem dksX0_person_4 : cX0_person.data.toList.drop 84 = dktX0_person_4 := dk_seg dksX0_person_3 24 rfl rfl
theorem dksX0_person_5 : cX0_person.data.toList.drop 106 = dktX0_person_5 := dk_seg dksX0_person_4 22 rfl rfl
theorem dX0_person_0 : decode cX0_person 0 = .ok (.aload_n 0, 1) := dk_42 (dk_at dksX0_person_0 0 rfl rfl)
theorem dX0_person_1 : decode cX0_person 1 = .ok (.iload_n 1, 1) := dk_27 (dk_at dksX0_person_0 1 rfl rfl)
theorem dX0_person_2 : decode cX0_person 2 = .ok (.i2l, 1) := dk_133 (dk_at dksX0_person_0 2 rfl rfl)
theorem dX0_person_3 : decode cX0_person 3 = .ok (.invokevirtual 237, 3) := dk_182 0 237 (dk_at dksX0_person_0 3 rfl rfl)
theorem dX0_person_6 : decode cX0_person 6 = .ok (.ifCond .ne 9, 3) := dk_154 0 9 (dk_at dksX0_person_0 6 rfl rfl)
theorem dX0_person_9 : decode cX0_person 9 = .ok (.aload_n 0, 1) := dk_42 (dk_at dksX0_person_0 9 rfl rfl)
theorem dX0_person_10 : decode cX0_person 10 = .ok (.iconst 2, 1) := dk_5 (dk_at dksX0_person_0 10 rfl rfl)
theorem dX0_person_11 : decode cX0_person 11 = .ok (.invokevirtual 89, 3) := dk_182 0 89 (dk_at dksX0_person_0 11 rfl rfl)
theorem dX0_person_14 : decode cX0_person 14 = .ok (.ireturn, 1) := dk_172 (dk_at dksX0_person_0 14 rfl rfl)
theorem dX0_person_15 : decode cX0_person 15 = .ok (.aload_n 0, 1) := dk_42 (dk_at dksX0_person_0 15 rfl rfl)
theorem dX0_person_16 : decode cX0_person 16 = .ok (.getfield 34, 3) := dk_180 0 34 (dk_at dksX0_person_0 16 rfl rfl)
theorem dX0_person_19 : decode cX0_person 19 = .ok (.getfield 241, 3) := dk_180 0 241 (dk_at dksX0_person_0 19 rfl rfl)
theorem dX0_person_22 : decode cX0_person 22 = .ok (.iload_n 1, 1) := dk_27 (dk_at dksX0_person_0 22 rfl rfl)
theorem dX0_person_23 : decode cX0_person 23 = .ok (.aaload, 1) := dk_50 (dk_at dksX0_person_0 23 rfl rfl)
theorem dX0_person_24 : decode cX0_person 24 = .ok (.astore_n 3, 1) := dk_78 (dk_at dksX0_person_1 0 rfl rfl)
theorem dX0_person_25 : decode cX0_person 25 = .ok (.iload_n 2, 1) := dk_28 (dk_at dksX0_person_1 1 rfl rfl)
theorem dX0_person_26 : decode cX0_person 26 = .ok (.tableswitch 94 0 4 #[34, 43, 52, 65, 74], 34) := by decide +kernel
theorem dX0_person_60 : decode cX0_person 60 = .ok (.aload_n 0, 1) := dk_42 (dk_at dksX0_person_3 0 rfl rfl)
theorem dX0_person_61 : decode cX0_person 61 = .ok (.aload_n 3, 1) := dk_45 (dk_at dksX0_person_3 1 rfl rfl)
theorem dX0_person_62 : decode cX0_person 62 = .ok (.getfield 245, 3) := dk_180 0 245 (dk_at dksX0_person_3 2 rfl rfl)
theorem dX0_person_65 : decode cX0_person 65 = .ok (.invokevirtual 93, 3) := dk_182 0 93 (dk_at dksX0_person_3 5 rfl rfl)
theorem dX0_person_68 : decode cX0_person 68 = .ok (.ireturn, 1) := dk_172 (dk_at dksX0_person_3 8 rfl rfl)
theorem dX0_person_69 : decode cX0_person 69 = .ok (.aload_n 0, 1) := dk_42 (dk_at dksX0_person_3 9 rfl rfl)
theorem dX0_person_70 : decode cX0_person 70 = .ok (.aload_n 3, 1) := dk_45 (dk_at dksX0_person_3 10 rfl rfl)
theorem dX0_person_71 : decode cX0_person 71 = .ok (.getfield 250, 3) := dk_180 0 250 (dk_at dksX0_person_3 11 rfl rfl)
theorem dX0_person_74 : decode cX0_person 74 = .ok (.invokevirtual 93, 3) := dk_182 0 93 (dk_at dksX0_person_3 14 rfl rfl)
theorem dX0_person_77 : decode cX0_person 77 = .ok (.ireturn, 1) := dk_172 (dk_at dksX0_person_3 17 rfl rfl)
theorem dX0_person_78 : decode cX0_person 78 = .ok (.aload_n 0, 1) := dk_42 (dk_at dksX0_person_3 18 rfl rfl)
theorem dX0_person_79 : decode cX0_person 79 = .ok (.aload_n 0, 1) := dk_42 (dk_at dksX0_person_3 19 rfl rfl)
theorem dX0_person_80 : decode cX0_person 80 = .ok (.getfield 34, 3) := dk_180 0 34 (dk_at dksX0_person_3 20 rfl rfl)
theorem dX0_person_83 : decode cX0_person 83 = .ok (.iload_n 1, 1) := dk_27 (dk_at dksX0_person_3 23 rfl rfl)
theorem dX0_person_84 : decode cX0_person 84 = .ok (.invokevirtual 215, 3) := dk_182 0 215 (dk_at dksX0_person_4 0 rfl rfl)
theorem dX0_person_87 : decode cX0_person 87 = .ok (.invokevirtual 93, 3) := dk_182 0 93 (dk_at dksX0_person_4 3 rfl rfl)
theorem dX0_person_90 : decode cX0_person 90 = .ok (.ireturn, 1) := dk_172 (dk_at dksX0_person_4 6 rfl rfl)
theorem dX0_person_91 : decode cX0_person 91 = .ok (.aload_n 0, 1) := dk_42 (dk_at dksX0_person_4 7 rfl rfl)
theorem dX0_person_92 : decode cX0_person 92 = .ok (.aload_n 3, 1) := dk_45 (dk_at dksX0_person_4 8 rfl rfl)
theorem dX0_person_93 : decode cX0_person 93 = .ok (.getfield 253, 3) := dk_180 0 253 (dk_at dksX0_person_4 9 rfl rfl)
theorem dX0_person_96 : decode cX0_person 96 = .ok (.invokevirtual 93, 3) := dk_182 0 93 (dk_at dksX0_person_4 12 rfl rfl)
theorem dX0_person_99 : decode cX0_person 99 = .ok (.ireturn, 1) := dk_172 (dk_at dksX0_person_4 15 rfl rfl)
theorem dX0_person_100 : decode cX0_person 100 = .ok (.aload_n 0, 1) := dk_42 (dk_at dksX0_person_4 16 rfl rfl)
theorem dX0_person_101 : decode cX0_person 101 = .ok (.aload_n 0, 1) := dk_42 (dk_at dksX0_person_4 17 rfl rfl)
theorem dX0_person_102 : decode cX0_person 102 = .ok (.getfield 34, 3) := dk_180 0 34 (dk_at dksX0_person_4 18 rfl rfl)
theorem dX0_person_105 : decode cX0_person 105 = .ok (.aload_n 0, 1) := dk_42 (dk_at dksX0_person_4 21 rfl rfl)
theorem dX0_person_106 : decode cX0_person 106 = .ok (.getfield 34, 3) := dk_180 0 34 (dk_at dksX0_person_5 0 rfl rfl)
theorem dX0_person_109 : decode cX0_person 109 = .ok (.iload_n 1, 1) := dk_27 (dk_at dksX0_person_5 3 rfl rfl)
theorem dX0_person_110 : decode cX0_person 110 = .ok (.invokevirtual 215, 3) := dk_182 0 215 (dk_at dksX0_person_5 4 rfl rfl)
theorem dX0_person_113 : decode cX0_person 113 = .ok (.invokevirtual 228, 3) := dk_182 0 228 (dk_at dksX0_person_5 7 rfl rfl)
theorem dX0_person_116 : decode cX0_person 116 = .ok (.invokevirtual 93, 3) := dk_182 0 93 (dk_at dksX0_person_5 10 rfl rfl)
theorem dX0_person_119 : decode cX0_person 119 = .ok (.ireturn, 1) := dk_172 (dk_at dksX0_person_5 13 rfl rfl)
theorem dX0_person_120 : decode cX0_person 120 = .ok (.aload_n 0, 1) := dk_42 (dk_at dksX0_person_5 14 rfl rfl)
theorem dX0_person_121 : decode cX0_person 121 = .ok (.iconst 5, 1) := dk_8 (dk_at dksX0_person_5 15 rfl rfl)
theorem dX0_person_122 : decode cX0_person 122 = .ok (.invokevirtual 89, 3) := dk_182 0 89 (dk_at dksX0_person_5 16 rfl rfl)
theorem dX0_person_125 : decode cX0_person 125 = .ok (.ireturn, 1) := dk_172 (dk_at dksX0_person_5 19 rfl rfl)
abbrev cX0_isPerson : ByteArray := prog_1_method_20_code
def yX0_isPerson : MethodName := ⟨RX0, "isPerson", "(J)Z"⟩
def dkwX0_isPerson_1 : List UInt8 := [172]
abbrev dktX0_isPerson_1 : List UInt8 := dkwX0_isPerson_1 ++ []
def dkwX0_isPerson_0 : List UInt8 := [31, 9, 148, 155, 0, 20, 31, 42, 180, 0, 34, 180, 0, 141, 133, 148, 156, 0, 7, 4, 167, 0, 4, 3]
abbrev dktX0_isPerson_0 : List UInt8 := dkwX0_isPerson_0 ++ dktX0_isPerson_1
theorem dksX0_isPerson_0 : cX0_isPerson.data.toList.drop 0 = dktX0_isPerson_0 := by decide +kernel
theorem dksX0_isPerson_1 : cX0_isPerson.data.toList.drop 24 = dktX0_isPerson_1 := dk_seg dksX0_isPerson_0 24 rfl rfl
theorem dX0_isPerson_0 : decode cX0_isPerson 0 = .ok (.lload_n 1, 1) := dk_31 (dk_at dksX0_isPerson_0 0 rfl rfl)
theorem dX0_isPerson_1 : decode cX0_isPerson 1 = .ok (.lconst 0, 1) := dk_9 (dk_at dksX0_isPerson_0 1 rfl rfl)
theorem dX0_isPerson_2 : decode cX0_isPerson 2 = .ok (.lcmp, 1) := dk_148 (dk_at dksX0_isPerson_0 2 rfl rfl)
theorem dX0_isPerson_3 : decode cX0_isPerson 3 = .ok (.ifCond .lt 20, 3) := dk_155 0 20 (dk_at dksX0_isPerson_0 3 rfl rfl)
theorem dX0_isPerson_6 : decode cX0_isPerson 6 = .ok (.lload_n 1, 1) := dk_31 (dk_at dksX0_isPerson_0 6 rfl rfl)
theorem dX0_isPerson_7 : decode cX0_isPerson 7 = .ok (.aload_n 0, 1) := dk_42 (dk_at dksX0_isPerson_0 7 rfl rfl)
theorem dX0_isPerson_8 : decode cX0_isPerson 8 = .ok (.getfield 34, 3) := dk_180 0 34 (dk_at dksX0_isPerson_0 8 rfl rfl)
theorem dX0_isPerson_11 : decode cX0_isPerson 11 = .ok (.getfield 141, 3) := dk_180 0 141 (dk_at dksX0_isPerson_0 11 rfl rfl)
theorem dX0_isPerson_14 : decode cX0_isPerson 14 = .ok (.i2l, 1) := dk_133 (dk_at dksX0_isPerson_0 14 rfl rfl)
theorem dX0_isPerson_15 : decode cX0_isPerson 15 = .ok (.lcmp, 1) := dk_148 (dk_at dksX0_isPerson_0 15 rfl rfl)
theorem dX0_isPerson_16 : decode cX0_isPerson 16 = .ok (.ifCond .ge 7, 3) := dk_156 0 7 (dk_at dksX0_isPerson_0 16 rfl rfl)
theorem dX0_isPerson_19 : decode cX0_isPerson 19 = .ok (.iconst 1, 1) := dk_4 (dk_at dksX0_isPerson_0 19 rfl rfl)
theorem dX0_isPerson_20 : decode cX0_isPerson 20 = .ok (.goto 4, 3) := dk_167 0 4 (dk_at dksX0_isPerson_0 20 rfl rfl)
theorem dX0_isPerson_23 : decode cX0_isPerson 23 = .ok (.iconst 0, 1) := dk_3 (dk_at dksX0_isPerson_0 23 rfl rfl)
theorem dX0_isPerson_24 : decode cX0_isPerson 24 = .ok (.ireturn, 1) := dk_172 (dk_at dksX0_isPerson_1 0 rfl rfl)
abbrev cX0_tin : ByteArray := prog_1_method_35_code
def yX0_tin : MethodName := ⟨RX0, "tin", "(II)I"⟩
def dkwX0_tin_5 : List UInt8 := [182, 0, 93, 172, 42, 45, 180, 1, 15, 182, 0, 93, 172, 42, 8, 182, 0, 89, 172]
abbrev dktX0_tin_5 : List UInt8 := dkwX0_tin_5 ++ []
def dkwX0_tin_4 : List UInt8 := [180, 0, 27, 180, 0, 203, 166, 0, 7, 4, 167, 0, 4, 3, 182, 0, 93, 172, 42, 45, 180, 1, 12]
abbrev dktX0_tin_4 : List UInt8 := dkwX0_tin_4 ++ dktX0_tin_5
def dkwX0_tin_3 : List UInt8 := [42, 45, 180, 1, 3, 182, 0, 93, 172, 42, 45, 180, 1, 6, 182, 1, 9, 172, 42, 45, 180, 0, 197, 42]
abbrev dktX0_tin_3 : List UInt8 := dkwX0_tin_3 ++ dktX0_tin_4
def dkwX0_tin_2 : List UInt8 := [170, 0, 0, 0, 0, 0, 95, 0, 0, 0, 0, 0, 0, 0, 4, 0, 0, 0, 35, 0, 0, 0, 44, 0, 0, 0, 53, 0, 0, 0, 77, 0, 0, 0, 86]
abbrev dktX0_tin_2 : List UInt8 := dkwX0_tin_2 ++ dktX0_tin_3
def dkwX0_tin_1 : List UInt8 := [28]
abbrev dktX0_tin_1 : List UInt8 := dkwX0_tin_1 ++ dktX0_tin_2
def dkwX0_tin_0 : List UInt8 := [42, 27, 182, 1, 0, 154, 0, 9, 42, 5, 182, 0, 89, 172, 42, 180, 0, 34, 180, 0, 193, 27, 50, 78]
abbrev dktX0_tin_0 : List UInt8 := dkwX0_tin_0 ++ dktX0_tin_1
theorem dksX0_tin_0 : cX0_tin.data.toList.drop 0 = dktX0_tin_0 := by decide +kernel
theorem dksX0_tin_1 : cX0_tin.data.toList.drop 24 = dktX0_tin_1 := dk_seg dksX0_tin_0 24 rfl rfl
theorem dksX0_tin_2 : cX0_tin.data.toList.drop 25 = dktX0_tin_2 := dk_seg dksX0_tin_1 1 rfl rfl
theorem dksX0_tin_3 : cX0_tin.data.toList.drop 60 = dktX0_tin_3 := dk_seg dksX0_tin_2 35 rfl rfl
theorem dksX0_tin_4 : cX0_tin.data.toList.drop 84 = dktX0_tin_4 := dk_seg dksX0_tin_3 24 rfl rfl
theorem dksX0_tin_5 : cX0_tin.data.toList.drop 107 = dktX0_tin_5 := dk_seg dksX0_tin_4 23 rfl rfl
theorem dX0_tin_0 : decode cX0_tin 0 = .ok (.aload_n 0, 1) := dk_42 (dk_at dksX0_tin_0 0 rfl rfl)
theorem dX0_tin_1 : decode cX0_tin 1 = .ok (.iload_n 1, 1) := dk_27 (dk_at dksX0_tin_0 1 rfl rfl)
theorem dX0_tin_2 : decode cX0_tin 2 = .ok (.invokevirtual 256, 3) := dk_182 1 0 (dk_at dksX0_tin_0 2 rfl rfl)
theorem dX0_tin_5 : decode cX0_tin 5 = .ok (.ifCond .ne 9, 3) := dk_154 0 9 (dk_at dksX0_tin_0 5 rfl rfl)
theorem dX0_tin_8 : decode cX0_tin 8 = .ok (.aload_n 0, 1) := dk_42 (dk_at dksX0_tin_0 8 rfl rfl)
theorem dX0_tin_9 : decode cX0_tin 9 = .ok (.iconst 2, 1) := dk_5 (dk_at dksX0_tin_0 9 rfl rfl)
theorem dX0_tin_10 : decode cX0_tin 10 = .ok (.invokevirtual 89, 3) := dk_182 0 89 (dk_at dksX0_tin_0 10 rfl rfl)
theorem dX0_tin_13 : decode cX0_tin 13 = .ok (.ireturn, 1) := dk_172 (dk_at dksX0_tin_0 13 rfl rfl)
theorem dX0_tin_14 : decode cX0_tin 14 = .ok (.aload_n 0, 1) := dk_42 (dk_at dksX0_tin_0 14 rfl rfl)
theorem dX0_tin_15 : decode cX0_tin 15 = .ok (.getfield 34, 3) := dk_180 0 34 (dk_at dksX0_tin_0 15 rfl rfl)
theorem dX0_tin_18 : decode cX0_tin 18 = .ok (.getfield 193, 3) := dk_180 0 193 (dk_at dksX0_tin_0 18 rfl rfl)
theorem dX0_tin_21 : decode cX0_tin 21 = .ok (.iload_n 1, 1) := dk_27 (dk_at dksX0_tin_0 21 rfl rfl)
theorem dX0_tin_22 : decode cX0_tin 22 = .ok (.aaload, 1) := dk_50 (dk_at dksX0_tin_0 22 rfl rfl)
theorem dX0_tin_23 : decode cX0_tin 23 = .ok (.astore_n 3, 1) := dk_78 (dk_at dksX0_tin_0 23 rfl rfl)
theorem dX0_tin_24 : decode cX0_tin 24 = .ok (.iload_n 2, 1) := dk_28 (dk_at dksX0_tin_1 0 rfl rfl)
theorem dX0_tin_25 : decode cX0_tin 25 = .ok (.tableswitch 95 0 4 #[35, 44, 53, 77, 86], 35) := by decide +kernel
theorem dX0_tin_60 : decode cX0_tin 60 = .ok (.aload_n 0, 1) := dk_42 (dk_at dksX0_tin_3 0 rfl rfl)
theorem dX0_tin_61 : decode cX0_tin 61 = .ok (.aload_n 3, 1) := dk_45 (dk_at dksX0_tin_3 1 rfl rfl)
theorem dX0_tin_62 : decode cX0_tin 62 = .ok (.getfield 259, 3) := dk_180 1 3 (dk_at dksX0_tin_3 2 rfl rfl)
theorem dX0_tin_65 : decode cX0_tin 65 = .ok (.invokevirtual 93, 3) := dk_182 0 93 (dk_at dksX0_tin_3 5 rfl rfl)
theorem dX0_tin_68 : decode cX0_tin 68 = .ok (.ireturn, 1) := dk_172 (dk_at dksX0_tin_3 8 rfl rfl)
theorem dX0_tin_69 : decode cX0_tin 69 = .ok (.aload_n 0, 1) := dk_42 (dk_at dksX0_tin_3 9 rfl rfl)
theorem dX0_tin_70 : decode cX0_tin 70 = .ok (.aload_n 3, 1) := dk_45 (dk_at dksX0_tin_3 10 rfl rfl)
theorem dX0_tin_71 : decode cX0_tin 71 = .ok (.getfield 262, 3) := dk_180 1 6 (dk_at dksX0_tin_3 11 rfl rfl)
theorem dX0_tin_74 : decode cX0_tin 74 = .ok (.invokevirtual 265, 3) := dk_182 1 9 (dk_at dksX0_tin_3 14 rfl rfl)
theorem dX0_tin_77 : decode cX0_tin 77 = .ok (.ireturn, 1) := dk_172 (dk_at dksX0_tin_3 17 rfl rfl)
theorem dX0_tin_78 : decode cX0_tin 78 = .ok (.aload_n 0, 1) := dk_42 (dk_at dksX0_tin_3 18 rfl rfl)
theorem dX0_tin_79 : decode cX0_tin 79 = .ok (.aload_n 3, 1) := dk_45 (dk_at dksX0_tin_3 19 rfl rfl)
theorem dX0_tin_80 : decode cX0_tin 80 = .ok (.getfield 197, 3) := dk_180 0 197 (dk_at dksX0_tin_3 20 rfl rfl)
theorem dX0_tin_83 : decode cX0_tin 83 = .ok (.aload_n 0, 1) := dk_42 (dk_at dksX0_tin_3 23 rfl rfl)
theorem dX0_tin_84 : decode cX0_tin 84 = .ok (.getfield 27, 3) := dk_180 0 27 (dk_at dksX0_tin_4 0 rfl rfl)
theorem dX0_tin_87 : decode cX0_tin 87 = .ok (.getfield 203, 3) := dk_180 0 203 (dk_at dksX0_tin_4 3 rfl rfl)
theorem dX0_tin_90 : decode cX0_tin 90 = .ok (.if_acmp .ne 7, 3) := dk_166 0 7 (dk_at dksX0_tin_4 6 rfl rfl)
theorem dX0_tin_93 : decode cX0_tin 93 = .ok (.iconst 1, 1) := dk_4 (dk_at dksX0_tin_4 9 rfl rfl)
theorem dX0_tin_94 : decode cX0_tin 94 = .ok (.goto 4, 3) := dk_167 0 4 (dk_at dksX0_tin_4 10 rfl rfl)
theorem dX0_tin_97 : decode cX0_tin 97 = .ok (.iconst 0, 1) := dk_3 (dk_at dksX0_tin_4 13 rfl rfl)
theorem dX0_tin_98 : decode cX0_tin 98 = .ok (.invokevirtual 93, 3) := dk_182 0 93 (dk_at dksX0_tin_4 14 rfl rfl)
theorem dX0_tin_101 : decode cX0_tin 101 = .ok (.ireturn, 1) := dk_172 (dk_at dksX0_tin_4 17 rfl rfl)
theorem dX0_tin_102 : decode cX0_tin 102 = .ok (.aload_n 0, 1) := dk_42 (dk_at dksX0_tin_4 18 rfl rfl)
theorem dX0_tin_103 : decode cX0_tin 103 = .ok (.aload_n 3, 1) := dk_45 (dk_at dksX0_tin_4 19 rfl rfl)
theorem dX0_tin_104 : decode cX0_tin 104 = .ok (.getfield 268, 3) := dk_180 1 12 (dk_at dksX0_tin_4 20 rfl rfl)
theorem dX0_tin_107 : decode cX0_tin 107 = .ok (.invokevirtual 93, 3) := dk_182 0 93 (dk_at dksX0_tin_5 0 rfl rfl)
theorem dX0_tin_110 : decode cX0_tin 110 = .ok (.ireturn, 1) := dk_172 (dk_at dksX0_tin_5 3 rfl rfl)
theorem dX0_tin_111 : decode cX0_tin 111 = .ok (.aload_n 0, 1) := dk_42 (dk_at dksX0_tin_5 4 rfl rfl)
theorem dX0_tin_112 : decode cX0_tin 112 = .ok (.aload_n 3, 1) := dk_45 (dk_at dksX0_tin_5 5 rfl rfl)
theorem dX0_tin_113 : decode cX0_tin 113 = .ok (.getfield 271, 3) := dk_180 1 15 (dk_at dksX0_tin_5 6 rfl rfl)
theorem dX0_tin_116 : decode cX0_tin 116 = .ok (.invokevirtual 93, 3) := dk_182 0 93 (dk_at dksX0_tin_5 9 rfl rfl)
theorem dX0_tin_119 : decode cX0_tin 119 = .ok (.ireturn, 1) := dk_172 (dk_at dksX0_tin_5 12 rfl rfl)
theorem dX0_tin_120 : decode cX0_tin 120 = .ok (.aload_n 0, 1) := dk_42 (dk_at dksX0_tin_5 13 rfl rfl)
theorem dX0_tin_121 : decode cX0_tin 121 = .ok (.iconst 5, 1) := dk_8 (dk_at dksX0_tin_5 14 rfl rfl)
theorem dX0_tin_122 : decode cX0_tin 122 = .ok (.invokevirtual 89, 3) := dk_182 0 89 (dk_at dksX0_tin_5 15 rfl rfl)
theorem dX0_tin_125 : decode cX0_tin 125 = .ok (.ireturn, 1) := dk_172 (dk_at dksX0_tin_5 18 rfl rfl)
abbrev cX0_isTin : ByteArray := prog_1_method_21_code
def yX0_isTin : MethodName := ⟨RX0, "isTin", "(I)Z"⟩
def dkwX0_isTin_0 : List UInt8 := [27, 155, 0, 18, 27, 42, 180, 0, 34, 180, 0, 144, 162, 0, 7, 4, 167, 0, 4, 3, 172]
abbrev dktX0_isTin_0 : List UInt8 := dkwX0_isTin_0 ++ []
theorem dksX0_isTin_0 : cX0_isTin.data.toList.drop 0 = dktX0_isTin_0 := by decide +kernel
theorem dX0_isTin_0 : decode cX0_isTin 0 = .ok (.iload_n 1, 1) := dk_27 (dk_at dksX0_isTin_0 0 rfl rfl)
theorem dX0_isTin_1 : decode cX0_isTin 1 = .ok (.ifCond .lt 18, 3) := dk_155 0 18 (dk_at dksX0_isTin_0 1 rfl rfl)
theorem dX0_isTin_4 : decode cX0_isTin 4 = .ok (.iload_n 1, 1) := dk_27 (dk_at dksX0_isTin_0 4 rfl rfl)
theorem dX0_isTin_5 : decode cX0_isTin 5 = .ok (.aload_n 0, 1) := dk_42 (dk_at dksX0_isTin_0 5 rfl rfl)
theorem dX0_isTin_6 : decode cX0_isTin 6 = .ok (.getfield 34, 3) := dk_180 0 34 (dk_at dksX0_isTin_0 6 rfl rfl)
theorem dX0_isTin_9 : decode cX0_isTin 9 = .ok (.getfield 144, 3) := dk_180 0 144 (dk_at dksX0_isTin_0 9 rfl rfl)
theorem dX0_isTin_12 : decode cX0_isTin 12 = .ok (.if_icmp .ge 7, 3) := dk_162 0 7 (dk_at dksX0_isTin_0 12 rfl rfl)
theorem dX0_isTin_15 : decode cX0_isTin 15 = .ok (.iconst 1, 1) := dk_4 (dk_at dksX0_isTin_0 15 rfl rfl)
theorem dX0_isTin_16 : decode cX0_isTin 16 = .ok (.goto 4, 3) := dk_167 0 4 (dk_at dksX0_isTin_0 16 rfl rfl)
theorem dX0_isTin_19 : decode cX0_isTin 19 = .ok (.iconst 0, 1) := dk_3 (dk_at dksX0_isTin_0 19 rfl rfl)
theorem dX0_isTin_20 : decode cX0_isTin 20 = .ok (.ireturn, 1) := dk_172 (dk_at dksX0_isTin_0 20 rfl rfl)
abbrev cX0_orNothing : ByteArray := prog_1_method_11_code
def yX0_orNothing : MethodName := ⟨RX0, "orNothing", "(I)I"⟩
def dkwX0_orNothing_0 : List UInt8 := [27, 2, 160, 0, 12, 42, 16, 8, 182, 0, 89, 167, 0, 8, 42, 27, 182, 0, 93, 172]
abbrev dktX0_orNothing_0 : List UInt8 := dkwX0_orNothing_0 ++ []
theorem dksX0_orNothing_0 : cX0_orNothing.data.toList.drop 0 = dktX0_orNothing_0 := by decide +kernel
theorem dX0_orNothing_0 : decode cX0_orNothing 0 = .ok (.iload_n 1, 1) := dk_27 (dk_at dksX0_orNothing_0 0 rfl rfl)
theorem dX0_orNothing_1 : decode cX0_orNothing 1 = .ok (.iconst (-1), 1) := dk_2 (dk_at dksX0_orNothing_0 1 rfl rfl)
theorem dX0_orNothing_2 : decode cX0_orNothing 2 = .ok (.if_icmp .ne 12, 3) := dk_160 0 12 (dk_at dksX0_orNothing_0 2 rfl rfl)
theorem dX0_orNothing_5 : decode cX0_orNothing 5 = .ok (.aload_n 0, 1) := dk_42 (dk_at dksX0_orNothing_0 5 rfl rfl)
theorem dX0_orNothing_6 : decode cX0_orNothing 6 = .ok (.bipush 8, 2) := dk_16 8 (dk_at dksX0_orNothing_0 6 rfl rfl)
theorem dX0_orNothing_8 : decode cX0_orNothing 8 = .ok (.invokevirtual 89, 3) := dk_182 0 89 (dk_at dksX0_orNothing_0 8 rfl rfl)
theorem dX0_orNothing_11 : decode cX0_orNothing 11 = .ok (.goto 8, 3) := dk_167 0 8 (dk_at dksX0_orNothing_0 11 rfl rfl)
theorem dX0_orNothing_14 : decode cX0_orNothing 14 = .ok (.aload_n 0, 1) := dk_42 (dk_at dksX0_orNothing_0 14 rfl rfl)
theorem dX0_orNothing_15 : decode cX0_orNothing 15 = .ok (.iload_n 1, 1) := dk_27 (dk_at dksX0_orNothing_0 15 rfl rfl)
theorem dX0_orNothing_16 : decode cX0_orNothing 16 = .ok (.invokevirtual 93, 3) := dk_182 0 93 (dk_at dksX0_orNothing_0 16 rfl rfl)
theorem dX0_orNothing_19 : decode cX0_orNothing 19 = .ok (.ireturn, 1) := dk_172 (dk_at dksX0_orNothing_0 19 rfl rfl)
abbrev cX0_copyGot : ByteArray := prog_1_method_36_code
def yX0_copyGot : MethodName := ⟨RX0, "copyGot", "(I)I"⟩
def dkwX0_copyGot_4 : List UInt8 := [180, 0, 141, 182, 0, 93, 172]
abbrev dktX0_copyGot_4 : List UInt8 := dkwX0_copyGot_4 ++ []
def dkwX0_copyGot_3 : List UInt8 := [180, 0, 241, 29, 50, 180, 0, 253, 133, 182, 0, 109, 132, 3, 1, 167, 255, 224, 42, 42, 180, 0, 34]
abbrev dktX0_copyGot_3 : List UInt8 := dkwX0_copyGot_3 ++ dktX0_copyGot_4
def dkwX0_copyGot_2 : List UInt8 := [7, 182, 0, 89, 172, 3, 62, 29, 42, 180, 0, 34, 180, 0, 141, 162, 0, 27, 44, 29, 42, 180, 0, 34]
abbrev dktX0_copyGot_2 : List UInt8 := dkwX0_copyGot_2 ++ dktX0_copyGot_3
def dkwX0_copyGot_1 : List UInt8 := [199, 0, 9, 42, 6, 182, 0, 89, 172, 44, 182, 1, 18, 42, 180, 0, 34, 180, 0, 141, 162, 0, 9, 42]
abbrev dktX0_copyGot_1 : List UInt8 := dkwX0_copyGot_1 ++ dktX0_copyGot_2
def dkwX0_copyGot_0 : List UInt8 := [27, 184, 0, 100, 154, 0, 9, 42, 4, 182, 0, 89, 172, 42, 180, 0, 15, 27, 50, 77, 44, 180, 0, 123]
abbrev dktX0_copyGot_0 : List UInt8 := dkwX0_copyGot_0 ++ dktX0_copyGot_1
theorem dksX0_copyGot_0 : cX0_copyGot.data.toList.drop 0 = dktX0_copyGot_0 := by decide +kernel
theorem dksX0_copyGot_1 : cX0_copyGot.data.toList.drop 24 = dktX0_copyGot_1 := dk_seg dksX0_copyGot_0 24 rfl rfl
theorem dksX0_copyGot_2 : cX0_copyGot.data.toList.drop 48 = dktX0_copyGot_2 := dk_seg dksX0_copyGot_1 24 rfl rfl
theorem dksX0_copyGot_3 : cX0_copyGot.data.toList.drop 72 = dktX0_copyGot_3 := dk_seg dksX0_copyGot_2 24 rfl rfl
theorem dksX0_copyGot_4 : cX0_copyGot.data.toList.drop 95 = dktX0_copyGot_4 := dk_seg dksX0_copyGot_3 23 rfl rfl
theorem dX0_copyGot_0 : decode cX0_copyGot 0 = .ok (.iload_n 1, 1) := dk_27 (dk_at dksX0_copyGot_0 0 rfl rfl)
theorem dX0_copyGot_1 : decode cX0_copyGot 1 = .ok (.invokestatic 100, 3) := dk_184 0 100 (dk_at dksX0_copyGot_0 1 rfl rfl)
theorem dX0_copyGot_4 : decode cX0_copyGot 4 = .ok (.ifCond .ne 9, 3) := dk_154 0 9 (dk_at dksX0_copyGot_0 4 rfl rfl)
theorem dX0_copyGot_7 : decode cX0_copyGot 7 = .ok (.aload_n 0, 1) := dk_42 (dk_at dksX0_copyGot_0 7 rfl rfl)
theorem dX0_copyGot_8 : decode cX0_copyGot 8 = .ok (.iconst 1, 1) := dk_4 (dk_at dksX0_copyGot_0 8 rfl rfl)
theorem dX0_copyGot_9 : decode cX0_copyGot 9 = .ok (.invokevirtual 89, 3) := dk_182 0 89 (dk_at dksX0_copyGot_0 9 rfl rfl)
theorem dX0_copyGot_12 : decode cX0_copyGot 12 = .ok (.ireturn, 1) := dk_172 (dk_at dksX0_copyGot_0 12 rfl rfl)
theorem dX0_copyGot_13 : decode cX0_copyGot 13 = .ok (.aload_n 0, 1) := dk_42 (dk_at dksX0_copyGot_0 13 rfl rfl)
theorem dX0_copyGot_14 : decode cX0_copyGot 14 = .ok (.getfield 15, 3) := dk_180 0 15 (dk_at dksX0_copyGot_0 14 rfl rfl)
theorem dX0_copyGot_17 : decode cX0_copyGot 17 = .ok (.iload_n 1, 1) := dk_27 (dk_at dksX0_copyGot_0 17 rfl rfl)
theorem dX0_copyGot_18 : decode cX0_copyGot 18 = .ok (.aaload, 1) := dk_50 (dk_at dksX0_copyGot_0 18 rfl rfl)
theorem dX0_copyGot_19 : decode cX0_copyGot 19 = .ok (.astore_n 2, 1) := dk_77 (dk_at dksX0_copyGot_0 19 rfl rfl)
theorem dX0_copyGot_20 : decode cX0_copyGot 20 = .ok (.aload_n 2, 1) := dk_44 (dk_at dksX0_copyGot_0 20 rfl rfl)
theorem dX0_copyGot_21 : decode cX0_copyGot 21 = .ok (.getfield 123, 3) := dk_180 0 123 (dk_at dksX0_copyGot_0 21 rfl rfl)
theorem dX0_copyGot_24 : decode cX0_copyGot 24 = .ok (.ifnonnull 9, 3) := dk_199 0 9 (dk_at dksX0_copyGot_1 0 rfl rfl)
theorem dX0_copyGot_27 : decode cX0_copyGot 27 = .ok (.aload_n 0, 1) := dk_42 (dk_at dksX0_copyGot_1 3 rfl rfl)
theorem dX0_copyGot_28 : decode cX0_copyGot 28 = .ok (.iconst 3, 1) := dk_6 (dk_at dksX0_copyGot_1 4 rfl rfl)
theorem dX0_copyGot_29 : decode cX0_copyGot 29 = .ok (.invokevirtual 89, 3) := dk_182 0 89 (dk_at dksX0_copyGot_1 5 rfl rfl)
theorem dX0_copyGot_32 : decode cX0_copyGot 32 = .ok (.ireturn, 1) := dk_172 (dk_at dksX0_copyGot_1 8 rfl rfl)
theorem dX0_copyGot_33 : decode cX0_copyGot 33 = .ok (.aload_n 2, 1) := dk_44 (dk_at dksX0_copyGot_1 9 rfl rfl)
theorem dX0_copyGot_34 : decode cX0_copyGot 34 = .ok (.invokevirtual 274, 3) := dk_182 1 18 (dk_at dksX0_copyGot_1 10 rfl rfl)
theorem dX0_copyGot_37 : decode cX0_copyGot 37 = .ok (.aload_n 0, 1) := dk_42 (dk_at dksX0_copyGot_1 13 rfl rfl)
theorem dX0_copyGot_38 : decode cX0_copyGot 38 = .ok (.getfield 34, 3) := dk_180 0 34 (dk_at dksX0_copyGot_1 14 rfl rfl)
theorem dX0_copyGot_41 : decode cX0_copyGot 41 = .ok (.getfield 141, 3) := dk_180 0 141 (dk_at dksX0_copyGot_1 17 rfl rfl)
theorem dX0_copyGot_44 : decode cX0_copyGot 44 = .ok (.if_icmp .ge 9, 3) := dk_162 0 9 (dk_at dksX0_copyGot_1 20 rfl rfl)
theorem dX0_copyGot_47 : decode cX0_copyGot 47 = .ok (.aload_n 0, 1) := dk_42 (dk_at dksX0_copyGot_1 23 rfl rfl)
theorem dX0_copyGot_48 : decode cX0_copyGot 48 = .ok (.iconst 4, 1) := dk_7 (dk_at dksX0_copyGot_2 0 rfl rfl)
theorem dX0_copyGot_49 : decode cX0_copyGot 49 = .ok (.invokevirtual 89, 3) := dk_182 0 89 (dk_at dksX0_copyGot_2 1 rfl rfl)
theorem dX0_copyGot_52 : decode cX0_copyGot 52 = .ok (.ireturn, 1) := dk_172 (dk_at dksX0_copyGot_2 4 rfl rfl)
theorem dX0_copyGot_53 : decode cX0_copyGot 53 = .ok (.iconst 0, 1) := dk_3 (dk_at dksX0_copyGot_2 5 rfl rfl)
theorem dX0_copyGot_54 : decode cX0_copyGot 54 = .ok (.istore_n 3, 1) := dk_62 (dk_at dksX0_copyGot_2 6 rfl rfl)
theorem dX0_copyGot_55 : decode cX0_copyGot 55 = .ok (.iload_n 3, 1) := dk_29 (dk_at dksX0_copyGot_2 7 rfl rfl)
theorem dX0_copyGot_56 : decode cX0_copyGot 56 = .ok (.aload_n 0, 1) := dk_42 (dk_at dksX0_copyGot_2 8 rfl rfl)
theorem dX0_copyGot_57 : decode cX0_copyGot 57 = .ok (.getfield 34, 3) := dk_180 0 34 (dk_at dksX0_copyGot_2 9 rfl rfl)
theorem dX0_copyGot_60 : decode cX0_copyGot 60 = .ok (.getfield 141, 3) := dk_180 0 141 (dk_at dksX0_copyGot_2 12 rfl rfl)
theorem dX0_copyGot_63 : decode cX0_copyGot 63 = .ok (.if_icmp .ge 27, 3) := dk_162 0 27 (dk_at dksX0_copyGot_2 15 rfl rfl)
theorem dX0_copyGot_66 : decode cX0_copyGot 66 = .ok (.aload_n 2, 1) := dk_44 (dk_at dksX0_copyGot_2 18 rfl rfl)
theorem dX0_copyGot_67 : decode cX0_copyGot 67 = .ok (.iload_n 3, 1) := dk_29 (dk_at dksX0_copyGot_2 19 rfl rfl)
theorem dX0_copyGot_68 : decode cX0_copyGot 68 = .ok (.aload_n 0, 1) := dk_42 (dk_at dksX0_copyGot_2 20 rfl rfl)
theorem dX0_copyGot_69 : decode cX0_copyGot 69 = .ok (.getfield 34, 3) := dk_180 0 34 (dk_at dksX0_copyGot_2 21 rfl rfl)
theorem dX0_copyGot_72 : decode cX0_copyGot 72 = .ok (.getfield 241, 3) := dk_180 0 241 (dk_at dksX0_copyGot_3 0 rfl rfl)
theorem dX0_copyGot_75 : decode cX0_copyGot 75 = .ok (.iload_n 3, 1) := dk_29 (dk_at dksX0_copyGot_3 3 rfl rfl)
theorem dX0_copyGot_76 : decode cX0_copyGot 76 = .ok (.aaload, 1) := dk_50 (dk_at dksX0_copyGot_3 4 rfl rfl)
theorem dX0_copyGot_77 : decode cX0_copyGot 77 = .ok (.getfield 253, 3) := dk_180 0 253 (dk_at dksX0_copyGot_3 5 rfl rfl)
theorem dX0_copyGot_80 : decode cX0_copyGot 80 = .ok (.i2l, 1) := dk_133 (dk_at dksX0_copyGot_3 8 rfl rfl)
theorem dX0_copyGot_81 : decode cX0_copyGot 81 = .ok (.invokevirtual 109, 3) := dk_182 0 109 (dk_at dksX0_copyGot_3 9 rfl rfl)
theorem dX0_copyGot_84 : decode cX0_copyGot 84 = .ok (.iinc 3 1, 3) := dk_132 3 1 (dk_at dksX0_copyGot_3 12 rfl rfl)
theorem dX0_copyGot_87 : decode cX0_copyGot 87 = .ok (.goto (-32), 3) := dk_167 255 224 (dk_at dksX0_copyGot_3 15 rfl rfl)
theorem dX0_copyGot_90 : decode cX0_copyGot 90 = .ok (.aload_n 0, 1) := dk_42 (dk_at dksX0_copyGot_3 18 rfl rfl)
theorem dX0_copyGot_91 : decode cX0_copyGot 91 = .ok (.aload_n 0, 1) := dk_42 (dk_at dksX0_copyGot_3 19 rfl rfl)
theorem dX0_copyGot_92 : decode cX0_copyGot 92 = .ok (.getfield 34, 3) := dk_180 0 34 (dk_at dksX0_copyGot_3 20 rfl rfl)
theorem dX0_copyGot_95 : decode cX0_copyGot 95 = .ok (.getfield 141, 3) := dk_180 0 141 (dk_at dksX0_copyGot_4 0 rfl rfl)
theorem dX0_copyGot_98 : decode cX0_copyGot 98 = .ok (.invokevirtual 93, 3) := dk_182 0 93 (dk_at dksX0_copyGot_4 3 rfl rfl)
theorem dX0_copyGot_101 : decode cX0_copyGot 101 = .ok (.ireturn, 1) := dk_172 (dk_at dksX0_copyGot_4 6 rfl rfl)
abbrev cX0_pass : ByteArray := prog_1_method_37_code
def yX0_pass : MethodName := ⟨RX0, "pass", "(II)I"⟩
def dkwX0_pass_3 : List UInt8 := [182, 0, 89, 172]
abbrev dktX0_pass_3 : List UInt8 := dkwX0_pass_3 ++ []
def dkwX0_pass_2 : List UInt8 := [42, 42, 180, 0, 34, 180, 0, 241, 29, 50, 180, 0, 253, 182, 0, 93, 167, 0, 9, 42, 16, 9]
abbrev dktX0_pass_2 : List UInt8 := dkwX0_pass_2 ++ dktX0_pass_3
def dkwX0_pass_1 : List UInt8 := [180, 0, 34, 180, 0, 193, 27, 50, 180, 1, 6, 62, 42, 180, 0, 34, 27, 28, 182, 1, 21, 153, 0, 22]
abbrev dktX0_pass_1 : List UInt8 := dkwX0_pass_1 ++ dktX0_pass_2
def dkwX0_pass_0 : List UInt8 := [42, 27, 182, 1, 0, 153, 0, 12, 42, 28, 133, 182, 0, 237, 154, 0, 9, 42, 5, 182, 0, 89, 172, 42]
abbrev dktX0_pass_0 : List UInt8 := dkwX0_pass_0 ++ dktX0_pass_1
theorem dksX0_pass_0 : cX0_pass.data.toList.drop 0 = dktX0_pass_0 := by decide +kernel
theorem dksX0_pass_1 : cX0_pass.data.toList.drop 24 = dktX0_pass_1 := dk_seg dksX0_pass_0 24 rfl rfl
theorem dksX0_pass_2 : cX0_pass.data.toList.drop 48 = dktX0_pass_2 := dk_seg dksX0_pass_1 24 rfl rfl
theorem dksX0_pass_3 : cX0_pass.data.toList.drop 70 = dktX0_pass_3 := dk_seg dksX0_pass_2 22 rfl rfl
theorem dX0_pass_0 : decode cX0_pass 0 = .ok (.aload_n 0, 1) := dk_42 (dk_at dksX0_pass_0 0 rfl rfl)
theorem dX0_pass_1 : decode cX0_pass 1 = .ok (.iload_n 1, 1) := dk_27 (dk_at dksX0_pass_0 1 rfl rfl)
theorem dX0_pass_2 : decode cX0_pass 2 = .ok (.invokevirtual 256, 3) := dk_182 1 0 (dk_at dksX0_pass_0 2 rfl rfl)
theorem dX0_pass_5 : decode cX0_pass 5 = .ok (.ifCond .eq 12, 3) := dk_153 0 12 (dk_at dksX0_pass_0 5 rfl rfl)
theorem dX0_pass_8 : decode cX0_pass 8 = .ok (.aload_n 0, 1) := dk_42 (dk_at dksX0_pass_0 8 rfl rfl)
theorem dX0_pass_9 : decode cX0_pass 9 = .ok (.iload_n 2, 1) := dk_28 (dk_at dksX0_pass_0 9 rfl rfl)
theorem dX0_pass_10 : decode cX0_pass 10 = .ok (.i2l, 1) := dk_133 (dk_at dksX0_pass_0 10 rfl rfl)
theorem dX0_pass_11 : decode cX0_pass 11 = .ok (.invokevirtual 237, 3) := dk_182 0 237 (dk_at dksX0_pass_0 11 rfl rfl)
theorem dX0_pass_14 : decode cX0_pass 14 = .ok (.ifCond .ne 9, 3) := dk_154 0 9 (dk_at dksX0_pass_0 14 rfl rfl)
theorem dX0_pass_17 : decode cX0_pass 17 = .ok (.aload_n 0, 1) := dk_42 (dk_at dksX0_pass_0 17 rfl rfl)
theorem dX0_pass_18 : decode cX0_pass 18 = .ok (.iconst 2, 1) := dk_5 (dk_at dksX0_pass_0 18 rfl rfl)
theorem dX0_pass_19 : decode cX0_pass 19 = .ok (.invokevirtual 89, 3) := dk_182 0 89 (dk_at dksX0_pass_0 19 rfl rfl)
theorem dX0_pass_22 : decode cX0_pass 22 = .ok (.ireturn, 1) := dk_172 (dk_at dksX0_pass_0 22 rfl rfl)
theorem dX0_pass_23 : decode cX0_pass 23 = .ok (.aload_n 0, 1) := dk_42 (dk_at dksX0_pass_0 23 rfl rfl)
theorem dX0_pass_24 : decode cX0_pass 24 = .ok (.getfield 34, 3) := dk_180 0 34 (dk_at dksX0_pass_1 0 rfl rfl)
theorem dX0_pass_27 : decode cX0_pass 27 = .ok (.getfield 193, 3) := dk_180 0 193 (dk_at dksX0_pass_1 3 rfl rfl)
theorem dX0_pass_30 : decode cX0_pass 30 = .ok (.iload_n 1, 1) := dk_27 (dk_at dksX0_pass_1 6 rfl rfl)
theorem dX0_pass_31 : decode cX0_pass 31 = .ok (.aaload, 1) := dk_50 (dk_at dksX0_pass_1 7 rfl rfl)
theorem dX0_pass_32 : decode cX0_pass 32 = .ok (.getfield 262, 3) := dk_180 1 6 (dk_at dksX0_pass_1 8 rfl rfl)
theorem dX0_pass_35 : decode cX0_pass 35 = .ok (.istore_n 3, 1) := dk_62 (dk_at dksX0_pass_1 11 rfl rfl)
theorem dX0_pass_36 : decode cX0_pass 36 = .ok (.aload_n 0, 1) := dk_42 (dk_at dksX0_pass_1 12 rfl rfl)
theorem dX0_pass_37 : decode cX0_pass 37 = .ok (.getfield 34, 3) := dk_180 0 34 (dk_at dksX0_pass_1 13 rfl rfl)
theorem dX0_pass_40 : decode cX0_pass 40 = .ok (.iload_n 1, 1) := dk_27 (dk_at dksX0_pass_1 16 rfl rfl)
theorem dX0_pass_41 : decode cX0_pass 41 = .ok (.iload_n 2, 1) := dk_28 (dk_at dksX0_pass_1 17 rfl rfl)
theorem dX0_pass_42 : decode cX0_pass 42 = .ok (.invokevirtual 277, 3) := dk_182 1 21 (dk_at dksX0_pass_1 18 rfl rfl)
theorem dX0_pass_45 : decode cX0_pass 45 = .ok (.ifCond .eq 22, 3) := dk_153 0 22 (dk_at dksX0_pass_1 21 rfl rfl)
theorem dX0_pass_48 : decode cX0_pass 48 = .ok (.aload_n 0, 1) := dk_42 (dk_at dksX0_pass_2 0 rfl rfl)
theorem dX0_pass_49 : decode cX0_pass 49 = .ok (.aload_n 0, 1) := dk_42 (dk_at dksX0_pass_2 1 rfl rfl)
theorem dX0_pass_50 : decode cX0_pass 50 = .ok (.getfield 34, 3) := dk_180 0 34 (dk_at dksX0_pass_2 2 rfl rfl)
theorem dX0_pass_53 : decode cX0_pass 53 = .ok (.getfield 241, 3) := dk_180 0 241 (dk_at dksX0_pass_2 5 rfl rfl)
theorem dX0_pass_56 : decode cX0_pass 56 = .ok (.iload_n 3, 1) := dk_29 (dk_at dksX0_pass_2 8 rfl rfl)
theorem dX0_pass_57 : decode cX0_pass 57 = .ok (.aaload, 1) := dk_50 (dk_at dksX0_pass_2 9 rfl rfl)
theorem dX0_pass_58 : decode cX0_pass 58 = .ok (.getfield 253, 3) := dk_180 0 253 (dk_at dksX0_pass_2 10 rfl rfl)
theorem dX0_pass_61 : decode cX0_pass 61 = .ok (.invokevirtual 93, 3) := dk_182 0 93 (dk_at dksX0_pass_2 13 rfl rfl)
theorem dX0_pass_64 : decode cX0_pass 64 = .ok (.goto 9, 3) := dk_167 0 9 (dk_at dksX0_pass_2 16 rfl rfl)
theorem dX0_pass_67 : decode cX0_pass 67 = .ok (.aload_n 0, 1) := dk_42 (dk_at dksX0_pass_2 19 rfl rfl)
theorem dX0_pass_68 : decode cX0_pass 68 = .ok (.bipush 9, 2) := dk_16 9 (dk_at dksX0_pass_2 20 rfl rfl)
theorem dX0_pass_70 : decode cX0_pass 70 = .ok (.invokevirtual 89, 3) := dk_182 0 89 (dk_at dksX0_pass_3 0 rfl rfl)
theorem dX0_pass_73 : decode cX0_pass 73 = .ok (.ireturn, 1) := dk_172 (dk_at dksX0_pass_3 3 rfl rfl)
abbrev cX0_bite : ByteArray := prog_1_method_38_code
def yX0_bite : MethodName := ⟨RX0, "bite", "(I)I"⟩
def dkwX0_bite_2 : List UInt8 := [153, 0, 7, 4, 167, 0, 4, 3, 182, 0, 93, 172]
abbrev dktX0_bite_2 : List UInt8 := dkwX0_bite_2 ++ []
def dkwX0_bite_1 : List UInt8 := [44, 180, 1, 6, 2, 160, 0, 10, 42, 16, 9, 182, 0, 89, 172, 42, 44, 180, 0, 197, 44, 182, 1, 23]
abbrev dktX0_bite_1 : List UInt8 := dkwX0_bite_1 ++ dktX0_bite_2
def dkwX0_bite_0 : List UInt8 := [42, 27, 182, 1, 0, 154, 0, 9, 42, 5, 182, 0, 89, 172, 42, 180, 0, 34, 180, 0, 193, 27, 50, 77]
abbrev dktX0_bite_0 : List UInt8 := dkwX0_bite_0 ++ dktX0_bite_1
theorem dksX0_bite_0 : cX0_bite.data.toList.drop 0 = dktX0_bite_0 := by decide +kernel
theorem dksX0_bite_1 : cX0_bite.data.toList.drop 24 = dktX0_bite_1 := dk_seg dksX0_bite_0 24 rfl rfl
theorem dksX0_bite_2 : cX0_bite.data.toList.drop 48 = dktX0_bite_2 := dk_seg dksX0_bite_1 24 rfl rfl
theorem dX0_bite_0 : decode cX0_bite 0 = .ok (.aload_n 0, 1) := dk_42 (dk_at dksX0_bite_0 0 rfl rfl)
theorem dX0_bite_1 : decode cX0_bite 1 = .ok (.iload_n 1, 1) := dk_27 (dk_at dksX0_bite_0 1 rfl rfl)
theorem dX0_bite_2 : decode cX0_bite 2 = .ok (.invokevirtual 256, 3) := dk_182 1 0 (dk_at dksX0_bite_0 2 rfl rfl)
theorem dX0_bite_5 : decode cX0_bite 5 = .ok (.ifCond .ne 9, 3) := dk_154 0 9 (dk_at dksX0_bite_0 5 rfl rfl)
theorem dX0_bite_8 : decode cX0_bite 8 = .ok (.aload_n 0, 1) := dk_42 (dk_at dksX0_bite_0 8 rfl rfl)
theorem dX0_bite_9 : decode cX0_bite 9 = .ok (.iconst 2, 1) := dk_5 (dk_at dksX0_bite_0 9 rfl rfl)
theorem dX0_bite_10 : decode cX0_bite 10 = .ok (.invokevirtual 89, 3) := dk_182 0 89 (dk_at dksX0_bite_0 10 rfl rfl)
theorem dX0_bite_13 : decode cX0_bite 13 = .ok (.ireturn, 1) := dk_172 (dk_at dksX0_bite_0 13 rfl rfl)
theorem dX0_bite_14 : decode cX0_bite 14 = .ok (.aload_n 0, 1) := dk_42 (dk_at dksX0_bite_0 14 rfl rfl)
theorem dX0_bite_15 : decode cX0_bite 15 = .ok (.getfield 34, 3) := dk_180 0 34 (dk_at dksX0_bite_0 15 rfl rfl)
theorem dX0_bite_18 : decode cX0_bite 18 = .ok (.getfield 193, 3) := dk_180 0 193 (dk_at dksX0_bite_0 18 rfl rfl)
theorem dX0_bite_21 : decode cX0_bite 21 = .ok (.iload_n 1, 1) := dk_27 (dk_at dksX0_bite_0 21 rfl rfl)
theorem dX0_bite_22 : decode cX0_bite 22 = .ok (.aaload, 1) := dk_50 (dk_at dksX0_bite_0 22 rfl rfl)
theorem dX0_bite_23 : decode cX0_bite 23 = .ok (.astore_n 2, 1) := dk_77 (dk_at dksX0_bite_0 23 rfl rfl)
theorem dX0_bite_24 : decode cX0_bite 24 = .ok (.aload_n 2, 1) := dk_44 (dk_at dksX0_bite_1 0 rfl rfl)
theorem dX0_bite_25 : decode cX0_bite 25 = .ok (.getfield 262, 3) := dk_180 1 6 (dk_at dksX0_bite_1 1 rfl rfl)
theorem dX0_bite_28 : decode cX0_bite 28 = .ok (.iconst (-1), 1) := dk_2 (dk_at dksX0_bite_1 4 rfl rfl)
theorem dX0_bite_29 : decode cX0_bite 29 = .ok (.if_icmp .ne 10, 3) := dk_160 0 10 (dk_at dksX0_bite_1 5 rfl rfl)
theorem dX0_bite_32 : decode cX0_bite 32 = .ok (.aload_n 0, 1) := dk_42 (dk_at dksX0_bite_1 8 rfl rfl)
theorem dX0_bite_33 : decode cX0_bite 33 = .ok (.bipush 9, 2) := dk_16 9 (dk_at dksX0_bite_1 9 rfl rfl)
theorem dX0_bite_35 : decode cX0_bite 35 = .ok (.invokevirtual 89, 3) := dk_182 0 89 (dk_at dksX0_bite_1 11 rfl rfl)
theorem dX0_bite_38 : decode cX0_bite 38 = .ok (.ireturn, 1) := dk_172 (dk_at dksX0_bite_1 14 rfl rfl)
theorem dX0_bite_39 : decode cX0_bite 39 = .ok (.aload_n 0, 1) := dk_42 (dk_at dksX0_bite_1 15 rfl rfl)
theorem dX0_bite_40 : decode cX0_bite 40 = .ok (.aload_n 2, 1) := dk_44 (dk_at dksX0_bite_1 16 rfl rfl)
theorem dX0_bite_41 : decode cX0_bite 41 = .ok (.getfield 197, 3) := dk_180 0 197 (dk_at dksX0_bite_1 17 rfl rfl)
theorem dX0_bite_44 : decode cX0_bite 44 = .ok (.aload_n 2, 1) := dk_44 (dk_at dksX0_bite_1 20 rfl rfl)
theorem dX0_bite_45 : decode cX0_bite 45 = .ok (.invokevirtual 279, 3) := dk_182 1 23 (dk_at dksX0_bite_1 21 rfl rfl)
theorem dX0_bite_48 : decode cX0_bite 48 = .ok (.ifCond .eq 7, 3) := dk_153 0 7 (dk_at dksX0_bite_2 0 rfl rfl)
theorem dX0_bite_51 : decode cX0_bite 51 = .ok (.iconst 1, 1) := dk_4 (dk_at dksX0_bite_2 3 rfl rfl)
theorem dX0_bite_52 : decode cX0_bite 52 = .ok (.goto 4, 3) := dk_167 0 4 (dk_at dksX0_bite_2 4 rfl rfl)
theorem dX0_bite_55 : decode cX0_bite 55 = .ok (.iconst 0, 1) := dk_3 (dk_at dksX0_bite_2 7 rfl rfl)
theorem dX0_bite_56 : decode cX0_bite 56 = .ok (.invokevirtual 93, 3) := dk_182 0 93 (dk_at dksX0_bite_2 8 rfl rfl)
theorem dX0_bite_59 : decode cX0_bite 59 = .ok (.ireturn, 1) := dk_172 (dk_at dksX0_bite_2 11 rfl rfl)
abbrev cX0_recite : ByteArray := prog_1_method_39_code
def yX0_recite : MethodName := ⟨RX0, "recite", "(II)Z"⟩
def dkwX0_recite_3 : List UInt8 := [172, 45, 28, 181, 1, 6, 45, 89, 180, 1, 12, 4, 28, 120, 128, 181, 1, 12, 42, 3, 182, 0, 96, 172]
abbrev dktX0_recite_3 : List UInt8 := dkwX0_recite_3 ++ []
def dkwX0_recite_2 : List UInt8 := [182, 1, 33, 28, 184, 0, 1, 153, 0, 11, 45, 180, 1, 6, 28, 160, 0, 10, 42, 16, 9, 182, 0, 96]
abbrev dktX0_recite_2 : List UInt8 := dkwX0_recite_2 ++ dktX0_recite_3
def dkwX0_recite_1 : List UInt8 := [180, 0, 34, 180, 0, 193, 27, 50, 78, 45, 180, 1, 29, 154, 0, 29, 42, 180, 0, 34, 45, 180, 1, 3]
abbrev dktX0_recite_1 : List UInt8 := dkwX0_recite_1 ++ dktX0_recite_2
def dkwX0_recite_0 : List UInt8 := [42, 27, 182, 1, 0, 153, 0, 12, 42, 28, 133, 182, 0, 237, 154, 0, 9, 42, 5, 182, 0, 96, 172, 42]
abbrev dktX0_recite_0 : List UInt8 := dkwX0_recite_0 ++ dktX0_recite_1
theorem dksX0_recite_0 : cX0_recite.data.toList.drop 0 = dktX0_recite_0 := by decide +kernel
theorem dksX0_recite_1 : cX0_recite.data.toList.drop 24 = dktX0_recite_1 := dk_seg dksX0_recite_0 24 rfl rfl
theorem dksX0_recite_2 : cX0_recite.data.toList.drop 48 = dktX0_recite_2 := dk_seg dksX0_recite_1 24 rfl rfl
theorem dksX0_recite_3 : cX0_recite.data.toList.drop 72 = dktX0_recite_3 := dk_seg dksX0_recite_2 24 rfl rfl
theorem dX0_recite_0 : decode cX0_recite 0 = .ok (.aload_n 0, 1) := dk_42 (dk_at dksX0_recite_0 0 rfl rfl)
theorem dX0_recite_1 : decode cX0_recite 1 = .ok (.iload_n 1, 1) := dk_27 (dk_at dksX0_recite_0 1 rfl rfl)
theorem dX0_recite_2 : decode cX0_recite 2 = .ok (.invokevirtual 256, 3) := dk_182 1 0 (dk_at dksX0_recite_0 2 rfl rfl)
theorem dX0_recite_5 : decode cX0_recite 5 = .ok (.ifCond .eq 12, 3) := dk_153 0 12 (dk_at dksX0_recite_0 5 rfl rfl)
theorem dX0_recite_8 : decode cX0_recite 8 = .ok (.aload_n 0, 1) := dk_42 (dk_at dksX0_recite_0 8 rfl rfl)
theorem dX0_recite_9 : decode cX0_recite 9 = .ok (.iload_n 2, 1) := dk_28 (dk_at dksX0_recite_0 9 rfl rfl)
theorem dX0_recite_10 : decode cX0_recite 10 = .ok (.i2l, 1) := dk_133 (dk_at dksX0_recite_0 10 rfl rfl)
theorem dX0_recite_11 : decode cX0_recite 11 = .ok (.invokevirtual 237, 3) := dk_182 0 237 (dk_at dksX0_recite_0 11 rfl rfl)
theorem dX0_recite_14 : decode cX0_recite 14 = .ok (.ifCond .ne 9, 3) := dk_154 0 9 (dk_at dksX0_recite_0 14 rfl rfl)
theorem dX0_recite_17 : decode cX0_recite 17 = .ok (.aload_n 0, 1) := dk_42 (dk_at dksX0_recite_0 17 rfl rfl)
theorem dX0_recite_18 : decode cX0_recite 18 = .ok (.iconst 2, 1) := dk_5 (dk_at dksX0_recite_0 18 rfl rfl)
theorem dX0_recite_19 : decode cX0_recite 19 = .ok (.invokevirtual 96, 3) := dk_182 0 96 (dk_at dksX0_recite_0 19 rfl rfl)
theorem dX0_recite_22 : decode cX0_recite 22 = .ok (.ireturn, 1) := dk_172 (dk_at dksX0_recite_0 22 rfl rfl)
theorem dX0_recite_23 : decode cX0_recite 23 = .ok (.aload_n 0, 1) := dk_42 (dk_at dksX0_recite_0 23 rfl rfl)
theorem dX0_recite_24 : decode cX0_recite 24 = .ok (.getfield 34, 3) := dk_180 0 34 (dk_at dksX0_recite_1 0 rfl rfl)
theorem dX0_recite_27 : decode cX0_recite 27 = .ok (.getfield 193, 3) := dk_180 0 193 (dk_at dksX0_recite_1 3 rfl rfl)
theorem dX0_recite_30 : decode cX0_recite 30 = .ok (.iload_n 1, 1) := dk_27 (dk_at dksX0_recite_1 6 rfl rfl)
theorem dX0_recite_31 : decode cX0_recite 31 = .ok (.aaload, 1) := dk_50 (dk_at dksX0_recite_1 7 rfl rfl)
theorem dX0_recite_32 : decode cX0_recite 32 = .ok (.astore_n 3, 1) := dk_78 (dk_at dksX0_recite_1 8 rfl rfl)
theorem dX0_recite_33 : decode cX0_recite 33 = .ok (.aload_n 3, 1) := dk_45 (dk_at dksX0_recite_1 9 rfl rfl)
theorem dX0_recite_34 : decode cX0_recite 34 = .ok (.getfield 285, 3) := dk_180 1 29 (dk_at dksX0_recite_1 10 rfl rfl)
theorem dX0_recite_37 : decode cX0_recite 37 = .ok (.ifCond .ne 29, 3) := dk_154 0 29 (dk_at dksX0_recite_1 13 rfl rfl)
theorem dX0_recite_40 : decode cX0_recite 40 = .ok (.aload_n 0, 1) := dk_42 (dk_at dksX0_recite_1 16 rfl rfl)
theorem dX0_recite_41 : decode cX0_recite 41 = .ok (.getfield 34, 3) := dk_180 0 34 (dk_at dksX0_recite_1 17 rfl rfl)
theorem dX0_recite_44 : decode cX0_recite 44 = .ok (.aload_n 3, 1) := dk_45 (dk_at dksX0_recite_1 20 rfl rfl)
theorem dX0_recite_45 : decode cX0_recite 45 = .ok (.getfield 259, 3) := dk_180 1 3 (dk_at dksX0_recite_1 21 rfl rfl)
theorem dX0_recite_48 : decode cX0_recite 48 = .ok (.invokevirtual 289, 3) := dk_182 1 33 (dk_at dksX0_recite_2 0 rfl rfl)
theorem dX0_recite_51 : decode cX0_recite 51 = .ok (.iload_n 2, 1) := dk_28 (dk_at dksX0_recite_2 3 rfl rfl)
theorem dX0_recite_52 : decode cX0_recite 52 = .ok (.invokestatic 1, 3) := dk_184 0 1 (dk_at dksX0_recite_2 4 rfl rfl)
theorem dX0_recite_55 : decode cX0_recite 55 = .ok (.ifCond .eq 11, 3) := dk_153 0 11 (dk_at dksX0_recite_2 7 rfl rfl)
theorem dX0_recite_58 : decode cX0_recite 58 = .ok (.aload_n 3, 1) := dk_45 (dk_at dksX0_recite_2 10 rfl rfl)
theorem dX0_recite_59 : decode cX0_recite 59 = .ok (.getfield 262, 3) := dk_180 1 6 (dk_at dksX0_recite_2 11 rfl rfl)
theorem dX0_recite_62 : decode cX0_recite 62 = .ok (.iload_n 2, 1) := dk_28 (dk_at dksX0_recite_2 14 rfl rfl)
theorem dX0_recite_63 : decode cX0_recite 63 = .ok (.if_icmp .ne 10, 3) := dk_160 0 10 (dk_at dksX0_recite_2 15 rfl rfl)
theorem dX0_recite_66 : decode cX0_recite 66 = .ok (.aload_n 0, 1) := dk_42 (dk_at dksX0_recite_2 18 rfl rfl)
theorem dX0_recite_67 : decode cX0_recite 67 = .ok (.bipush 9, 2) := dk_16 9 (dk_at dksX0_recite_2 19 rfl rfl)
theorem dX0_recite_69 : decode cX0_recite 69 = .ok (.invokevirtual 96, 3) := dk_182 0 96 (dk_at dksX0_recite_2 21 rfl rfl)
theorem dX0_recite_72 : decode cX0_recite 72 = .ok (.ireturn, 1) := dk_172 (dk_at dksX0_recite_3 0 rfl rfl)
theorem dX0_recite_73 : decode cX0_recite 73 = .ok (.aload_n 3, 1) := dk_45 (dk_at dksX0_recite_3 1 rfl rfl)
theorem dX0_recite_74 : decode cX0_recite 74 = .ok (.iload_n 2, 1) := dk_28 (dk_at dksX0_recite_3 2 rfl rfl)
theorem dX0_recite_75 : decode cX0_recite 75 = .ok (.putfield 262, 3) := dk_181 1 6 (dk_at dksX0_recite_3 3 rfl rfl)
theorem dX0_recite_78 : decode cX0_recite 78 = .ok (.aload_n 3, 1) := dk_45 (dk_at dksX0_recite_3 6 rfl rfl)
theorem dX0_recite_79 : decode cX0_recite 79 = .ok (.dup, 1) := dk_89 (dk_at dksX0_recite_3 7 rfl rfl)
theorem dX0_recite_80 : decode cX0_recite 80 = .ok (.getfield 268, 3) := dk_180 1 12 (dk_at dksX0_recite_3 8 rfl rfl)
theorem dX0_recite_83 : decode cX0_recite 83 = .ok (.iconst 1, 1) := dk_4 (dk_at dksX0_recite_3 11 rfl rfl)
theorem dX0_recite_84 : decode cX0_recite 84 = .ok (.iload_n 2, 1) := dk_28 (dk_at dksX0_recite_3 12 rfl rfl)
theorem dX0_recite_85 : decode cX0_recite 85 = .ok (.ishl, 1) := dk_120 (dk_at dksX0_recite_3 13 rfl rfl)
theorem dX0_recite_86 : decode cX0_recite 86 = .ok (.ior, 1) := dk_128 (dk_at dksX0_recite_3 14 rfl rfl)
theorem dX0_recite_87 : decode cX0_recite 87 = .ok (.putfield 268, 3) := dk_181 1 12 (dk_at dksX0_recite_3 15 rfl rfl)
theorem dX0_recite_90 : decode cX0_recite 90 = .ok (.aload_n 0, 1) := dk_42 (dk_at dksX0_recite_3 18 rfl rfl)
theorem dX0_recite_91 : decode cX0_recite 91 = .ok (.iconst 0, 1) := dk_3 (dk_at dksX0_recite_3 19 rfl rfl)
theorem dX0_recite_92 : decode cX0_recite 92 = .ok (.invokevirtual 96, 3) := dk_182 0 96 (dk_at dksX0_recite_3 20 rfl rfl)
theorem dX0_recite_95 : decode cX0_recite 95 = .ok (.ireturn, 1) := dk_172 (dk_at dksX0_recite_3 23 rfl rfl)
abbrev cX0_drop : ByteArray := prog_1_method_40_code
def yX0_drop : MethodName := ⟨RX0, "drop", "(I)I"⟩
def dkwX0_drop_2 : List UInt8 := [16, 9, 182, 0, 89, 167, 0, 8, 42, 28, 182, 0, 93, 172]
abbrev dktX0_drop_2 : List UInt8 := dkwX0_drop_2 ++ []
def dkwX0_drop_1 : List UInt8 := [180, 1, 6, 61, 42, 180, 0, 34, 180, 0, 193, 27, 50, 2, 181, 1, 6, 28, 2, 160, 0, 12, 42]
abbrev dktX0_drop_1 : List UInt8 := dkwX0_drop_1 ++ dktX0_drop_2
def dkwX0_drop_0 : List UInt8 := [42, 27, 182, 1, 0, 154, 0, 9, 42, 5, 182, 0, 89, 172, 42, 180, 0, 34, 180, 0, 193, 27, 50]
abbrev dktX0_drop_0 : List UInt8 := dkwX0_drop_0 ++ dktX0_drop_1
theorem dksX0_drop_0 : cX0_drop.data.toList.drop 0 = dktX0_drop_0 := by decide +kernel
theorem dksX0_drop_1 : cX0_drop.data.toList.drop 23 = dktX0_drop_1 := dk_seg dksX0_drop_0 23 rfl rfl
theorem dksX0_drop_2 : cX0_drop.data.toList.drop 46 = dktX0_drop_2 := dk_seg dksX0_drop_1 23 rfl rfl
theorem dX0_drop_0 : decode cX0_drop 0 = .ok (.aload_n 0, 1) := dk_42 (dk_at dksX0_drop_0 0 rfl rfl)
theorem dX0_drop_1 : decode cX0_drop 1 = .ok (.iload_n 1, 1) := dk_27 (dk_at dksX0_drop_0 1 rfl rfl)
theorem dX0_drop_2 : decode cX0_drop 2 = .ok (.invokevirtual 256, 3) := dk_182 1 0 (dk_at dksX0_drop_0 2 rfl rfl)
theorem dX0_drop_5 : decode cX0_drop 5 = .ok (.ifCond .ne 9, 3) := dk_154 0 9 (dk_at dksX0_drop_0 5 rfl rfl)
theorem dX0_drop_8 : decode cX0_drop 8 = .ok (.aload_n 0, 1) := dk_42 (dk_at dksX0_drop_0 8 rfl rfl)
theorem dX0_drop_9 : decode cX0_drop 9 = .ok (.iconst 2, 1) := dk_5 (dk_at dksX0_drop_0 9 rfl rfl)
theorem dX0_drop_10 : decode cX0_drop 10 = .ok (.invokevirtual 89, 3) := dk_182 0 89 (dk_at dksX0_drop_0 10 rfl rfl)
theorem dX0_drop_13 : decode cX0_drop 13 = .ok (.ireturn, 1) := dk_172 (dk_at dksX0_drop_0 13 rfl rfl)
theorem dX0_drop_14 : decode cX0_drop 14 = .ok (.aload_n 0, 1) := dk_42 (dk_at dksX0_drop_0 14 rfl rfl)
theorem dX0_drop_15 : decode cX0_drop 15 = .ok (.getfield 34, 3) := dk_180 0 34 (dk_at dksX0_drop_0 15 rfl rfl)
theorem dX0_drop_18 : decode cX0_drop 18 = .ok (.getfield 193, 3) := dk_180 0 193 (dk_at dksX0_drop_0 18 rfl rfl)
theorem dX0_drop_21 : decode cX0_drop 21 = .ok (.iload_n 1, 1) := dk_27 (dk_at dksX0_drop_0 21 rfl rfl)
theorem dX0_drop_22 : decode cX0_drop 22 = .ok (.aaload, 1) := dk_50 (dk_at dksX0_drop_0 22 rfl rfl)
theorem dX0_drop_23 : decode cX0_drop 23 = .ok (.getfield 262, 3) := dk_180 1 6 (dk_at dksX0_drop_1 0 rfl rfl)
theorem dX0_drop_26 : decode cX0_drop 26 = .ok (.istore_n 2, 1) := dk_61 (dk_at dksX0_drop_1 3 rfl rfl)
theorem dX0_drop_27 : decode cX0_drop 27 = .ok (.aload_n 0, 1) := dk_42 (dk_at dksX0_drop_1 4 rfl rfl)
theorem dX0_drop_28 : decode cX0_drop 28 = .ok (.getfield 34, 3) := dk_180 0 34 (dk_at dksX0_drop_1 5 rfl rfl)
theorem dX0_drop_31 : decode cX0_drop 31 = .ok (.getfield 193, 3) := dk_180 0 193 (dk_at dksX0_drop_1 8 rfl rfl)
theorem dX0_drop_34 : decode cX0_drop 34 = .ok (.iload_n 1, 1) := dk_27 (dk_at dksX0_drop_1 11 rfl rfl)
theorem dX0_drop_35 : decode cX0_drop 35 = .ok (.aaload, 1) := dk_50 (dk_at dksX0_drop_1 12 rfl rfl)
theorem dX0_drop_36 : decode cX0_drop 36 = .ok (.iconst (-1), 1) := dk_2 (dk_at dksX0_drop_1 13 rfl rfl)
theorem dX0_drop_37 : decode cX0_drop 37 = .ok (.putfield 262, 3) := dk_181 1 6 (dk_at dksX0_drop_1 14 rfl rfl)
theorem dX0_drop_40 : decode cX0_drop 40 = .ok (.iload_n 2, 1) := dk_28 (dk_at dksX0_drop_1 17 rfl rfl)
theorem dX0_drop_41 : decode cX0_drop 41 = .ok (.iconst (-1), 1) := dk_2 (dk_at dksX0_drop_1 18 rfl rfl)
theorem dX0_drop_42 : decode cX0_drop 42 = .ok (.if_icmp .ne 12, 3) := dk_160 0 12 (dk_at dksX0_drop_1 19 rfl rfl)
theorem dX0_drop_45 : decode cX0_drop 45 = .ok (.aload_n 0, 1) := dk_42 (dk_at dksX0_drop_1 22 rfl rfl)
theorem dX0_drop_46 : decode cX0_drop 46 = .ok (.bipush 9, 2) := dk_16 9 (dk_at dksX0_drop_2 0 rfl rfl)
theorem dX0_drop_48 : decode cX0_drop 48 = .ok (.invokevirtual 89, 3) := dk_182 0 89 (dk_at dksX0_drop_2 2 rfl rfl)
theorem dX0_drop_51 : decode cX0_drop 51 = .ok (.goto 8, 3) := dk_167 0 8 (dk_at dksX0_drop_2 5 rfl rfl)
theorem dX0_drop_54 : decode cX0_drop 54 = .ok (.aload_n 0, 1) := dk_42 (dk_at dksX0_drop_2 8 rfl rfl)
theorem dX0_drop_55 : decode cX0_drop 55 = .ok (.iload_n 2, 1) := dk_28 (dk_at dksX0_drop_2 9 rfl rfl)
theorem dX0_drop_56 : decode cX0_drop 56 = .ok (.invokevirtual 93, 3) := dk_182 0 93 (dk_at dksX0_drop_2 10 rfl rfl)
theorem dX0_drop_59 : decode cX0_drop 59 = .ok (.ireturn, 1) := dk_172 (dk_at dksX0_drop_2 13 rfl rfl)
abbrev cX0_strike : ByteArray := prog_1_method_41_code
def yX0_strike : MethodName := ⟨RX0, "strike", "(IIZ)I"⟩
def dkwX0_strike_4 : List UInt8 := [182, 0, 93, 172]
abbrev dktX0_strike_4 : List UInt8 := dkwX0_strike_4 ++ []
def dkwX0_strike_3 : List UInt8 := [180, 1, 36, 183, 1, 39, 27, 28, 182, 1, 42, 87, 42, 42, 180, 0, 34, 180, 0, 144, 4, 100]
abbrev dktX0_strike_3 : List UInt8 := dkwX0_strike_3 ++ dktX0_strike_4
def dkwX0_strike_2 : List UInt8 := [187, 0, 198, 89, 9, 29, 153, 0, 13, 42, 180, 0, 27, 180, 0, 203, 167, 0, 10, 42, 180, 0, 27]
abbrev dktX0_strike_2 : List UInt8 := dkwX0_strike_2 ++ dktX0_strike_3
def dkwX0_strike_1 : List UInt8 := [180, 0, 34, 180, 0, 144, 16, 9, 160, 0, 10, 42, 16, 7, 182, 0, 89, 172, 42, 180, 0, 34]
abbrev dktX0_strike_1 : List UInt8 := dkwX0_strike_1 ++ dktX0_strike_2
def dkwX0_strike_0 : List UInt8 := [42, 27, 182, 0, 231, 153, 0, 12, 42, 28, 133, 182, 0, 237, 154, 0, 9, 42, 5, 182, 0, 89, 172, 42]
abbrev dktX0_strike_0 : List UInt8 := dkwX0_strike_0 ++ dktX0_strike_1
theorem dksX0_strike_0 : cX0_strike.data.toList.drop 0 = dktX0_strike_0 := by decide +kernel
theorem dksX0_strike_1 : cX0_strike.data.toList.drop 24 = dktX0_strike_1 := dk_seg dksX0_strike_0 24 rfl rfl
theorem dksX0_strike_2 : cX0_strike.data.toList.drop 46 = dktX0_strike_2 := dk_seg dksX0_strike_1 22 rfl rfl
theorem dksX0_strike_3 : cX0_strike.data.toList.drop 69 = dktX0_strike_3 := dk_seg dksX0_strike_2 23 rfl rfl
theorem dksX0_strike_4 : cX0_strike.data.toList.drop 91 = dktX0_strike_4 := dk_seg dksX0_strike_3 22 rfl rfl
theorem dX0_strike_0 : decode cX0_strike 0 = .ok (.aload_n 0, 1) := dk_42 (dk_at dksX0_strike_0 0 rfl rfl)
theorem dX0_strike_1 : decode cX0_strike 1 = .ok (.iload_n 1, 1) := dk_27 (dk_at dksX0_strike_0 1 rfl rfl)
theorem dX0_strike_2 : decode cX0_strike 2 = .ok (.invokevirtual 231, 3) := dk_182 0 231 (dk_at dksX0_strike_0 2 rfl rfl)
theorem dX0_strike_5 : decode cX0_strike 5 = .ok (.ifCond .eq 12, 3) := dk_153 0 12 (dk_at dksX0_strike_0 5 rfl rfl)
theorem dX0_strike_8 : decode cX0_strike 8 = .ok (.aload_n 0, 1) := dk_42 (dk_at dksX0_strike_0 8 rfl rfl)
theorem dX0_strike_9 : decode cX0_strike 9 = .ok (.iload_n 2, 1) := dk_28 (dk_at dksX0_strike_0 9 rfl rfl)
theorem dX0_strike_10 : decode cX0_strike 10 = .ok (.i2l, 1) := dk_133 (dk_at dksX0_strike_0 10 rfl rfl)
theorem dX0_strike_11 : decode cX0_strike 11 = .ok (.invokevirtual 237, 3) := dk_182 0 237 (dk_at dksX0_strike_0 11 rfl rfl)
theorem dX0_strike_14 : decode cX0_strike 14 = .ok (.ifCond .ne 9, 3) := dk_154 0 9 (dk_at dksX0_strike_0 14 rfl rfl)
theorem dX0_strike_17 : decode cX0_strike 17 = .ok (.aload_n 0, 1) := dk_42 (dk_at dksX0_strike_0 17 rfl rfl)
theorem dX0_strike_18 : decode cX0_strike 18 = .ok (.iconst 2, 1) := dk_5 (dk_at dksX0_strike_0 18 rfl rfl)
theorem dX0_strike_19 : decode cX0_strike 19 = .ok (.invokevirtual 89, 3) := dk_182 0 89 (dk_at dksX0_strike_0 19 rfl rfl)
theorem dX0_strike_22 : decode cX0_strike 22 = .ok (.ireturn, 1) := dk_172 (dk_at dksX0_strike_0 22 rfl rfl)
theorem dX0_strike_23 : decode cX0_strike 23 = .ok (.aload_n 0, 1) := dk_42 (dk_at dksX0_strike_0 23 rfl rfl)
theorem dX0_strike_24 : decode cX0_strike 24 = .ok (.getfield 34, 3) := dk_180 0 34 (dk_at dksX0_strike_1 0 rfl rfl)
theorem dX0_strike_27 : decode cX0_strike 27 = .ok (.getfield 144, 3) := dk_180 0 144 (dk_at dksX0_strike_1 3 rfl rfl)
theorem dX0_strike_30 : decode cX0_strike 30 = .ok (.bipush 9, 2) := dk_16 9 (dk_at dksX0_strike_1 6 rfl rfl)
theorem dX0_strike_32 : decode cX0_strike 32 = .ok (.if_icmp .ne 10, 3) := dk_160 0 10 (dk_at dksX0_strike_1 8 rfl rfl)
theorem dX0_strike_35 : decode cX0_strike 35 = .ok (.aload_n 0, 1) := dk_42 (dk_at dksX0_strike_1 11 rfl rfl)
theorem dX0_strike_36 : decode cX0_strike 36 = .ok (.bipush 7, 2) := dk_16 7 (dk_at dksX0_strike_1 12 rfl rfl)
theorem dX0_strike_38 : decode cX0_strike 38 = .ok (.invokevirtual 89, 3) := dk_182 0 89 (dk_at dksX0_strike_1 14 rfl rfl)
theorem dX0_strike_41 : decode cX0_strike 41 = .ok (.ireturn, 1) := dk_172 (dk_at dksX0_strike_1 17 rfl rfl)
theorem dX0_strike_42 : decode cX0_strike 42 = .ok (.aload_n 0, 1) := dk_42 (dk_at dksX0_strike_1 18 rfl rfl)
theorem dX0_strike_43 : decode cX0_strike 43 = .ok (.getfield 34, 3) := dk_180 0 34 (dk_at dksX0_strike_1 19 rfl rfl)
theorem dX0_strike_46 : decode cX0_strike 46 = .ok (.new 198, 3) := dk_187 0 198 (dk_at dksX0_strike_2 0 rfl rfl)
theorem dX0_strike_49 : decode cX0_strike 49 = .ok (.dup, 1) := dk_89 (dk_at dksX0_strike_2 3 rfl rfl)
theorem dX0_strike_50 : decode cX0_strike 50 = .ok (.lconst 0, 1) := dk_9 (dk_at dksX0_strike_2 4 rfl rfl)
theorem dX0_strike_51 : decode cX0_strike 51 = .ok (.iload_n 3, 1) := dk_29 (dk_at dksX0_strike_2 5 rfl rfl)
theorem dX0_strike_52 : decode cX0_strike 52 = .ok (.ifCond .eq 13, 3) := dk_153 0 13 (dk_at dksX0_strike_2 6 rfl rfl)
theorem dX0_strike_55 : decode cX0_strike 55 = .ok (.aload_n 0, 1) := dk_42 (dk_at dksX0_strike_2 9 rfl rfl)
theorem dX0_strike_56 : decode cX0_strike 56 = .ok (.getfield 27, 3) := dk_180 0 27 (dk_at dksX0_strike_2 10 rfl rfl)
theorem dX0_strike_59 : decode cX0_strike 59 = .ok (.getfield 203, 3) := dk_180 0 203 (dk_at dksX0_strike_2 13 rfl rfl)
theorem dX0_strike_62 : decode cX0_strike 62 = .ok (.goto 10, 3) := dk_167 0 10 (dk_at dksX0_strike_2 16 rfl rfl)
theorem dX0_strike_65 : decode cX0_strike 65 = .ok (.aload_n 0, 1) := dk_42 (dk_at dksX0_strike_2 19 rfl rfl)
theorem dX0_strike_66 : decode cX0_strike 66 = .ok (.getfield 27, 3) := dk_180 0 27 (dk_at dksX0_strike_2 20 rfl rfl)
theorem dX0_strike_69 : decode cX0_strike 69 = .ok (.getfield 292, 3) := dk_180 1 36 (dk_at dksX0_strike_3 0 rfl rfl)
theorem dX0_strike_72 : decode cX0_strike 72 = .ok (.invokespecial 295, 3) := dk_183 1 39 (dk_at dksX0_strike_3 3 rfl rfl)
theorem dX0_strike_75 : decode cX0_strike 75 = .ok (.iload_n 1, 1) := dk_27 (dk_at dksX0_strike_3 6 rfl rfl)
theorem dX0_strike_76 : decode cX0_strike 76 = .ok (.iload_n 2, 1) := dk_28 (dk_at dksX0_strike_3 7 rfl rfl)
theorem dX0_strike_77 : decode cX0_strike 77 = .ok (.invokevirtual 298, 3) := dk_182 1 42 (dk_at dksX0_strike_3 8 rfl rfl)
theorem dX0_strike_80 : decode cX0_strike 80 = .ok (.pop, 1) := dk_87 (dk_at dksX0_strike_3 11 rfl rfl)
theorem dX0_strike_81 : decode cX0_strike 81 = .ok (.aload_n 0, 1) := dk_42 (dk_at dksX0_strike_3 12 rfl rfl)
theorem dX0_strike_82 : decode cX0_strike 82 = .ok (.aload_n 0, 1) := dk_42 (dk_at dksX0_strike_3 13 rfl rfl)
theorem dX0_strike_83 : decode cX0_strike 83 = .ok (.getfield 34, 3) := dk_180 0 34 (dk_at dksX0_strike_3 14 rfl rfl)
theorem dX0_strike_86 : decode cX0_strike 86 = .ok (.getfield 144, 3) := dk_180 0 144 (dk_at dksX0_strike_3 17 rfl rfl)
theorem dX0_strike_89 : decode cX0_strike 89 = .ok (.iconst 1, 1) := dk_4 (dk_at dksX0_strike_3 20 rfl rfl)
theorem dX0_strike_90 : decode cX0_strike 90 = .ok (.isub, 1) := dk_100 (dk_at dksX0_strike_3 21 rfl rfl)
theorem dX0_strike_91 : decode cX0_strike 91 = .ok (.invokevirtual 93, 3) := dk_182 0 93 (dk_at dksX0_strike_4 0 rfl rfl)
theorem dX0_strike_94 : decode cX0_strike 94 = .ok (.ireturn, 1) := dk_172 (dk_at dksX0_strike_4 3 rfl rfl)
abbrev cX0_teach : ByteArray := prog_1_method_42_code
def yX0_teach : MethodName := ⟨RX0, "teach", "(IIZ)Z"⟩
def dkwX0_teach_1 : List UInt8 := [42, 180, 0, 34, 27, 28, 29, 182, 1, 46, 153, 0, 7, 3, 167, 0, 5, 16, 9, 182, 0, 96, 172]
abbrev dktX0_teach_1 : List UInt8 := dkwX0_teach_1 ++ []
def dkwX0_teach_0 : List UInt8 := [42, 27, 133, 182, 0, 237, 153, 0, 11, 42, 28, 182, 0, 231, 154, 0, 9, 42, 5, 182, 0, 96, 172, 42]
abbrev dktX0_teach_0 : List UInt8 := dkwX0_teach_0 ++ dktX0_teach_1
theorem dksX0_teach_0 : cX0_teach.data.toList.drop 0 = dktX0_teach_0 := by decide +kernel
theorem dksX0_teach_1 : cX0_teach.data.toList.drop 24 = dktX0_teach_1 := dk_seg dksX0_teach_0 24 rfl rfl
theorem dX0_teach_0 : decode cX0_teach 0 = .ok (.aload_n 0, 1) := dk_42 (dk_at dksX0_teach_0 0 rfl rfl)
theorem dX0_teach_1 : decode cX0_teach 1 = .ok (.iload_n 1, 1) := dk_27 (dk_at dksX0_teach_0 1 rfl rfl)
theorem dX0_teach_2 : decode cX0_teach 2 = .ok (.i2l, 1) := dk_133 (dk_at dksX0_teach_0 2 rfl rfl)
theorem dX0_teach_3 : decode cX0_teach 3 = .ok (.invokevirtual 237, 3) := dk_182 0 237 (dk_at dksX0_teach_0 3 rfl rfl)
theorem dX0_teach_6 : decode cX0_teach 6 = .ok (.ifCond .eq 11, 3) := dk_153 0 11 (dk_at dksX0_teach_0 6 rfl rfl)
theorem dX0_teach_9 : decode cX0_teach 9 = .ok (.aload_n 0, 1) := dk_42 (dk_at dksX0_teach_0 9 rfl rfl)
theorem dX0_teach_10 : decode cX0_teach 10 = .ok (.iload_n 2, 1) := dk_28 (dk_at dksX0_teach_0 10 rfl rfl)
theorem dX0_teach_11 : decode cX0_teach 11 = .ok (.invokevirtual 231, 3) := dk_182 0 231 (dk_at dksX0_teach_0 11 rfl rfl)
theorem dX0_teach_14 : decode cX0_teach 14 = .ok (.ifCond .ne 9, 3) := dk_154 0 9 (dk_at dksX0_teach_0 14 rfl rfl)
theorem dX0_teach_17 : decode cX0_teach 17 = .ok (.aload_n 0, 1) := dk_42 (dk_at dksX0_teach_0 17 rfl rfl)
theorem dX0_teach_18 : decode cX0_teach 18 = .ok (.iconst 2, 1) := dk_5 (dk_at dksX0_teach_0 18 rfl rfl)
theorem dX0_teach_19 : decode cX0_teach 19 = .ok (.invokevirtual 96, 3) := dk_182 0 96 (dk_at dksX0_teach_0 19 rfl rfl)
theorem dX0_teach_22 : decode cX0_teach 22 = .ok (.ireturn, 1) := dk_172 (dk_at dksX0_teach_0 22 rfl rfl)
theorem dX0_teach_23 : decode cX0_teach 23 = .ok (.aload_n 0, 1) := dk_42 (dk_at dksX0_teach_0 23 rfl rfl)
theorem dX0_teach_24 : decode cX0_teach 24 = .ok (.aload_n 0, 1) := dk_42 (dk_at dksX0_teach_1 0 rfl rfl)
theorem dX0_teach_25 : decode cX0_teach 25 = .ok (.getfield 34, 3) := dk_180 0 34 (dk_at dksX0_teach_1 1 rfl rfl)
theorem dX0_teach_28 : decode cX0_teach 28 = .ok (.iload_n 1, 1) := dk_27 (dk_at dksX0_teach_1 4 rfl rfl)
theorem dX0_teach_29 : decode cX0_teach 29 = .ok (.iload_n 2, 1) := dk_28 (dk_at dksX0_teach_1 5 rfl rfl)
theorem dX0_teach_30 : decode cX0_teach 30 = .ok (.iload_n 3, 1) := dk_29 (dk_at dksX0_teach_1 6 rfl rfl)
theorem dX0_teach_31 : decode cX0_teach 31 = .ok (.invokevirtual 302, 3) := dk_182 1 46 (dk_at dksX0_teach_1 7 rfl rfl)
theorem dX0_teach_34 : decode cX0_teach 34 = .ok (.ifCond .eq 7, 3) := dk_153 0 7 (dk_at dksX0_teach_1 10 rfl rfl)
theorem dX0_teach_37 : decode cX0_teach 37 = .ok (.iconst 0, 1) := dk_3 (dk_at dksX0_teach_1 13 rfl rfl)
theorem dX0_teach_38 : decode cX0_teach 38 = .ok (.goto 5, 3) := dk_167 0 5 (dk_at dksX0_teach_1 14 rfl rfl)
theorem dX0_teach_41 : decode cX0_teach 41 = .ok (.bipush 9, 2) := dk_16 9 (dk_at dksX0_teach_1 17 rfl rfl)
theorem dX0_teach_43 : decode cX0_teach 43 = .ok (.invokevirtual 96, 3) := dk_182 0 96 (dk_at dksX0_teach_1 19 rfl rfl)
theorem dX0_teach_46 : decode cX0_teach 46 = .ok (.ireturn, 1) := dk_172 (dk_at dksX0_teach_1 22 rfl rfl)
abbrev cX0_lane : ByteArray := prog_1_method_43_code
def yX0_lane : MethodName := ⟨RX0, "lane", "(II)I"⟩
def dkwX0_lane_3 : List UInt8 := [182, 0, 93, 172]
abbrev dktX0_lane_3 : List UInt8 := dkwX0_lane_3 ++ []
def dkwX0_lane_2 : List UInt8 := [16, 7, 182, 0, 89, 172, 42, 180, 0, 34, 27, 28, 182, 1, 50, 42, 42, 180, 0, 34, 180, 0, 206]
abbrev dktX0_lane_2 : List UInt8 := dkwX0_lane_2 ++ dktX0_lane_3
def dkwX0_lane_1 : List UInt8 := [27, 28, 160, 0, 9, 42, 8, 182, 0, 89, 172, 42, 180, 0, 34, 180, 0, 206, 16, 12, 160, 0, 10, 42]
abbrev dktX0_lane_1 : List UInt8 := dkwX0_lane_1 ++ dktX0_lane_2
def dkwX0_lane_0 : List UInt8 := [42, 27, 133, 182, 0, 237, 153, 0, 12, 42, 28, 133, 182, 0, 237, 154, 0, 9, 42, 5, 182, 0, 89, 172]
abbrev dktX0_lane_0 : List UInt8 := dkwX0_lane_0 ++ dktX0_lane_1
theorem dksX0_lane_0 : cX0_lane.data.toList.drop 0 = dktX0_lane_0 := by decide +kernel
theorem dksX0_lane_1 : cX0_lane.data.toList.drop 24 = dktX0_lane_1 := dk_seg dksX0_lane_0 24 rfl rfl
theorem dksX0_lane_2 : cX0_lane.data.toList.drop 48 = dktX0_lane_2 := dk_seg dksX0_lane_1 24 rfl rfl
theorem dksX0_lane_3 : cX0_lane.data.toList.drop 71 = dktX0_lane_3 := dk_seg dksX0_lane_2 23 rfl rfl
theorem dX0_lane_0 : decode cX0_lane 0 = .ok (.aload_n 0, 1) := dk_42 (dk_at dksX0_lane_0 0 rfl rfl)
theorem dX0_lane_1 : decode cX0_lane 1 = .ok (.iload_n 1, 1) := dk_27 (dk_at dksX0_lane_0 1 rfl rfl)
theorem dX0_lane_2 : decode cX0_lane 2 = .ok (.i2l, 1) := dk_133 (dk_at dksX0_lane_0 2 rfl rfl)
theorem dX0_lane_3 : decode cX0_lane 3 = .ok (.invokevirtual 237, 3) := dk_182 0 237 (dk_at dksX0_lane_0 3 rfl rfl)
theorem dX0_lane_6 : decode cX0_lane 6 = .ok (.ifCond .eq 12, 3) := dk_153 0 12 (dk_at dksX0_lane_0 6 rfl rfl)
theorem dX0_lane_9 : decode cX0_lane 9 = .ok (.aload_n 0, 1) := dk_42 (dk_at dksX0_lane_0 9 rfl rfl)
theorem dX0_lane_10 : decode cX0_lane 10 = .ok (.iload_n 2, 1) := dk_28 (dk_at dksX0_lane_0 10 rfl rfl)
theorem dX0_lane_11 : decode cX0_lane 11 = .ok (.i2l, 1) := dk_133 (dk_at dksX0_lane_0 11 rfl rfl)
theorem dX0_lane_12 : decode cX0_lane 12 = .ok (.invokevirtual 237, 3) := dk_182 0 237 (dk_at dksX0_lane_0 12 rfl rfl)
theorem dX0_lane_15 : decode cX0_lane 15 = .ok (.ifCond .ne 9, 3) := dk_154 0 9 (dk_at dksX0_lane_0 15 rfl rfl)
theorem dX0_lane_18 : decode cX0_lane 18 = .ok (.aload_n 0, 1) := dk_42 (dk_at dksX0_lane_0 18 rfl rfl)
theorem dX0_lane_19 : decode cX0_lane 19 = .ok (.iconst 2, 1) := dk_5 (dk_at dksX0_lane_0 19 rfl rfl)
theorem dX0_lane_20 : decode cX0_lane 20 = .ok (.invokevirtual 89, 3) := dk_182 0 89 (dk_at dksX0_lane_0 20 rfl rfl)
theorem dX0_lane_23 : decode cX0_lane 23 = .ok (.ireturn, 1) := dk_172 (dk_at dksX0_lane_0 23 rfl rfl)
theorem dX0_lane_24 : decode cX0_lane 24 = .ok (.iload_n 1, 1) := dk_27 (dk_at dksX0_lane_1 0 rfl rfl)
theorem dX0_lane_25 : decode cX0_lane 25 = .ok (.iload_n 2, 1) := dk_28 (dk_at dksX0_lane_1 1 rfl rfl)
theorem dX0_lane_26 : decode cX0_lane 26 = .ok (.if_icmp .ne 9, 3) := dk_160 0 9 (dk_at dksX0_lane_1 2 rfl rfl)
theorem dX0_lane_29 : decode cX0_lane 29 = .ok (.aload_n 0, 1) := dk_42 (dk_at dksX0_lane_1 5 rfl rfl)
theorem dX0_lane_30 : decode cX0_lane 30 = .ok (.iconst 5, 1) := dk_8 (dk_at dksX0_lane_1 6 rfl rfl)
theorem dX0_lane_31 : decode cX0_lane 31 = .ok (.invokevirtual 89, 3) := dk_182 0 89 (dk_at dksX0_lane_1 7 rfl rfl)
theorem dX0_lane_34 : decode cX0_lane 34 = .ok (.ireturn, 1) := dk_172 (dk_at dksX0_lane_1 10 rfl rfl)
theorem dX0_lane_35 : decode cX0_lane 35 = .ok (.aload_n 0, 1) := dk_42 (dk_at dksX0_lane_1 11 rfl rfl)
theorem dX0_lane_36 : decode cX0_lane 36 = .ok (.getfield 34, 3) := dk_180 0 34 (dk_at dksX0_lane_1 12 rfl rfl)
theorem dX0_lane_39 : decode cX0_lane 39 = .ok (.getfield 206, 3) := dk_180 0 206 (dk_at dksX0_lane_1 15 rfl rfl)
theorem dX0_lane_42 : decode cX0_lane 42 = .ok (.bipush 12, 2) := dk_16 12 (dk_at dksX0_lane_1 18 rfl rfl)
theorem dX0_lane_44 : decode cX0_lane 44 = .ok (.if_icmp .ne 10, 3) := dk_160 0 10 (dk_at dksX0_lane_1 20 rfl rfl)
theorem dX0_lane_47 : decode cX0_lane 47 = .ok (.aload_n 0, 1) := dk_42 (dk_at dksX0_lane_1 23 rfl rfl)
theorem dX0_lane_48 : decode cX0_lane 48 = .ok (.bipush 7, 2) := dk_16 7 (dk_at dksX0_lane_2 0 rfl rfl)
theorem dX0_lane_50 : decode cX0_lane 50 = .ok (.invokevirtual 89, 3) := dk_182 0 89 (dk_at dksX0_lane_2 2 rfl rfl)
theorem dX0_lane_53 : decode cX0_lane 53 = .ok (.ireturn, 1) := dk_172 (dk_at dksX0_lane_2 5 rfl rfl)
theorem dX0_lane_54 : decode cX0_lane 54 = .ok (.aload_n 0, 1) := dk_42 (dk_at dksX0_lane_2 6 rfl rfl)
theorem dX0_lane_55 : decode cX0_lane 55 = .ok (.getfield 34, 3) := dk_180 0 34 (dk_at dksX0_lane_2 7 rfl rfl)
theorem dX0_lane_58 : decode cX0_lane 58 = .ok (.iload_n 1, 1) := dk_27 (dk_at dksX0_lane_2 10 rfl rfl)
theorem dX0_lane_59 : decode cX0_lane 59 = .ok (.iload_n 2, 1) := dk_28 (dk_at dksX0_lane_2 11 rfl rfl)
theorem dX0_lane_60 : decode cX0_lane 60 = .ok (.invokevirtual 306, 3) := dk_182 1 50 (dk_at dksX0_lane_2 12 rfl rfl)
theorem dX0_lane_63 : decode cX0_lane 63 = .ok (.aload_n 0, 1) := dk_42 (dk_at dksX0_lane_2 15 rfl rfl)
theorem dX0_lane_64 : decode cX0_lane 64 = .ok (.aload_n 0, 1) := dk_42 (dk_at dksX0_lane_2 16 rfl rfl)
theorem dX0_lane_65 : decode cX0_lane 65 = .ok (.getfield 34, 3) := dk_180 0 34 (dk_at dksX0_lane_2 17 rfl rfl)
theorem dX0_lane_68 : decode cX0_lane 68 = .ok (.getfield 206, 3) := dk_180 0 206 (dk_at dksX0_lane_2 20 rfl rfl)
theorem dX0_lane_71 : decode cX0_lane 71 = .ok (.invokevirtual 93, 3) := dk_182 0 93 (dk_at dksX0_lane_3 0 rfl rfl)
theorem dX0_lane_74 : decode cX0_lane 74 = .ok (.ireturn, 1) := dk_172 (dk_at dksX0_lane_3 3 rfl rfl)
abbrev cX0_price : ByteArray := prog_1_method_44_code
def yX0_price : MethodName := ⟨RX0, "price", "(II)Z"⟩
def dkwX0_price_2 : List UInt8 := [172]
abbrev dktX0_price_2 : List UInt8 := dkwX0_price_2 ++ []
def dkwX0_price_1 : List UInt8 := [154, 0, 9, 42, 8, 182, 0, 96, 172, 42, 180, 0, 34, 180, 0, 234, 27, 28, 79, 42, 3, 182, 0, 96]
abbrev dktX0_price_1 : List UInt8 := dkwX0_price_1 ++ dktX0_price_2
def dkwX0_price_0 : List UInt8 := [42, 27, 182, 0, 231, 154, 0, 9, 42, 5, 182, 0, 96, 172, 28, 133, 9, 20, 1, 52, 184, 0, 147]
abbrev dktX0_price_0 : List UInt8 := dkwX0_price_0 ++ dktX0_price_1
theorem dksX0_price_0 : cX0_price.data.toList.drop 0 = dktX0_price_0 := by decide +kernel
theorem dksX0_price_1 : cX0_price.data.toList.drop 23 = dktX0_price_1 := dk_seg dksX0_price_0 23 rfl rfl
theorem dksX0_price_2 : cX0_price.data.toList.drop 47 = dktX0_price_2 := dk_seg dksX0_price_1 24 rfl rfl
theorem dX0_price_0 : decode cX0_price 0 = .ok (.aload_n 0, 1) := dk_42 (dk_at dksX0_price_0 0 rfl rfl)
theorem dX0_price_1 : decode cX0_price 1 = .ok (.iload_n 1, 1) := dk_27 (dk_at dksX0_price_0 1 rfl rfl)
theorem dX0_price_2 : decode cX0_price 2 = .ok (.invokevirtual 231, 3) := dk_182 0 231 (dk_at dksX0_price_0 2 rfl rfl)
theorem dX0_price_5 : decode cX0_price 5 = .ok (.ifCond .ne 9, 3) := dk_154 0 9 (dk_at dksX0_price_0 5 rfl rfl)
theorem dX0_price_8 : decode cX0_price 8 = .ok (.aload_n 0, 1) := dk_42 (dk_at dksX0_price_0 8 rfl rfl)
theorem dX0_price_9 : decode cX0_price 9 = .ok (.iconst 2, 1) := dk_5 (dk_at dksX0_price_0 9 rfl rfl)
theorem dX0_price_10 : decode cX0_price 10 = .ok (.invokevirtual 96, 3) := dk_182 0 96 (dk_at dksX0_price_0 10 rfl rfl)
theorem dX0_price_13 : decode cX0_price 13 = .ok (.ireturn, 1) := dk_172 (dk_at dksX0_price_0 13 rfl rfl)
theorem dX0_price_14 : decode cX0_price 14 = .ok (.iload_n 2, 1) := dk_28 (dk_at dksX0_price_0 14 rfl rfl)
theorem dX0_price_15 : decode cX0_price 15 = .ok (.i2l, 1) := dk_133 (dk_at dksX0_price_0 15 rfl rfl)
theorem dX0_price_16 : decode cX0_price 16 = .ok (.lconst 0, 1) := dk_9 (dk_at dksX0_price_0 16 rfl rfl)
theorem dX0_price_17 : decode cX0_price 17 = .ok (.ldc2_w 308, 3) := dk_20 1 52 (dk_at dksX0_price_0 17 rfl rfl)
theorem dX0_price_20 : decode cX0_price 20 = .ok (.invokestatic 147, 3) := dk_184 0 147 (dk_at dksX0_price_0 20 rfl rfl)
theorem dX0_price_23 : decode cX0_price 23 = .ok (.ifCond .ne 9, 3) := dk_154 0 9 (dk_at dksX0_price_1 0 rfl rfl)
theorem dX0_price_26 : decode cX0_price 26 = .ok (.aload_n 0, 1) := dk_42 (dk_at dksX0_price_1 3 rfl rfl)
theorem dX0_price_27 : decode cX0_price 27 = .ok (.iconst 5, 1) := dk_8 (dk_at dksX0_price_1 4 rfl rfl)
theorem dX0_price_28 : decode cX0_price 28 = .ok (.invokevirtual 96, 3) := dk_182 0 96 (dk_at dksX0_price_1 5 rfl rfl)
theorem dX0_price_31 : decode cX0_price 31 = .ok (.ireturn, 1) := dk_172 (dk_at dksX0_price_1 8 rfl rfl)
theorem dX0_price_32 : decode cX0_price 32 = .ok (.aload_n 0, 1) := dk_42 (dk_at dksX0_price_1 9 rfl rfl)
theorem dX0_price_33 : decode cX0_price 33 = .ok (.getfield 34, 3) := dk_180 0 34 (dk_at dksX0_price_1 10 rfl rfl)
theorem dX0_price_36 : decode cX0_price 36 = .ok (.getfield 234, 3) := dk_180 0 234 (dk_at dksX0_price_1 13 rfl rfl)
theorem dX0_price_39 : decode cX0_price 39 = .ok (.iload_n 1, 1) := dk_27 (dk_at dksX0_price_1 16 rfl rfl)
theorem dX0_price_40 : decode cX0_price 40 = .ok (.iload_n 2, 1) := dk_28 (dk_at dksX0_price_1 17 rfl rfl)
theorem dX0_price_41 : decode cX0_price 41 = .ok (.iastore, 1) := dk_79 (dk_at dksX0_price_1 18 rfl rfl)
theorem dX0_price_42 : decode cX0_price 42 = .ok (.aload_n 0, 1) := dk_42 (dk_at dksX0_price_1 19 rfl rfl)
theorem dX0_price_43 : decode cX0_price 43 = .ok (.iconst 0, 1) := dk_3 (dk_at dksX0_price_1 20 rfl rfl)
theorem dX0_price_44 : decode cX0_price 44 = .ok (.invokevirtual 96, 3) := dk_182 0 96 (dk_at dksX0_price_1 21 rfl rfl)
theorem dX0_price_47 : decode cX0_price 47 = .ok (.ireturn, 1) := dk_172 (dk_at dksX0_price_2 0 rfl rfl)
abbrev cX0_isFrom : ByteArray := prog_1_method_18_code
def yX0_isFrom : MethodName := ⟨RX0, "isFrom", "(JJJ)Z"⟩
def dkwX0_isFrom_0 : List UInt8 := [30, 32, 148, 155, 0, 14, 30, 22, 4, 148, 157, 0, 7, 4, 167, 0, 4, 3, 172]
abbrev dktX0_isFrom_0 : List UInt8 := dkwX0_isFrom_0 ++ []
theorem dksX0_isFrom_0 : cX0_isFrom.data.toList.drop 0 = dktX0_isFrom_0 := by decide +kernel
theorem dX0_isFrom_0 : decode cX0_isFrom 0 = .ok (.lload_n 0, 1) := dk_30 (dk_at dksX0_isFrom_0 0 rfl rfl)
theorem dX0_isFrom_1 : decode cX0_isFrom 1 = .ok (.lload_n 2, 1) := dk_32 (dk_at dksX0_isFrom_0 1 rfl rfl)
theorem dX0_isFrom_2 : decode cX0_isFrom 2 = .ok (.lcmp, 1) := dk_148 (dk_at dksX0_isFrom_0 2 rfl rfl)
theorem dX0_isFrom_3 : decode cX0_isFrom 3 = .ok (.ifCond .lt 14, 3) := dk_155 0 14 (dk_at dksX0_isFrom_0 3 rfl rfl)
theorem dX0_isFrom_6 : decode cX0_isFrom 6 = .ok (.lload_n 0, 1) := dk_30 (dk_at dksX0_isFrom_0 6 rfl rfl)
theorem dX0_isFrom_7 : decode cX0_isFrom 7 = .ok (.lload 4, 2) := dk_22 4 (dk_at dksX0_isFrom_0 7 rfl rfl)
theorem dX0_isFrom_9 : decode cX0_isFrom 9 = .ok (.lcmp, 1) := dk_148 (dk_at dksX0_isFrom_0 9 rfl rfl)
theorem dX0_isFrom_10 : decode cX0_isFrom 10 = .ok (.ifCond .gt 7, 3) := dk_157 0 7 (dk_at dksX0_isFrom_0 10 rfl rfl)
theorem dX0_isFrom_13 : decode cX0_isFrom 13 = .ok (.iconst 1, 1) := dk_4 (dk_at dksX0_isFrom_0 13 rfl rfl)
theorem dX0_isFrom_14 : decode cX0_isFrom 14 = .ok (.goto 4, 3) := dk_167 0 4 (dk_at dksX0_isFrom_0 14 rfl rfl)
theorem dX0_isFrom_17 : decode cX0_isFrom 17 = .ok (.iconst 0, 1) := dk_3 (dk_at dksX0_isFrom_0 17 rfl rfl)
theorem dX0_isFrom_18 : decode cX0_isFrom 18 = .ok (.ireturn, 1) := dk_172 (dk_at dksX0_isFrom_0 18 rfl rfl)
abbrev cX0_rule : ByteArray := prog_1_method_45_code
def yX0_rule : MethodName := ⟨RX0, "rule", "(I)Z"⟩
def dkwX0_rule_1 : List UInt8 := [181, 0, 209, 42, 3, 182, 0, 96, 172]
abbrev dktX0_rule_1 : List UInt8 := dkwX0_rule_1 ++ []
def dkwX0_rule_0 : List UInt8 := [27, 133, 9, 20, 1, 54, 184, 0, 147, 154, 0, 9, 42, 8, 182, 0, 96, 172, 42, 180, 0, 34, 27]
abbrev dktX0_rule_0 : List UInt8 := dkwX0_rule_0 ++ dktX0_rule_1
theorem dksX0_rule_0 : cX0_rule.data.toList.drop 0 = dktX0_rule_0 := by decide +kernel
theorem dksX0_rule_1 : cX0_rule.data.toList.drop 23 = dktX0_rule_1 := dk_seg dksX0_rule_0 23 rfl rfl
theorem dX0_rule_0 : decode cX0_rule 0 = .ok (.iload_n 1, 1) := dk_27 (dk_at dksX0_rule_0 0 rfl rfl)
theorem dX0_rule_1 : decode cX0_rule 1 = .ok (.i2l, 1) := dk_133 (dk_at dksX0_rule_0 1 rfl rfl)
theorem dX0_rule_2 : decode cX0_rule 2 = .ok (.lconst 0, 1) := dk_9 (dk_at dksX0_rule_0 2 rfl rfl)
theorem dX0_rule_3 : decode cX0_rule 3 = .ok (.ldc2_w 310, 3) := dk_20 1 54 (dk_at dksX0_rule_0 3 rfl rfl)
theorem dX0_rule_6 : decode cX0_rule 6 = .ok (.invokestatic 147, 3) := dk_184 0 147 (dk_at dksX0_rule_0 6 rfl rfl)
theorem dX0_rule_9 : decode cX0_rule 9 = .ok (.ifCond .ne 9, 3) := dk_154 0 9 (dk_at dksX0_rule_0 9 rfl rfl)
theorem dX0_rule_12 : decode cX0_rule 12 = .ok (.aload_n 0, 1) := dk_42 (dk_at dksX0_rule_0 12 rfl rfl)
theorem dX0_rule_13 : decode cX0_rule 13 = .ok (.iconst 5, 1) := dk_8 (dk_at dksX0_rule_0 13 rfl rfl)
theorem dX0_rule_14 : decode cX0_rule 14 = .ok (.invokevirtual 96, 3) := dk_182 0 96 (dk_at dksX0_rule_0 14 rfl rfl)
theorem dX0_rule_17 : decode cX0_rule 17 = .ok (.ireturn, 1) := dk_172 (dk_at dksX0_rule_0 17 rfl rfl)
theorem dX0_rule_18 : decode cX0_rule 18 = .ok (.aload_n 0, 1) := dk_42 (dk_at dksX0_rule_0 18 rfl rfl)
theorem dX0_rule_19 : decode cX0_rule 19 = .ok (.getfield 34, 3) := dk_180 0 34 (dk_at dksX0_rule_0 19 rfl rfl)
theorem dX0_rule_22 : decode cX0_rule 22 = .ok (.iload_n 1, 1) := dk_27 (dk_at dksX0_rule_0 22 rfl rfl)
theorem dX0_rule_23 : decode cX0_rule 23 = .ok (.putfield 209, 3) := dk_181 0 209 (dk_at dksX0_rule_1 0 rfl rfl)
theorem dX0_rule_26 : decode cX0_rule 26 = .ok (.aload_n 0, 1) := dk_42 (dk_at dksX0_rule_1 3 rfl rfl)
theorem dX0_rule_27 : decode cX0_rule 27 = .ok (.iconst 0, 1) := dk_3 (dk_at dksX0_rule_1 4 rfl rfl)
theorem dX0_rule_28 : decode cX0_rule 28 = .ok (.invokevirtual 96, 3) := dk_182 0 96 (dk_at dksX0_rule_1 5 rfl rfl)
theorem dX0_rule_31 : decode cX0_rule 31 = .ok (.ireturn, 1) := dk_172 (dk_at dksX0_rule_1 8 rfl rfl)
abbrev cX0_way : ByteArray := prog_1_method_48_code
def yX0_way : MethodName := ⟨RX0, "way", "(II)I"⟩
def dkwX0_way_3 : List UInt8 := [182, 1, 9, 172]
abbrev dktX0_way_3 : List UInt8 := dkwX0_way_3 ++ []
def dkwX0_way_2 : List UInt8 := [28, 182, 1, 60, 42, 42, 180, 0, 49, 42, 180, 0, 34, 180, 0, 193, 27, 50, 180, 1, 6, 46]
abbrev dktX0_way_2 : List UInt8 := dkwX0_way_2 ++ dktX0_way_3
def dkwX0_way_1 : List UInt8 := [180, 0, 34, 180, 0, 193, 27, 50, 180, 1, 6, 2, 160, 0, 10, 42, 16, 9, 182, 0, 89, 172, 42, 27]
abbrev dktX0_way_1 : List UInt8 := dkwX0_way_1 ++ dktX0_way_2
def dkwX0_way_0 : List UInt8 := [42, 27, 182, 1, 0, 153, 0, 12, 42, 28, 133, 182, 0, 237, 154, 0, 9, 42, 5, 182, 0, 89, 172, 42]
abbrev dktX0_way_0 : List UInt8 := dkwX0_way_0 ++ dktX0_way_1
theorem dksX0_way_0 : cX0_way.data.toList.drop 0 = dktX0_way_0 := by decide +kernel
theorem dksX0_way_1 : cX0_way.data.toList.drop 24 = dktX0_way_1 := dk_seg dksX0_way_0 24 rfl rfl
theorem dksX0_way_2 : cX0_way.data.toList.drop 48 = dktX0_way_2 := dk_seg dksX0_way_1 24 rfl rfl
theorem dksX0_way_3 : cX0_way.data.toList.drop 70 = dktX0_way_3 := dk_seg dksX0_way_2 22 rfl rfl
theorem dX0_way_0 : decode cX0_way 0 = .ok (.aload_n 0, 1) := dk_42 (dk_at dksX0_way_0 0 rfl rfl)
theorem dX0_way_1 : decode cX0_way 1 = .ok (.iload_n 1, 1) := dk_27 (dk_at dksX0_way_0 1 rfl rfl)
theorem dX0_way_2 : decode cX0_way 2 = .ok (.invokevirtual 256, 3) := dk_182 1 0 (dk_at dksX0_way_0 2 rfl rfl)
theorem dX0_way_5 : decode cX0_way 5 = .ok (.ifCond .eq 12, 3) := dk_153 0 12 (dk_at dksX0_way_0 5 rfl rfl)
theorem dX0_way_8 : decode cX0_way 8 = .ok (.aload_n 0, 1) := dk_42 (dk_at dksX0_way_0 8 rfl rfl)
theorem dX0_way_9 : decode cX0_way 9 = .ok (.iload_n 2, 1) := dk_28 (dk_at dksX0_way_0 9 rfl rfl)
theorem dX0_way_10 : decode cX0_way 10 = .ok (.i2l, 1) := dk_133 (dk_at dksX0_way_0 10 rfl rfl)
theorem dX0_way_11 : decode cX0_way 11 = .ok (.invokevirtual 237, 3) := dk_182 0 237 (dk_at dksX0_way_0 11 rfl rfl)
theorem dX0_way_14 : decode cX0_way 14 = .ok (.ifCond .ne 9, 3) := dk_154 0 9 (dk_at dksX0_way_0 14 rfl rfl)
theorem dX0_way_17 : decode cX0_way 17 = .ok (.aload_n 0, 1) := dk_42 (dk_at dksX0_way_0 17 rfl rfl)
theorem dX0_way_18 : decode cX0_way 18 = .ok (.iconst 2, 1) := dk_5 (dk_at dksX0_way_0 18 rfl rfl)
theorem dX0_way_19 : decode cX0_way 19 = .ok (.invokevirtual 89, 3) := dk_182 0 89 (dk_at dksX0_way_0 19 rfl rfl)
theorem dX0_way_22 : decode cX0_way 22 = .ok (.ireturn, 1) := dk_172 (dk_at dksX0_way_0 22 rfl rfl)
theorem dX0_way_23 : decode cX0_way 23 = .ok (.aload_n 0, 1) := dk_42 (dk_at dksX0_way_0 23 rfl rfl)
theorem dX0_way_24 : decode cX0_way 24 = .ok (.getfield 34, 3) := dk_180 0 34 (dk_at dksX0_way_1 0 rfl rfl)
theorem dX0_way_27 : decode cX0_way 27 = .ok (.getfield 193, 3) := dk_180 0 193 (dk_at dksX0_way_1 3 rfl rfl)
theorem dX0_way_30 : decode cX0_way 30 = .ok (.iload_n 1, 1) := dk_27 (dk_at dksX0_way_1 6 rfl rfl)
theorem dX0_way_31 : decode cX0_way 31 = .ok (.aaload, 1) := dk_50 (dk_at dksX0_way_1 7 rfl rfl)
theorem dX0_way_32 : decode cX0_way 32 = .ok (.getfield 262, 3) := dk_180 1 6 (dk_at dksX0_way_1 8 rfl rfl)
theorem dX0_way_35 : decode cX0_way 35 = .ok (.iconst (-1), 1) := dk_2 (dk_at dksX0_way_1 11 rfl rfl)
theorem dX0_way_36 : decode cX0_way 36 = .ok (.if_icmp .ne 10, 3) := dk_160 0 10 (dk_at dksX0_way_1 12 rfl rfl)
theorem dX0_way_39 : decode cX0_way 39 = .ok (.aload_n 0, 1) := dk_42 (dk_at dksX0_way_1 15 rfl rfl)
theorem dX0_way_40 : decode cX0_way 40 = .ok (.bipush 9, 2) := dk_16 9 (dk_at dksX0_way_1 16 rfl rfl)
theorem dX0_way_42 : decode cX0_way 42 = .ok (.invokevirtual 89, 3) := dk_182 0 89 (dk_at dksX0_way_1 18 rfl rfl)
theorem dX0_way_45 : decode cX0_way 45 = .ok (.ireturn, 1) := dk_172 (dk_at dksX0_way_1 21 rfl rfl)
theorem dX0_way_46 : decode cX0_way 46 = .ok (.aload_n 0, 1) := dk_42 (dk_at dksX0_way_1 22 rfl rfl)
theorem dX0_way_47 : decode cX0_way 47 = .ok (.iload_n 1, 1) := dk_27 (dk_at dksX0_way_1 23 rfl rfl)
theorem dX0_way_48 : decode cX0_way 48 = .ok (.iload_n 2, 1) := dk_28 (dk_at dksX0_way_2 0 rfl rfl)
theorem dX0_way_49 : decode cX0_way 49 = .ok (.invokevirtual 316, 3) := dk_182 1 60 (dk_at dksX0_way_2 1 rfl rfl)
theorem dX0_way_52 : decode cX0_way 52 = .ok (.aload_n 0, 1) := dk_42 (dk_at dksX0_way_2 4 rfl rfl)
theorem dX0_way_53 : decode cX0_way 53 = .ok (.aload_n 0, 1) := dk_42 (dk_at dksX0_way_2 5 rfl rfl)
theorem dX0_way_54 : decode cX0_way 54 = .ok (.getfield 49, 3) := dk_180 0 49 (dk_at dksX0_way_2 6 rfl rfl)
theorem dX0_way_57 : decode cX0_way 57 = .ok (.aload_n 0, 1) := dk_42 (dk_at dksX0_way_2 9 rfl rfl)
theorem dX0_way_58 : decode cX0_way 58 = .ok (.getfield 34, 3) := dk_180 0 34 (dk_at dksX0_way_2 10 rfl rfl)
theorem dX0_way_61 : decode cX0_way 61 = .ok (.getfield 193, 3) := dk_180 0 193 (dk_at dksX0_way_2 13 rfl rfl)
theorem dX0_way_64 : decode cX0_way 64 = .ok (.iload_n 1, 1) := dk_27 (dk_at dksX0_way_2 16 rfl rfl)
theorem dX0_way_65 : decode cX0_way 65 = .ok (.aaload, 1) := dk_50 (dk_at dksX0_way_2 17 rfl rfl)
theorem dX0_way_66 : decode cX0_way 66 = .ok (.getfield 262, 3) := dk_180 1 6 (dk_at dksX0_way_2 18 rfl rfl)
theorem dX0_way_69 : decode cX0_way 69 = .ok (.iaload, 1) := dk_46 (dk_at dksX0_way_2 21 rfl rfl)
theorem dX0_way_70 : decode cX0_way 70 = .ok (.invokevirtual 265, 3) := dk_182 1 9 (dk_at dksX0_way_3 0 rfl rfl)
theorem dX0_way_73 : decode cX0_way 73 = .ok (.ireturn, 1) := dk_172 (dk_at dksX0_way_3 3 rfl rfl)
abbrev cX0_laysFar : ByteArray := prog_1_method_46_code
def yX0_laysFar : MethodName := ⟨RX0, "laysFar", "(II)V"⟩
def dkwX0_laysFar_6 : List UInt8 := [167, 255, 199, 132, 4, 1, 167, 255, 152, 132, 3, 1, 167, 255, 132, 177]
abbrev dktX0_laysFar_6 : List UInt8 := dkwX0_laysFar_6 ++ []
def dkwX0_laysFar_5 : List UInt8 := [42, 180, 0, 49, 21, 6, 46, 29, 160, 0, 13, 42, 180, 0, 49, 21, 4, 29, 4, 96, 79, 132, 6, 1]
abbrev dktX0_laysFar_5 : List UInt8 := dkwX0_laysFar_5 ++ dktX0_laysFar_6
def dkwX0_laysFar_4 : List UInt8 := [162, 0, 51, 42, 180, 0, 49, 21, 4, 46, 2, 160, 0, 40, 21, 5, 21, 6, 184, 0, 1, 153, 0, 24]
abbrev dktX0_laysFar_4 : List UInt8 := dkwX0_laysFar_4 ++ dktX0_laysFar_5
def dkwX0_laysFar_3 : List UInt8 := [42, 180, 0, 34, 27, 21, 4, 182, 1, 56, 54, 5, 3, 54, 6, 21, 6, 42, 180, 0, 34, 180, 0, 141]
abbrev dktX0_laysFar_3 : List UInt8 := dkwX0_laysFar_3 ++ dktX0_laysFar_4
def dkwX0_laysFar_2 : List UInt8 := [42, 180, 0, 34, 180, 0, 141, 162, 0, 98, 42, 180, 0, 49, 21, 4, 46, 2, 159, 0, 6, 167, 0, 78]
abbrev dktX0_laysFar_2 : List UInt8 := dkwX0_laysFar_2 ++ dktX0_laysFar_3
def dkwX0_laysFar_1 : List UInt8 := [132, 3, 1, 167, 255, 231, 3, 62, 29, 42, 180, 0, 34, 180, 0, 141, 162, 0, 119, 3, 54, 4, 21, 4]
abbrev dktX0_laysFar_1 : List UInt8 := dkwX0_laysFar_1 ++ dktX0_laysFar_2
def dkwX0_laysFar_0 : List UInt8 := [3, 62, 29, 16, 7, 162, 0, 25, 42, 180, 0, 49, 29, 29, 28, 160, 0, 7, 3, 167, 0, 4, 2, 79]
abbrev dktX0_laysFar_0 : List UInt8 := dkwX0_laysFar_0 ++ dktX0_laysFar_1
theorem dksX0_laysFar_0 : cX0_laysFar.data.toList.drop 0 = dktX0_laysFar_0 := by decide +kernel
theorem dksX0_laysFar_1 : cX0_laysFar.data.toList.drop 24 = dktX0_laysFar_1 := dk_seg dksX0_laysFar_0 24 rfl rfl
theorem dksX0_laysFar_2 : cX0_laysFar.data.toList.drop 48 = dktX0_laysFar_2 := dk_seg dksX0_laysFar_1 24 rfl rfl
theorem dksX0_laysFar_3 : cX0_laysFar.data.toList.drop 72 = dktX0_laysFar_3 := dk_seg dksX0_laysFar_2 24 rfl rfl
theorem dksX0_laysFar_4 : cX0_laysFar.data.toList.drop 96 = dktX0_laysFar_4 := dk_seg dksX0_laysFar_3 24 rfl rfl
theorem dksX0_laysFar_5 : cX0_laysFar.data.toList.drop 120 = dktX0_laysFar_5 := dk_seg dksX0_laysFar_4 24 rfl rfl
theorem dksX0_laysFar_6 : cX0_laysFar.data.toList.drop 144 = dktX0_laysFar_6 := dk_seg dksX0_laysFar_5 24 rfl rfl
theorem dX0_laysFar_0 : decode cX0_laysFar 0 = .ok (.iconst 0, 1) := dk_3 (dk_at dksX0_laysFar_0 0 rfl rfl)
theorem dX0_laysFar_1 : decode cX0_laysFar 1 = .ok (.istore_n 3, 1) := dk_62 (dk_at dksX0_laysFar_0 1 rfl rfl)
theorem dX0_laysFar_2 : decode cX0_laysFar 2 = .ok (.iload_n 3, 1) := dk_29 (dk_at dksX0_laysFar_0 2 rfl rfl)
theorem dX0_laysFar_3 : decode cX0_laysFar 3 = .ok (.bipush 7, 2) := dk_16 7 (dk_at dksX0_laysFar_0 3 rfl rfl)
theorem dX0_laysFar_5 : decode cX0_laysFar 5 = .ok (.if_icmp .ge 25, 3) := dk_162 0 25 (dk_at dksX0_laysFar_0 5 rfl rfl)
theorem dX0_laysFar_8 : decode cX0_laysFar 8 = .ok (.aload_n 0, 1) := dk_42 (dk_at dksX0_laysFar_0 8 rfl rfl)
theorem dX0_laysFar_9 : decode cX0_laysFar 9 = .ok (.getfield 49, 3) := dk_180 0 49 (dk_at dksX0_laysFar_0 9 rfl rfl)
theorem dX0_laysFar_12 : decode cX0_laysFar 12 = .ok (.iload_n 3, 1) := dk_29 (dk_at dksX0_laysFar_0 12 rfl rfl)
theorem dX0_laysFar_13 : decode cX0_laysFar 13 = .ok (.iload_n 3, 1) := dk_29 (dk_at dksX0_laysFar_0 13 rfl rfl)
theorem dX0_laysFar_14 : decode cX0_laysFar 14 = .ok (.iload_n 2, 1) := dk_28 (dk_at dksX0_laysFar_0 14 rfl rfl)
theorem dX0_laysFar_15 : decode cX0_laysFar 15 = .ok (.if_icmp .ne 7, 3) := dk_160 0 7 (dk_at dksX0_laysFar_0 15 rfl rfl)
theorem dX0_laysFar_18 : decode cX0_laysFar 18 = .ok (.iconst 0, 1) := dk_3 (dk_at dksX0_laysFar_0 18 rfl rfl)
theorem dX0_laysFar_19 : decode cX0_laysFar 19 = .ok (.goto 4, 3) := dk_167 0 4 (dk_at dksX0_laysFar_0 19 rfl rfl)
theorem dX0_laysFar_22 : decode cX0_laysFar 22 = .ok (.iconst (-1), 1) := dk_2 (dk_at dksX0_laysFar_0 22 rfl rfl)
theorem dX0_laysFar_23 : decode cX0_laysFar 23 = .ok (.iastore, 1) := dk_79 (dk_at dksX0_laysFar_0 23 rfl rfl)
theorem dX0_laysFar_24 : decode cX0_laysFar 24 = .ok (.iinc 3 1, 3) := dk_132 3 1 (dk_at dksX0_laysFar_1 0 rfl rfl)
theorem dX0_laysFar_27 : decode cX0_laysFar 27 = .ok (.goto (-25), 3) := dk_167 255 231 (dk_at dksX0_laysFar_1 3 rfl rfl)
theorem dX0_laysFar_30 : decode cX0_laysFar 30 = .ok (.iconst 0, 1) := dk_3 (dk_at dksX0_laysFar_1 6 rfl rfl)
theorem dX0_laysFar_31 : decode cX0_laysFar 31 = .ok (.istore_n 3, 1) := dk_62 (dk_at dksX0_laysFar_1 7 rfl rfl)
theorem dX0_laysFar_32 : decode cX0_laysFar 32 = .ok (.iload_n 3, 1) := dk_29 (dk_at dksX0_laysFar_1 8 rfl rfl)
theorem dX0_laysFar_33 : decode cX0_laysFar 33 = .ok (.aload_n 0, 1) := dk_42 (dk_at dksX0_laysFar_1 9 rfl rfl)
theorem dX0_laysFar_34 : decode cX0_laysFar 34 = .ok (.getfield 34, 3) := dk_180 0 34 (dk_at dksX0_laysFar_1 10 rfl rfl)
theorem dX0_laysFar_37 : decode cX0_laysFar 37 = .ok (.getfield 141, 3) := dk_180 0 141 (dk_at dksX0_laysFar_1 13 rfl rfl)
theorem dX0_laysFar_40 : decode cX0_laysFar 40 = .ok (.if_icmp .ge 119, 3) := dk_162 0 119 (dk_at dksX0_laysFar_1 16 rfl rfl)
theorem dX0_laysFar_43 : decode cX0_laysFar 43 = .ok (.iconst 0, 1) := dk_3 (dk_at dksX0_laysFar_1 19 rfl rfl)
theorem dX0_laysFar_44 : decode cX0_laysFar 44 = .ok (.istore 4, 2) := dk_54 4 (dk_at dksX0_laysFar_1 20 rfl rfl)
theorem dX0_laysFar_46 : decode cX0_laysFar 46 = .ok (.iload 4, 2) := dk_21 4 (dk_at dksX0_laysFar_1 22 rfl rfl)
theorem dX0_laysFar_48 : decode cX0_laysFar 48 = .ok (.aload_n 0, 1) := dk_42 (dk_at dksX0_laysFar_2 0 rfl rfl)
theorem dX0_laysFar_49 : decode cX0_laysFar 49 = .ok (.getfield 34, 3) := dk_180 0 34 (dk_at dksX0_laysFar_2 1 rfl rfl)
theorem dX0_laysFar_52 : decode cX0_laysFar 52 = .ok (.getfield 141, 3) := dk_180 0 141 (dk_at dksX0_laysFar_2 4 rfl rfl)
theorem dX0_laysFar_55 : decode cX0_laysFar 55 = .ok (.if_icmp .ge 98, 3) := dk_162 0 98 (dk_at dksX0_laysFar_2 7 rfl rfl)
theorem dX0_laysFar_58 : decode cX0_laysFar 58 = .ok (.aload_n 0, 1) := dk_42 (dk_at dksX0_laysFar_2 10 rfl rfl)
theorem dX0_laysFar_59 : decode cX0_laysFar 59 = .ok (.getfield 49, 3) := dk_180 0 49 (dk_at dksX0_laysFar_2 11 rfl rfl)
theorem dX0_laysFar_62 : decode cX0_laysFar 62 = .ok (.iload 4, 2) := dk_21 4 (dk_at dksX0_laysFar_2 14 rfl rfl)
theorem dX0_laysFar_64 : decode cX0_laysFar 64 = .ok (.iaload, 1) := dk_46 (dk_at dksX0_laysFar_2 16 rfl rfl)
theorem dX0_laysFar_65 : decode cX0_laysFar 65 = .ok (.iconst (-1), 1) := dk_2 (dk_at dksX0_laysFar_2 17 rfl rfl)
theorem dX0_laysFar_66 : decode cX0_laysFar 66 = .ok (.if_icmp .eq 6, 3) := dk_159 0 6 (dk_at dksX0_laysFar_2 18 rfl rfl)
theorem dX0_laysFar_69 : decode cX0_laysFar 69 = .ok (.goto 78, 3) := dk_167 0 78 (dk_at dksX0_laysFar_2 21 rfl rfl)
theorem dX0_laysFar_72 : decode cX0_laysFar 72 = .ok (.aload_n 0, 1) := dk_42 (dk_at dksX0_laysFar_3 0 rfl rfl)
theorem dX0_laysFar_73 : decode cX0_laysFar 73 = .ok (.getfield 34, 3) := dk_180 0 34 (dk_at dksX0_laysFar_3 1 rfl rfl)
theorem dX0_laysFar_76 : decode cX0_laysFar 76 = .ok (.iload_n 1, 1) := dk_27 (dk_at dksX0_laysFar_3 4 rfl rfl)
theorem dX0_laysFar_77 : decode cX0_laysFar 77 = .ok (.iload 4, 2) := dk_21 4 (dk_at dksX0_laysFar_3 5 rfl rfl)
theorem dX0_laysFar_79 : decode cX0_laysFar 79 = .ok (.invokevirtual 312, 3) := dk_182 1 56 (dk_at dksX0_laysFar_3 7 rfl rfl)
theorem dX0_laysFar_82 : decode cX0_laysFar 82 = .ok (.istore 5, 2) := dk_54 5 (dk_at dksX0_laysFar_3 10 rfl rfl)
theorem dX0_laysFar_84 : decode cX0_laysFar 84 = .ok (.iconst 0, 1) := dk_3 (dk_at dksX0_laysFar_3 12 rfl rfl)
theorem dX0_laysFar_85 : decode cX0_laysFar 85 = .ok (.istore 6, 2) := dk_54 6 (dk_at dksX0_laysFar_3 13 rfl rfl)
theorem dX0_laysFar_87 : decode cX0_laysFar 87 = .ok (.iload 6, 2) := dk_21 6 (dk_at dksX0_laysFar_3 15 rfl rfl)
theorem dX0_laysFar_89 : decode cX0_laysFar 89 = .ok (.aload_n 0, 1) := dk_42 (dk_at dksX0_laysFar_3 17 rfl rfl)
theorem dX0_laysFar_90 : decode cX0_laysFar 90 = .ok (.getfield 34, 3) := dk_180 0 34 (dk_at dksX0_laysFar_3 18 rfl rfl)
theorem dX0_laysFar_93 : decode cX0_laysFar 93 = .ok (.getfield 141, 3) := dk_180 0 141 (dk_at dksX0_laysFar_3 21 rfl rfl)
theorem dX0_laysFar_96 : decode cX0_laysFar 96 = .ok (.if_icmp .ge 51, 3) := dk_162 0 51 (dk_at dksX0_laysFar_4 0 rfl rfl)
theorem dX0_laysFar_99 : decode cX0_laysFar 99 = .ok (.aload_n 0, 1) := dk_42 (dk_at dksX0_laysFar_4 3 rfl rfl)
theorem dX0_laysFar_100 : decode cX0_laysFar 100 = .ok (.getfield 49, 3) := dk_180 0 49 (dk_at dksX0_laysFar_4 4 rfl rfl)
theorem dX0_laysFar_103 : decode cX0_laysFar 103 = .ok (.iload 4, 2) := dk_21 4 (dk_at dksX0_laysFar_4 7 rfl rfl)
theorem dX0_laysFar_105 : decode cX0_laysFar 105 = .ok (.iaload, 1) := dk_46 (dk_at dksX0_laysFar_4 9 rfl rfl)
theorem dX0_laysFar_106 : decode cX0_laysFar 106 = .ok (.iconst (-1), 1) := dk_2 (dk_at dksX0_laysFar_4 10 rfl rfl)
theorem dX0_laysFar_107 : decode cX0_laysFar 107 = .ok (.if_icmp .ne 40, 3) := dk_160 0 40 (dk_at dksX0_laysFar_4 11 rfl rfl)
theorem dX0_laysFar_110 : decode cX0_laysFar 110 = .ok (.iload 5, 2) := dk_21 5 (dk_at dksX0_laysFar_4 14 rfl rfl)
theorem dX0_laysFar_112 : decode cX0_laysFar 112 = .ok (.iload 6, 2) := dk_21 6 (dk_at dksX0_laysFar_4 16 rfl rfl)
theorem dX0_laysFar_114 : decode cX0_laysFar 114 = .ok (.invokestatic 1, 3) := dk_184 0 1 (dk_at dksX0_laysFar_4 18 rfl rfl)
theorem dX0_laysFar_117 : decode cX0_laysFar 117 = .ok (.ifCond .eq 24, 3) := dk_153 0 24 (dk_at dksX0_laysFar_4 21 rfl rfl)
theorem dX0_laysFar_120 : decode cX0_laysFar 120 = .ok (.aload_n 0, 1) := dk_42 (dk_at dksX0_laysFar_5 0 rfl rfl)
theorem dX0_laysFar_121 : decode cX0_laysFar 121 = .ok (.getfield 49, 3) := dk_180 0 49 (dk_at dksX0_laysFar_5 1 rfl rfl)
theorem dX0_laysFar_124 : decode cX0_laysFar 124 = .ok (.iload 6, 2) := dk_21 6 (dk_at dksX0_laysFar_5 4 rfl rfl)
theorem dX0_laysFar_126 : decode cX0_laysFar 126 = .ok (.iaload, 1) := dk_46 (dk_at dksX0_laysFar_5 6 rfl rfl)
theorem dX0_laysFar_127 : decode cX0_laysFar 127 = .ok (.iload_n 3, 1) := dk_29 (dk_at dksX0_laysFar_5 7 rfl rfl)
theorem dX0_laysFar_128 : decode cX0_laysFar 128 = .ok (.if_icmp .ne 13, 3) := dk_160 0 13 (dk_at dksX0_laysFar_5 8 rfl rfl)
theorem dX0_laysFar_131 : decode cX0_laysFar 131 = .ok (.aload_n 0, 1) := dk_42 (dk_at dksX0_laysFar_5 11 rfl rfl)
theorem dX0_laysFar_132 : decode cX0_laysFar 132 = .ok (.getfield 49, 3) := dk_180 0 49 (dk_at dksX0_laysFar_5 12 rfl rfl)
theorem dX0_laysFar_135 : decode cX0_laysFar 135 = .ok (.iload 4, 2) := dk_21 4 (dk_at dksX0_laysFar_5 15 rfl rfl)
theorem dX0_laysFar_137 : decode cX0_laysFar 137 = .ok (.iload_n 3, 1) := dk_29 (dk_at dksX0_laysFar_5 17 rfl rfl)
theorem dX0_laysFar_138 : decode cX0_laysFar 138 = .ok (.iconst 1, 1) := dk_4 (dk_at dksX0_laysFar_5 18 rfl rfl)
theorem dX0_laysFar_139 : decode cX0_laysFar 139 = .ok (.iadd, 1) := dk_96 (dk_at dksX0_laysFar_5 19 rfl rfl)
theorem dX0_laysFar_140 : decode cX0_laysFar 140 = .ok (.iastore, 1) := dk_79 (dk_at dksX0_laysFar_5 20 rfl rfl)
theorem dX0_laysFar_141 : decode cX0_laysFar 141 = .ok (.iinc 6 1, 3) := dk_132 6 1 (dk_at dksX0_laysFar_5 21 rfl rfl)
theorem dX0_laysFar_144 : decode cX0_laysFar 144 = .ok (.goto (-57), 3) := dk_167 255 199 (dk_at dksX0_laysFar_6 0 rfl rfl)
theorem dX0_laysFar_147 : decode cX0_laysFar 147 = .ok (.iinc 4 1, 3) := dk_132 4 1 (dk_at dksX0_laysFar_6 3 rfl rfl)
theorem dX0_laysFar_150 : decode cX0_laysFar 150 = .ok (.goto (-104), 3) := dk_167 255 152 (dk_at dksX0_laysFar_6 6 rfl rfl)
theorem dX0_laysFar_153 : decode cX0_laysFar 153 = .ok (.iinc 3 1, 3) := dk_132 3 1 (dk_at dksX0_laysFar_6 9 rfl rfl)
theorem dX0_laysFar_156 : decode cX0_laysFar 156 = .ok (.goto (-124), 3) := dk_167 255 132 (dk_at dksX0_laysFar_6 12 rfl rfl)
theorem dX0_laysFar_159 : decode cX0_laysFar 159 = .ok (.return_, 1) := dk_177 (dk_at dksX0_laysFar_6 15 rfl rfl)
abbrev cX0_wayAt : ByteArray := prog_1_method_49_code
def yX0_wayAt : MethodName := ⟨RX0, "wayAt", "(III)I"⟩
def dkwX0_wayAt_6 : List UInt8 := [54, 4, 132, 5, 1, 167, 255, 193, 42, 21, 4, 182, 0, 93, 172]
abbrev dktX0_wayAt_6 : List UInt8 := dkwX0_wayAt_6 ++ []
def dkwX0_wayAt_5 : List UInt8 := [21, 7, 46, 42, 180, 0, 49, 21, 4, 46, 4, 100, 159, 0, 9, 132, 7, 1, 167, 255, 224, 21, 7]
abbrev dktX0_wayAt_5 : List UInt8 := dkwX0_wayAt_5 ++ dktX0_wayAt_6
def dkwX0_wayAt_4 : List UInt8 := [21, 4, 182, 1, 56, 54, 6, 3, 54, 7, 21, 6, 21, 7, 184, 0, 1, 153, 0, 22, 42, 180, 0, 49]
abbrev dktX0_wayAt_4 : List UInt8 := dkwX0_wayAt_4 ++ dktX0_wayAt_5
def dkwX0_wayAt_3 : List UInt8 := [164, 0, 10, 42, 16, 8, 182, 0, 89, 172, 3, 54, 5, 21, 5, 29, 162, 0, 63, 42, 180, 0, 34, 27]
abbrev dktX0_wayAt_3 : List UInt8 := dkwX0_wayAt_3 ++ dktX0_wayAt_4
def dkwX0_wayAt_2 : List UInt8 := [182, 0, 89, 172, 42, 27, 28, 182, 1, 60, 29, 155, 0, 14, 29, 42, 180, 0, 49, 21, 4, 46]
abbrev dktX0_wayAt_2 : List UInt8 := dkwX0_wayAt_2 ++ dktX0_wayAt_3
def dkwX0_wayAt_1 : List UInt8 := [180, 0, 34, 180, 0, 193, 27, 50, 180, 1, 6, 54, 4, 21, 4, 2, 160, 0, 10, 42, 16, 9]
abbrev dktX0_wayAt_1 : List UInt8 := dkwX0_wayAt_1 ++ dktX0_wayAt_2
def dkwX0_wayAt_0 : List UInt8 := [42, 27, 182, 1, 0, 153, 0, 12, 42, 28, 133, 182, 0, 237, 154, 0, 9, 42, 5, 182, 0, 89, 172, 42]
abbrev dktX0_wayAt_0 : List UInt8 := dkwX0_wayAt_0 ++ dktX0_wayAt_1
theorem dksX0_wayAt_0 : cX0_wayAt.data.toList.drop 0 = dktX0_wayAt_0 := by decide +kernel
theorem dksX0_wayAt_1 : cX0_wayAt.data.toList.drop 24 = dktX0_wayAt_1 := dk_seg dksX0_wayAt_0 24 rfl rfl
theorem dksX0_wayAt_2 : cX0_wayAt.data.toList.drop 46 = dktX0_wayAt_2 := dk_seg dksX0_wayAt_1 22 rfl rfl
theorem dksX0_wayAt_3 : cX0_wayAt.data.toList.drop 68 = dktX0_wayAt_3 := dk_seg dksX0_wayAt_2 22 rfl rfl
theorem dksX0_wayAt_4 : cX0_wayAt.data.toList.drop 92 = dktX0_wayAt_4 := dk_seg dksX0_wayAt_3 24 rfl rfl
theorem dksX0_wayAt_5 : cX0_wayAt.data.toList.drop 116 = dktX0_wayAt_5 := dk_seg dksX0_wayAt_4 24 rfl rfl
theorem dksX0_wayAt_6 : cX0_wayAt.data.toList.drop 139 = dktX0_wayAt_6 := dk_seg dksX0_wayAt_5 23 rfl rfl
theorem dX0_wayAt_0 : decode cX0_wayAt 0 = .ok (.aload_n 0, 1) := dk_42 (dk_at dksX0_wayAt_0 0 rfl rfl)
theorem dX0_wayAt_1 : decode cX0_wayAt 1 = .ok (.iload_n 1, 1) := dk_27 (dk_at dksX0_wayAt_0 1 rfl rfl)
theorem dX0_wayAt_2 : decode cX0_wayAt 2 = .ok (.invokevirtual 256, 3) := dk_182 1 0 (dk_at dksX0_wayAt_0 2 rfl rfl)
theorem dX0_wayAt_5 : decode cX0_wayAt 5 = .ok (.ifCond .eq 12, 3) := dk_153 0 12 (dk_at dksX0_wayAt_0 5 rfl rfl)
theorem dX0_wayAt_8 : decode cX0_wayAt 8 = .ok (.aload_n 0, 1) := dk_42 (dk_at dksX0_wayAt_0 8 rfl rfl)
theorem dX0_wayAt_9 : decode cX0_wayAt 9 = .ok (.iload_n 2, 1) := dk_28 (dk_at dksX0_wayAt_0 9 rfl rfl)
theorem dX0_wayAt_10 : decode cX0_wayAt 10 = .ok (.i2l, 1) := dk_133 (dk_at dksX0_wayAt_0 10 rfl rfl)
theorem dX0_wayAt_11 : decode cX0_wayAt 11 = .ok (.invokevirtual 237, 3) := dk_182 0 237 (dk_at dksX0_wayAt_0 11 rfl rfl)
theorem dX0_wayAt_14 : decode cX0_wayAt 14 = .ok (.ifCond .ne 9, 3) := dk_154 0 9 (dk_at dksX0_wayAt_0 14 rfl rfl)
theorem dX0_wayAt_17 : decode cX0_wayAt 17 = .ok (.aload_n 0, 1) := dk_42 (dk_at dksX0_wayAt_0 17 rfl rfl)
theorem dX0_wayAt_18 : decode cX0_wayAt 18 = .ok (.iconst 2, 1) := dk_5 (dk_at dksX0_wayAt_0 18 rfl rfl)
theorem dX0_wayAt_19 : decode cX0_wayAt 19 = .ok (.invokevirtual 89, 3) := dk_182 0 89 (dk_at dksX0_wayAt_0 19 rfl rfl)
theorem dX0_wayAt_22 : decode cX0_wayAt 22 = .ok (.ireturn, 1) := dk_172 (dk_at dksX0_wayAt_0 22 rfl rfl)
theorem dX0_wayAt_23 : decode cX0_wayAt 23 = .ok (.aload_n 0, 1) := dk_42 (dk_at dksX0_wayAt_0 23 rfl rfl)
theorem dX0_wayAt_24 : decode cX0_wayAt 24 = .ok (.getfield 34, 3) := dk_180 0 34 (dk_at dksX0_wayAt_1 0 rfl rfl)
theorem dX0_wayAt_27 : decode cX0_wayAt 27 = .ok (.getfield 193, 3) := dk_180 0 193 (dk_at dksX0_wayAt_1 3 rfl rfl)
theorem dX0_wayAt_30 : decode cX0_wayAt 30 = .ok (.iload_n 1, 1) := dk_27 (dk_at dksX0_wayAt_1 6 rfl rfl)
theorem dX0_wayAt_31 : decode cX0_wayAt 31 = .ok (.aaload, 1) := dk_50 (dk_at dksX0_wayAt_1 7 rfl rfl)
theorem dX0_wayAt_32 : decode cX0_wayAt 32 = .ok (.getfield 262, 3) := dk_180 1 6 (dk_at dksX0_wayAt_1 8 rfl rfl)
theorem dX0_wayAt_35 : decode cX0_wayAt 35 = .ok (.istore 4, 2) := dk_54 4 (dk_at dksX0_wayAt_1 11 rfl rfl)
theorem dX0_wayAt_37 : decode cX0_wayAt 37 = .ok (.iload 4, 2) := dk_21 4 (dk_at dksX0_wayAt_1 13 rfl rfl)
theorem dX0_wayAt_39 : decode cX0_wayAt 39 = .ok (.iconst (-1), 1) := dk_2 (dk_at dksX0_wayAt_1 15 rfl rfl)
theorem dX0_wayAt_40 : decode cX0_wayAt 40 = .ok (.if_icmp .ne 10, 3) := dk_160 0 10 (dk_at dksX0_wayAt_1 16 rfl rfl)
theorem dX0_wayAt_43 : decode cX0_wayAt 43 = .ok (.aload_n 0, 1) := dk_42 (dk_at dksX0_wayAt_1 19 rfl rfl)
theorem dX0_wayAt_44 : decode cX0_wayAt 44 = .ok (.bipush 9, 2) := dk_16 9 (dk_at dksX0_wayAt_1 20 rfl rfl)
theorem dX0_wayAt_46 : decode cX0_wayAt 46 = .ok (.invokevirtual 89, 3) := dk_182 0 89 (dk_at dksX0_wayAt_2 0 rfl rfl)
theorem dX0_wayAt_49 : decode cX0_wayAt 49 = .ok (.ireturn, 1) := dk_172 (dk_at dksX0_wayAt_2 3 rfl rfl)
theorem dX0_wayAt_50 : decode cX0_wayAt 50 = .ok (.aload_n 0, 1) := dk_42 (dk_at dksX0_wayAt_2 4 rfl rfl)
theorem dX0_wayAt_51 : decode cX0_wayAt 51 = .ok (.iload_n 1, 1) := dk_27 (dk_at dksX0_wayAt_2 5 rfl rfl)
theorem dX0_wayAt_52 : decode cX0_wayAt 52 = .ok (.iload_n 2, 1) := dk_28 (dk_at dksX0_wayAt_2 6 rfl rfl)
theorem dX0_wayAt_53 : decode cX0_wayAt 53 = .ok (.invokevirtual 316, 3) := dk_182 1 60 (dk_at dksX0_wayAt_2 7 rfl rfl)
theorem dX0_wayAt_56 : decode cX0_wayAt 56 = .ok (.iload_n 3, 1) := dk_29 (dk_at dksX0_wayAt_2 10 rfl rfl)
theorem dX0_wayAt_57 : decode cX0_wayAt 57 = .ok (.ifCond .lt 14, 3) := dk_155 0 14 (dk_at dksX0_wayAt_2 11 rfl rfl)
theorem dX0_wayAt_60 : decode cX0_wayAt 60 = .ok (.iload_n 3, 1) := dk_29 (dk_at dksX0_wayAt_2 14 rfl rfl)
theorem dX0_wayAt_61 : decode cX0_wayAt 61 = .ok (.aload_n 0, 1) := dk_42 (dk_at dksX0_wayAt_2 15 rfl rfl)
theorem dX0_wayAt_62 : decode cX0_wayAt 62 = .ok (.getfield 49, 3) := dk_180 0 49 (dk_at dksX0_wayAt_2 16 rfl rfl)
theorem dX0_wayAt_65 : decode cX0_wayAt 65 = .ok (.iload 4, 2) := dk_21 4 (dk_at dksX0_wayAt_2 19 rfl rfl)
theorem dX0_wayAt_67 : decode cX0_wayAt 67 = .ok (.iaload, 1) := dk_46 (dk_at dksX0_wayAt_2 21 rfl rfl)
theorem dX0_wayAt_68 : decode cX0_wayAt 68 = .ok (.if_icmp .le 10, 3) := dk_164 0 10 (dk_at dksX0_wayAt_3 0 rfl rfl)
theorem dX0_wayAt_71 : decode cX0_wayAt 71 = .ok (.aload_n 0, 1) := dk_42 (dk_at dksX0_wayAt_3 3 rfl rfl)
theorem dX0_wayAt_72 : decode cX0_wayAt 72 = .ok (.bipush 8, 2) := dk_16 8 (dk_at dksX0_wayAt_3 4 rfl rfl)
theorem dX0_wayAt_74 : decode cX0_wayAt 74 = .ok (.invokevirtual 89, 3) := dk_182 0 89 (dk_at dksX0_wayAt_3 6 rfl rfl)
theorem dX0_wayAt_77 : decode cX0_wayAt 77 = .ok (.ireturn, 1) := dk_172 (dk_at dksX0_wayAt_3 9 rfl rfl)
theorem dX0_wayAt_78 : decode cX0_wayAt 78 = .ok (.iconst 0, 1) := dk_3 (dk_at dksX0_wayAt_3 10 rfl rfl)
theorem dX0_wayAt_79 : decode cX0_wayAt 79 = .ok (.istore 5, 2) := dk_54 5 (dk_at dksX0_wayAt_3 11 rfl rfl)
theorem dX0_wayAt_81 : decode cX0_wayAt 81 = .ok (.iload 5, 2) := dk_21 5 (dk_at dksX0_wayAt_3 13 rfl rfl)
theorem dX0_wayAt_83 : decode cX0_wayAt 83 = .ok (.iload_n 3, 1) := dk_29 (dk_at dksX0_wayAt_3 15 rfl rfl)
theorem dX0_wayAt_84 : decode cX0_wayAt 84 = .ok (.if_icmp .ge 63, 3) := dk_162 0 63 (dk_at dksX0_wayAt_3 16 rfl rfl)
theorem dX0_wayAt_87 : decode cX0_wayAt 87 = .ok (.aload_n 0, 1) := dk_42 (dk_at dksX0_wayAt_3 19 rfl rfl)
theorem dX0_wayAt_88 : decode cX0_wayAt 88 = .ok (.getfield 34, 3) := dk_180 0 34 (dk_at dksX0_wayAt_3 20 rfl rfl)
theorem dX0_wayAt_91 : decode cX0_wayAt 91 = .ok (.iload_n 1, 1) := dk_27 (dk_at dksX0_wayAt_3 23 rfl rfl)
theorem dX0_wayAt_92 : decode cX0_wayAt 92 = .ok (.iload 4, 2) := dk_21 4 (dk_at dksX0_wayAt_4 0 rfl rfl)
theorem dX0_wayAt_94 : decode cX0_wayAt 94 = .ok (.invokevirtual 312, 3) := dk_182 1 56 (dk_at dksX0_wayAt_4 2 rfl rfl)
theorem dX0_wayAt_97 : decode cX0_wayAt 97 = .ok (.istore 6, 2) := dk_54 6 (dk_at dksX0_wayAt_4 5 rfl rfl)
theorem dX0_wayAt_99 : decode cX0_wayAt 99 = .ok (.iconst 0, 1) := dk_3 (dk_at dksX0_wayAt_4 7 rfl rfl)
theorem dX0_wayAt_100 : decode cX0_wayAt 100 = .ok (.istore 7, 2) := dk_54 7 (dk_at dksX0_wayAt_4 8 rfl rfl)
theorem dX0_wayAt_102 : decode cX0_wayAt 102 = .ok (.iload 6, 2) := dk_21 6 (dk_at dksX0_wayAt_4 10 rfl rfl)
theorem dX0_wayAt_104 : decode cX0_wayAt 104 = .ok (.iload 7, 2) := dk_21 7 (dk_at dksX0_wayAt_4 12 rfl rfl)
theorem dX0_wayAt_106 : decode cX0_wayAt 106 = .ok (.invokestatic 1, 3) := dk_184 0 1 (dk_at dksX0_wayAt_4 14 rfl rfl)
theorem dX0_wayAt_109 : decode cX0_wayAt 109 = .ok (.ifCond .eq 22, 3) := dk_153 0 22 (dk_at dksX0_wayAt_4 17 rfl rfl)
theorem dX0_wayAt_112 : decode cX0_wayAt 112 = .ok (.aload_n 0, 1) := dk_42 (dk_at dksX0_wayAt_4 20 rfl rfl)
theorem dX0_wayAt_113 : decode cX0_wayAt 113 = .ok (.getfield 49, 3) := dk_180 0 49 (dk_at dksX0_wayAt_4 21 rfl rfl)
theorem dX0_wayAt_116 : decode cX0_wayAt 116 = .ok (.iload 7, 2) := dk_21 7 (dk_at dksX0_wayAt_5 0 rfl rfl)
theorem dX0_wayAt_118 : decode cX0_wayAt 118 = .ok (.iaload, 1) := dk_46 (dk_at dksX0_wayAt_5 2 rfl rfl)
theorem dX0_wayAt_119 : decode cX0_wayAt 119 = .ok (.aload_n 0, 1) := dk_42 (dk_at dksX0_wayAt_5 3 rfl rfl)
theorem dX0_wayAt_120 : decode cX0_wayAt 120 = .ok (.getfield 49, 3) := dk_180 0 49 (dk_at dksX0_wayAt_5 4 rfl rfl)
theorem dX0_wayAt_123 : decode cX0_wayAt 123 = .ok (.iload 4, 2) := dk_21 4 (dk_at dksX0_wayAt_5 7 rfl rfl)
theorem dX0_wayAt_125 : decode cX0_wayAt 125 = .ok (.iaload, 1) := dk_46 (dk_at dksX0_wayAt_5 9 rfl rfl)
theorem dX0_wayAt_126 : decode cX0_wayAt 126 = .ok (.iconst 1, 1) := dk_4 (dk_at dksX0_wayAt_5 10 rfl rfl)
theorem dX0_wayAt_127 : decode cX0_wayAt 127 = .ok (.isub, 1) := dk_100 (dk_at dksX0_wayAt_5 11 rfl rfl)
theorem dX0_wayAt_128 : decode cX0_wayAt 128 = .ok (.if_icmp .eq 9, 3) := dk_159 0 9 (dk_at dksX0_wayAt_5 12 rfl rfl)
theorem dX0_wayAt_131 : decode cX0_wayAt 131 = .ok (.iinc 7 1, 3) := dk_132 7 1 (dk_at dksX0_wayAt_5 15 rfl rfl)
theorem dX0_wayAt_134 : decode cX0_wayAt 134 = .ok (.goto (-32), 3) := dk_167 255 224 (dk_at dksX0_wayAt_5 18 rfl rfl)
theorem dX0_wayAt_137 : decode cX0_wayAt 137 = .ok (.iload 7, 2) := dk_21 7 (dk_at dksX0_wayAt_5 21 rfl rfl)
theorem dX0_wayAt_139 : decode cX0_wayAt 139 = .ok (.istore 4, 2) := dk_54 4 (dk_at dksX0_wayAt_6 0 rfl rfl)
theorem dX0_wayAt_141 : decode cX0_wayAt 141 = .ok (.iinc 5 1, 3) := dk_132 5 1 (dk_at dksX0_wayAt_6 2 rfl rfl)
theorem dX0_wayAt_144 : decode cX0_wayAt 144 = .ok (.goto (-63), 3) := dk_167 255 193 (dk_at dksX0_wayAt_6 5 rfl rfl)
theorem dX0_wayAt_147 : decode cX0_wayAt 147 = .ok (.aload_n 0, 1) := dk_42 (dk_at dksX0_wayAt_6 8 rfl rfl)
theorem dX0_wayAt_148 : decode cX0_wayAt 148 = .ok (.iload 4, 2) := dk_21 4 (dk_at dksX0_wayAt_6 9 rfl rfl)
theorem dX0_wayAt_150 : decode cX0_wayAt 150 = .ok (.invokevirtual 93, 3) := dk_182 0 93 (dk_at dksX0_wayAt_6 11 rfl rfl)
theorem dX0_wayAt_153 : decode cX0_wayAt 153 = .ok (.ireturn, 1) := dk_172 (dk_at dksX0_wayAt_6 14 rfl rfl)
abbrev cX0_reach : ByteArray := prog_1_method_50_code
def yX0_reach : MethodName := ⟨RX0, "reach", "(I)I"⟩
def dkwX0_reach_4 : List UInt8 := [172]
abbrev dktX0_reach_4 : List UInt8 := dkwX0_reach_4 ++ []
def dkwX0_reach_3 : List UInt8 := [21, 5, 182, 1, 56, 128, 62, 132, 5, 1, 167, 255, 219, 132, 4, 1, 167, 255, 203, 42, 29, 182, 0, 93]
abbrev dktX0_reach_3 : List UInt8 := dkwX0_reach_3 ++ dktX0_reach_4
def dkwX0_reach_2 : List UInt8 := [180, 0, 34, 180, 0, 141, 162, 0, 31, 29, 21, 5, 184, 0, 1, 153, 0, 16, 29, 42, 180, 0, 34, 27]
abbrev dktX0_reach_2 : List UInt8 := dkwX0_reach_2 ++ dktX0_reach_3
def dkwX0_reach_1 : List UInt8 := [27, 50, 180, 1, 6, 120, 62, 3, 54, 4, 21, 4, 16, 7, 162, 0, 52, 3, 54, 5, 21, 5, 42]
abbrev dktX0_reach_1 : List UInt8 := dkwX0_reach_1 ++ dktX0_reach_2
def dkwX0_reach_0 : List UInt8 := [42, 27, 182, 1, 63, 61, 28, 158, 0, 9, 42, 28, 182, 0, 89, 172, 4, 42, 180, 0, 34, 180, 0, 193]
abbrev dktX0_reach_0 : List UInt8 := dkwX0_reach_0 ++ dktX0_reach_1
theorem dksX0_reach_0 : cX0_reach.data.toList.drop 0 = dktX0_reach_0 := by decide +kernel
theorem dksX0_reach_1 : cX0_reach.data.toList.drop 24 = dktX0_reach_1 := dk_seg dksX0_reach_0 24 rfl rfl
theorem dksX0_reach_2 : cX0_reach.data.toList.drop 47 = dktX0_reach_2 := dk_seg dksX0_reach_1 23 rfl rfl
theorem dksX0_reach_3 : cX0_reach.data.toList.drop 71 = dktX0_reach_3 := dk_seg dksX0_reach_2 24 rfl rfl
theorem dksX0_reach_4 : cX0_reach.data.toList.drop 95 = dktX0_reach_4 := dk_seg dksX0_reach_3 24 rfl rfl
theorem dX0_reach_0 : decode cX0_reach 0 = .ok (.aload_n 0, 1) := dk_42 (dk_at dksX0_reach_0 0 rfl rfl)
theorem dX0_reach_1 : decode cX0_reach 1 = .ok (.iload_n 1, 1) := dk_27 (dk_at dksX0_reach_0 1 rfl rfl)
theorem dX0_reach_2 : decode cX0_reach 2 = .ok (.invokevirtual 319, 3) := dk_182 1 63 (dk_at dksX0_reach_0 2 rfl rfl)
theorem dX0_reach_5 : decode cX0_reach 5 = .ok (.istore_n 2, 1) := dk_61 (dk_at dksX0_reach_0 5 rfl rfl)
theorem dX0_reach_6 : decode cX0_reach 6 = .ok (.iload_n 2, 1) := dk_28 (dk_at dksX0_reach_0 6 rfl rfl)
theorem dX0_reach_7 : decode cX0_reach 7 = .ok (.ifCond .le 9, 3) := dk_158 0 9 (dk_at dksX0_reach_0 7 rfl rfl)
theorem dX0_reach_10 : decode cX0_reach 10 = .ok (.aload_n 0, 1) := dk_42 (dk_at dksX0_reach_0 10 rfl rfl)
theorem dX0_reach_11 : decode cX0_reach 11 = .ok (.iload_n 2, 1) := dk_28 (dk_at dksX0_reach_0 11 rfl rfl)
theorem dX0_reach_12 : decode cX0_reach 12 = .ok (.invokevirtual 89, 3) := dk_182 0 89 (dk_at dksX0_reach_0 12 rfl rfl)
theorem dX0_reach_15 : decode cX0_reach 15 = .ok (.ireturn, 1) := dk_172 (dk_at dksX0_reach_0 15 rfl rfl)
theorem dX0_reach_16 : decode cX0_reach 16 = .ok (.iconst 1, 1) := dk_4 (dk_at dksX0_reach_0 16 rfl rfl)
theorem dX0_reach_17 : decode cX0_reach 17 = .ok (.aload_n 0, 1) := dk_42 (dk_at dksX0_reach_0 17 rfl rfl)
theorem dX0_reach_18 : decode cX0_reach 18 = .ok (.getfield 34, 3) := dk_180 0 34 (dk_at dksX0_reach_0 18 rfl rfl)
theorem dX0_reach_21 : decode cX0_reach 21 = .ok (.getfield 193, 3) := dk_180 0 193 (dk_at dksX0_reach_0 21 rfl rfl)
theorem dX0_reach_24 : decode cX0_reach 24 = .ok (.iload_n 1, 1) := dk_27 (dk_at dksX0_reach_1 0 rfl rfl)
theorem dX0_reach_25 : decode cX0_reach 25 = .ok (.aaload, 1) := dk_50 (dk_at dksX0_reach_1 1 rfl rfl)
theorem dX0_reach_26 : decode cX0_reach 26 = .ok (.getfield 262, 3) := dk_180 1 6 (dk_at dksX0_reach_1 2 rfl rfl)
theorem dX0_reach_29 : decode cX0_reach 29 = .ok (.ishl, 1) := dk_120 (dk_at dksX0_reach_1 5 rfl rfl)
theorem dX0_reach_30 : decode cX0_reach 30 = .ok (.istore_n 3, 1) := dk_62 (dk_at dksX0_reach_1 6 rfl rfl)
theorem dX0_reach_31 : decode cX0_reach 31 = .ok (.iconst 0, 1) := dk_3 (dk_at dksX0_reach_1 7 rfl rfl)
theorem dX0_reach_32 : decode cX0_reach 32 = .ok (.istore 4, 2) := dk_54 4 (dk_at dksX0_reach_1 8 rfl rfl)
theorem dX0_reach_34 : decode cX0_reach 34 = .ok (.iload 4, 2) := dk_21 4 (dk_at dksX0_reach_1 10 rfl rfl)
theorem dX0_reach_36 : decode cX0_reach 36 = .ok (.bipush 7, 2) := dk_16 7 (dk_at dksX0_reach_1 12 rfl rfl)
theorem dX0_reach_38 : decode cX0_reach 38 = .ok (.if_icmp .ge 52, 3) := dk_162 0 52 (dk_at dksX0_reach_1 14 rfl rfl)
theorem dX0_reach_41 : decode cX0_reach 41 = .ok (.iconst 0, 1) := dk_3 (dk_at dksX0_reach_1 17 rfl rfl)
theorem dX0_reach_42 : decode cX0_reach 42 = .ok (.istore 5, 2) := dk_54 5 (dk_at dksX0_reach_1 18 rfl rfl)
theorem dX0_reach_44 : decode cX0_reach 44 = .ok (.iload 5, 2) := dk_21 5 (dk_at dksX0_reach_1 20 rfl rfl)
theorem dX0_reach_46 : decode cX0_reach 46 = .ok (.aload_n 0, 1) := dk_42 (dk_at dksX0_reach_1 22 rfl rfl)
theorem dX0_reach_47 : decode cX0_reach 47 = .ok (.getfield 34, 3) := dk_180 0 34 (dk_at dksX0_reach_2 0 rfl rfl)
theorem dX0_reach_50 : decode cX0_reach 50 = .ok (.getfield 141, 3) := dk_180 0 141 (dk_at dksX0_reach_2 3 rfl rfl)
theorem dX0_reach_53 : decode cX0_reach 53 = .ok (.if_icmp .ge 31, 3) := dk_162 0 31 (dk_at dksX0_reach_2 6 rfl rfl)
theorem dX0_reach_56 : decode cX0_reach 56 = .ok (.iload_n 3, 1) := dk_29 (dk_at dksX0_reach_2 9 rfl rfl)
theorem dX0_reach_57 : decode cX0_reach 57 = .ok (.iload 5, 2) := dk_21 5 (dk_at dksX0_reach_2 10 rfl rfl)
theorem dX0_reach_59 : decode cX0_reach 59 = .ok (.invokestatic 1, 3) := dk_184 0 1 (dk_at dksX0_reach_2 12 rfl rfl)
theorem dX0_reach_62 : decode cX0_reach 62 = .ok (.ifCond .eq 16, 3) := dk_153 0 16 (dk_at dksX0_reach_2 15 rfl rfl)
theorem dX0_reach_65 : decode cX0_reach 65 = .ok (.iload_n 3, 1) := dk_29 (dk_at dksX0_reach_2 18 rfl rfl)
theorem dX0_reach_66 : decode cX0_reach 66 = .ok (.aload_n 0, 1) := dk_42 (dk_at dksX0_reach_2 19 rfl rfl)
theorem dX0_reach_67 : decode cX0_reach 67 = .ok (.getfield 34, 3) := dk_180 0 34 (dk_at dksX0_reach_2 20 rfl rfl)
theorem dX0_reach_70 : decode cX0_reach 70 = .ok (.iload_n 1, 1) := dk_27 (dk_at dksX0_reach_2 23 rfl rfl)
theorem dX0_reach_71 : decode cX0_reach 71 = .ok (.iload 5, 2) := dk_21 5 (dk_at dksX0_reach_3 0 rfl rfl)
theorem dX0_reach_73 : decode cX0_reach 73 = .ok (.invokevirtual 312, 3) := dk_182 1 56 (dk_at dksX0_reach_3 2 rfl rfl)
theorem dX0_reach_76 : decode cX0_reach 76 = .ok (.ior, 1) := dk_128 (dk_at dksX0_reach_3 5 rfl rfl)
theorem dX0_reach_77 : decode cX0_reach 77 = .ok (.istore_n 3, 1) := dk_62 (dk_at dksX0_reach_3 6 rfl rfl)
theorem dX0_reach_78 : decode cX0_reach 78 = .ok (.iinc 5 1, 3) := dk_132 5 1 (dk_at dksX0_reach_3 7 rfl rfl)
theorem dX0_reach_81 : decode cX0_reach 81 = .ok (.goto (-37), 3) := dk_167 255 219 (dk_at dksX0_reach_3 10 rfl rfl)
theorem dX0_reach_84 : decode cX0_reach 84 = .ok (.iinc 4 1, 3) := dk_132 4 1 (dk_at dksX0_reach_3 13 rfl rfl)
theorem dX0_reach_87 : decode cX0_reach 87 = .ok (.goto (-53), 3) := dk_167 255 203 (dk_at dksX0_reach_3 16 rfl rfl)
theorem dX0_reach_90 : decode cX0_reach 90 = .ok (.aload_n 0, 1) := dk_42 (dk_at dksX0_reach_3 19 rfl rfl)
theorem dX0_reach_91 : decode cX0_reach 91 = .ok (.iload_n 3, 1) := dk_29 (dk_at dksX0_reach_3 20 rfl rfl)
theorem dX0_reach_92 : decode cX0_reach 92 = .ok (.invokevirtual 93, 3) := dk_182 0 93 (dk_at dksX0_reach_3 21 rfl rfl)
theorem dX0_reach_95 : decode cX0_reach 95 = .ok (.ireturn, 1) := dk_172 (dk_at dksX0_reach_4 0 rfl rfl)
abbrev cX0_wrongTin : ByteArray := prog_1_method_47_code
def yX0_wrongTin : MethodName := ⟨RX0, "wrongTin", "(I)I"⟩
def dkwX0_wrongTin_1 : List UInt8 := [2, 160, 0, 8, 16, 9, 167, 0, 4, 3, 172]
abbrev dktX0_wrongTin_1 : List UInt8 := dkwX0_wrongTin_1 ++ []
def dkwX0_wrongTin_0 : List UInt8 := [42, 27, 182, 1, 0, 154, 0, 7, 5, 167, 0, 25, 42, 180, 0, 34, 180, 0, 193, 27, 50, 180, 1, 6]
abbrev dktX0_wrongTin_0 : List UInt8 := dkwX0_wrongTin_0 ++ dktX0_wrongTin_1
theorem dksX0_wrongTin_0 : cX0_wrongTin.data.toList.drop 0 = dktX0_wrongTin_0 := by decide +kernel
theorem dksX0_wrongTin_1 : cX0_wrongTin.data.toList.drop 24 = dktX0_wrongTin_1 := dk_seg dksX0_wrongTin_0 24 rfl rfl
theorem dX0_wrongTin_0 : decode cX0_wrongTin 0 = .ok (.aload_n 0, 1) := dk_42 (dk_at dksX0_wrongTin_0 0 rfl rfl)
theorem dX0_wrongTin_1 : decode cX0_wrongTin 1 = .ok (.iload_n 1, 1) := dk_27 (dk_at dksX0_wrongTin_0 1 rfl rfl)
theorem dX0_wrongTin_2 : decode cX0_wrongTin 2 = .ok (.invokevirtual 256, 3) := dk_182 1 0 (dk_at dksX0_wrongTin_0 2 rfl rfl)
theorem dX0_wrongTin_5 : decode cX0_wrongTin 5 = .ok (.ifCond .ne 7, 3) := dk_154 0 7 (dk_at dksX0_wrongTin_0 5 rfl rfl)
theorem dX0_wrongTin_8 : decode cX0_wrongTin 8 = .ok (.iconst 2, 1) := dk_5 (dk_at dksX0_wrongTin_0 8 rfl rfl)
theorem dX0_wrongTin_9 : decode cX0_wrongTin 9 = .ok (.goto 25, 3) := dk_167 0 25 (dk_at dksX0_wrongTin_0 9 rfl rfl)
theorem dX0_wrongTin_12 : decode cX0_wrongTin 12 = .ok (.aload_n 0, 1) := dk_42 (dk_at dksX0_wrongTin_0 12 rfl rfl)
theorem dX0_wrongTin_13 : decode cX0_wrongTin 13 = .ok (.getfield 34, 3) := dk_180 0 34 (dk_at dksX0_wrongTin_0 13 rfl rfl)
theorem dX0_wrongTin_16 : decode cX0_wrongTin 16 = .ok (.getfield 193, 3) := dk_180 0 193 (dk_at dksX0_wrongTin_0 16 rfl rfl)
theorem dX0_wrongTin_19 : decode cX0_wrongTin 19 = .ok (.iload_n 1, 1) := dk_27 (dk_at dksX0_wrongTin_0 19 rfl rfl)
theorem dX0_wrongTin_20 : decode cX0_wrongTin 20 = .ok (.aaload, 1) := dk_50 (dk_at dksX0_wrongTin_0 20 rfl rfl)
theorem dX0_wrongTin_21 : decode cX0_wrongTin 21 = .ok (.getfield 262, 3) := dk_180 1 6 (dk_at dksX0_wrongTin_0 21 rfl rfl)
theorem dX0_wrongTin_24 : decode cX0_wrongTin 24 = .ok (.iconst (-1), 1) := dk_2 (dk_at dksX0_wrongTin_1 0 rfl rfl)
theorem dX0_wrongTin_25 : decode cX0_wrongTin 25 = .ok (.if_icmp .ne 8, 3) := dk_160 0 8 (dk_at dksX0_wrongTin_1 1 rfl rfl)
theorem dX0_wrongTin_28 : decode cX0_wrongTin 28 = .ok (.bipush 9, 2) := dk_16 9 (dk_at dksX0_wrongTin_1 4 rfl rfl)
theorem dX0_wrongTin_30 : decode cX0_wrongTin 30 = .ok (.goto 4, 3) := dk_167 0 4 (dk_at dksX0_wrongTin_1 6 rfl rfl)
theorem dX0_wrongTin_33 : decode cX0_wrongTin 33 = .ok (.iconst 0, 1) := dk_3 (dk_at dksX0_wrongTin_1 9 rfl rfl)
theorem dX0_wrongTin_34 : decode cX0_wrongTin 34 = .ok (.ireturn, 1) := dk_172 (dk_at dksX0_wrongTin_1 10 rfl rfl)
abbrev cX0_next : ByteArray := prog_1_method_51_code
def yX0_next : MethodName := ⟨RX0, "next", "(I)I"⟩
def dkwX0_next_1 : List UInt8 := [42, 180, 0, 34, 180, 0, 193, 27, 50, 180, 1, 6, 182, 1, 56, 182, 0, 93, 172]
abbrev dktX0_next_1 : List UInt8 := dkwX0_next_1 ++ []
def dkwX0_next_0 : List UInt8 := [42, 27, 182, 1, 63, 61, 28, 158, 0, 11, 42, 28, 182, 0, 89, 167, 0, 27, 42, 42, 180, 0, 34, 27]
abbrev dktX0_next_0 : List UInt8 := dkwX0_next_0 ++ dktX0_next_1
theorem dksX0_next_0 : cX0_next.data.toList.drop 0 = dktX0_next_0 := by decide +kernel
theorem dksX0_next_1 : cX0_next.data.toList.drop 24 = dktX0_next_1 := dk_seg dksX0_next_0 24 rfl rfl
theorem dX0_next_0 : decode cX0_next 0 = .ok (.aload_n 0, 1) := dk_42 (dk_at dksX0_next_0 0 rfl rfl)
theorem dX0_next_1 : decode cX0_next 1 = .ok (.iload_n 1, 1) := dk_27 (dk_at dksX0_next_0 1 rfl rfl)
theorem dX0_next_2 : decode cX0_next 2 = .ok (.invokevirtual 319, 3) := dk_182 1 63 (dk_at dksX0_next_0 2 rfl rfl)
theorem dX0_next_5 : decode cX0_next 5 = .ok (.istore_n 2, 1) := dk_61 (dk_at dksX0_next_0 5 rfl rfl)
theorem dX0_next_6 : decode cX0_next 6 = .ok (.iload_n 2, 1) := dk_28 (dk_at dksX0_next_0 6 rfl rfl)
theorem dX0_next_7 : decode cX0_next 7 = .ok (.ifCond .le 11, 3) := dk_158 0 11 (dk_at dksX0_next_0 7 rfl rfl)
theorem dX0_next_10 : decode cX0_next 10 = .ok (.aload_n 0, 1) := dk_42 (dk_at dksX0_next_0 10 rfl rfl)
theorem dX0_next_11 : decode cX0_next 11 = .ok (.iload_n 2, 1) := dk_28 (dk_at dksX0_next_0 11 rfl rfl)
theorem dX0_next_12 : decode cX0_next 12 = .ok (.invokevirtual 89, 3) := dk_182 0 89 (dk_at dksX0_next_0 12 rfl rfl)
theorem dX0_next_15 : decode cX0_next 15 = .ok (.goto 27, 3) := dk_167 0 27 (dk_at dksX0_next_0 15 rfl rfl)
theorem dX0_next_18 : decode cX0_next 18 = .ok (.aload_n 0, 1) := dk_42 (dk_at dksX0_next_0 18 rfl rfl)
theorem dX0_next_19 : decode cX0_next 19 = .ok (.aload_n 0, 1) := dk_42 (dk_at dksX0_next_0 19 rfl rfl)
theorem dX0_next_20 : decode cX0_next 20 = .ok (.getfield 34, 3) := dk_180 0 34 (dk_at dksX0_next_0 20 rfl rfl)
theorem dX0_next_23 : decode cX0_next 23 = .ok (.iload_n 1, 1) := dk_27 (dk_at dksX0_next_0 23 rfl rfl)
theorem dX0_next_24 : decode cX0_next 24 = .ok (.aload_n 0, 1) := dk_42 (dk_at dksX0_next_1 0 rfl rfl)
theorem dX0_next_25 : decode cX0_next 25 = .ok (.getfield 34, 3) := dk_180 0 34 (dk_at dksX0_next_1 1 rfl rfl)
theorem dX0_next_28 : decode cX0_next 28 = .ok (.getfield 193, 3) := dk_180 0 193 (dk_at dksX0_next_1 4 rfl rfl)
theorem dX0_next_31 : decode cX0_next 31 = .ok (.iload_n 1, 1) := dk_27 (dk_at dksX0_next_1 7 rfl rfl)
theorem dX0_next_32 : decode cX0_next 32 = .ok (.aaload, 1) := dk_50 (dk_at dksX0_next_1 8 rfl rfl)
theorem dX0_next_33 : decode cX0_next 33 = .ok (.getfield 262, 3) := dk_180 1 6 (dk_at dksX0_next_1 9 rfl rfl)
theorem dX0_next_36 : decode cX0_next 36 = .ok (.invokevirtual 312, 3) := dk_182 1 56 (dk_at dksX0_next_1 12 rfl rfl)
theorem dX0_next_39 : decode cX0_next 39 = .ok (.invokevirtual 93, 3) := dk_182 0 93 (dk_at dksX0_next_1 15 rfl rfl)
theorem dX0_next_42 : decode cX0_next 42 = .ok (.ireturn, 1) := dk_172 (dk_at dksX0_next_1 18 rfl rfl)
abbrev cX0_round : ByteArray := prog_1_method_54_code
def yX0_round : MethodName := ⟨RX0, "round", "(I)I"⟩
def dkwX0_round_1 : List UInt8 := [180, 1, 66, 182, 0, 93, 172]
abbrev dktX0_round_1 : List UInt8 := dkwX0_round_1 ++ []
def dkwX0_round_0 : List UInt8 := [42, 27, 182, 1, 63, 61, 28, 158, 0, 9, 42, 28, 182, 0, 89, 172, 42, 27, 182, 1, 73, 42, 42]
abbrev dktX0_round_0 : List UInt8 := dkwX0_round_0 ++ dktX0_round_1
theorem dksX0_round_0 : cX0_round.data.toList.drop 0 = dktX0_round_0 := by decide +kernel
theorem dksX0_round_1 : cX0_round.data.toList.drop 23 = dktX0_round_1 := dk_seg dksX0_round_0 23 rfl rfl
theorem dX0_round_0 : decode cX0_round 0 = .ok (.aload_n 0, 1) := dk_42 (dk_at dksX0_round_0 0 rfl rfl)
theorem dX0_round_1 : decode cX0_round 1 = .ok (.iload_n 1, 1) := dk_27 (dk_at dksX0_round_0 1 rfl rfl)
theorem dX0_round_2 : decode cX0_round 2 = .ok (.invokevirtual 319, 3) := dk_182 1 63 (dk_at dksX0_round_0 2 rfl rfl)
theorem dX0_round_5 : decode cX0_round 5 = .ok (.istore_n 2, 1) := dk_61 (dk_at dksX0_round_0 5 rfl rfl)
theorem dX0_round_6 : decode cX0_round 6 = .ok (.iload_n 2, 1) := dk_28 (dk_at dksX0_round_0 6 rfl rfl)
theorem dX0_round_7 : decode cX0_round 7 = .ok (.ifCond .le 9, 3) := dk_158 0 9 (dk_at dksX0_round_0 7 rfl rfl)
theorem dX0_round_10 : decode cX0_round 10 = .ok (.aload_n 0, 1) := dk_42 (dk_at dksX0_round_0 10 rfl rfl)
theorem dX0_round_11 : decode cX0_round 11 = .ok (.iload_n 2, 1) := dk_28 (dk_at dksX0_round_0 11 rfl rfl)
theorem dX0_round_12 : decode cX0_round 12 = .ok (.invokevirtual 89, 3) := dk_182 0 89 (dk_at dksX0_round_0 12 rfl rfl)
theorem dX0_round_15 : decode cX0_round 15 = .ok (.ireturn, 1) := dk_172 (dk_at dksX0_round_0 15 rfl rfl)
theorem dX0_round_16 : decode cX0_round 16 = .ok (.aload_n 0, 1) := dk_42 (dk_at dksX0_round_0 16 rfl rfl)
theorem dX0_round_17 : decode cX0_round 17 = .ok (.iload_n 1, 1) := dk_27 (dk_at dksX0_round_0 17 rfl rfl)
theorem dX0_round_18 : decode cX0_round 18 = .ok (.invokevirtual 329, 3) := dk_182 1 73 (dk_at dksX0_round_0 18 rfl rfl)
theorem dX0_round_21 : decode cX0_round 21 = .ok (.aload_n 0, 1) := dk_42 (dk_at dksX0_round_0 21 rfl rfl)
theorem dX0_round_22 : decode cX0_round 22 = .ok (.aload_n 0, 1) := dk_42 (dk_at dksX0_round_0 22 rfl rfl)
theorem dX0_round_23 : decode cX0_round 23 = .ok (.getfield 322, 3) := dk_180 1 66 (dk_at dksX0_round_1 0 rfl rfl)
theorem dX0_round_26 : decode cX0_round 26 = .ok (.invokevirtual 93, 3) := dk_182 0 93 (dk_at dksX0_round_1 3 rfl rfl)
theorem dX0_round_29 : decode cX0_round 29 = .ok (.ireturn, 1) := dk_172 (dk_at dksX0_round_1 6 rfl rfl)
abbrev cX0_laysRound : ByteArray := prog_1_method_53_code
def yX0_laysRound : MethodName := ⟨RX0, "laysRound", "(I)V"⟩
def dkwX0_laysRound_1 : List UInt8 := [27, 4, 4, 42, 180, 0, 53, 3, 46, 120, 182, 1, 69, 177]
abbrev dktX0_laysRound_1 : List UInt8 := dkwX0_laysRound_1 ++ []
def dkwX0_laysRound_0 : List UInt8 := [42, 3, 181, 1, 66, 42, 180, 0, 53, 3, 42, 180, 0, 34, 180, 0, 193, 27, 50, 180, 1, 6, 79, 42]
abbrev dktX0_laysRound_0 : List UInt8 := dkwX0_laysRound_0 ++ dktX0_laysRound_1
theorem dksX0_laysRound_0 : cX0_laysRound.data.toList.drop 0 = dktX0_laysRound_0 := by decide +kernel
theorem dksX0_laysRound_1 : cX0_laysRound.data.toList.drop 24 = dktX0_laysRound_1 := dk_seg dksX0_laysRound_0 24 rfl rfl
theorem dX0_laysRound_0 : decode cX0_laysRound 0 = .ok (.aload_n 0, 1) := dk_42 (dk_at dksX0_laysRound_0 0 rfl rfl)
theorem dX0_laysRound_1 : decode cX0_laysRound 1 = .ok (.iconst 0, 1) := dk_3 (dk_at dksX0_laysRound_0 1 rfl rfl)
theorem dX0_laysRound_2 : decode cX0_laysRound 2 = .ok (.putfield 322, 3) := dk_181 1 66 (dk_at dksX0_laysRound_0 2 rfl rfl)
theorem dX0_laysRound_5 : decode cX0_laysRound 5 = .ok (.aload_n 0, 1) := dk_42 (dk_at dksX0_laysRound_0 5 rfl rfl)
theorem dX0_laysRound_6 : decode cX0_laysRound 6 = .ok (.getfield 53, 3) := dk_180 0 53 (dk_at dksX0_laysRound_0 6 rfl rfl)
theorem dX0_laysRound_9 : decode cX0_laysRound 9 = .ok (.iconst 0, 1) := dk_3 (dk_at dksX0_laysRound_0 9 rfl rfl)
theorem dX0_laysRound_10 : decode cX0_laysRound 10 = .ok (.aload_n 0, 1) := dk_42 (dk_at dksX0_laysRound_0 10 rfl rfl)
theorem dX0_laysRound_11 : decode cX0_laysRound 11 = .ok (.getfield 34, 3) := dk_180 0 34 (dk_at dksX0_laysRound_0 11 rfl rfl)
theorem dX0_laysRound_14 : decode cX0_laysRound 14 = .ok (.getfield 193, 3) := dk_180 0 193 (dk_at dksX0_laysRound_0 14 rfl rfl)
theorem dX0_laysRound_17 : decode cX0_laysRound 17 = .ok (.iload_n 1, 1) := dk_27 (dk_at dksX0_laysRound_0 17 rfl rfl)
theorem dX0_laysRound_18 : decode cX0_laysRound 18 = .ok (.aaload, 1) := dk_50 (dk_at dksX0_laysRound_0 18 rfl rfl)
theorem dX0_laysRound_19 : decode cX0_laysRound 19 = .ok (.getfield 262, 3) := dk_180 1 6 (dk_at dksX0_laysRound_0 19 rfl rfl)
theorem dX0_laysRound_22 : decode cX0_laysRound 22 = .ok (.iastore, 1) := dk_79 (dk_at dksX0_laysRound_0 22 rfl rfl)
theorem dX0_laysRound_23 : decode cX0_laysRound 23 = .ok (.aload_n 0, 1) := dk_42 (dk_at dksX0_laysRound_0 23 rfl rfl)
theorem dX0_laysRound_24 : decode cX0_laysRound 24 = .ok (.iload_n 1, 1) := dk_27 (dk_at dksX0_laysRound_1 0 rfl rfl)
theorem dX0_laysRound_25 : decode cX0_laysRound 25 = .ok (.iconst 1, 1) := dk_4 (dk_at dksX0_laysRound_1 1 rfl rfl)
theorem dX0_laysRound_26 : decode cX0_laysRound 26 = .ok (.iconst 1, 1) := dk_4 (dk_at dksX0_laysRound_1 2 rfl rfl)
theorem dX0_laysRound_27 : decode cX0_laysRound 27 = .ok (.aload_n 0, 1) := dk_42 (dk_at dksX0_laysRound_1 3 rfl rfl)
theorem dX0_laysRound_28 : decode cX0_laysRound 28 = .ok (.getfield 53, 3) := dk_180 0 53 (dk_at dksX0_laysRound_1 4 rfl rfl)
theorem dX0_laysRound_31 : decode cX0_laysRound 31 = .ok (.iconst 0, 1) := dk_3 (dk_at dksX0_laysRound_1 7 rfl rfl)
theorem dX0_laysRound_32 : decode cX0_laysRound 32 = .ok (.iaload, 1) := dk_46 (dk_at dksX0_laysRound_1 8 rfl rfl)
theorem dX0_laysRound_33 : decode cX0_laysRound 33 = .ok (.ishl, 1) := dk_120 (dk_at dksX0_laysRound_1 9 rfl rfl)
theorem dX0_laysRound_34 : decode cX0_laysRound 34 = .ok (.invokevirtual 325, 3) := dk_182 1 69 (dk_at dksX0_laysRound_1 10 rfl rfl)
theorem dX0_laysRound_37 : decode cX0_laysRound 37 = .ok (.return_, 1) := dk_177 (dk_at dksX0_laysRound_1 13 rfl rfl)
abbrev cX0_goesRound : ByteArray := prog_1_method_52_code
def yX0_goesRound : MethodName := ⟨RX0, "goesRound", "(III)V"⟩
def dkwX0_goesRound_4 : List UInt8 := [21, 5, 120, 128, 182, 1, 69, 132, 5, 1, 167, 255, 206, 177]
abbrev dktX0_goesRound_4 : List UInt8 := dkwX0_goesRound_4 ++ []
def dkwX0_goesRound_3 : List UInt8 := [184, 0, 1, 154, 0, 6, 167, 0, 25, 42, 180, 0, 53, 28, 21, 5, 79, 42, 27, 28, 4, 96, 29, 4]
abbrev dktX0_goesRound_3 : List UInt8 := dkwX0_goesRound_3 ++ dktX0_goesRound_4
def dkwX0_goesRound_2 : List UInt8 := [126, 54, 4, 3, 54, 5, 21, 5, 42, 180, 0, 34, 180, 0, 141, 162, 0, 44, 21, 4, 21, 5]
abbrev dktX0_goesRound_2 : List UInt8 := dkwX0_goesRound_2 ++ dktX0_goesRound_3
def dkwX0_goesRound_1 : List UInt8 := [16, 7, 184, 0, 130, 42, 180, 0, 34, 27, 42, 180, 0, 53, 28, 4, 100, 46, 182, 1, 56, 29, 2, 130]
abbrev dktX0_goesRound_1 : List UInt8 := dkwX0_goesRound_1 ++ dktX0_goesRound_2
def dkwX0_goesRound_0 : List UInt8 := [28, 42, 180, 1, 66, 164, 0, 23, 42, 28, 181, 1, 66, 42, 180, 0, 53, 3, 42, 180, 0, 56, 3]
abbrev dktX0_goesRound_0 : List UInt8 := dkwX0_goesRound_0 ++ dktX0_goesRound_1
theorem dksX0_goesRound_0 : cX0_goesRound.data.toList.drop 0 = dktX0_goesRound_0 := by decide +kernel
theorem dksX0_goesRound_1 : cX0_goesRound.data.toList.drop 23 = dktX0_goesRound_1 := dk_seg dksX0_goesRound_0 23 rfl rfl
theorem dksX0_goesRound_2 : cX0_goesRound.data.toList.drop 47 = dktX0_goesRound_2 := dk_seg dksX0_goesRound_1 24 rfl rfl
theorem dksX0_goesRound_3 : cX0_goesRound.data.toList.drop 69 = dktX0_goesRound_3 := dk_seg dksX0_goesRound_2 22 rfl rfl
theorem dksX0_goesRound_4 : cX0_goesRound.data.toList.drop 93 = dktX0_goesRound_4 := dk_seg dksX0_goesRound_3 24 rfl rfl
theorem dX0_goesRound_0 : decode cX0_goesRound 0 = .ok (.iload_n 2, 1) := dk_28 (dk_at dksX0_goesRound_0 0 rfl rfl)
theorem dX0_goesRound_1 : decode cX0_goesRound 1 = .ok (.aload_n 0, 1) := dk_42 (dk_at dksX0_goesRound_0 1 rfl rfl)
theorem dX0_goesRound_2 : decode cX0_goesRound 2 = .ok (.getfield 322, 3) := dk_180 1 66 (dk_at dksX0_goesRound_0 2 rfl rfl)
theorem dX0_goesRound_5 : decode cX0_goesRound 5 = .ok (.if_icmp .le 23, 3) := dk_164 0 23 (dk_at dksX0_goesRound_0 5 rfl rfl)
theorem dX0_goesRound_8 : decode cX0_goesRound 8 = .ok (.aload_n 0, 1) := dk_42 (dk_at dksX0_goesRound_0 8 rfl rfl)
theorem dX0_goesRound_9 : decode cX0_goesRound 9 = .ok (.iload_n 2, 1) := dk_28 (dk_at dksX0_goesRound_0 9 rfl rfl)
theorem dX0_goesRound_10 : decode cX0_goesRound 10 = .ok (.putfield 322, 3) := dk_181 1 66 (dk_at dksX0_goesRound_0 10 rfl rfl)
theorem dX0_goesRound_13 : decode cX0_goesRound 13 = .ok (.aload_n 0, 1) := dk_42 (dk_at dksX0_goesRound_0 13 rfl rfl)
theorem dX0_goesRound_14 : decode cX0_goesRound 14 = .ok (.getfield 53, 3) := dk_180 0 53 (dk_at dksX0_goesRound_0 14 rfl rfl)
theorem dX0_goesRound_17 : decode cX0_goesRound 17 = .ok (.iconst 0, 1) := dk_3 (dk_at dksX0_goesRound_0 17 rfl rfl)
theorem dX0_goesRound_18 : decode cX0_goesRound 18 = .ok (.aload_n 0, 1) := dk_42 (dk_at dksX0_goesRound_0 18 rfl rfl)
theorem dX0_goesRound_19 : decode cX0_goesRound 19 = .ok (.getfield 56, 3) := dk_180 0 56 (dk_at dksX0_goesRound_0 19 rfl rfl)
theorem dX0_goesRound_22 : decode cX0_goesRound 22 = .ok (.iconst 0, 1) := dk_3 (dk_at dksX0_goesRound_0 22 rfl rfl)
theorem dX0_goesRound_23 : decode cX0_goesRound 23 = .ok (.bipush 7, 2) := dk_16 7 (dk_at dksX0_goesRound_1 0 rfl rfl)
theorem dX0_goesRound_25 : decode cX0_goesRound 25 = .ok (.invokestatic 130, 3) := dk_184 0 130 (dk_at dksX0_goesRound_1 2 rfl rfl)
theorem dX0_goesRound_28 : decode cX0_goesRound 28 = .ok (.aload_n 0, 1) := dk_42 (dk_at dksX0_goesRound_1 5 rfl rfl)
theorem dX0_goesRound_29 : decode cX0_goesRound 29 = .ok (.getfield 34, 3) := dk_180 0 34 (dk_at dksX0_goesRound_1 6 rfl rfl)
theorem dX0_goesRound_32 : decode cX0_goesRound 32 = .ok (.iload_n 1, 1) := dk_27 (dk_at dksX0_goesRound_1 9 rfl rfl)
theorem dX0_goesRound_33 : decode cX0_goesRound 33 = .ok (.aload_n 0, 1) := dk_42 (dk_at dksX0_goesRound_1 10 rfl rfl)
theorem dX0_goesRound_34 : decode cX0_goesRound 34 = .ok (.getfield 53, 3) := dk_180 0 53 (dk_at dksX0_goesRound_1 11 rfl rfl)
theorem dX0_goesRound_37 : decode cX0_goesRound 37 = .ok (.iload_n 2, 1) := dk_28 (dk_at dksX0_goesRound_1 14 rfl rfl)
theorem dX0_goesRound_38 : decode cX0_goesRound 38 = .ok (.iconst 1, 1) := dk_4 (dk_at dksX0_goesRound_1 15 rfl rfl)
theorem dX0_goesRound_39 : decode cX0_goesRound 39 = .ok (.isub, 1) := dk_100 (dk_at dksX0_goesRound_1 16 rfl rfl)
theorem dX0_goesRound_40 : decode cX0_goesRound 40 = .ok (.iaload, 1) := dk_46 (dk_at dksX0_goesRound_1 17 rfl rfl)
theorem dX0_goesRound_41 : decode cX0_goesRound 41 = .ok (.invokevirtual 312, 3) := dk_182 1 56 (dk_at dksX0_goesRound_1 18 rfl rfl)
theorem dX0_goesRound_44 : decode cX0_goesRound 44 = .ok (.iload_n 3, 1) := dk_29 (dk_at dksX0_goesRound_1 21 rfl rfl)
theorem dX0_goesRound_45 : decode cX0_goesRound 45 = .ok (.iconst (-1), 1) := dk_2 (dk_at dksX0_goesRound_1 22 rfl rfl)
theorem dX0_goesRound_46 : decode cX0_goesRound 46 = .ok (.ixor, 1) := dk_130 (dk_at dksX0_goesRound_1 23 rfl rfl)
theorem dX0_goesRound_47 : decode cX0_goesRound 47 = .ok (.iand, 1) := dk_126 (dk_at dksX0_goesRound_2 0 rfl rfl)
theorem dX0_goesRound_48 : decode cX0_goesRound 48 = .ok (.istore 4, 2) := dk_54 4 (dk_at dksX0_goesRound_2 1 rfl rfl)
theorem dX0_goesRound_50 : decode cX0_goesRound 50 = .ok (.iconst 0, 1) := dk_3 (dk_at dksX0_goesRound_2 3 rfl rfl)
theorem dX0_goesRound_51 : decode cX0_goesRound 51 = .ok (.istore 5, 2) := dk_54 5 (dk_at dksX0_goesRound_2 4 rfl rfl)
theorem dX0_goesRound_53 : decode cX0_goesRound 53 = .ok (.iload 5, 2) := dk_21 5 (dk_at dksX0_goesRound_2 6 rfl rfl)
theorem dX0_goesRound_55 : decode cX0_goesRound 55 = .ok (.aload_n 0, 1) := dk_42 (dk_at dksX0_goesRound_2 8 rfl rfl)
theorem dX0_goesRound_56 : decode cX0_goesRound 56 = .ok (.getfield 34, 3) := dk_180 0 34 (dk_at dksX0_goesRound_2 9 rfl rfl)
theorem dX0_goesRound_59 : decode cX0_goesRound 59 = .ok (.getfield 141, 3) := dk_180 0 141 (dk_at dksX0_goesRound_2 12 rfl rfl)
theorem dX0_goesRound_62 : decode cX0_goesRound 62 = .ok (.if_icmp .ge 44, 3) := dk_162 0 44 (dk_at dksX0_goesRound_2 15 rfl rfl)
theorem dX0_goesRound_65 : decode cX0_goesRound 65 = .ok (.iload 4, 2) := dk_21 4 (dk_at dksX0_goesRound_2 18 rfl rfl)
theorem dX0_goesRound_67 : decode cX0_goesRound 67 = .ok (.iload 5, 2) := dk_21 5 (dk_at dksX0_goesRound_2 20 rfl rfl)
theorem dX0_goesRound_69 : decode cX0_goesRound 69 = .ok (.invokestatic 1, 3) := dk_184 0 1 (dk_at dksX0_goesRound_3 0 rfl rfl)
theorem dX0_goesRound_72 : decode cX0_goesRound 72 = .ok (.ifCond .ne 6, 3) := dk_154 0 6 (dk_at dksX0_goesRound_3 3 rfl rfl)
theorem dX0_goesRound_75 : decode cX0_goesRound 75 = .ok (.goto 25, 3) := dk_167 0 25 (dk_at dksX0_goesRound_3 6 rfl rfl)
theorem dX0_goesRound_78 : decode cX0_goesRound 78 = .ok (.aload_n 0, 1) := dk_42 (dk_at dksX0_goesRound_3 9 rfl rfl)
theorem dX0_goesRound_79 : decode cX0_goesRound 79 = .ok (.getfield 53, 3) := dk_180 0 53 (dk_at dksX0_goesRound_3 10 rfl rfl)
theorem dX0_goesRound_82 : decode cX0_goesRound 82 = .ok (.iload_n 2, 1) := dk_28 (dk_at dksX0_goesRound_3 13 rfl rfl)
theorem dX0_goesRound_83 : decode cX0_goesRound 83 = .ok (.iload 5, 2) := dk_21 5 (dk_at dksX0_goesRound_3 14 rfl rfl)
theorem dX0_goesRound_85 : decode cX0_goesRound 85 = .ok (.iastore, 1) := dk_79 (dk_at dksX0_goesRound_3 16 rfl rfl)
theorem dX0_goesRound_86 : decode cX0_goesRound 86 = .ok (.aload_n 0, 1) := dk_42 (dk_at dksX0_goesRound_3 17 rfl rfl)
theorem dX0_goesRound_87 : decode cX0_goesRound 87 = .ok (.iload_n 1, 1) := dk_27 (dk_at dksX0_goesRound_3 18 rfl rfl)
theorem dX0_goesRound_88 : decode cX0_goesRound 88 = .ok (.iload_n 2, 1) := dk_28 (dk_at dksX0_goesRound_3 19 rfl rfl)
theorem dX0_goesRound_89 : decode cX0_goesRound 89 = .ok (.iconst 1, 1) := dk_4 (dk_at dksX0_goesRound_3 20 rfl rfl)
theorem dX0_goesRound_90 : decode cX0_goesRound 90 = .ok (.iadd, 1) := dk_96 (dk_at dksX0_goesRound_3 21 rfl rfl)
theorem dX0_goesRound_91 : decode cX0_goesRound 91 = .ok (.iload_n 3, 1) := dk_29 (dk_at dksX0_goesRound_3 22 rfl rfl)
theorem dX0_goesRound_92 : decode cX0_goesRound 92 = .ok (.iconst 1, 1) := dk_4 (dk_at dksX0_goesRound_3 23 rfl rfl)
theorem dX0_goesRound_93 : decode cX0_goesRound 93 = .ok (.iload 5, 2) := dk_21 5 (dk_at dksX0_goesRound_4 0 rfl rfl)
theorem dX0_goesRound_95 : decode cX0_goesRound 95 = .ok (.ishl, 1) := dk_120 (dk_at dksX0_goesRound_4 2 rfl rfl)
theorem dX0_goesRound_96 : decode cX0_goesRound 96 = .ok (.ior, 1) := dk_128 (dk_at dksX0_goesRound_4 3 rfl rfl)
theorem dX0_goesRound_97 : decode cX0_goesRound 97 = .ok (.invokevirtual 325, 3) := dk_182 1 69 (dk_at dksX0_goesRound_4 4 rfl rfl)
theorem dX0_goesRound_100 : decode cX0_goesRound 100 = .ok (.iinc 5 1, 3) := dk_132 5 1 (dk_at dksX0_goesRound_4 7 rfl rfl)
theorem dX0_goesRound_103 : decode cX0_goesRound 103 = .ok (.goto (-50), 3) := dk_167 255 206 (dk_at dksX0_goesRound_4 10 rfl rfl)
theorem dX0_goesRound_106 : decode cX0_goesRound 106 = .ok (.return_, 1) := dk_177 (dk_at dksX0_goesRound_4 13 rfl rfl)
abbrev cX0_roundAt : ByteArray := prog_1_method_55_code
def yX0_roundAt : MethodName := ⟨RX0, "roundAt", "(II)I"⟩
def dkwX0_roundAt_2 : List UInt8 := [180, 0, 56, 28, 46, 182, 0, 93, 172]
abbrev dktX0_roundAt_2 : List UInt8 := dkwX0_roundAt_2 ++ []
def dkwX0_roundAt_1 : List UInt8 := [155, 0, 11, 28, 42, 180, 1, 66, 161, 0, 12, 42, 16, 8, 182, 0, 89, 167, 0, 13, 42, 42]
abbrev dktX0_roundAt_1 : List UInt8 := dkwX0_roundAt_1 ++ dktX0_roundAt_2
def dkwX0_roundAt_0 : List UInt8 := [42, 27, 182, 1, 63, 62, 29, 158, 0, 9, 42, 29, 182, 0, 89, 172, 42, 27, 182, 1, 73, 28]
abbrev dktX0_roundAt_0 : List UInt8 := dkwX0_roundAt_0 ++ dktX0_roundAt_1
theorem dksX0_roundAt_0 : cX0_roundAt.data.toList.drop 0 = dktX0_roundAt_0 := by decide +kernel
theorem dksX0_roundAt_1 : cX0_roundAt.data.toList.drop 22 = dktX0_roundAt_1 := dk_seg dksX0_roundAt_0 22 rfl rfl
theorem dksX0_roundAt_2 : cX0_roundAt.data.toList.drop 44 = dktX0_roundAt_2 := dk_seg dksX0_roundAt_1 22 rfl rfl
theorem dX0_roundAt_0 : decode cX0_roundAt 0 = .ok (.aload_n 0, 1) := dk_42 (dk_at dksX0_roundAt_0 0 rfl rfl)
theorem dX0_roundAt_1 : decode cX0_roundAt 1 = .ok (.iload_n 1, 1) := dk_27 (dk_at dksX0_roundAt_0 1 rfl rfl)
theorem dX0_roundAt_2 : decode cX0_roundAt 2 = .ok (.invokevirtual 319, 3) := dk_182 1 63 (dk_at dksX0_roundAt_0 2 rfl rfl)
theorem dX0_roundAt_5 : decode cX0_roundAt 5 = .ok (.istore_n 3, 1) := dk_62 (dk_at dksX0_roundAt_0 5 rfl rfl)
theorem dX0_roundAt_6 : decode cX0_roundAt 6 = .ok (.iload_n 3, 1) := dk_29 (dk_at dksX0_roundAt_0 6 rfl rfl)
theorem dX0_roundAt_7 : decode cX0_roundAt 7 = .ok (.ifCond .le 9, 3) := dk_158 0 9 (dk_at dksX0_roundAt_0 7 rfl rfl)
theorem dX0_roundAt_10 : decode cX0_roundAt 10 = .ok (.aload_n 0, 1) := dk_42 (dk_at dksX0_roundAt_0 10 rfl rfl)
theorem dX0_roundAt_11 : decode cX0_roundAt 11 = .ok (.iload_n 3, 1) := dk_29 (dk_at dksX0_roundAt_0 11 rfl rfl)
theorem dX0_roundAt_12 : decode cX0_roundAt 12 = .ok (.invokevirtual 89, 3) := dk_182 0 89 (dk_at dksX0_roundAt_0 12 rfl rfl)
theorem dX0_roundAt_15 : decode cX0_roundAt 15 = .ok (.ireturn, 1) := dk_172 (dk_at dksX0_roundAt_0 15 rfl rfl)
theorem dX0_roundAt_16 : decode cX0_roundAt 16 = .ok (.aload_n 0, 1) := dk_42 (dk_at dksX0_roundAt_0 16 rfl rfl)
theorem dX0_roundAt_17 : decode cX0_roundAt 17 = .ok (.iload_n 1, 1) := dk_27 (dk_at dksX0_roundAt_0 17 rfl rfl)
theorem dX0_roundAt_18 : decode cX0_roundAt 18 = .ok (.invokevirtual 329, 3) := dk_182 1 73 (dk_at dksX0_roundAt_0 18 rfl rfl)
theorem dX0_roundAt_21 : decode cX0_roundAt 21 = .ok (.iload_n 2, 1) := dk_28 (dk_at dksX0_roundAt_0 21 rfl rfl)
theorem dX0_roundAt_22 : decode cX0_roundAt 22 = .ok (.ifCond .lt 11, 3) := dk_155 0 11 (dk_at dksX0_roundAt_1 0 rfl rfl)
theorem dX0_roundAt_25 : decode cX0_roundAt 25 = .ok (.iload_n 2, 1) := dk_28 (dk_at dksX0_roundAt_1 3 rfl rfl)
theorem dX0_roundAt_26 : decode cX0_roundAt 26 = .ok (.aload_n 0, 1) := dk_42 (dk_at dksX0_roundAt_1 4 rfl rfl)
theorem dX0_roundAt_27 : decode cX0_roundAt 27 = .ok (.getfield 322, 3) := dk_180 1 66 (dk_at dksX0_roundAt_1 5 rfl rfl)
theorem dX0_roundAt_30 : decode cX0_roundAt 30 = .ok (.if_icmp .lt 12, 3) := dk_161 0 12 (dk_at dksX0_roundAt_1 8 rfl rfl)
theorem dX0_roundAt_33 : decode cX0_roundAt 33 = .ok (.aload_n 0, 1) := dk_42 (dk_at dksX0_roundAt_1 11 rfl rfl)
theorem dX0_roundAt_34 : decode cX0_roundAt 34 = .ok (.bipush 8, 2) := dk_16 8 (dk_at dksX0_roundAt_1 12 rfl rfl)
theorem dX0_roundAt_36 : decode cX0_roundAt 36 = .ok (.invokevirtual 89, 3) := dk_182 0 89 (dk_at dksX0_roundAt_1 14 rfl rfl)
theorem dX0_roundAt_39 : decode cX0_roundAt 39 = .ok (.goto 13, 3) := dk_167 0 13 (dk_at dksX0_roundAt_1 17 rfl rfl)
theorem dX0_roundAt_42 : decode cX0_roundAt 42 = .ok (.aload_n 0, 1) := dk_42 (dk_at dksX0_roundAt_1 20 rfl rfl)
theorem dX0_roundAt_43 : decode cX0_roundAt 43 = .ok (.aload_n 0, 1) := dk_42 (dk_at dksX0_roundAt_1 21 rfl rfl)
theorem dX0_roundAt_44 : decode cX0_roundAt 44 = .ok (.getfield 56, 3) := dk_180 0 56 (dk_at dksX0_roundAt_2 0 rfl rfl)
theorem dX0_roundAt_47 : decode cX0_roundAt 47 = .ok (.iload_n 2, 1) := dk_28 (dk_at dksX0_roundAt_2 3 rfl rfl)
theorem dX0_roundAt_48 : decode cX0_roundAt 48 = .ok (.iaload, 1) := dk_46 (dk_at dksX0_roundAt_2 4 rfl rfl)
theorem dX0_roundAt_49 : decode cX0_roundAt 49 = .ok (.invokevirtual 93, 3) := dk_182 0 93 (dk_at dksX0_roundAt_2 5 rfl rfl)
theorem dX0_roundAt_52 : decode cX0_roundAt 52 = .ok (.ireturn, 1) := dk_172 (dk_at dksX0_roundAt_2 8 rfl rfl)
abbrev cX0_most : ByteArray := prog_1_method_59_code
def yX0_most : MethodName := ⟨RX0, "most", "(I)I"⟩
def dkwX0_most_1 : List UInt8 := [182, 1, 79, 182, 0, 93, 172]
abbrev dktX0_most_1 : List UInt8 := dkwX0_most_1 ++ []
def dkwX0_most_0 : List UInt8 := [42, 27, 182, 1, 93, 61, 28, 158, 0, 11, 42, 28, 182, 0, 89, 167, 0, 13, 42, 42, 27, 3]
abbrev dktX0_most_0 : List UInt8 := dkwX0_most_0 ++ dktX0_most_1
theorem dksX0_most_0 : cX0_most.data.toList.drop 0 = dktX0_most_0 := by decide +kernel
theorem dksX0_most_1 : cX0_most.data.toList.drop 22 = dktX0_most_1 := dk_seg dksX0_most_0 22 rfl rfl
theorem dX0_most_0 : decode cX0_most 0 = .ok (.aload_n 0, 1) := dk_42 (dk_at dksX0_most_0 0 rfl rfl)
theorem dX0_most_1 : decode cX0_most 1 = .ok (.iload_n 1, 1) := dk_27 (dk_at dksX0_most_0 1 rfl rfl)
theorem dX0_most_2 : decode cX0_most 2 = .ok (.invokevirtual 349, 3) := dk_182 1 93 (dk_at dksX0_most_0 2 rfl rfl)
theorem dX0_most_5 : decode cX0_most 5 = .ok (.istore_n 2, 1) := dk_61 (dk_at dksX0_most_0 5 rfl rfl)
theorem dX0_most_6 : decode cX0_most 6 = .ok (.iload_n 2, 1) := dk_28 (dk_at dksX0_most_0 6 rfl rfl)
theorem dX0_most_7 : decode cX0_most 7 = .ok (.ifCond .le 11, 3) := dk_158 0 11 (dk_at dksX0_most_0 7 rfl rfl)
theorem dX0_most_10 : decode cX0_most 10 = .ok (.aload_n 0, 1) := dk_42 (dk_at dksX0_most_0 10 rfl rfl)
theorem dX0_most_11 : decode cX0_most 11 = .ok (.iload_n 2, 1) := dk_28 (dk_at dksX0_most_0 11 rfl rfl)
theorem dX0_most_12 : decode cX0_most 12 = .ok (.invokevirtual 89, 3) := dk_182 0 89 (dk_at dksX0_most_0 12 rfl rfl)
theorem dX0_most_15 : decode cX0_most 15 = .ok (.goto 13, 3) := dk_167 0 13 (dk_at dksX0_most_0 15 rfl rfl)
theorem dX0_most_18 : decode cX0_most 18 = .ok (.aload_n 0, 1) := dk_42 (dk_at dksX0_most_0 18 rfl rfl)
theorem dX0_most_19 : decode cX0_most 19 = .ok (.aload_n 0, 1) := dk_42 (dk_at dksX0_most_0 19 rfl rfl)
theorem dX0_most_20 : decode cX0_most 20 = .ok (.iload_n 1, 1) := dk_27 (dk_at dksX0_most_0 20 rfl rfl)
theorem dX0_most_21 : decode cX0_most 21 = .ok (.iconst 0, 1) := dk_3 (dk_at dksX0_most_0 21 rfl rfl)
theorem dX0_most_22 : decode cX0_most 22 = .ok (.invokevirtual 335, 3) := dk_182 1 79 (dk_at dksX0_most_1 0 rfl rfl)
theorem dX0_most_25 : decode cX0_most 25 = .ok (.invokevirtual 93, 3) := dk_182 0 93 (dk_at dksX0_most_1 3 rfl rfl)
theorem dX0_most_28 : decode cX0_most 28 = .ok (.ireturn, 1) := dk_172 (dk_at dksX0_most_1 6 rfl rfl)
abbrev cX0_wrongTins : ByteArray := prog_1_method_58_code
def yX0_wrongTins : MethodName := ⟨RX0, "wrongTins", "(I)I"⟩
def dkwX0_wrongTins_1 : List UInt8 := [153, 0, 8, 16, 9, 167, 0, 4, 3, 172]
abbrev dktX0_wrongTins_1 : List UInt8 := dkwX0_wrongTins_1 ++ []
def dkwX0_wrongTins_0 : List UInt8 := [42, 27, 133, 182, 1, 90, 154, 0, 7, 8, 167, 0, 22, 27, 42, 180, 0, 34, 2, 182, 0, 215, 126]
abbrev dktX0_wrongTins_0 : List UInt8 := dkwX0_wrongTins_0 ++ dktX0_wrongTins_1
theorem dksX0_wrongTins_0 : cX0_wrongTins.data.toList.drop 0 = dktX0_wrongTins_0 := by decide +kernel
theorem dksX0_wrongTins_1 : cX0_wrongTins.data.toList.drop 23 = dktX0_wrongTins_1 := dk_seg dksX0_wrongTins_0 23 rfl rfl
theorem dX0_wrongTins_0 : decode cX0_wrongTins 0 = .ok (.aload_n 0, 1) := dk_42 (dk_at dksX0_wrongTins_0 0 rfl rfl)
theorem dX0_wrongTins_1 : decode cX0_wrongTins 1 = .ok (.iload_n 1, 1) := dk_27 (dk_at dksX0_wrongTins_0 1 rfl rfl)
theorem dX0_wrongTins_2 : decode cX0_wrongTins 2 = .ok (.i2l, 1) := dk_133 (dk_at dksX0_wrongTins_0 2 rfl rfl)
theorem dX0_wrongTins_3 : decode cX0_wrongTins 3 = .ok (.invokevirtual 346, 3) := dk_182 1 90 (dk_at dksX0_wrongTins_0 3 rfl rfl)
theorem dX0_wrongTins_6 : decode cX0_wrongTins 6 = .ok (.ifCond .ne 7, 3) := dk_154 0 7 (dk_at dksX0_wrongTins_0 6 rfl rfl)
theorem dX0_wrongTins_9 : decode cX0_wrongTins 9 = .ok (.iconst 5, 1) := dk_8 (dk_at dksX0_wrongTins_0 9 rfl rfl)
theorem dX0_wrongTins_10 : decode cX0_wrongTins 10 = .ok (.goto 22, 3) := dk_167 0 22 (dk_at dksX0_wrongTins_0 10 rfl rfl)
theorem dX0_wrongTins_13 : decode cX0_wrongTins 13 = .ok (.iload_n 1, 1) := dk_27 (dk_at dksX0_wrongTins_0 13 rfl rfl)
theorem dX0_wrongTins_14 : decode cX0_wrongTins 14 = .ok (.aload_n 0, 1) := dk_42 (dk_at dksX0_wrongTins_0 14 rfl rfl)
theorem dX0_wrongTins_15 : decode cX0_wrongTins 15 = .ok (.getfield 34, 3) := dk_180 0 34 (dk_at dksX0_wrongTins_0 15 rfl rfl)
theorem dX0_wrongTins_18 : decode cX0_wrongTins 18 = .ok (.iconst (-1), 1) := dk_2 (dk_at dksX0_wrongTins_0 18 rfl rfl)
theorem dX0_wrongTins_19 : decode cX0_wrongTins 19 = .ok (.invokevirtual 215, 3) := dk_182 0 215 (dk_at dksX0_wrongTins_0 19 rfl rfl)
theorem dX0_wrongTins_22 : decode cX0_wrongTins 22 = .ok (.iand, 1) := dk_126 (dk_at dksX0_wrongTins_0 22 rfl rfl)
theorem dX0_wrongTins_23 : decode cX0_wrongTins 23 = .ok (.ifCond .eq 8, 3) := dk_153 0 8 (dk_at dksX0_wrongTins_1 0 rfl rfl)
theorem dX0_wrongTins_26 : decode cX0_wrongTins 26 = .ok (.bipush 9, 2) := dk_16 9 (dk_at dksX0_wrongTins_1 3 rfl rfl)
theorem dX0_wrongTins_28 : decode cX0_wrongTins 28 = .ok (.goto 4, 3) := dk_167 0 4 (dk_at dksX0_wrongTins_1 5 rfl rfl)
theorem dX0_wrongTins_31 : decode cX0_wrongTins 31 = .ok (.iconst 0, 1) := dk_3 (dk_at dksX0_wrongTins_1 8 rfl rfl)
theorem dX0_wrongTins_32 : decode cX0_wrongTins 32 = .ok (.ireturn, 1) := dk_172 (dk_at dksX0_wrongTins_1 9 rfl rfl)
abbrev cX0_areTins : ByteArray := prog_1_method_22_code
def yX0_areTins : MethodName := ⟨RX0, "areTins", "(J)Z"⟩
def dkwX0_areTins_0 : List UInt8 := [31, 9, 10, 42, 180, 0, 34, 180, 0, 144, 121, 10, 101, 184, 0, 147, 172]
abbrev dktX0_areTins_0 : List UInt8 := dkwX0_areTins_0 ++ []
theorem dksX0_areTins_0 : cX0_areTins.data.toList.drop 0 = dktX0_areTins_0 := by decide +kernel
theorem dX0_areTins_0 : decode cX0_areTins 0 = .ok (.lload_n 1, 1) := dk_31 (dk_at dksX0_areTins_0 0 rfl rfl)
theorem dX0_areTins_1 : decode cX0_areTins 1 = .ok (.lconst 0, 1) := dk_9 (dk_at dksX0_areTins_0 1 rfl rfl)
theorem dX0_areTins_2 : decode cX0_areTins 2 = .ok (.lconst 1, 1) := dk_10 (dk_at dksX0_areTins_0 2 rfl rfl)
theorem dX0_areTins_3 : decode cX0_areTins 3 = .ok (.aload_n 0, 1) := dk_42 (dk_at dksX0_areTins_0 3 rfl rfl)
theorem dX0_areTins_4 : decode cX0_areTins 4 = .ok (.getfield 34, 3) := dk_180 0 34 (dk_at dksX0_areTins_0 4 rfl rfl)
theorem dX0_areTins_7 : decode cX0_areTins 7 = .ok (.getfield 144, 3) := dk_180 0 144 (dk_at dksX0_areTins_0 7 rfl rfl)
theorem dX0_areTins_10 : decode cX0_areTins 10 = .ok (.lshl, 1) := dk_121 (dk_at dksX0_areTins_0 10 rfl rfl)
theorem dX0_areTins_11 : decode cX0_areTins 11 = .ok (.lconst 1, 1) := dk_10 (dk_at dksX0_areTins_0 11 rfl rfl)
theorem dX0_areTins_12 : decode cX0_areTins 12 = .ok (.lsub, 1) := dk_101 (dk_at dksX0_areTins_0 12 rfl rfl)
theorem dX0_areTins_13 : decode cX0_areTins 13 = .ok (.invokestatic 147, 3) := dk_184 0 147 (dk_at dksX0_areTins_0 13 rfl rfl)
theorem dX0_areTins_16 : decode cX0_areTins 16 = .ok (.ireturn, 1) := dk_172 (dk_at dksX0_areTins_0 16 rfl rfl)
abbrev cX0_mostOf : ByteArray := prog_1_method_56_code
def yX0_mostOf : MethodName := ⟨RX0, "mostOf", "(II)I"⟩
def dkwX0_mostOf_4 : List UInt8 := [184, 1, 82, 54, 5, 132, 7, 1, 167, 255, 210, 21, 5, 172]
abbrev dktX0_mostOf_4 : List UInt8 := dkwX0_mostOf_4 ++ []
def dkwX0_mostOf_3 : List UInt8 := [21, 7, 184, 0, 1, 153, 0, 24, 21, 5, 4, 42, 21, 4, 28, 4, 21, 7, 120, 128, 182, 1, 79, 96]
abbrev dktX0_mostOf_3 : List UInt8 := dkwX0_mostOf_3 ++ dktX0_mostOf_4
def dkwX0_mostOf_2 : List UInt8 := [28, 2, 130, 126, 54, 6, 3, 54, 7, 21, 7, 42, 180, 0, 34, 180, 0, 141, 162, 0, 40, 21, 6]
abbrev dktX0_mostOf_2 : List UInt8 := dkwX0_mostOf_2 ++ dktX0_mostOf_3
def dkwX0_mostOf_1 : List UInt8 := [182, 1, 79, 54, 5, 42, 180, 0, 34, 42, 180, 0, 34, 180, 0, 193, 29, 50, 180, 1, 3, 182, 1, 33]
abbrev dktX0_mostOf_1 : List UInt8 := dkwX0_mostOf_1 ++ dktX0_mostOf_2
def dkwX0_mostOf_0 : List UInt8 := [27, 154, 0, 5, 3, 172, 27, 184, 1, 76, 62, 27, 4, 29, 120, 2, 130, 126, 54, 4, 42, 21, 4, 28]
abbrev dktX0_mostOf_0 : List UInt8 := dkwX0_mostOf_0 ++ dktX0_mostOf_1
theorem dksX0_mostOf_0 : cX0_mostOf.data.toList.drop 0 = dktX0_mostOf_0 := by decide +kernel
theorem dksX0_mostOf_1 : cX0_mostOf.data.toList.drop 24 = dktX0_mostOf_1 := dk_seg dksX0_mostOf_0 24 rfl rfl
theorem dksX0_mostOf_2 : cX0_mostOf.data.toList.drop 48 = dktX0_mostOf_2 := dk_seg dksX0_mostOf_1 24 rfl rfl
theorem dksX0_mostOf_3 : cX0_mostOf.data.toList.drop 71 = dktX0_mostOf_3 := dk_seg dksX0_mostOf_2 23 rfl rfl
theorem dksX0_mostOf_4 : cX0_mostOf.data.toList.drop 95 = dktX0_mostOf_4 := dk_seg dksX0_mostOf_3 24 rfl rfl
theorem dX0_mostOf_0 : decode cX0_mostOf 0 = .ok (.iload_n 1, 1) := dk_27 (dk_at dksX0_mostOf_0 0 rfl rfl)
theorem dX0_mostOf_1 : decode cX0_mostOf 1 = .ok (.ifCond .ne 5, 3) := dk_154 0 5 (dk_at dksX0_mostOf_0 1 rfl rfl)
theorem dX0_mostOf_4 : decode cX0_mostOf 4 = .ok (.iconst 0, 1) := dk_3 (dk_at dksX0_mostOf_0 4 rfl rfl)
theorem dX0_mostOf_5 : decode cX0_mostOf 5 = .ok (.ireturn, 1) := dk_172 (dk_at dksX0_mostOf_0 5 rfl rfl)
theorem dX0_mostOf_6 : decode cX0_mostOf 6 = .ok (.iload_n 1, 1) := dk_27 (dk_at dksX0_mostOf_0 6 rfl rfl)
theorem dX0_mostOf_7 : decode cX0_mostOf 7 = .ok (.invokestatic 332, 3) := dk_184 1 76 (dk_at dksX0_mostOf_0 7 rfl rfl)
theorem dX0_mostOf_10 : decode cX0_mostOf 10 = .ok (.istore_n 3, 1) := dk_62 (dk_at dksX0_mostOf_0 10 rfl rfl)
theorem dX0_mostOf_11 : decode cX0_mostOf 11 = .ok (.iload_n 1, 1) := dk_27 (dk_at dksX0_mostOf_0 11 rfl rfl)
theorem dX0_mostOf_12 : decode cX0_mostOf 12 = .ok (.iconst 1, 1) := dk_4 (dk_at dksX0_mostOf_0 12 rfl rfl)
theorem dX0_mostOf_13 : decode cX0_mostOf 13 = .ok (.iload_n 3, 1) := dk_29 (dk_at dksX0_mostOf_0 13 rfl rfl)
theorem dX0_mostOf_14 : decode cX0_mostOf 14 = .ok (.ishl, 1) := dk_120 (dk_at dksX0_mostOf_0 14 rfl rfl)
theorem dX0_mostOf_15 : decode cX0_mostOf 15 = .ok (.iconst (-1), 1) := dk_2 (dk_at dksX0_mostOf_0 15 rfl rfl)
theorem dX0_mostOf_16 : decode cX0_mostOf 16 = .ok (.ixor, 1) := dk_130 (dk_at dksX0_mostOf_0 16 rfl rfl)
theorem dX0_mostOf_17 : decode cX0_mostOf 17 = .ok (.iand, 1) := dk_126 (dk_at dksX0_mostOf_0 17 rfl rfl)
theorem dX0_mostOf_18 : decode cX0_mostOf 18 = .ok (.istore 4, 2) := dk_54 4 (dk_at dksX0_mostOf_0 18 rfl rfl)
theorem dX0_mostOf_20 : decode cX0_mostOf 20 = .ok (.aload_n 0, 1) := dk_42 (dk_at dksX0_mostOf_0 20 rfl rfl)
theorem dX0_mostOf_21 : decode cX0_mostOf 21 = .ok (.iload 4, 2) := dk_21 4 (dk_at dksX0_mostOf_0 21 rfl rfl)
theorem dX0_mostOf_23 : decode cX0_mostOf 23 = .ok (.iload_n 2, 1) := dk_28 (dk_at dksX0_mostOf_0 23 rfl rfl)
theorem dX0_mostOf_24 : decode cX0_mostOf 24 = .ok (.invokevirtual 335, 3) := dk_182 1 79 (dk_at dksX0_mostOf_1 0 rfl rfl)
theorem dX0_mostOf_27 : decode cX0_mostOf 27 = .ok (.istore 5, 2) := dk_54 5 (dk_at dksX0_mostOf_1 3 rfl rfl)
theorem dX0_mostOf_29 : decode cX0_mostOf 29 = .ok (.aload_n 0, 1) := dk_42 (dk_at dksX0_mostOf_1 5 rfl rfl)
theorem dX0_mostOf_30 : decode cX0_mostOf 30 = .ok (.getfield 34, 3) := dk_180 0 34 (dk_at dksX0_mostOf_1 6 rfl rfl)
theorem dX0_mostOf_33 : decode cX0_mostOf 33 = .ok (.aload_n 0, 1) := dk_42 (dk_at dksX0_mostOf_1 9 rfl rfl)
theorem dX0_mostOf_34 : decode cX0_mostOf 34 = .ok (.getfield 34, 3) := dk_180 0 34 (dk_at dksX0_mostOf_1 10 rfl rfl)
theorem dX0_mostOf_37 : decode cX0_mostOf 37 = .ok (.getfield 193, 3) := dk_180 0 193 (dk_at dksX0_mostOf_1 13 rfl rfl)
theorem dX0_mostOf_40 : decode cX0_mostOf 40 = .ok (.iload_n 3, 1) := dk_29 (dk_at dksX0_mostOf_1 16 rfl rfl)
theorem dX0_mostOf_41 : decode cX0_mostOf 41 = .ok (.aaload, 1) := dk_50 (dk_at dksX0_mostOf_1 17 rfl rfl)
theorem dX0_mostOf_42 : decode cX0_mostOf 42 = .ok (.getfield 259, 3) := dk_180 1 3 (dk_at dksX0_mostOf_1 18 rfl rfl)
theorem dX0_mostOf_45 : decode cX0_mostOf 45 = .ok (.invokevirtual 289, 3) := dk_182 1 33 (dk_at dksX0_mostOf_1 21 rfl rfl)
theorem dX0_mostOf_48 : decode cX0_mostOf 48 = .ok (.iload_n 2, 1) := dk_28 (dk_at dksX0_mostOf_2 0 rfl rfl)
theorem dX0_mostOf_49 : decode cX0_mostOf 49 = .ok (.iconst (-1), 1) := dk_2 (dk_at dksX0_mostOf_2 1 rfl rfl)
theorem dX0_mostOf_50 : decode cX0_mostOf 50 = .ok (.ixor, 1) := dk_130 (dk_at dksX0_mostOf_2 2 rfl rfl)
theorem dX0_mostOf_51 : decode cX0_mostOf 51 = .ok (.iand, 1) := dk_126 (dk_at dksX0_mostOf_2 3 rfl rfl)
theorem dX0_mostOf_52 : decode cX0_mostOf 52 = .ok (.istore 6, 2) := dk_54 6 (dk_at dksX0_mostOf_2 4 rfl rfl)
theorem dX0_mostOf_54 : decode cX0_mostOf 54 = .ok (.iconst 0, 1) := dk_3 (dk_at dksX0_mostOf_2 6 rfl rfl)
theorem dX0_mostOf_55 : decode cX0_mostOf 55 = .ok (.istore 7, 2) := dk_54 7 (dk_at dksX0_mostOf_2 7 rfl rfl)
theorem dX0_mostOf_57 : decode cX0_mostOf 57 = .ok (.iload 7, 2) := dk_21 7 (dk_at dksX0_mostOf_2 9 rfl rfl)
theorem dX0_mostOf_59 : decode cX0_mostOf 59 = .ok (.aload_n 0, 1) := dk_42 (dk_at dksX0_mostOf_2 11 rfl rfl)
theorem dX0_mostOf_60 : decode cX0_mostOf 60 = .ok (.getfield 34, 3) := dk_180 0 34 (dk_at dksX0_mostOf_2 12 rfl rfl)
theorem dX0_mostOf_63 : decode cX0_mostOf 63 = .ok (.getfield 141, 3) := dk_180 0 141 (dk_at dksX0_mostOf_2 15 rfl rfl)
theorem dX0_mostOf_66 : decode cX0_mostOf 66 = .ok (.if_icmp .ge 40, 3) := dk_162 0 40 (dk_at dksX0_mostOf_2 18 rfl rfl)
theorem dX0_mostOf_69 : decode cX0_mostOf 69 = .ok (.iload 6, 2) := dk_21 6 (dk_at dksX0_mostOf_2 21 rfl rfl)
theorem dX0_mostOf_71 : decode cX0_mostOf 71 = .ok (.iload 7, 2) := dk_21 7 (dk_at dksX0_mostOf_3 0 rfl rfl)
theorem dX0_mostOf_73 : decode cX0_mostOf 73 = .ok (.invokestatic 1, 3) := dk_184 0 1 (dk_at dksX0_mostOf_3 2 rfl rfl)
theorem dX0_mostOf_76 : decode cX0_mostOf 76 = .ok (.ifCond .eq 24, 3) := dk_153 0 24 (dk_at dksX0_mostOf_3 5 rfl rfl)
theorem dX0_mostOf_79 : decode cX0_mostOf 79 = .ok (.iload 5, 2) := dk_21 5 (dk_at dksX0_mostOf_3 8 rfl rfl)
theorem dX0_mostOf_81 : decode cX0_mostOf 81 = .ok (.iconst 1, 1) := dk_4 (dk_at dksX0_mostOf_3 10 rfl rfl)
theorem dX0_mostOf_82 : decode cX0_mostOf 82 = .ok (.aload_n 0, 1) := dk_42 (dk_at dksX0_mostOf_3 11 rfl rfl)
theorem dX0_mostOf_83 : decode cX0_mostOf 83 = .ok (.iload 4, 2) := dk_21 4 (dk_at dksX0_mostOf_3 12 rfl rfl)
theorem dX0_mostOf_85 : decode cX0_mostOf 85 = .ok (.iload_n 2, 1) := dk_28 (dk_at dksX0_mostOf_3 14 rfl rfl)
theorem dX0_mostOf_86 : decode cX0_mostOf 86 = .ok (.iconst 1, 1) := dk_4 (dk_at dksX0_mostOf_3 15 rfl rfl)
theorem dX0_mostOf_87 : decode cX0_mostOf 87 = .ok (.iload 7, 2) := dk_21 7 (dk_at dksX0_mostOf_3 16 rfl rfl)
theorem dX0_mostOf_89 : decode cX0_mostOf 89 = .ok (.ishl, 1) := dk_120 (dk_at dksX0_mostOf_3 18 rfl rfl)
theorem dX0_mostOf_90 : decode cX0_mostOf 90 = .ok (.ior, 1) := dk_128 (dk_at dksX0_mostOf_3 19 rfl rfl)
theorem dX0_mostOf_91 : decode cX0_mostOf 91 = .ok (.invokevirtual 335, 3) := dk_182 1 79 (dk_at dksX0_mostOf_3 20 rfl rfl)
theorem dX0_mostOf_94 : decode cX0_mostOf 94 = .ok (.iadd, 1) := dk_96 (dk_at dksX0_mostOf_3 23 rfl rfl)
theorem dX0_mostOf_95 : decode cX0_mostOf 95 = .ok (.invokestatic 338, 3) := dk_184 1 82 (dk_at dksX0_mostOf_4 0 rfl rfl)
theorem dX0_mostOf_98 : decode cX0_mostOf 98 = .ok (.istore 5, 2) := dk_54 5 (dk_at dksX0_mostOf_4 3 rfl rfl)
theorem dX0_mostOf_100 : decode cX0_mostOf 100 = .ok (.iinc 7 1, 3) := dk_132 7 1 (dk_at dksX0_mostOf_4 5 rfl rfl)
theorem dX0_mostOf_103 : decode cX0_mostOf 103 = .ok (.goto (-46), 3) := dk_167 255 210 (dk_at dksX0_mostOf_4 8 rfl rfl)
theorem dX0_mostOf_106 : decode cX0_mostOf 106 = .ok (.iload 5, 2) := dk_21 5 (dk_at dksX0_mostOf_4 11 rfl rfl)
theorem dX0_mostOf_108 : decode cX0_mostOf 108 = .ok (.ireturn, 1) := dk_172 (dk_at dksX0_mostOf_4 13 rfl rfl)
abbrev cX0_firstOf : ByteArray := prog_1_method_3_code
def yX0_firstOf : MethodName := ⟨RX0, "firstOf", "(I)I"⟩
def dkwX0_firstOf_0 : List UInt8 := [3, 60, 26, 27, 184, 0, 1, 154, 0, 9, 132, 1, 1, 167, 255, 245, 27, 172]
abbrev dktX0_firstOf_0 : List UInt8 := dkwX0_firstOf_0 ++ []
theorem dksX0_firstOf_0 : cX0_firstOf.data.toList.drop 0 = dktX0_firstOf_0 := by decide +kernel
theorem dX0_firstOf_0 : decode cX0_firstOf 0 = .ok (.iconst 0, 1) := dk_3 (dk_at dksX0_firstOf_0 0 rfl rfl)
theorem dX0_firstOf_1 : decode cX0_firstOf 1 = .ok (.istore_n 1, 1) := dk_60 (dk_at dksX0_firstOf_0 1 rfl rfl)
theorem dX0_firstOf_2 : decode cX0_firstOf 2 = .ok (.iload_n 0, 1) := dk_26 (dk_at dksX0_firstOf_0 2 rfl rfl)
theorem dX0_firstOf_3 : decode cX0_firstOf 3 = .ok (.iload_n 1, 1) := dk_27 (dk_at dksX0_firstOf_0 3 rfl rfl)
theorem dX0_firstOf_4 : decode cX0_firstOf 4 = .ok (.invokestatic 1, 3) := dk_184 0 1 (dk_at dksX0_firstOf_0 4 rfl rfl)
theorem dX0_firstOf_7 : decode cX0_firstOf 7 = .ok (.ifCond .ne 9, 3) := dk_154 0 9 (dk_at dksX0_firstOf_0 7 rfl rfl)
theorem dX0_firstOf_10 : decode cX0_firstOf 10 = .ok (.iinc 1 1, 3) := dk_132 1 1 (dk_at dksX0_firstOf_0 10 rfl rfl)
theorem dX0_firstOf_13 : decode cX0_firstOf 13 = .ok (.goto (-11), 3) := dk_167 255 245 (dk_at dksX0_firstOf_0 13 rfl rfl)
theorem dX0_firstOf_16 : decode cX0_firstOf 16 = .ok (.iload_n 1, 1) := dk_27 (dk_at dksX0_firstOf_0 16 rfl rfl)
theorem dX0_firstOf_17 : decode cX0_firstOf 17 = .ok (.ireturn, 1) := dk_172 (dk_at dksX0_firstOf_0 17 rfl rfl)
abbrev cX0_givings : ByteArray := prog_1_method_60_code
def yX0_givings : MethodName := ⟨RX0, "givings", "(I)I"⟩
def dkwX0_givings_1 : List UInt8 := [182, 1, 87, 182, 0, 93, 172]
abbrev dktX0_givings_1 : List UInt8 := dkwX0_givings_1 ++ []
def dkwX0_givings_0 : List UInt8 := [42, 27, 182, 1, 93, 61, 28, 158, 0, 11, 42, 28, 182, 0, 89, 167, 0, 13, 42, 42, 27, 3]
abbrev dktX0_givings_0 : List UInt8 := dkwX0_givings_0 ++ dktX0_givings_1
theorem dksX0_givings_0 : cX0_givings.data.toList.drop 0 = dktX0_givings_0 := by decide +kernel
theorem dksX0_givings_1 : cX0_givings.data.toList.drop 22 = dktX0_givings_1 := dk_seg dksX0_givings_0 22 rfl rfl
theorem dX0_givings_0 : decode cX0_givings 0 = .ok (.aload_n 0, 1) := dk_42 (dk_at dksX0_givings_0 0 rfl rfl)
theorem dX0_givings_1 : decode cX0_givings 1 = .ok (.iload_n 1, 1) := dk_27 (dk_at dksX0_givings_0 1 rfl rfl)
theorem dX0_givings_2 : decode cX0_givings 2 = .ok (.invokevirtual 349, 3) := dk_182 1 93 (dk_at dksX0_givings_0 2 rfl rfl)
theorem dX0_givings_5 : decode cX0_givings 5 = .ok (.istore_n 2, 1) := dk_61 (dk_at dksX0_givings_0 5 rfl rfl)
theorem dX0_givings_6 : decode cX0_givings 6 = .ok (.iload_n 2, 1) := dk_28 (dk_at dksX0_givings_0 6 rfl rfl)
theorem dX0_givings_7 : decode cX0_givings 7 = .ok (.ifCond .le 11, 3) := dk_158 0 11 (dk_at dksX0_givings_0 7 rfl rfl)
theorem dX0_givings_10 : decode cX0_givings 10 = .ok (.aload_n 0, 1) := dk_42 (dk_at dksX0_givings_0 10 rfl rfl)
theorem dX0_givings_11 : decode cX0_givings 11 = .ok (.iload_n 2, 1) := dk_28 (dk_at dksX0_givings_0 11 rfl rfl)
theorem dX0_givings_12 : decode cX0_givings 12 = .ok (.invokevirtual 89, 3) := dk_182 0 89 (dk_at dksX0_givings_0 12 rfl rfl)
theorem dX0_givings_15 : decode cX0_givings 15 = .ok (.goto 13, 3) := dk_167 0 13 (dk_at dksX0_givings_0 15 rfl rfl)
theorem dX0_givings_18 : decode cX0_givings 18 = .ok (.aload_n 0, 1) := dk_42 (dk_at dksX0_givings_0 18 rfl rfl)
theorem dX0_givings_19 : decode cX0_givings 19 = .ok (.aload_n 0, 1) := dk_42 (dk_at dksX0_givings_0 19 rfl rfl)
theorem dX0_givings_20 : decode cX0_givings 20 = .ok (.iload_n 1, 1) := dk_27 (dk_at dksX0_givings_0 20 rfl rfl)
theorem dX0_givings_21 : decode cX0_givings 21 = .ok (.iconst 0, 1) := dk_3 (dk_at dksX0_givings_0 21 rfl rfl)
theorem dX0_givings_22 : decode cX0_givings 22 = .ok (.invokevirtual 343, 3) := dk_182 1 87 (dk_at dksX0_givings_1 0 rfl rfl)
theorem dX0_givings_25 : decode cX0_givings 25 = .ok (.invokevirtual 93, 3) := dk_182 0 93 (dk_at dksX0_givings_1 3 rfl rfl)
theorem dX0_givings_28 : decode cX0_givings 28 = .ok (.ireturn, 1) := dk_172 (dk_at dksX0_givings_1 6 rfl rfl)
abbrev cX0_givingsOf : ByteArray := prog_1_method_57_code
def yX0_givingsOf : MethodName := ⟨RX0, "givingsOf", "(II)I"⟩
def dkwX0_givingsOf_3 : List UInt8 := [130, 126, 28, 4, 21, 6, 120, 128, 182, 1, 87, 96, 54, 5, 132, 6, 1, 167, 255, 209, 21, 5, 172]
abbrev dktX0_givingsOf_3 : List UInt8 := dkwX0_givingsOf_3 ++ []
def dkwX0_givingsOf_2 : List UInt8 := [180, 0, 141, 162, 0, 41, 21, 4, 21, 6, 184, 0, 1, 153, 0, 25, 21, 5, 42, 27, 4, 29, 120, 2]
abbrev dktX0_givingsOf_2 : List UInt8 := dkwX0_givingsOf_2 ++ dktX0_givingsOf_3
def dkwX0_givingsOf_1 : List UInt8 := [180, 1, 3, 182, 1, 33, 28, 2, 130, 126, 54, 4, 3, 54, 5, 3, 54, 6, 21, 6, 42, 180, 0, 34]
abbrev dktX0_givingsOf_1 : List UInt8 := dkwX0_givingsOf_1 ++ dktX0_givingsOf_2
def dkwX0_givingsOf_0 : List UInt8 := [27, 154, 0, 5, 4, 172, 27, 184, 1, 76, 62, 42, 180, 0, 34, 42, 180, 0, 34, 180, 0, 193, 29, 50]
abbrev dktX0_givingsOf_0 : List UInt8 := dkwX0_givingsOf_0 ++ dktX0_givingsOf_1
theorem dksX0_givingsOf_0 : cX0_givingsOf.data.toList.drop 0 = dktX0_givingsOf_0 := by decide +kernel
theorem dksX0_givingsOf_1 : cX0_givingsOf.data.toList.drop 24 = dktX0_givingsOf_1 := dk_seg dksX0_givingsOf_0 24 rfl rfl
theorem dksX0_givingsOf_2 : cX0_givingsOf.data.toList.drop 48 = dktX0_givingsOf_2 := dk_seg dksX0_givingsOf_1 24 rfl rfl
theorem dksX0_givingsOf_3 : cX0_givingsOf.data.toList.drop 72 = dktX0_givingsOf_3 := dk_seg dksX0_givingsOf_2 24 rfl rfl
theorem dX0_givingsOf_0 : decode cX0_givingsOf 0 = .ok (.iload_n 1, 1) := dk_27 (dk_at dksX0_givingsOf_0 0 rfl rfl)
theorem dX0_givingsOf_1 : decode cX0_givingsOf 1 = .ok (.ifCond .ne 5, 3) := dk_154 0 5 (dk_at dksX0_givingsOf_0 1 rfl rfl)
theorem dX0_givingsOf_4 : decode cX0_givingsOf 4 = .ok (.iconst 1, 1) := dk_4 (dk_at dksX0_givingsOf_0 4 rfl rfl)
theorem dX0_givingsOf_5 : decode cX0_givingsOf 5 = .ok (.ireturn, 1) := dk_172 (dk_at dksX0_givingsOf_0 5 rfl rfl)
theorem dX0_givingsOf_6 : decode cX0_givingsOf 6 = .ok (.iload_n 1, 1) := dk_27 (dk_at dksX0_givingsOf_0 6 rfl rfl)
theorem dX0_givingsOf_7 : decode cX0_givingsOf 7 = .ok (.invokestatic 332, 3) := dk_184 1 76 (dk_at dksX0_givingsOf_0 7 rfl rfl)
theorem dX0_givingsOf_10 : decode cX0_givingsOf 10 = .ok (.istore_n 3, 1) := dk_62 (dk_at dksX0_givingsOf_0 10 rfl rfl)
theorem dX0_givingsOf_11 : decode cX0_givingsOf 11 = .ok (.aload_n 0, 1) := dk_42 (dk_at dksX0_givingsOf_0 11 rfl rfl)
theorem dX0_givingsOf_12 : decode cX0_givingsOf 12 = .ok (.getfield 34, 3) := dk_180 0 34 (dk_at dksX0_givingsOf_0 12 rfl rfl)
theorem dX0_givingsOf_15 : decode cX0_givingsOf 15 = .ok (.aload_n 0, 1) := dk_42 (dk_at dksX0_givingsOf_0 15 rfl rfl)
theorem dX0_givingsOf_16 : decode cX0_givingsOf 16 = .ok (.getfield 34, 3) := dk_180 0 34 (dk_at dksX0_givingsOf_0 16 rfl rfl)
theorem dX0_givingsOf_19 : decode cX0_givingsOf 19 = .ok (.getfield 193, 3) := dk_180 0 193 (dk_at dksX0_givingsOf_0 19 rfl rfl)
theorem dX0_givingsOf_22 : decode cX0_givingsOf 22 = .ok (.iload_n 3, 1) := dk_29 (dk_at dksX0_givingsOf_0 22 rfl rfl)
theorem dX0_givingsOf_23 : decode cX0_givingsOf 23 = .ok (.aaload, 1) := dk_50 (dk_at dksX0_givingsOf_0 23 rfl rfl)
theorem dX0_givingsOf_24 : decode cX0_givingsOf 24 = .ok (.getfield 259, 3) := dk_180 1 3 (dk_at dksX0_givingsOf_1 0 rfl rfl)
theorem dX0_givingsOf_27 : decode cX0_givingsOf 27 = .ok (.invokevirtual 289, 3) := dk_182 1 33 (dk_at dksX0_givingsOf_1 3 rfl rfl)
theorem dX0_givingsOf_30 : decode cX0_givingsOf 30 = .ok (.iload_n 2, 1) := dk_28 (dk_at dksX0_givingsOf_1 6 rfl rfl)
theorem dX0_givingsOf_31 : decode cX0_givingsOf 31 = .ok (.iconst (-1), 1) := dk_2 (dk_at dksX0_givingsOf_1 7 rfl rfl)
theorem dX0_givingsOf_32 : decode cX0_givingsOf 32 = .ok (.ixor, 1) := dk_130 (dk_at dksX0_givingsOf_1 8 rfl rfl)
theorem dX0_givingsOf_33 : decode cX0_givingsOf 33 = .ok (.iand, 1) := dk_126 (dk_at dksX0_givingsOf_1 9 rfl rfl)
theorem dX0_givingsOf_34 : decode cX0_givingsOf 34 = .ok (.istore 4, 2) := dk_54 4 (dk_at dksX0_givingsOf_1 10 rfl rfl)
theorem dX0_givingsOf_36 : decode cX0_givingsOf 36 = .ok (.iconst 0, 1) := dk_3 (dk_at dksX0_givingsOf_1 12 rfl rfl)
theorem dX0_givingsOf_37 : decode cX0_givingsOf 37 = .ok (.istore 5, 2) := dk_54 5 (dk_at dksX0_givingsOf_1 13 rfl rfl)
theorem dX0_givingsOf_39 : decode cX0_givingsOf 39 = .ok (.iconst 0, 1) := dk_3 (dk_at dksX0_givingsOf_1 15 rfl rfl)
theorem dX0_givingsOf_40 : decode cX0_givingsOf 40 = .ok (.istore 6, 2) := dk_54 6 (dk_at dksX0_givingsOf_1 16 rfl rfl)
theorem dX0_givingsOf_42 : decode cX0_givingsOf 42 = .ok (.iload 6, 2) := dk_21 6 (dk_at dksX0_givingsOf_1 18 rfl rfl)
theorem dX0_givingsOf_44 : decode cX0_givingsOf 44 = .ok (.aload_n 0, 1) := dk_42 (dk_at dksX0_givingsOf_1 20 rfl rfl)
theorem dX0_givingsOf_45 : decode cX0_givingsOf 45 = .ok (.getfield 34, 3) := dk_180 0 34 (dk_at dksX0_givingsOf_1 21 rfl rfl)
theorem dX0_givingsOf_48 : decode cX0_givingsOf 48 = .ok (.getfield 141, 3) := dk_180 0 141 (dk_at dksX0_givingsOf_2 0 rfl rfl)
theorem dX0_givingsOf_51 : decode cX0_givingsOf 51 = .ok (.if_icmp .ge 41, 3) := dk_162 0 41 (dk_at dksX0_givingsOf_2 3 rfl rfl)
theorem dX0_givingsOf_54 : decode cX0_givingsOf 54 = .ok (.iload 4, 2) := dk_21 4 (dk_at dksX0_givingsOf_2 6 rfl rfl)
theorem dX0_givingsOf_56 : decode cX0_givingsOf 56 = .ok (.iload 6, 2) := dk_21 6 (dk_at dksX0_givingsOf_2 8 rfl rfl)
theorem dX0_givingsOf_58 : decode cX0_givingsOf 58 = .ok (.invokestatic 1, 3) := dk_184 0 1 (dk_at dksX0_givingsOf_2 10 rfl rfl)
theorem dX0_givingsOf_61 : decode cX0_givingsOf 61 = .ok (.ifCond .eq 25, 3) := dk_153 0 25 (dk_at dksX0_givingsOf_2 13 rfl rfl)
theorem dX0_givingsOf_64 : decode cX0_givingsOf 64 = .ok (.iload 5, 2) := dk_21 5 (dk_at dksX0_givingsOf_2 16 rfl rfl)
theorem dX0_givingsOf_66 : decode cX0_givingsOf 66 = .ok (.aload_n 0, 1) := dk_42 (dk_at dksX0_givingsOf_2 18 rfl rfl)
theorem dX0_givingsOf_67 : decode cX0_givingsOf 67 = .ok (.iload_n 1, 1) := dk_27 (dk_at dksX0_givingsOf_2 19 rfl rfl)
theorem dX0_givingsOf_68 : decode cX0_givingsOf 68 = .ok (.iconst 1, 1) := dk_4 (dk_at dksX0_givingsOf_2 20 rfl rfl)
theorem dX0_givingsOf_69 : decode cX0_givingsOf 69 = .ok (.iload_n 3, 1) := dk_29 (dk_at dksX0_givingsOf_2 21 rfl rfl)
theorem dX0_givingsOf_70 : decode cX0_givingsOf 70 = .ok (.ishl, 1) := dk_120 (dk_at dksX0_givingsOf_2 22 rfl rfl)
theorem dX0_givingsOf_71 : decode cX0_givingsOf 71 = .ok (.iconst (-1), 1) := dk_2 (dk_at dksX0_givingsOf_2 23 rfl rfl)
theorem dX0_givingsOf_72 : decode cX0_givingsOf 72 = .ok (.ixor, 1) := dk_130 (dk_at dksX0_givingsOf_3 0 rfl rfl)
theorem dX0_givingsOf_73 : decode cX0_givingsOf 73 = .ok (.iand, 1) := dk_126 (dk_at dksX0_givingsOf_3 1 rfl rfl)
theorem dX0_givingsOf_74 : decode cX0_givingsOf 74 = .ok (.iload_n 2, 1) := dk_28 (dk_at dksX0_givingsOf_3 2 rfl rfl)
theorem dX0_givingsOf_75 : decode cX0_givingsOf 75 = .ok (.iconst 1, 1) := dk_4 (dk_at dksX0_givingsOf_3 3 rfl rfl)
theorem dX0_givingsOf_76 : decode cX0_givingsOf 76 = .ok (.iload 6, 2) := dk_21 6 (dk_at dksX0_givingsOf_3 4 rfl rfl)
theorem dX0_givingsOf_78 : decode cX0_givingsOf 78 = .ok (.ishl, 1) := dk_120 (dk_at dksX0_givingsOf_3 6 rfl rfl)
theorem dX0_givingsOf_79 : decode cX0_givingsOf 79 = .ok (.ior, 1) := dk_128 (dk_at dksX0_givingsOf_3 7 rfl rfl)
theorem dX0_givingsOf_80 : decode cX0_givingsOf 80 = .ok (.invokevirtual 343, 3) := dk_182 1 87 (dk_at dksX0_givingsOf_3 8 rfl rfl)
theorem dX0_givingsOf_83 : decode cX0_givingsOf 83 = .ok (.iadd, 1) := dk_96 (dk_at dksX0_givingsOf_3 11 rfl rfl)
theorem dX0_givingsOf_84 : decode cX0_givingsOf 84 = .ok (.istore 5, 2) := dk_54 5 (dk_at dksX0_givingsOf_3 12 rfl rfl)
theorem dX0_givingsOf_86 : decode cX0_givingsOf 86 = .ok (.iinc 6 1, 3) := dk_132 6 1 (dk_at dksX0_givingsOf_3 14 rfl rfl)
theorem dX0_givingsOf_89 : decode cX0_givingsOf 89 = .ok (.goto (-47), 3) := dk_167 255 209 (dk_at dksX0_givingsOf_3 17 rfl rfl)
theorem dX0_givingsOf_92 : decode cX0_givingsOf 92 = .ok (.iload 5, 2) := dk_21 5 (dk_at dksX0_givingsOf_3 20 rfl rfl)
theorem dX0_givingsOf_94 : decode cX0_givingsOf 94 = .ok (.ireturn, 1) := dk_172 (dk_at dksX0_givingsOf_3 22 rfl rfl)
abbrev cX0_given : ByteArray := prog_1_method_61_code
def yX0_given : MethodName := ⟨RX0, "given", "(II)I"⟩
def dkwX0_given_8 : List UInt8 := [167, 255, 158, 42, 21, 6, 182, 0, 93, 172]
abbrev dktX0_given_8 : List UInt8 := dkwX0_given_8 ++ []
def dkwX0_given_7 : List UInt8 := [128, 182, 1, 87, 154, 0, 9, 132, 6, 1, 167, 255, 227, 21, 5, 4, 21, 6, 120, 128, 54, 5]
abbrev dktX0_given_7 : List UInt8 := dkwX0_given_7 ++ dktX0_given_8
def dkwX0_given_6 : List UInt8 := [54, 8, 3, 54, 6, 21, 8, 21, 6, 184, 0, 1, 153, 0, 19, 42, 21, 4, 21, 5, 4, 21, 6, 120]
abbrev dktX0_given_6 : List UInt8 := dkwX0_given_6 ++ dktX0_given_7
def dkwX0_given_5 : List UInt8 := [180, 0, 34, 42, 180, 0, 34, 180, 0, 193, 21, 7, 50, 180, 1, 3, 182, 1, 33, 21, 5, 2, 130, 126]
abbrev dktX0_given_5 : List UInt8 := dkwX0_given_5 ++ dktX0_given_6
def dkwX0_given_4 : List UInt8 := [153, 0, 95, 21, 4, 184, 1, 76, 54, 7, 21, 4, 4, 21, 7, 120, 2, 130, 126, 54, 4, 42]
abbrev dktX0_given_4 : List UInt8 := dkwX0_given_4 ++ dktX0_given_5
def dkwX0_given_3 : List UInt8 := [42, 16, 9, 182, 0, 89, 172, 27, 54, 4, 3, 54, 5, 2, 54, 6, 21, 4, 28, 184, 0, 1]
abbrev dktX0_given_3 : List UInt8 := dkwX0_given_3 ++ dktX0_given_4
def dkwX0_given_2 : List UInt8 := [29, 154, 0, 19, 42, 27, 3, 182, 1, 87, 154, 0, 10, 42, 16, 8, 182, 0, 89, 172, 29, 153, 0, 10]
abbrev dktX0_given_2 : List UInt8 := dkwX0_given_2 ++ dktX0_given_3
def dkwX0_given_1 : List UInt8 := [28, 184, 0, 1, 154, 0, 9, 42, 8, 182, 0, 89, 172, 27, 42, 180, 0, 34, 2, 182, 0, 215, 126, 62]
abbrev dktX0_given_1 : List UInt8 := dkwX0_given_1 ++ dktX0_given_2
def dkwX0_given_0 : List UInt8 := [42, 28, 182, 1, 0, 154, 0, 9, 42, 5, 182, 0, 89, 172, 42, 27, 133, 182, 1, 90, 153, 0, 11, 27]
abbrev dktX0_given_0 : List UInt8 := dkwX0_given_0 ++ dktX0_given_1
theorem dksX0_given_0 : cX0_given.data.toList.drop 0 = dktX0_given_0 := by decide +kernel
theorem dksX0_given_1 : cX0_given.data.toList.drop 24 = dktX0_given_1 := dk_seg dksX0_given_0 24 rfl rfl
theorem dksX0_given_2 : cX0_given.data.toList.drop 48 = dktX0_given_2 := dk_seg dksX0_given_1 24 rfl rfl
theorem dksX0_given_3 : cX0_given.data.toList.drop 72 = dktX0_given_3 := dk_seg dksX0_given_2 24 rfl rfl
theorem dksX0_given_4 : cX0_given.data.toList.drop 94 = dktX0_given_4 := dk_seg dksX0_given_3 22 rfl rfl
theorem dksX0_given_5 : cX0_given.data.toList.drop 116 = dktX0_given_5 := dk_seg dksX0_given_4 22 rfl rfl
theorem dksX0_given_6 : cX0_given.data.toList.drop 140 = dktX0_given_6 := dk_seg dksX0_given_5 24 rfl rfl
theorem dksX0_given_7 : cX0_given.data.toList.drop 164 = dktX0_given_7 := dk_seg dksX0_given_6 24 rfl rfl
theorem dksX0_given_8 : cX0_given.data.toList.drop 186 = dktX0_given_8 := dk_seg dksX0_given_7 22 rfl rfl
theorem dX0_given_0 : decode cX0_given 0 = .ok (.aload_n 0, 1) := dk_42 (dk_at dksX0_given_0 0 rfl rfl)
theorem dX0_given_1 : decode cX0_given 1 = .ok (.iload_n 2, 1) := dk_28 (dk_at dksX0_given_0 1 rfl rfl)
theorem dX0_given_2 : decode cX0_given 2 = .ok (.invokevirtual 256, 3) := dk_182 1 0 (dk_at dksX0_given_0 2 rfl rfl)
theorem dX0_given_5 : decode cX0_given 5 = .ok (.ifCond .ne 9, 3) := dk_154 0 9 (dk_at dksX0_given_0 5 rfl rfl)
theorem dX0_given_8 : decode cX0_given 8 = .ok (.aload_n 0, 1) := dk_42 (dk_at dksX0_given_0 8 rfl rfl)
theorem dX0_given_9 : decode cX0_given 9 = .ok (.iconst 2, 1) := dk_5 (dk_at dksX0_given_0 9 rfl rfl)
theorem dX0_given_10 : decode cX0_given 10 = .ok (.invokevirtual 89, 3) := dk_182 0 89 (dk_at dksX0_given_0 10 rfl rfl)
theorem dX0_given_13 : decode cX0_given 13 = .ok (.ireturn, 1) := dk_172 (dk_at dksX0_given_0 13 rfl rfl)
theorem dX0_given_14 : decode cX0_given 14 = .ok (.aload_n 0, 1) := dk_42 (dk_at dksX0_given_0 14 rfl rfl)
theorem dX0_given_15 : decode cX0_given 15 = .ok (.iload_n 1, 1) := dk_27 (dk_at dksX0_given_0 15 rfl rfl)
theorem dX0_given_16 : decode cX0_given 16 = .ok (.i2l, 1) := dk_133 (dk_at dksX0_given_0 16 rfl rfl)
theorem dX0_given_17 : decode cX0_given 17 = .ok (.invokevirtual 346, 3) := dk_182 1 90 (dk_at dksX0_given_0 17 rfl rfl)
theorem dX0_given_20 : decode cX0_given 20 = .ok (.ifCond .eq 11, 3) := dk_153 0 11 (dk_at dksX0_given_0 20 rfl rfl)
theorem dX0_given_23 : decode cX0_given 23 = .ok (.iload_n 1, 1) := dk_27 (dk_at dksX0_given_0 23 rfl rfl)
theorem dX0_given_24 : decode cX0_given 24 = .ok (.iload_n 2, 1) := dk_28 (dk_at dksX0_given_1 0 rfl rfl)
theorem dX0_given_25 : decode cX0_given 25 = .ok (.invokestatic 1, 3) := dk_184 0 1 (dk_at dksX0_given_1 1 rfl rfl)
theorem dX0_given_28 : decode cX0_given 28 = .ok (.ifCond .ne 9, 3) := dk_154 0 9 (dk_at dksX0_given_1 4 rfl rfl)
theorem dX0_given_31 : decode cX0_given 31 = .ok (.aload_n 0, 1) := dk_42 (dk_at dksX0_given_1 7 rfl rfl)
theorem dX0_given_32 : decode cX0_given 32 = .ok (.iconst 5, 1) := dk_8 (dk_at dksX0_given_1 8 rfl rfl)
theorem dX0_given_33 : decode cX0_given 33 = .ok (.invokevirtual 89, 3) := dk_182 0 89 (dk_at dksX0_given_1 9 rfl rfl)
theorem dX0_given_36 : decode cX0_given 36 = .ok (.ireturn, 1) := dk_172 (dk_at dksX0_given_1 12 rfl rfl)
theorem dX0_given_37 : decode cX0_given 37 = .ok (.iload_n 1, 1) := dk_27 (dk_at dksX0_given_1 13 rfl rfl)
theorem dX0_given_38 : decode cX0_given 38 = .ok (.aload_n 0, 1) := dk_42 (dk_at dksX0_given_1 14 rfl rfl)
theorem dX0_given_39 : decode cX0_given 39 = .ok (.getfield 34, 3) := dk_180 0 34 (dk_at dksX0_given_1 15 rfl rfl)
theorem dX0_given_42 : decode cX0_given 42 = .ok (.iconst (-1), 1) := dk_2 (dk_at dksX0_given_1 18 rfl rfl)
theorem dX0_given_43 : decode cX0_given 43 = .ok (.invokevirtual 215, 3) := dk_182 0 215 (dk_at dksX0_given_1 19 rfl rfl)
theorem dX0_given_46 : decode cX0_given 46 = .ok (.iand, 1) := dk_126 (dk_at dksX0_given_1 22 rfl rfl)
theorem dX0_given_47 : decode cX0_given 47 = .ok (.istore_n 3, 1) := dk_62 (dk_at dksX0_given_1 23 rfl rfl)
theorem dX0_given_48 : decode cX0_given 48 = .ok (.iload_n 3, 1) := dk_29 (dk_at dksX0_given_2 0 rfl rfl)
theorem dX0_given_49 : decode cX0_given 49 = .ok (.ifCond .ne 19, 3) := dk_154 0 19 (dk_at dksX0_given_2 1 rfl rfl)
theorem dX0_given_52 : decode cX0_given 52 = .ok (.aload_n 0, 1) := dk_42 (dk_at dksX0_given_2 4 rfl rfl)
theorem dX0_given_53 : decode cX0_given 53 = .ok (.iload_n 1, 1) := dk_27 (dk_at dksX0_given_2 5 rfl rfl)
theorem dX0_given_54 : decode cX0_given 54 = .ok (.iconst 0, 1) := dk_3 (dk_at dksX0_given_2 6 rfl rfl)
theorem dX0_given_55 : decode cX0_given 55 = .ok (.invokevirtual 343, 3) := dk_182 1 87 (dk_at dksX0_given_2 7 rfl rfl)
theorem dX0_given_58 : decode cX0_given 58 = .ok (.ifCond .ne 10, 3) := dk_154 0 10 (dk_at dksX0_given_2 10 rfl rfl)
theorem dX0_given_61 : decode cX0_given 61 = .ok (.aload_n 0, 1) := dk_42 (dk_at dksX0_given_2 13 rfl rfl)
theorem dX0_given_62 : decode cX0_given 62 = .ok (.bipush 8, 2) := dk_16 8 (dk_at dksX0_given_2 14 rfl rfl)
theorem dX0_given_64 : decode cX0_given 64 = .ok (.invokevirtual 89, 3) := dk_182 0 89 (dk_at dksX0_given_2 16 rfl rfl)
theorem dX0_given_67 : decode cX0_given 67 = .ok (.ireturn, 1) := dk_172 (dk_at dksX0_given_2 19 rfl rfl)
theorem dX0_given_68 : decode cX0_given 68 = .ok (.iload_n 3, 1) := dk_29 (dk_at dksX0_given_2 20 rfl rfl)
theorem dX0_given_69 : decode cX0_given 69 = .ok (.ifCond .eq 10, 3) := dk_153 0 10 (dk_at dksX0_given_2 21 rfl rfl)
theorem dX0_given_72 : decode cX0_given 72 = .ok (.aload_n 0, 1) := dk_42 (dk_at dksX0_given_3 0 rfl rfl)
theorem dX0_given_73 : decode cX0_given 73 = .ok (.bipush 9, 2) := dk_16 9 (dk_at dksX0_given_3 1 rfl rfl)
theorem dX0_given_75 : decode cX0_given 75 = .ok (.invokevirtual 89, 3) := dk_182 0 89 (dk_at dksX0_given_3 3 rfl rfl)
theorem dX0_given_78 : decode cX0_given 78 = .ok (.ireturn, 1) := dk_172 (dk_at dksX0_given_3 6 rfl rfl)
theorem dX0_given_79 : decode cX0_given 79 = .ok (.iload_n 1, 1) := dk_27 (dk_at dksX0_given_3 7 rfl rfl)
theorem dX0_given_80 : decode cX0_given 80 = .ok (.istore 4, 2) := dk_54 4 (dk_at dksX0_given_3 8 rfl rfl)
theorem dX0_given_82 : decode cX0_given 82 = .ok (.iconst 0, 1) := dk_3 (dk_at dksX0_given_3 10 rfl rfl)
theorem dX0_given_83 : decode cX0_given 83 = .ok (.istore 5, 2) := dk_54 5 (dk_at dksX0_given_3 11 rfl rfl)
theorem dX0_given_85 : decode cX0_given 85 = .ok (.iconst (-1), 1) := dk_2 (dk_at dksX0_given_3 13 rfl rfl)
theorem dX0_given_86 : decode cX0_given 86 = .ok (.istore 6, 2) := dk_54 6 (dk_at dksX0_given_3 14 rfl rfl)
theorem dX0_given_88 : decode cX0_given 88 = .ok (.iload 4, 2) := dk_21 4 (dk_at dksX0_given_3 16 rfl rfl)
theorem dX0_given_90 : decode cX0_given 90 = .ok (.iload_n 2, 1) := dk_28 (dk_at dksX0_given_3 18 rfl rfl)
theorem dX0_given_91 : decode cX0_given 91 = .ok (.invokestatic 1, 3) := dk_184 0 1 (dk_at dksX0_given_3 19 rfl rfl)
theorem dX0_given_94 : decode cX0_given 94 = .ok (.ifCond .eq 95, 3) := dk_153 0 95 (dk_at dksX0_given_4 0 rfl rfl)
theorem dX0_given_97 : decode cX0_given 97 = .ok (.iload 4, 2) := dk_21 4 (dk_at dksX0_given_4 3 rfl rfl)
theorem dX0_given_99 : decode cX0_given 99 = .ok (.invokestatic 332, 3) := dk_184 1 76 (dk_at dksX0_given_4 5 rfl rfl)
theorem dX0_given_102 : decode cX0_given 102 = .ok (.istore 7, 2) := dk_54 7 (dk_at dksX0_given_4 8 rfl rfl)
theorem dX0_given_104 : decode cX0_given 104 = .ok (.iload 4, 2) := dk_21 4 (dk_at dksX0_given_4 10 rfl rfl)
theorem dX0_given_106 : decode cX0_given 106 = .ok (.iconst 1, 1) := dk_4 (dk_at dksX0_given_4 12 rfl rfl)
theorem dX0_given_107 : decode cX0_given 107 = .ok (.iload 7, 2) := dk_21 7 (dk_at dksX0_given_4 13 rfl rfl)
theorem dX0_given_109 : decode cX0_given 109 = .ok (.ishl, 1) := dk_120 (dk_at dksX0_given_4 15 rfl rfl)
theorem dX0_given_110 : decode cX0_given 110 = .ok (.iconst (-1), 1) := dk_2 (dk_at dksX0_given_4 16 rfl rfl)
theorem dX0_given_111 : decode cX0_given 111 = .ok (.ixor, 1) := dk_130 (dk_at dksX0_given_4 17 rfl rfl)
theorem dX0_given_112 : decode cX0_given 112 = .ok (.iand, 1) := dk_126 (dk_at dksX0_given_4 18 rfl rfl)
theorem dX0_given_113 : decode cX0_given 113 = .ok (.istore 4, 2) := dk_54 4 (dk_at dksX0_given_4 19 rfl rfl)
theorem dX0_given_115 : decode cX0_given 115 = .ok (.aload_n 0, 1) := dk_42 (dk_at dksX0_given_4 21 rfl rfl)
theorem dX0_given_116 : decode cX0_given 116 = .ok (.getfield 34, 3) := dk_180 0 34 (dk_at dksX0_given_5 0 rfl rfl)
theorem dX0_given_119 : decode cX0_given 119 = .ok (.aload_n 0, 1) := dk_42 (dk_at dksX0_given_5 3 rfl rfl)
theorem dX0_given_120 : decode cX0_given 120 = .ok (.getfield 34, 3) := dk_180 0 34 (dk_at dksX0_given_5 4 rfl rfl)
theorem dX0_given_123 : decode cX0_given 123 = .ok (.getfield 193, 3) := dk_180 0 193 (dk_at dksX0_given_5 7 rfl rfl)
theorem dX0_given_126 : decode cX0_given 126 = .ok (.iload 7, 2) := dk_21 7 (dk_at dksX0_given_5 10 rfl rfl)
theorem dX0_given_128 : decode cX0_given 128 = .ok (.aaload, 1) := dk_50 (dk_at dksX0_given_5 12 rfl rfl)
theorem dX0_given_129 : decode cX0_given 129 = .ok (.getfield 259, 3) := dk_180 1 3 (dk_at dksX0_given_5 13 rfl rfl)
theorem dX0_given_132 : decode cX0_given 132 = .ok (.invokevirtual 289, 3) := dk_182 1 33 (dk_at dksX0_given_5 16 rfl rfl)
theorem dX0_given_135 : decode cX0_given 135 = .ok (.iload 5, 2) := dk_21 5 (dk_at dksX0_given_5 19 rfl rfl)
theorem dX0_given_137 : decode cX0_given 137 = .ok (.iconst (-1), 1) := dk_2 (dk_at dksX0_given_5 21 rfl rfl)
theorem dX0_given_138 : decode cX0_given 138 = .ok (.ixor, 1) := dk_130 (dk_at dksX0_given_5 22 rfl rfl)
theorem dX0_given_139 : decode cX0_given 139 = .ok (.iand, 1) := dk_126 (dk_at dksX0_given_5 23 rfl rfl)
theorem dX0_given_140 : decode cX0_given 140 = .ok (.istore 8, 2) := dk_54 8 (dk_at dksX0_given_6 0 rfl rfl)
theorem dX0_given_142 : decode cX0_given 142 = .ok (.iconst 0, 1) := dk_3 (dk_at dksX0_given_6 2 rfl rfl)
theorem dX0_given_143 : decode cX0_given 143 = .ok (.istore 6, 2) := dk_54 6 (dk_at dksX0_given_6 3 rfl rfl)
theorem dX0_given_145 : decode cX0_given 145 = .ok (.iload 8, 2) := dk_21 8 (dk_at dksX0_given_6 5 rfl rfl)
theorem dX0_given_147 : decode cX0_given 147 = .ok (.iload 6, 2) := dk_21 6 (dk_at dksX0_given_6 7 rfl rfl)
theorem dX0_given_149 : decode cX0_given 149 = .ok (.invokestatic 1, 3) := dk_184 0 1 (dk_at dksX0_given_6 9 rfl rfl)
theorem dX0_given_152 : decode cX0_given 152 = .ok (.ifCond .eq 19, 3) := dk_153 0 19 (dk_at dksX0_given_6 12 rfl rfl)
theorem dX0_given_155 : decode cX0_given 155 = .ok (.aload_n 0, 1) := dk_42 (dk_at dksX0_given_6 15 rfl rfl)
theorem dX0_given_156 : decode cX0_given 156 = .ok (.iload 4, 2) := dk_21 4 (dk_at dksX0_given_6 16 rfl rfl)
theorem dX0_given_158 : decode cX0_given 158 = .ok (.iload 5, 2) := dk_21 5 (dk_at dksX0_given_6 18 rfl rfl)
theorem dX0_given_160 : decode cX0_given 160 = .ok (.iconst 1, 1) := dk_4 (dk_at dksX0_given_6 20 rfl rfl)
theorem dX0_given_161 : decode cX0_given 161 = .ok (.iload 6, 2) := dk_21 6 (dk_at dksX0_given_6 21 rfl rfl)
theorem dX0_given_163 : decode cX0_given 163 = .ok (.ishl, 1) := dk_120 (dk_at dksX0_given_6 23 rfl rfl)
theorem dX0_given_164 : decode cX0_given 164 = .ok (.ior, 1) := dk_128 (dk_at dksX0_given_7 0 rfl rfl)
theorem dX0_given_165 : decode cX0_given 165 = .ok (.invokevirtual 343, 3) := dk_182 1 87 (dk_at dksX0_given_7 1 rfl rfl)
theorem dX0_given_168 : decode cX0_given 168 = .ok (.ifCond .ne 9, 3) := dk_154 0 9 (dk_at dksX0_given_7 4 rfl rfl)
theorem dX0_given_171 : decode cX0_given 171 = .ok (.iinc 6 1, 3) := dk_132 6 1 (dk_at dksX0_given_7 7 rfl rfl)
theorem dX0_given_174 : decode cX0_given 174 = .ok (.goto (-29), 3) := dk_167 255 227 (dk_at dksX0_given_7 10 rfl rfl)
theorem dX0_given_177 : decode cX0_given 177 = .ok (.iload 5, 2) := dk_21 5 (dk_at dksX0_given_7 13 rfl rfl)
theorem dX0_given_179 : decode cX0_given 179 = .ok (.iconst 1, 1) := dk_4 (dk_at dksX0_given_7 15 rfl rfl)
theorem dX0_given_180 : decode cX0_given 180 = .ok (.iload 6, 2) := dk_21 6 (dk_at dksX0_given_7 16 rfl rfl)
theorem dX0_given_182 : decode cX0_given 182 = .ok (.ishl, 1) := dk_120 (dk_at dksX0_given_7 18 rfl rfl)
theorem dX0_given_183 : decode cX0_given 183 = .ok (.ior, 1) := dk_128 (dk_at dksX0_given_7 19 rfl rfl)
theorem dX0_given_184 : decode cX0_given 184 = .ok (.istore 5, 2) := dk_54 5 (dk_at dksX0_given_7 20 rfl rfl)
theorem dX0_given_186 : decode cX0_given 186 = .ok (.goto (-98), 3) := dk_167 255 158 (dk_at dksX0_given_8 0 rfl rfl)
theorem dX0_given_189 : decode cX0_given 189 = .ok (.aload_n 0, 1) := dk_42 (dk_at dksX0_given_8 3 rfl rfl)
theorem dX0_given_190 : decode cX0_given 190 = .ok (.iload 6, 2) := dk_21 6 (dk_at dksX0_given_8 4 rfl rfl)
theorem dX0_given_192 : decode cX0_given 192 = .ok (.invokevirtual 93, 3) := dk_182 0 93 (dk_at dksX0_given_8 6 rfl rfl)
theorem dX0_given_195 : decode cX0_given 195 = .ok (.ireturn, 1) := dk_172 (dk_at dksX0_given_8 9 rfl rfl)
abbrev cX0_cover : ByteArray := prog_1_method_63_code
def yX0_cover : MethodName := ⟨RX0, "cover", "()I"⟩
def dkwX0_cover_1 : List UInt8 := [182, 0, 93, 172]
abbrev dktX0_cover_1 : List UInt8 := dkwX0_cover_1 ++ []
def dkwX0_cover_0 : List UInt8 := [42, 182, 1, 99, 60, 27, 2, 160, 0, 12, 42, 16, 8, 182, 0, 89, 167, 0, 11, 42, 27, 184, 1, 96]
abbrev dktX0_cover_0 : List UInt8 := dkwX0_cover_0 ++ dktX0_cover_1
theorem dksX0_cover_0 : cX0_cover.data.toList.drop 0 = dktX0_cover_0 := by decide +kernel
theorem dksX0_cover_1 : cX0_cover.data.toList.drop 24 = dktX0_cover_1 := dk_seg dksX0_cover_0 24 rfl rfl
theorem dX0_cover_0 : decode cX0_cover 0 = .ok (.aload_n 0, 1) := dk_42 (dk_at dksX0_cover_0 0 rfl rfl)
theorem dX0_cover_1 : decode cX0_cover 1 = .ok (.invokevirtual 355, 3) := dk_182 1 99 (dk_at dksX0_cover_0 1 rfl rfl)
theorem dX0_cover_4 : decode cX0_cover 4 = .ok (.istore_n 1, 1) := dk_60 (dk_at dksX0_cover_0 4 rfl rfl)
theorem dX0_cover_5 : decode cX0_cover 5 = .ok (.iload_n 1, 1) := dk_27 (dk_at dksX0_cover_0 5 rfl rfl)
theorem dX0_cover_6 : decode cX0_cover 6 = .ok (.iconst (-1), 1) := dk_2 (dk_at dksX0_cover_0 6 rfl rfl)
theorem dX0_cover_7 : decode cX0_cover 7 = .ok (.if_icmp .ne 12, 3) := dk_160 0 12 (dk_at dksX0_cover_0 7 rfl rfl)
theorem dX0_cover_10 : decode cX0_cover 10 = .ok (.aload_n 0, 1) := dk_42 (dk_at dksX0_cover_0 10 rfl rfl)
theorem dX0_cover_11 : decode cX0_cover 11 = .ok (.bipush 8, 2) := dk_16 8 (dk_at dksX0_cover_0 11 rfl rfl)
theorem dX0_cover_13 : decode cX0_cover 13 = .ok (.invokevirtual 89, 3) := dk_182 0 89 (dk_at dksX0_cover_0 13 rfl rfl)
theorem dX0_cover_16 : decode cX0_cover 16 = .ok (.goto 11, 3) := dk_167 0 11 (dk_at dksX0_cover_0 16 rfl rfl)
theorem dX0_cover_19 : decode cX0_cover 19 = .ok (.aload_n 0, 1) := dk_42 (dk_at dksX0_cover_0 19 rfl rfl)
theorem dX0_cover_20 : decode cX0_cover 20 = .ok (.iload_n 1, 1) := dk_27 (dk_at dksX0_cover_0 20 rfl rfl)
theorem dX0_cover_21 : decode cX0_cover 21 = .ok (.invokestatic 352, 3) := dk_184 1 96 (dk_at dksX0_cover_0 21 rfl rfl)
theorem dX0_cover_24 : decode cX0_cover 24 = .ok (.invokevirtual 93, 3) := dk_182 0 93 (dk_at dksX0_cover_1 0 rfl rfl)
theorem dX0_cover_27 : decode cX0_cover 27 = .ok (.ireturn, 1) := dk_172 (dk_at dksX0_cover_1 3 rfl rfl)
abbrev cX0_covering : ByteArray := prog_1_method_62_code
def yX0_covering : MethodName := ⟨RX0, "covering", "()I"⟩
def dkwX0_covering_4 : List UInt8 := [27, 172]
abbrev dktX0_covering_4 : List UInt8 := dkwX0_covering_4 ++ []
def dkwX0_covering_3 : List UInt8 := [27, 2, 159, 0, 14, 28, 184, 1, 96, 27, 184, 1, 96, 162, 0, 5, 28, 60, 132, 2, 1, 167, 255, 167]
abbrev dktX0_covering_3 : List UInt8 := dkwX0_covering_3 ++ dktX0_covering_4
def dkwX0_covering_2 : List UInt8 := [180, 0, 245, 28, 126, 153, 0, 7, 4, 167, 0, 4, 3, 62, 132, 4, 1, 167, 255, 213, 29, 153, 0, 21]
abbrev dktX0_covering_2 : List UInt8 := dkwX0_covering_2 ++ dktX0_covering_3
def dkwX0_covering_1 : List UInt8 := [42, 180, 0, 34, 180, 0, 141, 162, 0, 37, 29, 153, 0, 25, 42, 180, 0, 34, 180, 0, 241, 21, 4, 50]
abbrev dktX0_covering_1 : List UInt8 := dkwX0_covering_1 ++ dktX0_covering_2
def dkwX0_covering_0 : List UInt8 := [2, 60, 3, 61, 28, 4, 42, 180, 0, 34, 180, 0, 138, 120, 162, 0, 82, 4, 62, 3, 54, 4, 21, 4]
abbrev dktX0_covering_0 : List UInt8 := dkwX0_covering_0 ++ dktX0_covering_1
theorem dksX0_covering_0 : cX0_covering.data.toList.drop 0 = dktX0_covering_0 := by decide +kernel
theorem dksX0_covering_1 : cX0_covering.data.toList.drop 24 = dktX0_covering_1 := dk_seg dksX0_covering_0 24 rfl rfl
theorem dksX0_covering_2 : cX0_covering.data.toList.drop 48 = dktX0_covering_2 := dk_seg dksX0_covering_1 24 rfl rfl
theorem dksX0_covering_3 : cX0_covering.data.toList.drop 72 = dktX0_covering_3 := dk_seg dksX0_covering_2 24 rfl rfl
theorem dksX0_covering_4 : cX0_covering.data.toList.drop 96 = dktX0_covering_4 := dk_seg dksX0_covering_3 24 rfl rfl
theorem dX0_covering_0 : decode cX0_covering 0 = .ok (.iconst (-1), 1) := dk_2 (dk_at dksX0_covering_0 0 rfl rfl)
theorem dX0_covering_1 : decode cX0_covering 1 = .ok (.istore_n 1, 1) := dk_60 (dk_at dksX0_covering_0 1 rfl rfl)
theorem dX0_covering_2 : decode cX0_covering 2 = .ok (.iconst 0, 1) := dk_3 (dk_at dksX0_covering_0 2 rfl rfl)
theorem dX0_covering_3 : decode cX0_covering 3 = .ok (.istore_n 2, 1) := dk_61 (dk_at dksX0_covering_0 3 rfl rfl)
theorem dX0_covering_4 : decode cX0_covering 4 = .ok (.iload_n 2, 1) := dk_28 (dk_at dksX0_covering_0 4 rfl rfl)
theorem dX0_covering_5 : decode cX0_covering 5 = .ok (.iconst 1, 1) := dk_4 (dk_at dksX0_covering_0 5 rfl rfl)
theorem dX0_covering_6 : decode cX0_covering 6 = .ok (.aload_n 0, 1) := dk_42 (dk_at dksX0_covering_0 6 rfl rfl)
theorem dX0_covering_7 : decode cX0_covering 7 = .ok (.getfield 34, 3) := dk_180 0 34 (dk_at dksX0_covering_0 7 rfl rfl)
theorem dX0_covering_10 : decode cX0_covering 10 = .ok (.getfield 138, 3) := dk_180 0 138 (dk_at dksX0_covering_0 10 rfl rfl)
theorem dX0_covering_13 : decode cX0_covering 13 = .ok (.ishl, 1) := dk_120 (dk_at dksX0_covering_0 13 rfl rfl)
theorem dX0_covering_14 : decode cX0_covering 14 = .ok (.if_icmp .ge 82, 3) := dk_162 0 82 (dk_at dksX0_covering_0 14 rfl rfl)
theorem dX0_covering_17 : decode cX0_covering 17 = .ok (.iconst 1, 1) := dk_4 (dk_at dksX0_covering_0 17 rfl rfl)
theorem dX0_covering_18 : decode cX0_covering 18 = .ok (.istore_n 3, 1) := dk_62 (dk_at dksX0_covering_0 18 rfl rfl)
theorem dX0_covering_19 : decode cX0_covering 19 = .ok (.iconst 0, 1) := dk_3 (dk_at dksX0_covering_0 19 rfl rfl)
theorem dX0_covering_20 : decode cX0_covering 20 = .ok (.istore 4, 2) := dk_54 4 (dk_at dksX0_covering_0 20 rfl rfl)
theorem dX0_covering_22 : decode cX0_covering 22 = .ok (.iload 4, 2) := dk_21 4 (dk_at dksX0_covering_0 22 rfl rfl)
theorem dX0_covering_24 : decode cX0_covering 24 = .ok (.aload_n 0, 1) := dk_42 (dk_at dksX0_covering_1 0 rfl rfl)
theorem dX0_covering_25 : decode cX0_covering 25 = .ok (.getfield 34, 3) := dk_180 0 34 (dk_at dksX0_covering_1 1 rfl rfl)
theorem dX0_covering_28 : decode cX0_covering 28 = .ok (.getfield 141, 3) := dk_180 0 141 (dk_at dksX0_covering_1 4 rfl rfl)
theorem dX0_covering_31 : decode cX0_covering 31 = .ok (.if_icmp .ge 37, 3) := dk_162 0 37 (dk_at dksX0_covering_1 7 rfl rfl)
theorem dX0_covering_34 : decode cX0_covering 34 = .ok (.iload_n 3, 1) := dk_29 (dk_at dksX0_covering_1 10 rfl rfl)
theorem dX0_covering_35 : decode cX0_covering 35 = .ok (.ifCond .eq 25, 3) := dk_153 0 25 (dk_at dksX0_covering_1 11 rfl rfl)
theorem dX0_covering_38 : decode cX0_covering 38 = .ok (.aload_n 0, 1) := dk_42 (dk_at dksX0_covering_1 14 rfl rfl)
theorem dX0_covering_39 : decode cX0_covering 39 = .ok (.getfield 34, 3) := dk_180 0 34 (dk_at dksX0_covering_1 15 rfl rfl)
theorem dX0_covering_42 : decode cX0_covering 42 = .ok (.getfield 241, 3) := dk_180 0 241 (dk_at dksX0_covering_1 18 rfl rfl)
theorem dX0_covering_45 : decode cX0_covering 45 = .ok (.iload 4, 2) := dk_21 4 (dk_at dksX0_covering_1 21 rfl rfl)
theorem dX0_covering_47 : decode cX0_covering 47 = .ok (.aaload, 1) := dk_50 (dk_at dksX0_covering_1 23 rfl rfl)
theorem dX0_covering_48 : decode cX0_covering 48 = .ok (.getfield 245, 3) := dk_180 0 245 (dk_at dksX0_covering_2 0 rfl rfl)
theorem dX0_covering_51 : decode cX0_covering 51 = .ok (.iload_n 2, 1) := dk_28 (dk_at dksX0_covering_2 3 rfl rfl)
theorem dX0_covering_52 : decode cX0_covering 52 = .ok (.iand, 1) := dk_126 (dk_at dksX0_covering_2 4 rfl rfl)
theorem dX0_covering_53 : decode cX0_covering 53 = .ok (.ifCond .eq 7, 3) := dk_153 0 7 (dk_at dksX0_covering_2 5 rfl rfl)
theorem dX0_covering_56 : decode cX0_covering 56 = .ok (.iconst 1, 1) := dk_4 (dk_at dksX0_covering_2 8 rfl rfl)
theorem dX0_covering_57 : decode cX0_covering 57 = .ok (.goto 4, 3) := dk_167 0 4 (dk_at dksX0_covering_2 9 rfl rfl)
theorem dX0_covering_60 : decode cX0_covering 60 = .ok (.iconst 0, 1) := dk_3 (dk_at dksX0_covering_2 12 rfl rfl)
theorem dX0_covering_61 : decode cX0_covering 61 = .ok (.istore_n 3, 1) := dk_62 (dk_at dksX0_covering_2 13 rfl rfl)
theorem dX0_covering_62 : decode cX0_covering 62 = .ok (.iinc 4 1, 3) := dk_132 4 1 (dk_at dksX0_covering_2 14 rfl rfl)
theorem dX0_covering_65 : decode cX0_covering 65 = .ok (.goto (-43), 3) := dk_167 255 213 (dk_at dksX0_covering_2 17 rfl rfl)
theorem dX0_covering_68 : decode cX0_covering 68 = .ok (.iload_n 3, 1) := dk_29 (dk_at dksX0_covering_2 20 rfl rfl)
theorem dX0_covering_69 : decode cX0_covering 69 = .ok (.ifCond .eq 21, 3) := dk_153 0 21 (dk_at dksX0_covering_2 21 rfl rfl)
theorem dX0_covering_72 : decode cX0_covering 72 = .ok (.iload_n 1, 1) := dk_27 (dk_at dksX0_covering_3 0 rfl rfl)
theorem dX0_covering_73 : decode cX0_covering 73 = .ok (.iconst (-1), 1) := dk_2 (dk_at dksX0_covering_3 1 rfl rfl)
theorem dX0_covering_74 : decode cX0_covering 74 = .ok (.if_icmp .eq 14, 3) := dk_159 0 14 (dk_at dksX0_covering_3 2 rfl rfl)
theorem dX0_covering_77 : decode cX0_covering 77 = .ok (.iload_n 2, 1) := dk_28 (dk_at dksX0_covering_3 5 rfl rfl)
theorem dX0_covering_78 : decode cX0_covering 78 = .ok (.invokestatic 352, 3) := dk_184 1 96 (dk_at dksX0_covering_3 6 rfl rfl)
theorem dX0_covering_81 : decode cX0_covering 81 = .ok (.iload_n 1, 1) := dk_27 (dk_at dksX0_covering_3 9 rfl rfl)
theorem dX0_covering_82 : decode cX0_covering 82 = .ok (.invokestatic 352, 3) := dk_184 1 96 (dk_at dksX0_covering_3 10 rfl rfl)
theorem dX0_covering_85 : decode cX0_covering 85 = .ok (.if_icmp .ge 5, 3) := dk_162 0 5 (dk_at dksX0_covering_3 13 rfl rfl)
theorem dX0_covering_88 : decode cX0_covering 88 = .ok (.iload_n 2, 1) := dk_28 (dk_at dksX0_covering_3 16 rfl rfl)
theorem dX0_covering_89 : decode cX0_covering 89 = .ok (.istore_n 1, 1) := dk_60 (dk_at dksX0_covering_3 17 rfl rfl)
theorem dX0_covering_90 : decode cX0_covering 90 = .ok (.iinc 2 1, 3) := dk_132 2 1 (dk_at dksX0_covering_3 18 rfl rfl)
theorem dX0_covering_93 : decode cX0_covering 93 = .ok (.goto (-89), 3) := dk_167 255 167 (dk_at dksX0_covering_3 21 rfl rfl)
theorem dX0_covering_96 : decode cX0_covering 96 = .ok (.iload_n 1, 1) := dk_27 (dk_at dksX0_covering_4 0 rfl rfl)
theorem dX0_covering_97 : decode cX0_covering 97 = .ok (.ireturn, 1) := dk_172 (dk_at dksX0_covering_4 1 rfl rfl)
abbrev cX0_bits : ByteArray := prog_1_method_1_code
def yX0_bits : MethodName := ⟨RX0, "bits", "(I)I"⟩
def dkwX0_bits_0 : List UInt8 := [3, 60, 26, 61, 28, 153, 0, 15, 132, 1, 1, 28, 28, 4, 100, 126, 61, 167, 255, 243, 27, 172]
abbrev dktX0_bits_0 : List UInt8 := dkwX0_bits_0 ++ []
theorem dksX0_bits_0 : cX0_bits.data.toList.drop 0 = dktX0_bits_0 := by decide +kernel
theorem dX0_bits_0 : decode cX0_bits 0 = .ok (.iconst 0, 1) := dk_3 (dk_at dksX0_bits_0 0 rfl rfl)
theorem dX0_bits_1 : decode cX0_bits 1 = .ok (.istore_n 1, 1) := dk_60 (dk_at dksX0_bits_0 1 rfl rfl)
theorem dX0_bits_2 : decode cX0_bits 2 = .ok (.iload_n 0, 1) := dk_26 (dk_at dksX0_bits_0 2 rfl rfl)
theorem dX0_bits_3 : decode cX0_bits 3 = .ok (.istore_n 2, 1) := dk_61 (dk_at dksX0_bits_0 3 rfl rfl)
theorem dX0_bits_4 : decode cX0_bits 4 = .ok (.iload_n 2, 1) := dk_28 (dk_at dksX0_bits_0 4 rfl rfl)
theorem dX0_bits_5 : decode cX0_bits 5 = .ok (.ifCond .eq 15, 3) := dk_153 0 15 (dk_at dksX0_bits_0 5 rfl rfl)
theorem dX0_bits_8 : decode cX0_bits 8 = .ok (.iinc 1 1, 3) := dk_132 1 1 (dk_at dksX0_bits_0 8 rfl rfl)
theorem dX0_bits_11 : decode cX0_bits 11 = .ok (.iload_n 2, 1) := dk_28 (dk_at dksX0_bits_0 11 rfl rfl)
theorem dX0_bits_12 : decode cX0_bits 12 = .ok (.iload_n 2, 1) := dk_28 (dk_at dksX0_bits_0 12 rfl rfl)
theorem dX0_bits_13 : decode cX0_bits 13 = .ok (.iconst 1, 1) := dk_4 (dk_at dksX0_bits_0 13 rfl rfl)
theorem dX0_bits_14 : decode cX0_bits 14 = .ok (.isub, 1) := dk_100 (dk_at dksX0_bits_0 14 rfl rfl)
theorem dX0_bits_15 : decode cX0_bits 15 = .ok (.iand, 1) := dk_126 (dk_at dksX0_bits_0 15 rfl rfl)
theorem dX0_bits_16 : decode cX0_bits 16 = .ok (.istore_n 2, 1) := dk_61 (dk_at dksX0_bits_0 16 rfl rfl)
theorem dX0_bits_17 : decode cX0_bits 17 = .ok (.goto (-13), 3) := dk_167 255 243 (dk_at dksX0_bits_0 17 rfl rfl)
theorem dX0_bits_20 : decode cX0_bits 20 = .ok (.iload_n 1, 1) := dk_27 (dk_at dksX0_bits_0 20 rfl rfl)
theorem dX0_bits_21 : decode cX0_bits 21 = .ok (.ireturn, 1) := dk_172 (dk_at dksX0_bits_0 21 rfl rfl)
abbrev cX0_coverSet : ByteArray := prog_1_method_64_code
def yX0_coverSet : MethodName := ⟨RX0, "coverSet", "()I"⟩
def dkwX0_coverSet_0 : List UInt8 := [42, 42, 182, 1, 99, 182, 1, 9, 172]
abbrev dktX0_coverSet_0 : List UInt8 := dkwX0_coverSet_0 ++ []
theorem dksX0_coverSet_0 : cX0_coverSet.data.toList.drop 0 = dktX0_coverSet_0 := by decide +kernel
theorem dX0_coverSet_0 : decode cX0_coverSet 0 = .ok (.aload_n 0, 1) := dk_42 (dk_at dksX0_coverSet_0 0 rfl rfl)
theorem dX0_coverSet_1 : decode cX0_coverSet 1 = .ok (.aload_n 0, 1) := dk_42 (dk_at dksX0_coverSet_0 1 rfl rfl)
theorem dX0_coverSet_2 : decode cX0_coverSet 2 = .ok (.invokevirtual 355, 3) := dk_182 1 99 (dk_at dksX0_coverSet_0 2 rfl rfl)
theorem dX0_coverSet_5 : decode cX0_coverSet 5 = .ok (.invokevirtual 265, 3) := dk_182 1 9 (dk_at dksX0_coverSet_0 5 rfl rfl)
theorem dX0_coverSet_8 : decode cX0_coverSet 8 = .ok (.ireturn, 1) := dk_172 (dk_at dksX0_coverSet_0 8 rfl rfl)
abbrev cX0_blamed : ByteArray := prog_1_method_66_code
def yX0_blamed : MethodName := ⟨RX0, "blamed", "()I"⟩
def dkwX0_blamed_0 : List UInt8 := [42, 42, 182, 1, 102, 184, 1, 96, 182, 0, 93, 172]
abbrev dktX0_blamed_0 : List UInt8 := dkwX0_blamed_0 ++ []
theorem dksX0_blamed_0 : cX0_blamed.data.toList.drop 0 = dktX0_blamed_0 := by decide +kernel
theorem dX0_blamed_0 : decode cX0_blamed 0 = .ok (.aload_n 0, 1) := dk_42 (dk_at dksX0_blamed_0 0 rfl rfl)
theorem dX0_blamed_1 : decode cX0_blamed 1 = .ok (.aload_n 0, 1) := dk_42 (dk_at dksX0_blamed_0 1 rfl rfl)
theorem dX0_blamed_2 : decode cX0_blamed 2 = .ok (.invokevirtual 358, 3) := dk_182 1 102 (dk_at dksX0_blamed_0 2 rfl rfl)
theorem dX0_blamed_5 : decode cX0_blamed 5 = .ok (.invokestatic 352, 3) := dk_184 1 96 (dk_at dksX0_blamed_0 5 rfl rfl)
theorem dX0_blamed_8 : decode cX0_blamed 8 = .ok (.invokevirtual 93, 3) := dk_182 0 93 (dk_at dksX0_blamed_0 8 rfl rfl)
theorem dX0_blamed_11 : decode cX0_blamed 11 = .ok (.ireturn, 1) := dk_172 (dk_at dksX0_blamed_0 11 rfl rfl)
abbrev cX0_blaming : ByteArray := prog_1_method_65_code
def yX0_blaming : MethodName := ⟨RX0, "blaming", "()I"⟩
def dkwX0_blaming_4 : List UInt8 := [184, 1, 96, 27, 184, 1, 96, 162, 0, 5, 28, 60, 132, 2, 1, 167, 255, 151, 27, 172]
abbrev dktX0_blaming_4 : List UInt8 := dkwX0_blaming_4 ++ []
def dkwX0_blaming_3 : List UInt8 := [4, 167, 0, 4, 3, 62, 132, 4, 1, 167, 255, 197, 29, 153, 0, 21, 27, 2, 159, 0, 14, 28]
abbrev dktX0_blaming_3 : List UInt8 := dkwX0_blaming_3 ++ dktX0_blaming_4
def dkwX0_blaming_2 : List UInt8 := [180, 1, 29, 153, 0, 21, 42, 180, 0, 34, 180, 0, 193, 21, 4, 50, 180, 1, 12, 28, 126, 153, 0, 7]
abbrev dktX0_blaming_2 : List UInt8 := dkwX0_blaming_2 ++ dktX0_blaming_3
def dkwX0_blaming_1 : List UInt8 := [42, 180, 0, 34, 180, 0, 144, 162, 0, 53, 29, 153, 0, 41, 42, 180, 0, 34, 180, 0, 193, 21, 4, 50]
abbrev dktX0_blaming_1 : List UInt8 := dkwX0_blaming_1 ++ dktX0_blaming_2
def dkwX0_blaming_0 : List UInt8 := [2, 60, 3, 61, 28, 4, 42, 180, 0, 34, 180, 0, 141, 120, 162, 0, 98, 4, 62, 3, 54, 4, 21, 4]
abbrev dktX0_blaming_0 : List UInt8 := dkwX0_blaming_0 ++ dktX0_blaming_1
theorem dksX0_blaming_0 : cX0_blaming.data.toList.drop 0 = dktX0_blaming_0 := by decide +kernel
theorem dksX0_blaming_1 : cX0_blaming.data.toList.drop 24 = dktX0_blaming_1 := dk_seg dksX0_blaming_0 24 rfl rfl
theorem dksX0_blaming_2 : cX0_blaming.data.toList.drop 48 = dktX0_blaming_2 := dk_seg dksX0_blaming_1 24 rfl rfl
theorem dksX0_blaming_3 : cX0_blaming.data.toList.drop 72 = dktX0_blaming_3 := dk_seg dksX0_blaming_2 24 rfl rfl
theorem dksX0_blaming_4 : cX0_blaming.data.toList.drop 94 = dktX0_blaming_4 := dk_seg dksX0_blaming_3 22 rfl rfl
theorem dX0_blaming_0 : decode cX0_blaming 0 = .ok (.iconst (-1), 1) := dk_2 (dk_at dksX0_blaming_0 0 rfl rfl)
theorem dX0_blaming_1 : decode cX0_blaming 1 = .ok (.istore_n 1, 1) := dk_60 (dk_at dksX0_blaming_0 1 rfl rfl)
theorem dX0_blaming_2 : decode cX0_blaming 2 = .ok (.iconst 0, 1) := dk_3 (dk_at dksX0_blaming_0 2 rfl rfl)
theorem dX0_blaming_3 : decode cX0_blaming 3 = .ok (.istore_n 2, 1) := dk_61 (dk_at dksX0_blaming_0 3 rfl rfl)
theorem dX0_blaming_4 : decode cX0_blaming 4 = .ok (.iload_n 2, 1) := dk_28 (dk_at dksX0_blaming_0 4 rfl rfl)
theorem dX0_blaming_5 : decode cX0_blaming 5 = .ok (.iconst 1, 1) := dk_4 (dk_at dksX0_blaming_0 5 rfl rfl)
theorem dX0_blaming_6 : decode cX0_blaming 6 = .ok (.aload_n 0, 1) := dk_42 (dk_at dksX0_blaming_0 6 rfl rfl)
theorem dX0_blaming_7 : decode cX0_blaming 7 = .ok (.getfield 34, 3) := dk_180 0 34 (dk_at dksX0_blaming_0 7 rfl rfl)
theorem dX0_blaming_10 : decode cX0_blaming 10 = .ok (.getfield 141, 3) := dk_180 0 141 (dk_at dksX0_blaming_0 10 rfl rfl)
theorem dX0_blaming_13 : decode cX0_blaming 13 = .ok (.ishl, 1) := dk_120 (dk_at dksX0_blaming_0 13 rfl rfl)
theorem dX0_blaming_14 : decode cX0_blaming 14 = .ok (.if_icmp .ge 98, 3) := dk_162 0 98 (dk_at dksX0_blaming_0 14 rfl rfl)
theorem dX0_blaming_17 : decode cX0_blaming 17 = .ok (.iconst 1, 1) := dk_4 (dk_at dksX0_blaming_0 17 rfl rfl)
theorem dX0_blaming_18 : decode cX0_blaming 18 = .ok (.istore_n 3, 1) := dk_62 (dk_at dksX0_blaming_0 18 rfl rfl)
theorem dX0_blaming_19 : decode cX0_blaming 19 = .ok (.iconst 0, 1) := dk_3 (dk_at dksX0_blaming_0 19 rfl rfl)
theorem dX0_blaming_20 : decode cX0_blaming 20 = .ok (.istore 4, 2) := dk_54 4 (dk_at dksX0_blaming_0 20 rfl rfl)
theorem dX0_blaming_22 : decode cX0_blaming 22 = .ok (.iload 4, 2) := dk_21 4 (dk_at dksX0_blaming_0 22 rfl rfl)
theorem dX0_blaming_24 : decode cX0_blaming 24 = .ok (.aload_n 0, 1) := dk_42 (dk_at dksX0_blaming_1 0 rfl rfl)
theorem dX0_blaming_25 : decode cX0_blaming 25 = .ok (.getfield 34, 3) := dk_180 0 34 (dk_at dksX0_blaming_1 1 rfl rfl)
theorem dX0_blaming_28 : decode cX0_blaming 28 = .ok (.getfield 144, 3) := dk_180 0 144 (dk_at dksX0_blaming_1 4 rfl rfl)
theorem dX0_blaming_31 : decode cX0_blaming 31 = .ok (.if_icmp .ge 53, 3) := dk_162 0 53 (dk_at dksX0_blaming_1 7 rfl rfl)
theorem dX0_blaming_34 : decode cX0_blaming 34 = .ok (.iload_n 3, 1) := dk_29 (dk_at dksX0_blaming_1 10 rfl rfl)
theorem dX0_blaming_35 : decode cX0_blaming 35 = .ok (.ifCond .eq 41, 3) := dk_153 0 41 (dk_at dksX0_blaming_1 11 rfl rfl)
theorem dX0_blaming_38 : decode cX0_blaming 38 = .ok (.aload_n 0, 1) := dk_42 (dk_at dksX0_blaming_1 14 rfl rfl)
theorem dX0_blaming_39 : decode cX0_blaming 39 = .ok (.getfield 34, 3) := dk_180 0 34 (dk_at dksX0_blaming_1 15 rfl rfl)
theorem dX0_blaming_42 : decode cX0_blaming 42 = .ok (.getfield 193, 3) := dk_180 0 193 (dk_at dksX0_blaming_1 18 rfl rfl)
theorem dX0_blaming_45 : decode cX0_blaming 45 = .ok (.iload 4, 2) := dk_21 4 (dk_at dksX0_blaming_1 21 rfl rfl)
theorem dX0_blaming_47 : decode cX0_blaming 47 = .ok (.aaload, 1) := dk_50 (dk_at dksX0_blaming_1 23 rfl rfl)
theorem dX0_blaming_48 : decode cX0_blaming 48 = .ok (.getfield 285, 3) := dk_180 1 29 (dk_at dksX0_blaming_2 0 rfl rfl)
theorem dX0_blaming_51 : decode cX0_blaming 51 = .ok (.ifCond .eq 21, 3) := dk_153 0 21 (dk_at dksX0_blaming_2 3 rfl rfl)
theorem dX0_blaming_54 : decode cX0_blaming 54 = .ok (.aload_n 0, 1) := dk_42 (dk_at dksX0_blaming_2 6 rfl rfl)
theorem dX0_blaming_55 : decode cX0_blaming 55 = .ok (.getfield 34, 3) := dk_180 0 34 (dk_at dksX0_blaming_2 7 rfl rfl)
theorem dX0_blaming_58 : decode cX0_blaming 58 = .ok (.getfield 193, 3) := dk_180 0 193 (dk_at dksX0_blaming_2 10 rfl rfl)
theorem dX0_blaming_61 : decode cX0_blaming 61 = .ok (.iload 4, 2) := dk_21 4 (dk_at dksX0_blaming_2 13 rfl rfl)
theorem dX0_blaming_63 : decode cX0_blaming 63 = .ok (.aaload, 1) := dk_50 (dk_at dksX0_blaming_2 15 rfl rfl)
theorem dX0_blaming_64 : decode cX0_blaming 64 = .ok (.getfield 268, 3) := dk_180 1 12 (dk_at dksX0_blaming_2 16 rfl rfl)
theorem dX0_blaming_67 : decode cX0_blaming 67 = .ok (.iload_n 2, 1) := dk_28 (dk_at dksX0_blaming_2 19 rfl rfl)
theorem dX0_blaming_68 : decode cX0_blaming 68 = .ok (.iand, 1) := dk_126 (dk_at dksX0_blaming_2 20 rfl rfl)
theorem dX0_blaming_69 : decode cX0_blaming 69 = .ok (.ifCond .eq 7, 3) := dk_153 0 7 (dk_at dksX0_blaming_2 21 rfl rfl)
theorem dX0_blaming_72 : decode cX0_blaming 72 = .ok (.iconst 1, 1) := dk_4 (dk_at dksX0_blaming_3 0 rfl rfl)
theorem dX0_blaming_73 : decode cX0_blaming 73 = .ok (.goto 4, 3) := dk_167 0 4 (dk_at dksX0_blaming_3 1 rfl rfl)
theorem dX0_blaming_76 : decode cX0_blaming 76 = .ok (.iconst 0, 1) := dk_3 (dk_at dksX0_blaming_3 4 rfl rfl)
theorem dX0_blaming_77 : decode cX0_blaming 77 = .ok (.istore_n 3, 1) := dk_62 (dk_at dksX0_blaming_3 5 rfl rfl)
theorem dX0_blaming_78 : decode cX0_blaming 78 = .ok (.iinc 4 1, 3) := dk_132 4 1 (dk_at dksX0_blaming_3 6 rfl rfl)
theorem dX0_blaming_81 : decode cX0_blaming 81 = .ok (.goto (-59), 3) := dk_167 255 197 (dk_at dksX0_blaming_3 9 rfl rfl)
theorem dX0_blaming_84 : decode cX0_blaming 84 = .ok (.iload_n 3, 1) := dk_29 (dk_at dksX0_blaming_3 12 rfl rfl)
theorem dX0_blaming_85 : decode cX0_blaming 85 = .ok (.ifCond .eq 21, 3) := dk_153 0 21 (dk_at dksX0_blaming_3 13 rfl rfl)
theorem dX0_blaming_88 : decode cX0_blaming 88 = .ok (.iload_n 1, 1) := dk_27 (dk_at dksX0_blaming_3 16 rfl rfl)
theorem dX0_blaming_89 : decode cX0_blaming 89 = .ok (.iconst (-1), 1) := dk_2 (dk_at dksX0_blaming_3 17 rfl rfl)
theorem dX0_blaming_90 : decode cX0_blaming 90 = .ok (.if_icmp .eq 14, 3) := dk_159 0 14 (dk_at dksX0_blaming_3 18 rfl rfl)
theorem dX0_blaming_93 : decode cX0_blaming 93 = .ok (.iload_n 2, 1) := dk_28 (dk_at dksX0_blaming_3 21 rfl rfl)
theorem dX0_blaming_94 : decode cX0_blaming 94 = .ok (.invokestatic 352, 3) := dk_184 1 96 (dk_at dksX0_blaming_4 0 rfl rfl)
theorem dX0_blaming_97 : decode cX0_blaming 97 = .ok (.iload_n 1, 1) := dk_27 (dk_at dksX0_blaming_4 3 rfl rfl)
theorem dX0_blaming_98 : decode cX0_blaming 98 = .ok (.invokestatic 352, 3) := dk_184 1 96 (dk_at dksX0_blaming_4 4 rfl rfl)
theorem dX0_blaming_101 : decode cX0_blaming 101 = .ok (.if_icmp .ge 5, 3) := dk_162 0 5 (dk_at dksX0_blaming_4 7 rfl rfl)
theorem dX0_blaming_104 : decode cX0_blaming 104 = .ok (.iload_n 2, 1) := dk_28 (dk_at dksX0_blaming_4 10 rfl rfl)
theorem dX0_blaming_105 : decode cX0_blaming 105 = .ok (.istore_n 1, 1) := dk_60 (dk_at dksX0_blaming_4 11 rfl rfl)
theorem dX0_blaming_106 : decode cX0_blaming 106 = .ok (.iinc 2 1, 3) := dk_132 2 1 (dk_at dksX0_blaming_4 12 rfl rfl)
theorem dX0_blaming_109 : decode cX0_blaming 109 = .ok (.goto (-105), 3) := dk_167 255 151 (dk_at dksX0_blaming_4 15 rfl rfl)
theorem dX0_blaming_112 : decode cX0_blaming 112 = .ok (.iload_n 1, 1) := dk_27 (dk_at dksX0_blaming_4 18 rfl rfl)
theorem dX0_blaming_113 : decode cX0_blaming 113 = .ok (.ireturn, 1) := dk_172 (dk_at dksX0_blaming_4 19 rfl rfl)
abbrev cX0_blamedSet : ByteArray := prog_1_method_67_code
def yX0_blamedSet : MethodName := ⟨RX0, "blamedSet", "()I"⟩
def dkwX0_blamedSet_0 : List UInt8 := [42, 42, 182, 1, 102, 182, 0, 93, 172]
abbrev dktX0_blamedSet_0 : List UInt8 := dkwX0_blamedSet_0 ++ []
theorem dksX0_blamedSet_0 : cX0_blamedSet.data.toList.drop 0 = dktX0_blamedSet_0 := by decide +kernel
theorem dX0_blamedSet_0 : decode cX0_blamedSet 0 = .ok (.aload_n 0, 1) := dk_42 (dk_at dksX0_blamedSet_0 0 rfl rfl)
theorem dX0_blamedSet_1 : decode cX0_blamedSet 1 = .ok (.aload_n 0, 1) := dk_42 (dk_at dksX0_blamedSet_0 1 rfl rfl)
theorem dX0_blamedSet_2 : decode cX0_blamedSet 2 = .ok (.invokevirtual 358, 3) := dk_182 1 102 (dk_at dksX0_blamedSet_0 2 rfl rfl)
theorem dX0_blamedSet_5 : decode cX0_blamedSet 5 = .ok (.invokevirtual 93, 3) := dk_182 0 93 (dk_at dksX0_blamedSet_0 5 rfl rfl)
theorem dX0_blamedSet_8 : decode cX0_blamedSet 8 = .ok (.ireturn, 1) := dk_172 (dk_at dksX0_blamedSet_0 8 rfl rfl)
abbrev cX0_wheels : ByteArray := prog_1_method_70_code
def yX0_wheels : MethodName := ⟨RX0, "wheels", "(I)I"⟩
def dkwX0_wheels_2 : List UInt8 := [96, 61, 132, 3, 1, 167, 255, 227, 42, 28, 182, 0, 93, 172]
abbrev dktX0_wheels_2 : List UInt8 := dkwX0_wheels_2 ++ []
def dkwX0_wheels_1 : List UInt8 := [29, 42, 180, 0, 34, 180, 0, 141, 162, 0, 24, 28, 42, 29, 29, 4, 29, 120, 27, 4, 100, 182, 1, 108]
abbrev dktX0_wheels_1 : List UInt8 := dkwX0_wheels_1 ++ dktX0_wheels_2
def dkwX0_wheels_0 : List UInt8 := [27, 133, 20, 1, 112, 20, 1, 114, 184, 0, 147, 154, 0, 9, 42, 8, 182, 0, 89, 172, 3, 61, 3, 62]
abbrev dktX0_wheels_0 : List UInt8 := dkwX0_wheels_0 ++ dktX0_wheels_1
theorem dksX0_wheels_0 : cX0_wheels.data.toList.drop 0 = dktX0_wheels_0 := by decide +kernel
theorem dksX0_wheels_1 : cX0_wheels.data.toList.drop 24 = dktX0_wheels_1 := dk_seg dksX0_wheels_0 24 rfl rfl
theorem dksX0_wheels_2 : cX0_wheels.data.toList.drop 48 = dktX0_wheels_2 := dk_seg dksX0_wheels_1 24 rfl rfl
theorem dX0_wheels_0 : decode cX0_wheels 0 = .ok (.iload_n 1, 1) := dk_27 (dk_at dksX0_wheels_0 0 rfl rfl)
theorem dX0_wheels_1 : decode cX0_wheels 1 = .ok (.i2l, 1) := dk_133 (dk_at dksX0_wheels_0 1 rfl rfl)
theorem dX0_wheels_2 : decode cX0_wheels 2 = .ok (.ldc2_w 368, 3) := dk_20 1 112 (dk_at dksX0_wheels_0 2 rfl rfl)
theorem dX0_wheels_5 : decode cX0_wheels 5 = .ok (.ldc2_w 370, 3) := dk_20 1 114 (dk_at dksX0_wheels_0 5 rfl rfl)
theorem dX0_wheels_8 : decode cX0_wheels 8 = .ok (.invokestatic 147, 3) := dk_184 0 147 (dk_at dksX0_wheels_0 8 rfl rfl)
theorem dX0_wheels_11 : decode cX0_wheels 11 = .ok (.ifCond .ne 9, 3) := dk_154 0 9 (dk_at dksX0_wheels_0 11 rfl rfl)
theorem dX0_wheels_14 : decode cX0_wheels 14 = .ok (.aload_n 0, 1) := dk_42 (dk_at dksX0_wheels_0 14 rfl rfl)
theorem dX0_wheels_15 : decode cX0_wheels 15 = .ok (.iconst 5, 1) := dk_8 (dk_at dksX0_wheels_0 15 rfl rfl)
theorem dX0_wheels_16 : decode cX0_wheels 16 = .ok (.invokevirtual 89, 3) := dk_182 0 89 (dk_at dksX0_wheels_0 16 rfl rfl)
theorem dX0_wheels_19 : decode cX0_wheels 19 = .ok (.ireturn, 1) := dk_172 (dk_at dksX0_wheels_0 19 rfl rfl)
theorem dX0_wheels_20 : decode cX0_wheels 20 = .ok (.iconst 0, 1) := dk_3 (dk_at dksX0_wheels_0 20 rfl rfl)
theorem dX0_wheels_21 : decode cX0_wheels 21 = .ok (.istore_n 2, 1) := dk_61 (dk_at dksX0_wheels_0 21 rfl rfl)
theorem dX0_wheels_22 : decode cX0_wheels 22 = .ok (.iconst 0, 1) := dk_3 (dk_at dksX0_wheels_0 22 rfl rfl)
theorem dX0_wheels_23 : decode cX0_wheels 23 = .ok (.istore_n 3, 1) := dk_62 (dk_at dksX0_wheels_0 23 rfl rfl)
theorem dX0_wheels_24 : decode cX0_wheels 24 = .ok (.iload_n 3, 1) := dk_29 (dk_at dksX0_wheels_1 0 rfl rfl)
theorem dX0_wheels_25 : decode cX0_wheels 25 = .ok (.aload_n 0, 1) := dk_42 (dk_at dksX0_wheels_1 1 rfl rfl)
theorem dX0_wheels_26 : decode cX0_wheels 26 = .ok (.getfield 34, 3) := dk_180 0 34 (dk_at dksX0_wheels_1 2 rfl rfl)
theorem dX0_wheels_29 : decode cX0_wheels 29 = .ok (.getfield 141, 3) := dk_180 0 141 (dk_at dksX0_wheels_1 5 rfl rfl)
theorem dX0_wheels_32 : decode cX0_wheels 32 = .ok (.if_icmp .ge 24, 3) := dk_162 0 24 (dk_at dksX0_wheels_1 8 rfl rfl)
theorem dX0_wheels_35 : decode cX0_wheels 35 = .ok (.iload_n 2, 1) := dk_28 (dk_at dksX0_wheels_1 11 rfl rfl)
theorem dX0_wheels_36 : decode cX0_wheels 36 = .ok (.aload_n 0, 1) := dk_42 (dk_at dksX0_wheels_1 12 rfl rfl)
theorem dX0_wheels_37 : decode cX0_wheels 37 = .ok (.iload_n 3, 1) := dk_29 (dk_at dksX0_wheels_1 13 rfl rfl)
theorem dX0_wheels_38 : decode cX0_wheels 38 = .ok (.iload_n 3, 1) := dk_29 (dk_at dksX0_wheels_1 14 rfl rfl)
theorem dX0_wheels_39 : decode cX0_wheels 39 = .ok (.iconst 1, 1) := dk_4 (dk_at dksX0_wheels_1 15 rfl rfl)
theorem dX0_wheels_40 : decode cX0_wheels 40 = .ok (.iload_n 3, 1) := dk_29 (dk_at dksX0_wheels_1 16 rfl rfl)
theorem dX0_wheels_41 : decode cX0_wheels 41 = .ok (.ishl, 1) := dk_120 (dk_at dksX0_wheels_1 17 rfl rfl)
theorem dX0_wheels_42 : decode cX0_wheels 42 = .ok (.iload_n 1, 1) := dk_27 (dk_at dksX0_wheels_1 18 rfl rfl)
theorem dX0_wheels_43 : decode cX0_wheels 43 = .ok (.iconst 1, 1) := dk_4 (dk_at dksX0_wheels_1 19 rfl rfl)
theorem dX0_wheels_44 : decode cX0_wheels 44 = .ok (.isub, 1) := dk_100 (dk_at dksX0_wheels_1 20 rfl rfl)
theorem dX0_wheels_45 : decode cX0_wheels 45 = .ok (.invokevirtual 364, 3) := dk_182 1 108 (dk_at dksX0_wheels_1 21 rfl rfl)
theorem dX0_wheels_48 : decode cX0_wheels 48 = .ok (.iadd, 1) := dk_96 (dk_at dksX0_wheels_2 0 rfl rfl)
theorem dX0_wheels_49 : decode cX0_wheels 49 = .ok (.istore_n 2, 1) := dk_61 (dk_at dksX0_wheels_2 1 rfl rfl)
theorem dX0_wheels_50 : decode cX0_wheels 50 = .ok (.iinc 3 1, 3) := dk_132 3 1 (dk_at dksX0_wheels_2 2 rfl rfl)
theorem dX0_wheels_53 : decode cX0_wheels 53 = .ok (.goto (-29), 3) := dk_167 255 227 (dk_at dksX0_wheels_2 5 rfl rfl)
theorem dX0_wheels_56 : decode cX0_wheels 56 = .ok (.aload_n 0, 1) := dk_42 (dk_at dksX0_wheels_2 8 rfl rfl)
theorem dX0_wheels_57 : decode cX0_wheels 57 = .ok (.iload_n 2, 1) := dk_28 (dk_at dksX0_wheels_2 9 rfl rfl)
theorem dX0_wheels_58 : decode cX0_wheels 58 = .ok (.invokevirtual 93, 3) := dk_182 0 93 (dk_at dksX0_wheels_2 10 rfl rfl)
theorem dX0_wheels_61 : decode cX0_wheels 61 = .ok (.ireturn, 1) := dk_172 (dk_at dksX0_wheels_2 13 rfl rfl)
abbrev cX0_wheelsFrom : ByteArray := prog_1_method_69_code
def yX0_wheelsFrom : MethodName := ⟨RX0, "wheelsFrom", "(IIII)I"⟩
def dkwX0_wheelsFrom_3 : List UInt8 := [4, 21, 7, 120, 128, 21, 4, 4, 100, 182, 1, 108, 96, 54, 6, 132, 7, 1, 167, 255, 205, 21, 6, 172]
abbrev dktX0_wheelsFrom_3 : List UInt8 := dkwX0_wheelsFrom_3 ++ []
def dkwX0_wheelsFrom_2 : List UInt8 := [162, 0, 45, 21, 5, 29, 2, 130, 126, 21, 7, 184, 0, 1, 153, 0, 25, 21, 6, 42, 27, 21, 7, 29]
abbrev dktX0_wheelsFrom_2 : List UInt8 := dkwX0_wheelsFrom_2 ++ dktX0_wheelsFrom_3
def dkwX0_wheelsFrom_1 : List UInt8 := [167, 0, 4, 3, 172, 3, 54, 6, 27, 4, 96, 54, 7, 21, 7, 42, 180, 0, 34, 180, 0, 141]
abbrev dktX0_wheelsFrom_1 : List UInt8 := dkwX0_wheelsFrom_1 ++ dktX0_wheelsFrom_2
def dkwX0_wheelsFrom_0 : List UInt8 := [42, 28, 182, 1, 105, 54, 5, 21, 4, 154, 0, 18, 21, 5, 27, 184, 0, 1, 153, 0, 7, 4]
abbrev dktX0_wheelsFrom_0 : List UInt8 := dkwX0_wheelsFrom_0 ++ dktX0_wheelsFrom_1
theorem dksX0_wheelsFrom_0 : cX0_wheelsFrom.data.toList.drop 0 = dktX0_wheelsFrom_0 := by decide +kernel
theorem dksX0_wheelsFrom_1 : cX0_wheelsFrom.data.toList.drop 22 = dktX0_wheelsFrom_1 := dk_seg dksX0_wheelsFrom_0 22 rfl rfl
theorem dksX0_wheelsFrom_2 : cX0_wheelsFrom.data.toList.drop 44 = dktX0_wheelsFrom_2 := dk_seg dksX0_wheelsFrom_1 22 rfl rfl
theorem dksX0_wheelsFrom_3 : cX0_wheelsFrom.data.toList.drop 68 = dktX0_wheelsFrom_3 := dk_seg dksX0_wheelsFrom_2 24 rfl rfl
theorem dX0_wheelsFrom_0 : decode cX0_wheelsFrom 0 = .ok (.aload_n 0, 1) := dk_42 (dk_at dksX0_wheelsFrom_0 0 rfl rfl)
theorem dX0_wheelsFrom_1 : decode cX0_wheelsFrom 1 = .ok (.iload_n 2, 1) := dk_28 (dk_at dksX0_wheelsFrom_0 1 rfl rfl)
theorem dX0_wheelsFrom_2 : decode cX0_wheelsFrom 2 = .ok (.invokevirtual 361, 3) := dk_182 1 105 (dk_at dksX0_wheelsFrom_0 2 rfl rfl)
theorem dX0_wheelsFrom_5 : decode cX0_wheelsFrom 5 = .ok (.istore 5, 2) := dk_54 5 (dk_at dksX0_wheelsFrom_0 5 rfl rfl)
theorem dX0_wheelsFrom_7 : decode cX0_wheelsFrom 7 = .ok (.iload 4, 2) := dk_21 4 (dk_at dksX0_wheelsFrom_0 7 rfl rfl)
theorem dX0_wheelsFrom_9 : decode cX0_wheelsFrom 9 = .ok (.ifCond .ne 18, 3) := dk_154 0 18 (dk_at dksX0_wheelsFrom_0 9 rfl rfl)
theorem dX0_wheelsFrom_12 : decode cX0_wheelsFrom 12 = .ok (.iload 5, 2) := dk_21 5 (dk_at dksX0_wheelsFrom_0 12 rfl rfl)
theorem dX0_wheelsFrom_14 : decode cX0_wheelsFrom 14 = .ok (.iload_n 1, 1) := dk_27 (dk_at dksX0_wheelsFrom_0 14 rfl rfl)
theorem dX0_wheelsFrom_15 : decode cX0_wheelsFrom 15 = .ok (.invokestatic 1, 3) := dk_184 0 1 (dk_at dksX0_wheelsFrom_0 15 rfl rfl)
theorem dX0_wheelsFrom_18 : decode cX0_wheelsFrom 18 = .ok (.ifCond .eq 7, 3) := dk_153 0 7 (dk_at dksX0_wheelsFrom_0 18 rfl rfl)
theorem dX0_wheelsFrom_21 : decode cX0_wheelsFrom 21 = .ok (.iconst 1, 1) := dk_4 (dk_at dksX0_wheelsFrom_0 21 rfl rfl)
theorem dX0_wheelsFrom_22 : decode cX0_wheelsFrom 22 = .ok (.goto 4, 3) := dk_167 0 4 (dk_at dksX0_wheelsFrom_1 0 rfl rfl)
theorem dX0_wheelsFrom_25 : decode cX0_wheelsFrom 25 = .ok (.iconst 0, 1) := dk_3 (dk_at dksX0_wheelsFrom_1 3 rfl rfl)
theorem dX0_wheelsFrom_26 : decode cX0_wheelsFrom 26 = .ok (.ireturn, 1) := dk_172 (dk_at dksX0_wheelsFrom_1 4 rfl rfl)
theorem dX0_wheelsFrom_27 : decode cX0_wheelsFrom 27 = .ok (.iconst 0, 1) := dk_3 (dk_at dksX0_wheelsFrom_1 5 rfl rfl)
theorem dX0_wheelsFrom_28 : decode cX0_wheelsFrom 28 = .ok (.istore 6, 2) := dk_54 6 (dk_at dksX0_wheelsFrom_1 6 rfl rfl)
theorem dX0_wheelsFrom_30 : decode cX0_wheelsFrom 30 = .ok (.iload_n 1, 1) := dk_27 (dk_at dksX0_wheelsFrom_1 8 rfl rfl)
theorem dX0_wheelsFrom_31 : decode cX0_wheelsFrom 31 = .ok (.iconst 1, 1) := dk_4 (dk_at dksX0_wheelsFrom_1 9 rfl rfl)
theorem dX0_wheelsFrom_32 : decode cX0_wheelsFrom 32 = .ok (.iadd, 1) := dk_96 (dk_at dksX0_wheelsFrom_1 10 rfl rfl)
theorem dX0_wheelsFrom_33 : decode cX0_wheelsFrom 33 = .ok (.istore 7, 2) := dk_54 7 (dk_at dksX0_wheelsFrom_1 11 rfl rfl)
theorem dX0_wheelsFrom_35 : decode cX0_wheelsFrom 35 = .ok (.iload 7, 2) := dk_21 7 (dk_at dksX0_wheelsFrom_1 13 rfl rfl)
theorem dX0_wheelsFrom_37 : decode cX0_wheelsFrom 37 = .ok (.aload_n 0, 1) := dk_42 (dk_at dksX0_wheelsFrom_1 15 rfl rfl)
theorem dX0_wheelsFrom_38 : decode cX0_wheelsFrom 38 = .ok (.getfield 34, 3) := dk_180 0 34 (dk_at dksX0_wheelsFrom_1 16 rfl rfl)
theorem dX0_wheelsFrom_41 : decode cX0_wheelsFrom 41 = .ok (.getfield 141, 3) := dk_180 0 141 (dk_at dksX0_wheelsFrom_1 19 rfl rfl)
theorem dX0_wheelsFrom_44 : decode cX0_wheelsFrom 44 = .ok (.if_icmp .ge 45, 3) := dk_162 0 45 (dk_at dksX0_wheelsFrom_2 0 rfl rfl)
theorem dX0_wheelsFrom_47 : decode cX0_wheelsFrom 47 = .ok (.iload 5, 2) := dk_21 5 (dk_at dksX0_wheelsFrom_2 3 rfl rfl)
theorem dX0_wheelsFrom_49 : decode cX0_wheelsFrom 49 = .ok (.iload_n 3, 1) := dk_29 (dk_at dksX0_wheelsFrom_2 5 rfl rfl)
theorem dX0_wheelsFrom_50 : decode cX0_wheelsFrom 50 = .ok (.iconst (-1), 1) := dk_2 (dk_at dksX0_wheelsFrom_2 6 rfl rfl)
theorem dX0_wheelsFrom_51 : decode cX0_wheelsFrom 51 = .ok (.ixor, 1) := dk_130 (dk_at dksX0_wheelsFrom_2 7 rfl rfl)
theorem dX0_wheelsFrom_52 : decode cX0_wheelsFrom 52 = .ok (.iand, 1) := dk_126 (dk_at dksX0_wheelsFrom_2 8 rfl rfl)
theorem dX0_wheelsFrom_53 : decode cX0_wheelsFrom 53 = .ok (.iload 7, 2) := dk_21 7 (dk_at dksX0_wheelsFrom_2 9 rfl rfl)
theorem dX0_wheelsFrom_55 : decode cX0_wheelsFrom 55 = .ok (.invokestatic 1, 3) := dk_184 0 1 (dk_at dksX0_wheelsFrom_2 11 rfl rfl)
theorem dX0_wheelsFrom_58 : decode cX0_wheelsFrom 58 = .ok (.ifCond .eq 25, 3) := dk_153 0 25 (dk_at dksX0_wheelsFrom_2 14 rfl rfl)
theorem dX0_wheelsFrom_61 : decode cX0_wheelsFrom 61 = .ok (.iload 6, 2) := dk_21 6 (dk_at dksX0_wheelsFrom_2 17 rfl rfl)
theorem dX0_wheelsFrom_63 : decode cX0_wheelsFrom 63 = .ok (.aload_n 0, 1) := dk_42 (dk_at dksX0_wheelsFrom_2 19 rfl rfl)
theorem dX0_wheelsFrom_64 : decode cX0_wheelsFrom 64 = .ok (.iload_n 1, 1) := dk_27 (dk_at dksX0_wheelsFrom_2 20 rfl rfl)
theorem dX0_wheelsFrom_65 : decode cX0_wheelsFrom 65 = .ok (.iload 7, 2) := dk_21 7 (dk_at dksX0_wheelsFrom_2 21 rfl rfl)
theorem dX0_wheelsFrom_67 : decode cX0_wheelsFrom 67 = .ok (.iload_n 3, 1) := dk_29 (dk_at dksX0_wheelsFrom_2 23 rfl rfl)
theorem dX0_wheelsFrom_68 : decode cX0_wheelsFrom 68 = .ok (.iconst 1, 1) := dk_4 (dk_at dksX0_wheelsFrom_3 0 rfl rfl)
theorem dX0_wheelsFrom_69 : decode cX0_wheelsFrom 69 = .ok (.iload 7, 2) := dk_21 7 (dk_at dksX0_wheelsFrom_3 1 rfl rfl)
theorem dX0_wheelsFrom_71 : decode cX0_wheelsFrom 71 = .ok (.ishl, 1) := dk_120 (dk_at dksX0_wheelsFrom_3 3 rfl rfl)
theorem dX0_wheelsFrom_72 : decode cX0_wheelsFrom 72 = .ok (.ior, 1) := dk_128 (dk_at dksX0_wheelsFrom_3 4 rfl rfl)
theorem dX0_wheelsFrom_73 : decode cX0_wheelsFrom 73 = .ok (.iload 4, 2) := dk_21 4 (dk_at dksX0_wheelsFrom_3 5 rfl rfl)
theorem dX0_wheelsFrom_75 : decode cX0_wheelsFrom 75 = .ok (.iconst 1, 1) := dk_4 (dk_at dksX0_wheelsFrom_3 7 rfl rfl)
theorem dX0_wheelsFrom_76 : decode cX0_wheelsFrom 76 = .ok (.isub, 1) := dk_100 (dk_at dksX0_wheelsFrom_3 8 rfl rfl)
theorem dX0_wheelsFrom_77 : decode cX0_wheelsFrom 77 = .ok (.invokevirtual 364, 3) := dk_182 1 108 (dk_at dksX0_wheelsFrom_3 9 rfl rfl)
theorem dX0_wheelsFrom_80 : decode cX0_wheelsFrom 80 = .ok (.iadd, 1) := dk_96 (dk_at dksX0_wheelsFrom_3 12 rfl rfl)
theorem dX0_wheelsFrom_81 : decode cX0_wheelsFrom 81 = .ok (.istore 6, 2) := dk_54 6 (dk_at dksX0_wheelsFrom_3 13 rfl rfl)
theorem dX0_wheelsFrom_83 : decode cX0_wheelsFrom 83 = .ok (.iinc 7 1, 3) := dk_132 7 1 (dk_at dksX0_wheelsFrom_3 15 rfl rfl)
theorem dX0_wheelsFrom_86 : decode cX0_wheelsFrom 86 = .ok (.goto (-51), 3) := dk_167 255 205 (dk_at dksX0_wheelsFrom_3 18 rfl rfl)
theorem dX0_wheelsFrom_89 : decode cX0_wheelsFrom 89 = .ok (.iload 6, 2) := dk_21 6 (dk_at dksX0_wheelsFrom_3 21 rfl rfl)
theorem dX0_wheelsFrom_91 : decode cX0_wheelsFrom 91 = .ok (.ireturn, 1) := dk_172 (dk_at dksX0_wheelsFrom_3 23 rfl rfl)
abbrev cX0_passesTo : ByteArray := prog_1_method_68_code
def yX0_passesTo : MethodName := ⟨RX0, "passesTo", "(I)I"⟩
def dkwX0_passesTo_2 : List UInt8 := [167, 255, 214, 28, 172]
abbrev dktX0_passesTo_2 : List UInt8 := dkwX0_passesTo_2 ++ []
def dkwX0_passesTo_1 : List UInt8 := [180, 1, 6, 27, 160, 0, 15, 28, 42, 180, 0, 34, 29, 27, 182, 1, 56, 128, 61, 132, 3, 1]
abbrev dktX0_passesTo_1 : List UInt8 := dkwX0_passesTo_1 ++ dktX0_passesTo_2
def dkwX0_passesTo_0 : List UInt8 := [3, 61, 3, 62, 29, 42, 180, 0, 34, 180, 0, 144, 162, 0, 37, 42, 180, 0, 34, 180, 0, 193, 29, 50]
abbrev dktX0_passesTo_0 : List UInt8 := dkwX0_passesTo_0 ++ dktX0_passesTo_1
theorem dksX0_passesTo_0 : cX0_passesTo.data.toList.drop 0 = dktX0_passesTo_0 := by decide +kernel
theorem dksX0_passesTo_1 : cX0_passesTo.data.toList.drop 24 = dktX0_passesTo_1 := dk_seg dksX0_passesTo_0 24 rfl rfl
theorem dksX0_passesTo_2 : cX0_passesTo.data.toList.drop 46 = dktX0_passesTo_2 := dk_seg dksX0_passesTo_1 22 rfl rfl
theorem dX0_passesTo_0 : decode cX0_passesTo 0 = .ok (.iconst 0, 1) := dk_3 (dk_at dksX0_passesTo_0 0 rfl rfl)
theorem dX0_passesTo_1 : decode cX0_passesTo 1 = .ok (.istore_n 2, 1) := dk_61 (dk_at dksX0_passesTo_0 1 rfl rfl)
theorem dX0_passesTo_2 : decode cX0_passesTo 2 = .ok (.iconst 0, 1) := dk_3 (dk_at dksX0_passesTo_0 2 rfl rfl)
theorem dX0_passesTo_3 : decode cX0_passesTo 3 = .ok (.istore_n 3, 1) := dk_62 (dk_at dksX0_passesTo_0 3 rfl rfl)
theorem dX0_passesTo_4 : decode cX0_passesTo 4 = .ok (.iload_n 3, 1) := dk_29 (dk_at dksX0_passesTo_0 4 rfl rfl)
theorem dX0_passesTo_5 : decode cX0_passesTo 5 = .ok (.aload_n 0, 1) := dk_42 (dk_at dksX0_passesTo_0 5 rfl rfl)
theorem dX0_passesTo_6 : decode cX0_passesTo 6 = .ok (.getfield 34, 3) := dk_180 0 34 (dk_at dksX0_passesTo_0 6 rfl rfl)
theorem dX0_passesTo_9 : decode cX0_passesTo 9 = .ok (.getfield 144, 3) := dk_180 0 144 (dk_at dksX0_passesTo_0 9 rfl rfl)
theorem dX0_passesTo_12 : decode cX0_passesTo 12 = .ok (.if_icmp .ge 37, 3) := dk_162 0 37 (dk_at dksX0_passesTo_0 12 rfl rfl)
theorem dX0_passesTo_15 : decode cX0_passesTo 15 = .ok (.aload_n 0, 1) := dk_42 (dk_at dksX0_passesTo_0 15 rfl rfl)
theorem dX0_passesTo_16 : decode cX0_passesTo 16 = .ok (.getfield 34, 3) := dk_180 0 34 (dk_at dksX0_passesTo_0 16 rfl rfl)
theorem dX0_passesTo_19 : decode cX0_passesTo 19 = .ok (.getfield 193, 3) := dk_180 0 193 (dk_at dksX0_passesTo_0 19 rfl rfl)
theorem dX0_passesTo_22 : decode cX0_passesTo 22 = .ok (.iload_n 3, 1) := dk_29 (dk_at dksX0_passesTo_0 22 rfl rfl)
theorem dX0_passesTo_23 : decode cX0_passesTo 23 = .ok (.aaload, 1) := dk_50 (dk_at dksX0_passesTo_0 23 rfl rfl)
theorem dX0_passesTo_24 : decode cX0_passesTo 24 = .ok (.getfield 262, 3) := dk_180 1 6 (dk_at dksX0_passesTo_1 0 rfl rfl)
theorem dX0_passesTo_27 : decode cX0_passesTo 27 = .ok (.iload_n 1, 1) := dk_27 (dk_at dksX0_passesTo_1 3 rfl rfl)
theorem dX0_passesTo_28 : decode cX0_passesTo 28 = .ok (.if_icmp .ne 15, 3) := dk_160 0 15 (dk_at dksX0_passesTo_1 4 rfl rfl)
theorem dX0_passesTo_31 : decode cX0_passesTo 31 = .ok (.iload_n 2, 1) := dk_28 (dk_at dksX0_passesTo_1 7 rfl rfl)
theorem dX0_passesTo_32 : decode cX0_passesTo 32 = .ok (.aload_n 0, 1) := dk_42 (dk_at dksX0_passesTo_1 8 rfl rfl)
theorem dX0_passesTo_33 : decode cX0_passesTo 33 = .ok (.getfield 34, 3) := dk_180 0 34 (dk_at dksX0_passesTo_1 9 rfl rfl)
theorem dX0_passesTo_36 : decode cX0_passesTo 36 = .ok (.iload_n 3, 1) := dk_29 (dk_at dksX0_passesTo_1 12 rfl rfl)
theorem dX0_passesTo_37 : decode cX0_passesTo 37 = .ok (.iload_n 1, 1) := dk_27 (dk_at dksX0_passesTo_1 13 rfl rfl)
theorem dX0_passesTo_38 : decode cX0_passesTo 38 = .ok (.invokevirtual 312, 3) := dk_182 1 56 (dk_at dksX0_passesTo_1 14 rfl rfl)
theorem dX0_passesTo_41 : decode cX0_passesTo 41 = .ok (.ior, 1) := dk_128 (dk_at dksX0_passesTo_1 17 rfl rfl)
theorem dX0_passesTo_42 : decode cX0_passesTo 42 = .ok (.istore_n 2, 1) := dk_61 (dk_at dksX0_passesTo_1 18 rfl rfl)
theorem dX0_passesTo_43 : decode cX0_passesTo 43 = .ok (.iinc 3 1, 3) := dk_132 3 1 (dk_at dksX0_passesTo_1 19 rfl rfl)
theorem dX0_passesTo_46 : decode cX0_passesTo 46 = .ok (.goto (-42), 3) := dk_167 255 214 (dk_at dksX0_passesTo_2 0 rfl rfl)
theorem dX0_passesTo_49 : decode cX0_passesTo 49 = .ok (.iload_n 2, 1) := dk_28 (dk_at dksX0_passesTo_2 3 rfl rfl)
theorem dX0_passesTo_50 : decode cX0_passesTo 50 = .ok (.ireturn, 1) := dk_172 (dk_at dksX0_passesTo_2 4 rfl rfl)
abbrev cX0_whose : ByteArray := prog_1_method_74_code
def yX0_whose : MethodName := ⟨RX0, "whose", "(II)I"⟩
def dkwX0_whose_1 : List UInt8 := [182, 1, 125, 182, 0, 93, 172]
abbrev dktX0_whose_1 : List UInt8 := dkwX0_whose_1 ++ []
def dkwX0_whose_0 : List UInt8 := [42, 27, 28, 182, 1, 122, 62, 29, 158, 0, 11, 42, 29, 182, 0, 89, 167, 0, 13, 42, 42, 27, 28]
abbrev dktX0_whose_0 : List UInt8 := dkwX0_whose_0 ++ dktX0_whose_1
theorem dksX0_whose_0 : cX0_whose.data.toList.drop 0 = dktX0_whose_0 := by decide +kernel
theorem dksX0_whose_1 : cX0_whose.data.toList.drop 23 = dktX0_whose_1 := dk_seg dksX0_whose_0 23 rfl rfl
theorem dX0_whose_0 : decode cX0_whose 0 = .ok (.aload_n 0, 1) := dk_42 (dk_at dksX0_whose_0 0 rfl rfl)
theorem dX0_whose_1 : decode cX0_whose 1 = .ok (.iload_n 1, 1) := dk_27 (dk_at dksX0_whose_0 1 rfl rfl)
theorem dX0_whose_2 : decode cX0_whose 2 = .ok (.iload_n 2, 1) := dk_28 (dk_at dksX0_whose_0 2 rfl rfl)
theorem dX0_whose_3 : decode cX0_whose 3 = .ok (.invokevirtual 378, 3) := dk_182 1 122 (dk_at dksX0_whose_0 3 rfl rfl)
theorem dX0_whose_6 : decode cX0_whose 6 = .ok (.istore_n 3, 1) := dk_62 (dk_at dksX0_whose_0 6 rfl rfl)
theorem dX0_whose_7 : decode cX0_whose 7 = .ok (.iload_n 3, 1) := dk_29 (dk_at dksX0_whose_0 7 rfl rfl)
theorem dX0_whose_8 : decode cX0_whose 8 = .ok (.ifCond .le 11, 3) := dk_158 0 11 (dk_at dksX0_whose_0 8 rfl rfl)
theorem dX0_whose_11 : decode cX0_whose 11 = .ok (.aload_n 0, 1) := dk_42 (dk_at dksX0_whose_0 11 rfl rfl)
theorem dX0_whose_12 : decode cX0_whose 12 = .ok (.iload_n 3, 1) := dk_29 (dk_at dksX0_whose_0 12 rfl rfl)
theorem dX0_whose_13 : decode cX0_whose 13 = .ok (.invokevirtual 89, 3) := dk_182 0 89 (dk_at dksX0_whose_0 13 rfl rfl)
theorem dX0_whose_16 : decode cX0_whose 16 = .ok (.goto 13, 3) := dk_167 0 13 (dk_at dksX0_whose_0 16 rfl rfl)
theorem dX0_whose_19 : decode cX0_whose 19 = .ok (.aload_n 0, 1) := dk_42 (dk_at dksX0_whose_0 19 rfl rfl)
theorem dX0_whose_20 : decode cX0_whose 20 = .ok (.aload_n 0, 1) := dk_42 (dk_at dksX0_whose_0 20 rfl rfl)
theorem dX0_whose_21 : decode cX0_whose 21 = .ok (.iload_n 1, 1) := dk_27 (dk_at dksX0_whose_0 21 rfl rfl)
theorem dX0_whose_22 : decode cX0_whose 22 = .ok (.iload_n 2, 1) := dk_28 (dk_at dksX0_whose_0 22 rfl rfl)
theorem dX0_whose_23 : decode cX0_whose 23 = .ok (.invokevirtual 381, 3) := dk_182 1 125 (dk_at dksX0_whose_1 0 rfl rfl)
theorem dX0_whose_26 : decode cX0_whose 26 = .ok (.invokevirtual 93, 3) := dk_182 0 93 (dk_at dksX0_whose_1 3 rfl rfl)
theorem dX0_whose_29 : decode cX0_whose 29 = .ok (.ireturn, 1) := dk_172 (dk_at dksX0_whose_1 6 rfl rfl)
abbrev cX0_wrongSeen : ByteArray := prog_1_method_71_code
def yX0_wrongSeen : MethodName := ⟨RX0, "wrongSeen", "(II)I"⟩
def dkwX0_wrongSeen_5 : List UInt8 := [172, 21, 4, 4, 22, 6, 136, 120, 128, 54, 4, 132, 5, 1, 167, 255, 185, 3, 172]
abbrev dktX0_wrongSeen_5 : List UInt8 := dkwX0_wrongSeen_5 ++ []
def dkwX0_wrongSeen_4 : List UInt8 := [154, 0, 23, 45, 5, 21, 5, 104, 4, 96, 182, 0, 117, 9, 20, 1, 116, 184, 0, 147, 154, 0, 5, 8]
abbrev dktX0_wrongSeen_4 : List UInt8 := dkwX0_wrongSeen_4 ++ dktX0_wrongSeen_5
def dkwX0_wrongSeen_3 : List UInt8 := [104, 182, 0, 117, 55, 6, 42, 22, 6, 182, 0, 237, 153, 0, 34, 21, 4, 22, 6, 136, 184, 0, 1]
abbrev dktX0_wrongSeen_3 : List UInt8 := dkwX0_wrongSeen_3 ++ dktX0_wrongSeen_4
def dkwX0_wrongSeen_2 : List UInt8 := [184, 0, 147, 154, 0, 5, 8, 172, 3, 54, 4, 3, 54, 5, 21, 5, 28, 162, 0, 71, 45, 5, 21, 5]
abbrev dktX0_wrongSeen_2 : List UInt8 := dkwX0_wrongSeen_2 ++ dktX0_wrongSeen_3
def dkwX0_wrongSeen_1 : List UInt8 := [172, 45, 182, 1, 18, 133, 20, 1, 112, 28, 133, 105, 148, 156, 0, 5, 7, 172, 28, 133, 9, 20, 1, 114]
abbrev dktX0_wrongSeen_1 : List UInt8 := dkwX0_wrongSeen_1 ++ dktX0_wrongSeen_2
def dkwX0_wrongSeen_0 : List UInt8 := [27, 184, 0, 100, 154, 0, 5, 4, 172, 42, 180, 0, 15, 27, 50, 78, 45, 180, 0, 123, 199, 0, 5, 6]
abbrev dktX0_wrongSeen_0 : List UInt8 := dkwX0_wrongSeen_0 ++ dktX0_wrongSeen_1
theorem dksX0_wrongSeen_0 : cX0_wrongSeen.data.toList.drop 0 = dktX0_wrongSeen_0 := by decide +kernel
theorem dksX0_wrongSeen_1 : cX0_wrongSeen.data.toList.drop 24 = dktX0_wrongSeen_1 := dk_seg dksX0_wrongSeen_0 24 rfl rfl
theorem dksX0_wrongSeen_2 : cX0_wrongSeen.data.toList.drop 48 = dktX0_wrongSeen_2 := dk_seg dksX0_wrongSeen_1 24 rfl rfl
theorem dksX0_wrongSeen_3 : cX0_wrongSeen.data.toList.drop 72 = dktX0_wrongSeen_3 := dk_seg dksX0_wrongSeen_2 24 rfl rfl
theorem dksX0_wrongSeen_4 : cX0_wrongSeen.data.toList.drop 95 = dktX0_wrongSeen_4 := dk_seg dksX0_wrongSeen_3 23 rfl rfl
theorem dksX0_wrongSeen_5 : cX0_wrongSeen.data.toList.drop 119 = dktX0_wrongSeen_5 := dk_seg dksX0_wrongSeen_4 24 rfl rfl
theorem dX0_wrongSeen_0 : decode cX0_wrongSeen 0 = .ok (.iload_n 1, 1) := dk_27 (dk_at dksX0_wrongSeen_0 0 rfl rfl)
theorem dX0_wrongSeen_1 : decode cX0_wrongSeen 1 = .ok (.invokestatic 100, 3) := dk_184 0 100 (dk_at dksX0_wrongSeen_0 1 rfl rfl)
theorem dX0_wrongSeen_4 : decode cX0_wrongSeen 4 = .ok (.ifCond .ne 5, 3) := dk_154 0 5 (dk_at dksX0_wrongSeen_0 4 rfl rfl)
theorem dX0_wrongSeen_7 : decode cX0_wrongSeen 7 = .ok (.iconst 1, 1) := dk_4 (dk_at dksX0_wrongSeen_0 7 rfl rfl)
theorem dX0_wrongSeen_8 : decode cX0_wrongSeen 8 = .ok (.ireturn, 1) := dk_172 (dk_at dksX0_wrongSeen_0 8 rfl rfl)
theorem dX0_wrongSeen_9 : decode cX0_wrongSeen 9 = .ok (.aload_n 0, 1) := dk_42 (dk_at dksX0_wrongSeen_0 9 rfl rfl)
theorem dX0_wrongSeen_10 : decode cX0_wrongSeen 10 = .ok (.getfield 15, 3) := dk_180 0 15 (dk_at dksX0_wrongSeen_0 10 rfl rfl)
theorem dX0_wrongSeen_13 : decode cX0_wrongSeen 13 = .ok (.iload_n 1, 1) := dk_27 (dk_at dksX0_wrongSeen_0 13 rfl rfl)
theorem dX0_wrongSeen_14 : decode cX0_wrongSeen 14 = .ok (.aaload, 1) := dk_50 (dk_at dksX0_wrongSeen_0 14 rfl rfl)
theorem dX0_wrongSeen_15 : decode cX0_wrongSeen 15 = .ok (.astore_n 3, 1) := dk_78 (dk_at dksX0_wrongSeen_0 15 rfl rfl)
theorem dX0_wrongSeen_16 : decode cX0_wrongSeen 16 = .ok (.aload_n 3, 1) := dk_45 (dk_at dksX0_wrongSeen_0 16 rfl rfl)
theorem dX0_wrongSeen_17 : decode cX0_wrongSeen 17 = .ok (.getfield 123, 3) := dk_180 0 123 (dk_at dksX0_wrongSeen_0 17 rfl rfl)
theorem dX0_wrongSeen_20 : decode cX0_wrongSeen 20 = .ok (.ifnonnull 5, 3) := dk_199 0 5 (dk_at dksX0_wrongSeen_0 20 rfl rfl)
theorem dX0_wrongSeen_23 : decode cX0_wrongSeen 23 = .ok (.iconst 3, 1) := dk_6 (dk_at dksX0_wrongSeen_0 23 rfl rfl)
theorem dX0_wrongSeen_24 : decode cX0_wrongSeen 24 = .ok (.ireturn, 1) := dk_172 (dk_at dksX0_wrongSeen_1 0 rfl rfl)
theorem dX0_wrongSeen_25 : decode cX0_wrongSeen 25 = .ok (.aload_n 3, 1) := dk_45 (dk_at dksX0_wrongSeen_1 1 rfl rfl)
theorem dX0_wrongSeen_26 : decode cX0_wrongSeen 26 = .ok (.invokevirtual 274, 3) := dk_182 1 18 (dk_at dksX0_wrongSeen_1 2 rfl rfl)
theorem dX0_wrongSeen_29 : decode cX0_wrongSeen 29 = .ok (.i2l, 1) := dk_133 (dk_at dksX0_wrongSeen_1 5 rfl rfl)
theorem dX0_wrongSeen_30 : decode cX0_wrongSeen 30 = .ok (.ldc2_w 368, 3) := dk_20 1 112 (dk_at dksX0_wrongSeen_1 6 rfl rfl)
theorem dX0_wrongSeen_33 : decode cX0_wrongSeen 33 = .ok (.iload_n 2, 1) := dk_28 (dk_at dksX0_wrongSeen_1 9 rfl rfl)
theorem dX0_wrongSeen_34 : decode cX0_wrongSeen 34 = .ok (.i2l, 1) := dk_133 (dk_at dksX0_wrongSeen_1 10 rfl rfl)
theorem dX0_wrongSeen_35 : decode cX0_wrongSeen 35 = .ok (.lmul, 1) := dk_105 (dk_at dksX0_wrongSeen_1 11 rfl rfl)
theorem dX0_wrongSeen_36 : decode cX0_wrongSeen 36 = .ok (.lcmp, 1) := dk_148 (dk_at dksX0_wrongSeen_1 12 rfl rfl)
theorem dX0_wrongSeen_37 : decode cX0_wrongSeen 37 = .ok (.ifCond .ge 5, 3) := dk_156 0 5 (dk_at dksX0_wrongSeen_1 13 rfl rfl)
theorem dX0_wrongSeen_40 : decode cX0_wrongSeen 40 = .ok (.iconst 4, 1) := dk_7 (dk_at dksX0_wrongSeen_1 16 rfl rfl)
theorem dX0_wrongSeen_41 : decode cX0_wrongSeen 41 = .ok (.ireturn, 1) := dk_172 (dk_at dksX0_wrongSeen_1 17 rfl rfl)
theorem dX0_wrongSeen_42 : decode cX0_wrongSeen 42 = .ok (.iload_n 2, 1) := dk_28 (dk_at dksX0_wrongSeen_1 18 rfl rfl)
theorem dX0_wrongSeen_43 : decode cX0_wrongSeen 43 = .ok (.i2l, 1) := dk_133 (dk_at dksX0_wrongSeen_1 19 rfl rfl)
theorem dX0_wrongSeen_44 : decode cX0_wrongSeen 44 = .ok (.lconst 0, 1) := dk_9 (dk_at dksX0_wrongSeen_1 20 rfl rfl)
theorem dX0_wrongSeen_45 : decode cX0_wrongSeen 45 = .ok (.ldc2_w 370, 3) := dk_20 1 114 (dk_at dksX0_wrongSeen_1 21 rfl rfl)
theorem dX0_wrongSeen_48 : decode cX0_wrongSeen 48 = .ok (.invokestatic 147, 3) := dk_184 0 147 (dk_at dksX0_wrongSeen_2 0 rfl rfl)
theorem dX0_wrongSeen_51 : decode cX0_wrongSeen 51 = .ok (.ifCond .ne 5, 3) := dk_154 0 5 (dk_at dksX0_wrongSeen_2 3 rfl rfl)
theorem dX0_wrongSeen_54 : decode cX0_wrongSeen 54 = .ok (.iconst 5, 1) := dk_8 (dk_at dksX0_wrongSeen_2 6 rfl rfl)
theorem dX0_wrongSeen_55 : decode cX0_wrongSeen 55 = .ok (.ireturn, 1) := dk_172 (dk_at dksX0_wrongSeen_2 7 rfl rfl)
theorem dX0_wrongSeen_56 : decode cX0_wrongSeen 56 = .ok (.iconst 0, 1) := dk_3 (dk_at dksX0_wrongSeen_2 8 rfl rfl)
theorem dX0_wrongSeen_57 : decode cX0_wrongSeen 57 = .ok (.istore 4, 2) := dk_54 4 (dk_at dksX0_wrongSeen_2 9 rfl rfl)
theorem dX0_wrongSeen_59 : decode cX0_wrongSeen 59 = .ok (.iconst 0, 1) := dk_3 (dk_at dksX0_wrongSeen_2 11 rfl rfl)
theorem dX0_wrongSeen_60 : decode cX0_wrongSeen 60 = .ok (.istore 5, 2) := dk_54 5 (dk_at dksX0_wrongSeen_2 12 rfl rfl)
theorem dX0_wrongSeen_62 : decode cX0_wrongSeen 62 = .ok (.iload 5, 2) := dk_21 5 (dk_at dksX0_wrongSeen_2 14 rfl rfl)
theorem dX0_wrongSeen_64 : decode cX0_wrongSeen 64 = .ok (.iload_n 2, 1) := dk_28 (dk_at dksX0_wrongSeen_2 16 rfl rfl)
theorem dX0_wrongSeen_65 : decode cX0_wrongSeen 65 = .ok (.if_icmp .ge 71, 3) := dk_162 0 71 (dk_at dksX0_wrongSeen_2 17 rfl rfl)
theorem dX0_wrongSeen_68 : decode cX0_wrongSeen 68 = .ok (.aload_n 3, 1) := dk_45 (dk_at dksX0_wrongSeen_2 20 rfl rfl)
theorem dX0_wrongSeen_69 : decode cX0_wrongSeen 69 = .ok (.iconst 2, 1) := dk_5 (dk_at dksX0_wrongSeen_2 21 rfl rfl)
theorem dX0_wrongSeen_70 : decode cX0_wrongSeen 70 = .ok (.iload 5, 2) := dk_21 5 (dk_at dksX0_wrongSeen_2 22 rfl rfl)
theorem dX0_wrongSeen_72 : decode cX0_wrongSeen 72 = .ok (.imul, 1) := dk_104 (dk_at dksX0_wrongSeen_3 0 rfl rfl)
theorem dX0_wrongSeen_73 : decode cX0_wrongSeen 73 = .ok (.invokevirtual 117, 3) := dk_182 0 117 (dk_at dksX0_wrongSeen_3 1 rfl rfl)
theorem dX0_wrongSeen_76 : decode cX0_wrongSeen 76 = .ok (.lstore 6, 2) := dk_55 6 (dk_at dksX0_wrongSeen_3 4 rfl rfl)
theorem dX0_wrongSeen_78 : decode cX0_wrongSeen 78 = .ok (.aload_n 0, 1) := dk_42 (dk_at dksX0_wrongSeen_3 6 rfl rfl)
theorem dX0_wrongSeen_79 : decode cX0_wrongSeen 79 = .ok (.lload 6, 2) := dk_22 6 (dk_at dksX0_wrongSeen_3 7 rfl rfl)
theorem dX0_wrongSeen_81 : decode cX0_wrongSeen 81 = .ok (.invokevirtual 237, 3) := dk_182 0 237 (dk_at dksX0_wrongSeen_3 9 rfl rfl)
theorem dX0_wrongSeen_84 : decode cX0_wrongSeen 84 = .ok (.ifCond .eq 34, 3) := dk_153 0 34 (dk_at dksX0_wrongSeen_3 12 rfl rfl)
theorem dX0_wrongSeen_87 : decode cX0_wrongSeen 87 = .ok (.iload 4, 2) := dk_21 4 (dk_at dksX0_wrongSeen_3 15 rfl rfl)
theorem dX0_wrongSeen_89 : decode cX0_wrongSeen 89 = .ok (.lload 6, 2) := dk_22 6 (dk_at dksX0_wrongSeen_3 17 rfl rfl)
theorem dX0_wrongSeen_91 : decode cX0_wrongSeen 91 = .ok (.l2i, 1) := dk_136 (dk_at dksX0_wrongSeen_3 19 rfl rfl)
theorem dX0_wrongSeen_92 : decode cX0_wrongSeen 92 = .ok (.invokestatic 1, 3) := dk_184 0 1 (dk_at dksX0_wrongSeen_3 20 rfl rfl)
theorem dX0_wrongSeen_95 : decode cX0_wrongSeen 95 = .ok (.ifCond .ne 23, 3) := dk_154 0 23 (dk_at dksX0_wrongSeen_4 0 rfl rfl)
theorem dX0_wrongSeen_98 : decode cX0_wrongSeen 98 = .ok (.aload_n 3, 1) := dk_45 (dk_at dksX0_wrongSeen_4 3 rfl rfl)
theorem dX0_wrongSeen_99 : decode cX0_wrongSeen 99 = .ok (.iconst 2, 1) := dk_5 (dk_at dksX0_wrongSeen_4 4 rfl rfl)
theorem dX0_wrongSeen_100 : decode cX0_wrongSeen 100 = .ok (.iload 5, 2) := dk_21 5 (dk_at dksX0_wrongSeen_4 5 rfl rfl)
theorem dX0_wrongSeen_102 : decode cX0_wrongSeen 102 = .ok (.imul, 1) := dk_104 (dk_at dksX0_wrongSeen_4 7 rfl rfl)
theorem dX0_wrongSeen_103 : decode cX0_wrongSeen 103 = .ok (.iconst 1, 1) := dk_4 (dk_at dksX0_wrongSeen_4 8 rfl rfl)
theorem dX0_wrongSeen_104 : decode cX0_wrongSeen 104 = .ok (.iadd, 1) := dk_96 (dk_at dksX0_wrongSeen_4 9 rfl rfl)
theorem dX0_wrongSeen_105 : decode cX0_wrongSeen 105 = .ok (.invokevirtual 117, 3) := dk_182 0 117 (dk_at dksX0_wrongSeen_4 10 rfl rfl)
theorem dX0_wrongSeen_108 : decode cX0_wrongSeen 108 = .ok (.lconst 0, 1) := dk_9 (dk_at dksX0_wrongSeen_4 13 rfl rfl)
theorem dX0_wrongSeen_109 : decode cX0_wrongSeen 109 = .ok (.ldc2_w 372, 3) := dk_20 1 116 (dk_at dksX0_wrongSeen_4 14 rfl rfl)
theorem dX0_wrongSeen_112 : decode cX0_wrongSeen 112 = .ok (.invokestatic 147, 3) := dk_184 0 147 (dk_at dksX0_wrongSeen_4 17 rfl rfl)
theorem dX0_wrongSeen_115 : decode cX0_wrongSeen 115 = .ok (.ifCond .ne 5, 3) := dk_154 0 5 (dk_at dksX0_wrongSeen_4 20 rfl rfl)
theorem dX0_wrongSeen_118 : decode cX0_wrongSeen 118 = .ok (.iconst 5, 1) := dk_8 (dk_at dksX0_wrongSeen_4 23 rfl rfl)
theorem dX0_wrongSeen_119 : decode cX0_wrongSeen 119 = .ok (.ireturn, 1) := dk_172 (dk_at dksX0_wrongSeen_5 0 rfl rfl)
theorem dX0_wrongSeen_120 : decode cX0_wrongSeen 120 = .ok (.iload 4, 2) := dk_21 4 (dk_at dksX0_wrongSeen_5 1 rfl rfl)
theorem dX0_wrongSeen_122 : decode cX0_wrongSeen 122 = .ok (.iconst 1, 1) := dk_4 (dk_at dksX0_wrongSeen_5 3 rfl rfl)
theorem dX0_wrongSeen_123 : decode cX0_wrongSeen 123 = .ok (.lload 6, 2) := dk_22 6 (dk_at dksX0_wrongSeen_5 4 rfl rfl)
theorem dX0_wrongSeen_125 : decode cX0_wrongSeen 125 = .ok (.l2i, 1) := dk_136 (dk_at dksX0_wrongSeen_5 6 rfl rfl)
theorem dX0_wrongSeen_126 : decode cX0_wrongSeen 126 = .ok (.ishl, 1) := dk_120 (dk_at dksX0_wrongSeen_5 7 rfl rfl)
theorem dX0_wrongSeen_127 : decode cX0_wrongSeen 127 = .ok (.ior, 1) := dk_128 (dk_at dksX0_wrongSeen_5 8 rfl rfl)
theorem dX0_wrongSeen_128 : decode cX0_wrongSeen 128 = .ok (.istore 4, 2) := dk_54 4 (dk_at dksX0_wrongSeen_5 9 rfl rfl)
theorem dX0_wrongSeen_130 : decode cX0_wrongSeen 130 = .ok (.iinc 5 1, 3) := dk_132 5 1 (dk_at dksX0_wrongSeen_5 11 rfl rfl)
theorem dX0_wrongSeen_133 : decode cX0_wrongSeen 133 = .ok (.goto (-71), 3) := dk_167 255 185 (dk_at dksX0_wrongSeen_5 14 rfl rfl)
theorem dX0_wrongSeen_136 : decode cX0_wrongSeen 136 = .ok (.iconst 0, 1) := dk_3 (dk_at dksX0_wrongSeen_5 17 rfl rfl)
theorem dX0_wrongSeen_137 : decode cX0_wrongSeen 137 = .ok (.ireturn, 1) := dk_172 (dk_at dksX0_wrongSeen_5 18 rfl rfl)
abbrev cX0_seenMany : ByteArray := prog_1_method_73_code
def yX0_seenMany : MethodName := ⟨RX0, "seenMany", "(II)I"⟩
def dkwX0_seenMany_1 : List UInt8 := [28, 182, 1, 118, 153, 0, 7, 4, 167, 0, 4, 3, 96, 62, 132, 4, 1, 167, 255, 220, 29, 172]
abbrev dktX0_seenMany_1 : List UInt8 := dkwX0_seenMany_1 ++ []
def dkwX0_seenMany_0 : List UInt8 := [3, 62, 3, 54, 4, 21, 4, 4, 42, 180, 0, 34, 180, 0, 138, 120, 162, 0, 28, 29, 42, 21, 4, 27]
abbrev dktX0_seenMany_0 : List UInt8 := dkwX0_seenMany_0 ++ dktX0_seenMany_1
theorem dksX0_seenMany_0 : cX0_seenMany.data.toList.drop 0 = dktX0_seenMany_0 := by decide +kernel
theorem dksX0_seenMany_1 : cX0_seenMany.data.toList.drop 24 = dktX0_seenMany_1 := dk_seg dksX0_seenMany_0 24 rfl rfl
theorem dX0_seenMany_0 : decode cX0_seenMany 0 = .ok (.iconst 0, 1) := dk_3 (dk_at dksX0_seenMany_0 0 rfl rfl)
theorem dX0_seenMany_1 : decode cX0_seenMany 1 = .ok (.istore_n 3, 1) := dk_62 (dk_at dksX0_seenMany_0 1 rfl rfl)
theorem dX0_seenMany_2 : decode cX0_seenMany 2 = .ok (.iconst 0, 1) := dk_3 (dk_at dksX0_seenMany_0 2 rfl rfl)
theorem dX0_seenMany_3 : decode cX0_seenMany 3 = .ok (.istore 4, 2) := dk_54 4 (dk_at dksX0_seenMany_0 3 rfl rfl)
theorem dX0_seenMany_5 : decode cX0_seenMany 5 = .ok (.iload 4, 2) := dk_21 4 (dk_at dksX0_seenMany_0 5 rfl rfl)
theorem dX0_seenMany_7 : decode cX0_seenMany 7 = .ok (.iconst 1, 1) := dk_4 (dk_at dksX0_seenMany_0 7 rfl rfl)
theorem dX0_seenMany_8 : decode cX0_seenMany 8 = .ok (.aload_n 0, 1) := dk_42 (dk_at dksX0_seenMany_0 8 rfl rfl)
theorem dX0_seenMany_9 : decode cX0_seenMany 9 = .ok (.getfield 34, 3) := dk_180 0 34 (dk_at dksX0_seenMany_0 9 rfl rfl)
theorem dX0_seenMany_12 : decode cX0_seenMany 12 = .ok (.getfield 138, 3) := dk_180 0 138 (dk_at dksX0_seenMany_0 12 rfl rfl)
theorem dX0_seenMany_15 : decode cX0_seenMany 15 = .ok (.ishl, 1) := dk_120 (dk_at dksX0_seenMany_0 15 rfl rfl)
theorem dX0_seenMany_16 : decode cX0_seenMany 16 = .ok (.if_icmp .ge 28, 3) := dk_162 0 28 (dk_at dksX0_seenMany_0 16 rfl rfl)
theorem dX0_seenMany_19 : decode cX0_seenMany 19 = .ok (.iload_n 3, 1) := dk_29 (dk_at dksX0_seenMany_0 19 rfl rfl)
theorem dX0_seenMany_20 : decode cX0_seenMany 20 = .ok (.aload_n 0, 1) := dk_42 (dk_at dksX0_seenMany_0 20 rfl rfl)
theorem dX0_seenMany_21 : decode cX0_seenMany 21 = .ok (.iload 4, 2) := dk_21 4 (dk_at dksX0_seenMany_0 21 rfl rfl)
theorem dX0_seenMany_23 : decode cX0_seenMany 23 = .ok (.iload_n 1, 1) := dk_27 (dk_at dksX0_seenMany_0 23 rfl rfl)
theorem dX0_seenMany_24 : decode cX0_seenMany 24 = .ok (.iload_n 2, 1) := dk_28 (dk_at dksX0_seenMany_1 0 rfl rfl)
theorem dX0_seenMany_25 : decode cX0_seenMany 25 = .ok (.invokevirtual 374, 3) := dk_182 1 118 (dk_at dksX0_seenMany_1 1 rfl rfl)
theorem dX0_seenMany_28 : decode cX0_seenMany 28 = .ok (.ifCond .eq 7, 3) := dk_153 0 7 (dk_at dksX0_seenMany_1 4 rfl rfl)
theorem dX0_seenMany_31 : decode cX0_seenMany 31 = .ok (.iconst 1, 1) := dk_4 (dk_at dksX0_seenMany_1 7 rfl rfl)
theorem dX0_seenMany_32 : decode cX0_seenMany 32 = .ok (.goto 4, 3) := dk_167 0 4 (dk_at dksX0_seenMany_1 8 rfl rfl)
theorem dX0_seenMany_35 : decode cX0_seenMany 35 = .ok (.iconst 0, 1) := dk_3 (dk_at dksX0_seenMany_1 11 rfl rfl)
theorem dX0_seenMany_36 : decode cX0_seenMany 36 = .ok (.iadd, 1) := dk_96 (dk_at dksX0_seenMany_1 12 rfl rfl)
theorem dX0_seenMany_37 : decode cX0_seenMany 37 = .ok (.istore_n 3, 1) := dk_62 (dk_at dksX0_seenMany_1 13 rfl rfl)
theorem dX0_seenMany_38 : decode cX0_seenMany 38 = .ok (.iinc 4 1, 3) := dk_132 4 1 (dk_at dksX0_seenMany_1 14 rfl rfl)
theorem dX0_seenMany_41 : decode cX0_seenMany 41 = .ok (.goto (-36), 3) := dk_167 255 220 (dk_at dksX0_seenMany_1 17 rfl rfl)
theorem dX0_seenMany_44 : decode cX0_seenMany 44 = .ok (.iload_n 3, 1) := dk_29 (dk_at dksX0_seenMany_1 20 rfl rfl)
theorem dX0_seenMany_45 : decode cX0_seenMany 45 = .ok (.ireturn, 1) := dk_172 (dk_at dksX0_seenMany_1 21 rfl rfl)
abbrev cX0_isSeen : ByteArray := prog_1_method_72_code
def yX0_isSeen : MethodName := ⟨RX0, "isSeen", "(III)Z"⟩
def dkwX0_isSeen_2 : List UInt8 := [5, 21, 5, 104, 4, 96, 182, 0, 117, 148, 153, 0, 5, 3, 172, 132, 5, 1, 167, 255, 203, 4, 172]
abbrev dktX0_isSeen_2 : List UInt8 := dkwX0_isSeen_2 ++ []
def dkwX0_isSeen_1 : List UInt8 := [180, 0, 241, 25, 4, 5, 21, 5, 104, 182, 0, 117, 136, 50, 180, 0, 245, 126, 184, 1, 96, 133, 25, 4]
abbrev dktX0_isSeen_1 : List UInt8 := dkwX0_isSeen_1 ++ dktX0_isSeen_2
def dkwX0_isSeen_0 : List UInt8 := [42, 180, 0, 15, 28, 50, 58, 4, 3, 54, 5, 21, 5, 29, 162, 0, 53, 27, 42, 180, 0, 34]
abbrev dktX0_isSeen_0 : List UInt8 := dkwX0_isSeen_0 ++ dktX0_isSeen_1
theorem dksX0_isSeen_0 : cX0_isSeen.data.toList.drop 0 = dktX0_isSeen_0 := by decide +kernel
theorem dksX0_isSeen_1 : cX0_isSeen.data.toList.drop 22 = dktX0_isSeen_1 := dk_seg dksX0_isSeen_0 22 rfl rfl
theorem dksX0_isSeen_2 : cX0_isSeen.data.toList.drop 46 = dktX0_isSeen_2 := dk_seg dksX0_isSeen_1 24 rfl rfl
theorem dX0_isSeen_0 : decode cX0_isSeen 0 = .ok (.aload_n 0, 1) := dk_42 (dk_at dksX0_isSeen_0 0 rfl rfl)
theorem dX0_isSeen_1 : decode cX0_isSeen 1 = .ok (.getfield 15, 3) := dk_180 0 15 (dk_at dksX0_isSeen_0 1 rfl rfl)
theorem dX0_isSeen_4 : decode cX0_isSeen 4 = .ok (.iload_n 2, 1) := dk_28 (dk_at dksX0_isSeen_0 4 rfl rfl)
theorem dX0_isSeen_5 : decode cX0_isSeen 5 = .ok (.aaload, 1) := dk_50 (dk_at dksX0_isSeen_0 5 rfl rfl)
theorem dX0_isSeen_6 : decode cX0_isSeen 6 = .ok (.astore 4, 2) := dk_58 4 (dk_at dksX0_isSeen_0 6 rfl rfl)
theorem dX0_isSeen_8 : decode cX0_isSeen 8 = .ok (.iconst 0, 1) := dk_3 (dk_at dksX0_isSeen_0 8 rfl rfl)
theorem dX0_isSeen_9 : decode cX0_isSeen 9 = .ok (.istore 5, 2) := dk_54 5 (dk_at dksX0_isSeen_0 9 rfl rfl)
theorem dX0_isSeen_11 : decode cX0_isSeen 11 = .ok (.iload 5, 2) := dk_21 5 (dk_at dksX0_isSeen_0 11 rfl rfl)
theorem dX0_isSeen_13 : decode cX0_isSeen 13 = .ok (.iload_n 3, 1) := dk_29 (dk_at dksX0_isSeen_0 13 rfl rfl)
theorem dX0_isSeen_14 : decode cX0_isSeen 14 = .ok (.if_icmp .ge 53, 3) := dk_162 0 53 (dk_at dksX0_isSeen_0 14 rfl rfl)
theorem dX0_isSeen_17 : decode cX0_isSeen 17 = .ok (.iload_n 1, 1) := dk_27 (dk_at dksX0_isSeen_0 17 rfl rfl)
theorem dX0_isSeen_18 : decode cX0_isSeen 18 = .ok (.aload_n 0, 1) := dk_42 (dk_at dksX0_isSeen_0 18 rfl rfl)
theorem dX0_isSeen_19 : decode cX0_isSeen 19 = .ok (.getfield 34, 3) := dk_180 0 34 (dk_at dksX0_isSeen_0 19 rfl rfl)
theorem dX0_isSeen_22 : decode cX0_isSeen 22 = .ok (.getfield 241, 3) := dk_180 0 241 (dk_at dksX0_isSeen_1 0 rfl rfl)
theorem dX0_isSeen_25 : decode cX0_isSeen 25 = .ok (.aload 4, 2) := dk_25 4 (dk_at dksX0_isSeen_1 3 rfl rfl)
theorem dX0_isSeen_27 : decode cX0_isSeen 27 = .ok (.iconst 2, 1) := dk_5 (dk_at dksX0_isSeen_1 5 rfl rfl)
theorem dX0_isSeen_28 : decode cX0_isSeen 28 = .ok (.iload 5, 2) := dk_21 5 (dk_at dksX0_isSeen_1 6 rfl rfl)
theorem dX0_isSeen_30 : decode cX0_isSeen 30 = .ok (.imul, 1) := dk_104 (dk_at dksX0_isSeen_1 8 rfl rfl)
theorem dX0_isSeen_31 : decode cX0_isSeen 31 = .ok (.invokevirtual 117, 3) := dk_182 0 117 (dk_at dksX0_isSeen_1 9 rfl rfl)
theorem dX0_isSeen_34 : decode cX0_isSeen 34 = .ok (.l2i, 1) := dk_136 (dk_at dksX0_isSeen_1 12 rfl rfl)
theorem dX0_isSeen_35 : decode cX0_isSeen 35 = .ok (.aaload, 1) := dk_50 (dk_at dksX0_isSeen_1 13 rfl rfl)
theorem dX0_isSeen_36 : decode cX0_isSeen 36 = .ok (.getfield 245, 3) := dk_180 0 245 (dk_at dksX0_isSeen_1 14 rfl rfl)
theorem dX0_isSeen_39 : decode cX0_isSeen 39 = .ok (.iand, 1) := dk_126 (dk_at dksX0_isSeen_1 17 rfl rfl)
theorem dX0_isSeen_40 : decode cX0_isSeen 40 = .ok (.invokestatic 352, 3) := dk_184 1 96 (dk_at dksX0_isSeen_1 18 rfl rfl)
theorem dX0_isSeen_43 : decode cX0_isSeen 43 = .ok (.i2l, 1) := dk_133 (dk_at dksX0_isSeen_1 21 rfl rfl)
theorem dX0_isSeen_44 : decode cX0_isSeen 44 = .ok (.aload 4, 2) := dk_25 4 (dk_at dksX0_isSeen_1 22 rfl rfl)
theorem dX0_isSeen_46 : decode cX0_isSeen 46 = .ok (.iconst 2, 1) := dk_5 (dk_at dksX0_isSeen_2 0 rfl rfl)
theorem dX0_isSeen_47 : decode cX0_isSeen 47 = .ok (.iload 5, 2) := dk_21 5 (dk_at dksX0_isSeen_2 1 rfl rfl)
theorem dX0_isSeen_49 : decode cX0_isSeen 49 = .ok (.imul, 1) := dk_104 (dk_at dksX0_isSeen_2 3 rfl rfl)
theorem dX0_isSeen_50 : decode cX0_isSeen 50 = .ok (.iconst 1, 1) := dk_4 (dk_at dksX0_isSeen_2 4 rfl rfl)
theorem dX0_isSeen_51 : decode cX0_isSeen 51 = .ok (.iadd, 1) := dk_96 (dk_at dksX0_isSeen_2 5 rfl rfl)
theorem dX0_isSeen_52 : decode cX0_isSeen 52 = .ok (.invokevirtual 117, 3) := dk_182 0 117 (dk_at dksX0_isSeen_2 6 rfl rfl)
theorem dX0_isSeen_55 : decode cX0_isSeen 55 = .ok (.lcmp, 1) := dk_148 (dk_at dksX0_isSeen_2 9 rfl rfl)
theorem dX0_isSeen_56 : decode cX0_isSeen 56 = .ok (.ifCond .eq 5, 3) := dk_153 0 5 (dk_at dksX0_isSeen_2 10 rfl rfl)
theorem dX0_isSeen_59 : decode cX0_isSeen 59 = .ok (.iconst 0, 1) := dk_3 (dk_at dksX0_isSeen_2 13 rfl rfl)
theorem dX0_isSeen_60 : decode cX0_isSeen 60 = .ok (.ireturn, 1) := dk_172 (dk_at dksX0_isSeen_2 14 rfl rfl)
theorem dX0_isSeen_61 : decode cX0_isSeen 61 = .ok (.iinc 5 1, 3) := dk_132 5 1 (dk_at dksX0_isSeen_2 15 rfl rfl)
theorem dX0_isSeen_64 : decode cX0_isSeen 64 = .ok (.goto (-53), 3) := dk_167 255 203 (dk_at dksX0_isSeen_2 18 rfl rfl)
theorem dX0_isSeen_67 : decode cX0_isSeen 67 = .ok (.iconst 1, 1) := dk_4 (dk_at dksX0_isSeen_2 21 rfl rfl)
theorem dX0_isSeen_68 : decode cX0_isSeen 68 = .ok (.ireturn, 1) := dk_172 (dk_at dksX0_isSeen_2 22 rfl rfl)
abbrev cX0_sure : ByteArray := prog_1_method_75_code
def yX0_sure : MethodName := ⟨RX0, "sure", "(II)I"⟩
def dkwX0_sure_3 : List UInt8 := [167, 255, 210, 42, 21, 4, 182, 1, 9, 172]
abbrev dktX0_sure_3 : List UInt8 := dkwX0_sure_3 ++ []
def dkwX0_sure_2 : List UInt8 := [153, 0, 21, 21, 4, 2, 160, 0, 8, 21, 5, 167, 0, 8, 21, 4, 21, 5, 126, 54, 4, 132, 5, 1]
abbrev dktX0_sure_2 : List UInt8 := dkwX0_sure_2 ++ dktX0_sure_3
def dkwX0_sure_1 : List UInt8 := [21, 5, 4, 42, 180, 0, 34, 180, 0, 138, 120, 162, 0, 38, 42, 21, 5, 27, 28, 182, 1, 118]
abbrev dktX0_sure_1 : List UInt8 := dkwX0_sure_1 ++ dktX0_sure_2
def dkwX0_sure_0 : List UInt8 := [42, 27, 28, 182, 1, 122, 62, 29, 158, 0, 9, 42, 29, 182, 0, 89, 172, 2, 54, 4, 3, 54, 5]
abbrev dktX0_sure_0 : List UInt8 := dkwX0_sure_0 ++ dktX0_sure_1
theorem dksX0_sure_0 : cX0_sure.data.toList.drop 0 = dktX0_sure_0 := by decide +kernel
theorem dksX0_sure_1 : cX0_sure.data.toList.drop 23 = dktX0_sure_1 := dk_seg dksX0_sure_0 23 rfl rfl
theorem dksX0_sure_2 : cX0_sure.data.toList.drop 45 = dktX0_sure_2 := dk_seg dksX0_sure_1 22 rfl rfl
theorem dksX0_sure_3 : cX0_sure.data.toList.drop 69 = dktX0_sure_3 := dk_seg dksX0_sure_2 24 rfl rfl
theorem dX0_sure_0 : decode cX0_sure 0 = .ok (.aload_n 0, 1) := dk_42 (dk_at dksX0_sure_0 0 rfl rfl)
theorem dX0_sure_1 : decode cX0_sure 1 = .ok (.iload_n 1, 1) := dk_27 (dk_at dksX0_sure_0 1 rfl rfl)
theorem dX0_sure_2 : decode cX0_sure 2 = .ok (.iload_n 2, 1) := dk_28 (dk_at dksX0_sure_0 2 rfl rfl)
theorem dX0_sure_3 : decode cX0_sure 3 = .ok (.invokevirtual 378, 3) := dk_182 1 122 (dk_at dksX0_sure_0 3 rfl rfl)
theorem dX0_sure_6 : decode cX0_sure 6 = .ok (.istore_n 3, 1) := dk_62 (dk_at dksX0_sure_0 6 rfl rfl)
theorem dX0_sure_7 : decode cX0_sure 7 = .ok (.iload_n 3, 1) := dk_29 (dk_at dksX0_sure_0 7 rfl rfl)
theorem dX0_sure_8 : decode cX0_sure 8 = .ok (.ifCond .le 9, 3) := dk_158 0 9 (dk_at dksX0_sure_0 8 rfl rfl)
theorem dX0_sure_11 : decode cX0_sure 11 = .ok (.aload_n 0, 1) := dk_42 (dk_at dksX0_sure_0 11 rfl rfl)
theorem dX0_sure_12 : decode cX0_sure 12 = .ok (.iload_n 3, 1) := dk_29 (dk_at dksX0_sure_0 12 rfl rfl)
theorem dX0_sure_13 : decode cX0_sure 13 = .ok (.invokevirtual 89, 3) := dk_182 0 89 (dk_at dksX0_sure_0 13 rfl rfl)
theorem dX0_sure_16 : decode cX0_sure 16 = .ok (.ireturn, 1) := dk_172 (dk_at dksX0_sure_0 16 rfl rfl)
theorem dX0_sure_17 : decode cX0_sure 17 = .ok (.iconst (-1), 1) := dk_2 (dk_at dksX0_sure_0 17 rfl rfl)
theorem dX0_sure_18 : decode cX0_sure 18 = .ok (.istore 4, 2) := dk_54 4 (dk_at dksX0_sure_0 18 rfl rfl)
theorem dX0_sure_20 : decode cX0_sure 20 = .ok (.iconst 0, 1) := dk_3 (dk_at dksX0_sure_0 20 rfl rfl)
theorem dX0_sure_21 : decode cX0_sure 21 = .ok (.istore 5, 2) := dk_54 5 (dk_at dksX0_sure_0 21 rfl rfl)
theorem dX0_sure_23 : decode cX0_sure 23 = .ok (.iload 5, 2) := dk_21 5 (dk_at dksX0_sure_1 0 rfl rfl)
theorem dX0_sure_25 : decode cX0_sure 25 = .ok (.iconst 1, 1) := dk_4 (dk_at dksX0_sure_1 2 rfl rfl)
theorem dX0_sure_26 : decode cX0_sure 26 = .ok (.aload_n 0, 1) := dk_42 (dk_at dksX0_sure_1 3 rfl rfl)
theorem dX0_sure_27 : decode cX0_sure 27 = .ok (.getfield 34, 3) := dk_180 0 34 (dk_at dksX0_sure_1 4 rfl rfl)
theorem dX0_sure_30 : decode cX0_sure 30 = .ok (.getfield 138, 3) := dk_180 0 138 (dk_at dksX0_sure_1 7 rfl rfl)
theorem dX0_sure_33 : decode cX0_sure 33 = .ok (.ishl, 1) := dk_120 (dk_at dksX0_sure_1 10 rfl rfl)
theorem dX0_sure_34 : decode cX0_sure 34 = .ok (.if_icmp .ge 38, 3) := dk_162 0 38 (dk_at dksX0_sure_1 11 rfl rfl)
theorem dX0_sure_37 : decode cX0_sure 37 = .ok (.aload_n 0, 1) := dk_42 (dk_at dksX0_sure_1 14 rfl rfl)
theorem dX0_sure_38 : decode cX0_sure 38 = .ok (.iload 5, 2) := dk_21 5 (dk_at dksX0_sure_1 15 rfl rfl)
theorem dX0_sure_40 : decode cX0_sure 40 = .ok (.iload_n 1, 1) := dk_27 (dk_at dksX0_sure_1 17 rfl rfl)
theorem dX0_sure_41 : decode cX0_sure 41 = .ok (.iload_n 2, 1) := dk_28 (dk_at dksX0_sure_1 18 rfl rfl)
theorem dX0_sure_42 : decode cX0_sure 42 = .ok (.invokevirtual 374, 3) := dk_182 1 118 (dk_at dksX0_sure_1 19 rfl rfl)
theorem dX0_sure_45 : decode cX0_sure 45 = .ok (.ifCond .eq 21, 3) := dk_153 0 21 (dk_at dksX0_sure_2 0 rfl rfl)
theorem dX0_sure_48 : decode cX0_sure 48 = .ok (.iload 4, 2) := dk_21 4 (dk_at dksX0_sure_2 3 rfl rfl)
theorem dX0_sure_50 : decode cX0_sure 50 = .ok (.iconst (-1), 1) := dk_2 (dk_at dksX0_sure_2 5 rfl rfl)
theorem dX0_sure_51 : decode cX0_sure 51 = .ok (.if_icmp .ne 8, 3) := dk_160 0 8 (dk_at dksX0_sure_2 6 rfl rfl)
theorem dX0_sure_54 : decode cX0_sure 54 = .ok (.iload 5, 2) := dk_21 5 (dk_at dksX0_sure_2 9 rfl rfl)
theorem dX0_sure_56 : decode cX0_sure 56 = .ok (.goto 8, 3) := dk_167 0 8 (dk_at dksX0_sure_2 11 rfl rfl)
theorem dX0_sure_59 : decode cX0_sure 59 = .ok (.iload 4, 2) := dk_21 4 (dk_at dksX0_sure_2 14 rfl rfl)
theorem dX0_sure_61 : decode cX0_sure 61 = .ok (.iload 5, 2) := dk_21 5 (dk_at dksX0_sure_2 16 rfl rfl)
theorem dX0_sure_63 : decode cX0_sure 63 = .ok (.iand, 1) := dk_126 (dk_at dksX0_sure_2 18 rfl rfl)
theorem dX0_sure_64 : decode cX0_sure 64 = .ok (.istore 4, 2) := dk_54 4 (dk_at dksX0_sure_2 19 rfl rfl)
theorem dX0_sure_66 : decode cX0_sure 66 = .ok (.iinc 5 1, 3) := dk_132 5 1 (dk_at dksX0_sure_2 21 rfl rfl)
theorem dX0_sure_69 : decode cX0_sure 69 = .ok (.goto (-46), 3) := dk_167 255 210 (dk_at dksX0_sure_3 0 rfl rfl)
theorem dX0_sure_72 : decode cX0_sure 72 = .ok (.aload_n 0, 1) := dk_42 (dk_at dksX0_sure_3 3 rfl rfl)
theorem dX0_sure_73 : decode cX0_sure 73 = .ok (.iload 4, 2) := dk_21 4 (dk_at dksX0_sure_3 4 rfl rfl)
theorem dX0_sure_75 : decode cX0_sure 75 = .ok (.invokevirtual 265, 3) := dk_182 1 9 (dk_at dksX0_sure_3 6 rfl rfl)
theorem dX0_sure_78 : decode cX0_sure 78 = .ok (.ireturn, 1) := dk_172 (dk_at dksX0_sure_3 9 rfl rfl)
abbrev cX0_ask : ByteArray := prog_1_method_77_code
def yX0_ask : MethodName := ⟨RX0, "ask", "(II)I"⟩
def dkwX0_ask_6 : List UInt8 := [42, 21, 5, 182, 1, 9, 172]
abbrev dktX0_ask_6 : List UInt8 := dkwX0_ask_6 ++ []
def dkwX0_ask_5 : List UInt8 := [182, 1, 128, 42, 21, 5, 27, 28, 182, 1, 128, 162, 0, 7, 21, 6, 54, 5, 132, 6, 1, 167, 255, 199]
abbrev dktX0_ask_5 : List UInt8 := dkwX0_ask_5 ++ dktX0_ask_6
def dkwX0_ask_4 : List UInt8 := [21, 6, 184, 0, 1, 153, 0, 6, 167, 0, 32, 21, 5, 2, 159, 0, 22, 42, 21, 6, 27, 28]
abbrev dktX0_ask_4 : List UInt8 := dkwX0_ask_4 ++ dktX0_ask_5
def dkwX0_ask_3 : List UInt8 := [167, 255, 226, 2, 54, 5, 3, 54, 6, 21, 6, 42, 180, 0, 34, 180, 0, 141, 162, 0, 51, 21, 4]
abbrev dktX0_ask_3 : List UInt8 := dkwX0_ask_3 ++ dktX0_ask_4
def dkwX0_ask_2 : List UInt8 := [4, 42, 180, 0, 15, 27, 50, 5, 21, 5, 104, 182, 0, 117, 136, 120, 128, 54, 4, 132, 5, 1]
abbrev dktX0_ask_2 : List UInt8 := dkwX0_ask_2 ++ dktX0_ask_3
def dkwX0_ask_1 : List UInt8 := [162, 0, 10, 42, 16, 8, 182, 0, 89, 172, 3, 54, 4, 3, 54, 5, 21, 5, 28, 162, 0, 30, 21, 4]
abbrev dktX0_ask_1 : List UInt8 := dkwX0_ask_1 ++ dktX0_ask_2
def dkwX0_ask_0 : List UInt8 := [42, 27, 28, 182, 1, 122, 62, 29, 158, 0, 9, 42, 29, 182, 0, 89, 172, 42, 27, 28, 182, 1, 125, 5]
abbrev dktX0_ask_0 : List UInt8 := dkwX0_ask_0 ++ dktX0_ask_1
theorem dksX0_ask_0 : cX0_ask.data.toList.drop 0 = dktX0_ask_0 := by decide +kernel
theorem dksX0_ask_1 : cX0_ask.data.toList.drop 24 = dktX0_ask_1 := dk_seg dksX0_ask_0 24 rfl rfl
theorem dksX0_ask_2 : cX0_ask.data.toList.drop 48 = dktX0_ask_2 := dk_seg dksX0_ask_1 24 rfl rfl
theorem dksX0_ask_3 : cX0_ask.data.toList.drop 70 = dktX0_ask_3 := dk_seg dksX0_ask_2 22 rfl rfl
theorem dksX0_ask_4 : cX0_ask.data.toList.drop 93 = dktX0_ask_4 := dk_seg dksX0_ask_3 23 rfl rfl
theorem dksX0_ask_5 : cX0_ask.data.toList.drop 115 = dktX0_ask_5 := dk_seg dksX0_ask_4 22 rfl rfl
theorem dksX0_ask_6 : cX0_ask.data.toList.drop 139 = dktX0_ask_6 := dk_seg dksX0_ask_5 24 rfl rfl
theorem dX0_ask_0 : decode cX0_ask 0 = .ok (.aload_n 0, 1) := dk_42 (dk_at dksX0_ask_0 0 rfl rfl)
theorem dX0_ask_1 : decode cX0_ask 1 = .ok (.iload_n 1, 1) := dk_27 (dk_at dksX0_ask_0 1 rfl rfl)
theorem dX0_ask_2 : decode cX0_ask 2 = .ok (.iload_n 2, 1) := dk_28 (dk_at dksX0_ask_0 2 rfl rfl)
theorem dX0_ask_3 : decode cX0_ask 3 = .ok (.invokevirtual 378, 3) := dk_182 1 122 (dk_at dksX0_ask_0 3 rfl rfl)
theorem dX0_ask_6 : decode cX0_ask 6 = .ok (.istore_n 3, 1) := dk_62 (dk_at dksX0_ask_0 6 rfl rfl)
theorem dX0_ask_7 : decode cX0_ask 7 = .ok (.iload_n 3, 1) := dk_29 (dk_at dksX0_ask_0 7 rfl rfl)
theorem dX0_ask_8 : decode cX0_ask 8 = .ok (.ifCond .le 9, 3) := dk_158 0 9 (dk_at dksX0_ask_0 8 rfl rfl)
theorem dX0_ask_11 : decode cX0_ask 11 = .ok (.aload_n 0, 1) := dk_42 (dk_at dksX0_ask_0 11 rfl rfl)
theorem dX0_ask_12 : decode cX0_ask 12 = .ok (.iload_n 3, 1) := dk_29 (dk_at dksX0_ask_0 12 rfl rfl)
theorem dX0_ask_13 : decode cX0_ask 13 = .ok (.invokevirtual 89, 3) := dk_182 0 89 (dk_at dksX0_ask_0 13 rfl rfl)
theorem dX0_ask_16 : decode cX0_ask 16 = .ok (.ireturn, 1) := dk_172 (dk_at dksX0_ask_0 16 rfl rfl)
theorem dX0_ask_17 : decode cX0_ask 17 = .ok (.aload_n 0, 1) := dk_42 (dk_at dksX0_ask_0 17 rfl rfl)
theorem dX0_ask_18 : decode cX0_ask 18 = .ok (.iload_n 1, 1) := dk_27 (dk_at dksX0_ask_0 18 rfl rfl)
theorem dX0_ask_19 : decode cX0_ask 19 = .ok (.iload_n 2, 1) := dk_28 (dk_at dksX0_ask_0 19 rfl rfl)
theorem dX0_ask_20 : decode cX0_ask 20 = .ok (.invokevirtual 381, 3) := dk_182 1 125 (dk_at dksX0_ask_0 20 rfl rfl)
theorem dX0_ask_23 : decode cX0_ask 23 = .ok (.iconst 2, 1) := dk_5 (dk_at dksX0_ask_0 23 rfl rfl)
theorem dX0_ask_24 : decode cX0_ask 24 = .ok (.if_icmp .ge 10, 3) := dk_162 0 10 (dk_at dksX0_ask_1 0 rfl rfl)
theorem dX0_ask_27 : decode cX0_ask 27 = .ok (.aload_n 0, 1) := dk_42 (dk_at dksX0_ask_1 3 rfl rfl)
theorem dX0_ask_28 : decode cX0_ask 28 = .ok (.bipush 8, 2) := dk_16 8 (dk_at dksX0_ask_1 4 rfl rfl)
theorem dX0_ask_30 : decode cX0_ask 30 = .ok (.invokevirtual 89, 3) := dk_182 0 89 (dk_at dksX0_ask_1 6 rfl rfl)
theorem dX0_ask_33 : decode cX0_ask 33 = .ok (.ireturn, 1) := dk_172 (dk_at dksX0_ask_1 9 rfl rfl)
theorem dX0_ask_34 : decode cX0_ask 34 = .ok (.iconst 0, 1) := dk_3 (dk_at dksX0_ask_1 10 rfl rfl)
theorem dX0_ask_35 : decode cX0_ask 35 = .ok (.istore 4, 2) := dk_54 4 (dk_at dksX0_ask_1 11 rfl rfl)
theorem dX0_ask_37 : decode cX0_ask 37 = .ok (.iconst 0, 1) := dk_3 (dk_at dksX0_ask_1 13 rfl rfl)
theorem dX0_ask_38 : decode cX0_ask 38 = .ok (.istore 5, 2) := dk_54 5 (dk_at dksX0_ask_1 14 rfl rfl)
theorem dX0_ask_40 : decode cX0_ask 40 = .ok (.iload 5, 2) := dk_21 5 (dk_at dksX0_ask_1 16 rfl rfl)
theorem dX0_ask_42 : decode cX0_ask 42 = .ok (.iload_n 2, 1) := dk_28 (dk_at dksX0_ask_1 18 rfl rfl)
theorem dX0_ask_43 : decode cX0_ask 43 = .ok (.if_icmp .ge 30, 3) := dk_162 0 30 (dk_at dksX0_ask_1 19 rfl rfl)
theorem dX0_ask_46 : decode cX0_ask 46 = .ok (.iload 4, 2) := dk_21 4 (dk_at dksX0_ask_1 22 rfl rfl)
theorem dX0_ask_48 : decode cX0_ask 48 = .ok (.iconst 1, 1) := dk_4 (dk_at dksX0_ask_2 0 rfl rfl)
theorem dX0_ask_49 : decode cX0_ask 49 = .ok (.aload_n 0, 1) := dk_42 (dk_at dksX0_ask_2 1 rfl rfl)
theorem dX0_ask_50 : decode cX0_ask 50 = .ok (.getfield 15, 3) := dk_180 0 15 (dk_at dksX0_ask_2 2 rfl rfl)
theorem dX0_ask_53 : decode cX0_ask 53 = .ok (.iload_n 1, 1) := dk_27 (dk_at dksX0_ask_2 5 rfl rfl)
theorem dX0_ask_54 : decode cX0_ask 54 = .ok (.aaload, 1) := dk_50 (dk_at dksX0_ask_2 6 rfl rfl)
theorem dX0_ask_55 : decode cX0_ask 55 = .ok (.iconst 2, 1) := dk_5 (dk_at dksX0_ask_2 7 rfl rfl)
theorem dX0_ask_56 : decode cX0_ask 56 = .ok (.iload 5, 2) := dk_21 5 (dk_at dksX0_ask_2 8 rfl rfl)
theorem dX0_ask_58 : decode cX0_ask 58 = .ok (.imul, 1) := dk_104 (dk_at dksX0_ask_2 10 rfl rfl)
theorem dX0_ask_59 : decode cX0_ask 59 = .ok (.invokevirtual 117, 3) := dk_182 0 117 (dk_at dksX0_ask_2 11 rfl rfl)
theorem dX0_ask_62 : decode cX0_ask 62 = .ok (.l2i, 1) := dk_136 (dk_at dksX0_ask_2 14 rfl rfl)
theorem dX0_ask_63 : decode cX0_ask 63 = .ok (.ishl, 1) := dk_120 (dk_at dksX0_ask_2 15 rfl rfl)
theorem dX0_ask_64 : decode cX0_ask 64 = .ok (.ior, 1) := dk_128 (dk_at dksX0_ask_2 16 rfl rfl)
theorem dX0_ask_65 : decode cX0_ask 65 = .ok (.istore 4, 2) := dk_54 4 (dk_at dksX0_ask_2 17 rfl rfl)
theorem dX0_ask_67 : decode cX0_ask 67 = .ok (.iinc 5 1, 3) := dk_132 5 1 (dk_at dksX0_ask_2 19 rfl rfl)
theorem dX0_ask_70 : decode cX0_ask 70 = .ok (.goto (-30), 3) := dk_167 255 226 (dk_at dksX0_ask_3 0 rfl rfl)
theorem dX0_ask_73 : decode cX0_ask 73 = .ok (.iconst (-1), 1) := dk_2 (dk_at dksX0_ask_3 3 rfl rfl)
theorem dX0_ask_74 : decode cX0_ask 74 = .ok (.istore 5, 2) := dk_54 5 (dk_at dksX0_ask_3 4 rfl rfl)
theorem dX0_ask_76 : decode cX0_ask 76 = .ok (.iconst 0, 1) := dk_3 (dk_at dksX0_ask_3 6 rfl rfl)
theorem dX0_ask_77 : decode cX0_ask 77 = .ok (.istore 6, 2) := dk_54 6 (dk_at dksX0_ask_3 7 rfl rfl)
theorem dX0_ask_79 : decode cX0_ask 79 = .ok (.iload 6, 2) := dk_21 6 (dk_at dksX0_ask_3 9 rfl rfl)
theorem dX0_ask_81 : decode cX0_ask 81 = .ok (.aload_n 0, 1) := dk_42 (dk_at dksX0_ask_3 11 rfl rfl)
theorem dX0_ask_82 : decode cX0_ask 82 = .ok (.getfield 34, 3) := dk_180 0 34 (dk_at dksX0_ask_3 12 rfl rfl)
theorem dX0_ask_85 : decode cX0_ask 85 = .ok (.getfield 141, 3) := dk_180 0 141 (dk_at dksX0_ask_3 15 rfl rfl)
theorem dX0_ask_88 : decode cX0_ask 88 = .ok (.if_icmp .ge 51, 3) := dk_162 0 51 (dk_at dksX0_ask_3 18 rfl rfl)
theorem dX0_ask_91 : decode cX0_ask 91 = .ok (.iload 4, 2) := dk_21 4 (dk_at dksX0_ask_3 21 rfl rfl)
theorem dX0_ask_93 : decode cX0_ask 93 = .ok (.iload 6, 2) := dk_21 6 (dk_at dksX0_ask_4 0 rfl rfl)
theorem dX0_ask_95 : decode cX0_ask 95 = .ok (.invokestatic 1, 3) := dk_184 0 1 (dk_at dksX0_ask_4 2 rfl rfl)
theorem dX0_ask_98 : decode cX0_ask 98 = .ok (.ifCond .eq 6, 3) := dk_153 0 6 (dk_at dksX0_ask_4 5 rfl rfl)
theorem dX0_ask_101 : decode cX0_ask 101 = .ok (.goto 32, 3) := dk_167 0 32 (dk_at dksX0_ask_4 8 rfl rfl)
theorem dX0_ask_104 : decode cX0_ask 104 = .ok (.iload 5, 2) := dk_21 5 (dk_at dksX0_ask_4 11 rfl rfl)
theorem dX0_ask_106 : decode cX0_ask 106 = .ok (.iconst (-1), 1) := dk_2 (dk_at dksX0_ask_4 13 rfl rfl)
theorem dX0_ask_107 : decode cX0_ask 107 = .ok (.if_icmp .eq 22, 3) := dk_159 0 22 (dk_at dksX0_ask_4 14 rfl rfl)
theorem dX0_ask_110 : decode cX0_ask 110 = .ok (.aload_n 0, 1) := dk_42 (dk_at dksX0_ask_4 17 rfl rfl)
theorem dX0_ask_111 : decode cX0_ask 111 = .ok (.iload 6, 2) := dk_21 6 (dk_at dksX0_ask_4 18 rfl rfl)
theorem dX0_ask_113 : decode cX0_ask 113 = .ok (.iload_n 1, 1) := dk_27 (dk_at dksX0_ask_4 20 rfl rfl)
theorem dX0_ask_114 : decode cX0_ask 114 = .ok (.iload_n 2, 1) := dk_28 (dk_at dksX0_ask_4 21 rfl rfl)
theorem dX0_ask_115 : decode cX0_ask 115 = .ok (.invokevirtual 384, 3) := dk_182 1 128 (dk_at dksX0_ask_5 0 rfl rfl)
theorem dX0_ask_118 : decode cX0_ask 118 = .ok (.aload_n 0, 1) := dk_42 (dk_at dksX0_ask_5 3 rfl rfl)
theorem dX0_ask_119 : decode cX0_ask 119 = .ok (.iload 5, 2) := dk_21 5 (dk_at dksX0_ask_5 4 rfl rfl)
theorem dX0_ask_121 : decode cX0_ask 121 = .ok (.iload_n 1, 1) := dk_27 (dk_at dksX0_ask_5 6 rfl rfl)
theorem dX0_ask_122 : decode cX0_ask 122 = .ok (.iload_n 2, 1) := dk_28 (dk_at dksX0_ask_5 7 rfl rfl)
theorem dX0_ask_123 : decode cX0_ask 123 = .ok (.invokevirtual 384, 3) := dk_182 1 128 (dk_at dksX0_ask_5 8 rfl rfl)
theorem dX0_ask_126 : decode cX0_ask 126 = .ok (.if_icmp .ge 7, 3) := dk_162 0 7 (dk_at dksX0_ask_5 11 rfl rfl)
theorem dX0_ask_129 : decode cX0_ask 129 = .ok (.iload 6, 2) := dk_21 6 (dk_at dksX0_ask_5 14 rfl rfl)
theorem dX0_ask_131 : decode cX0_ask 131 = .ok (.istore 5, 2) := dk_54 5 (dk_at dksX0_ask_5 16 rfl rfl)
theorem dX0_ask_133 : decode cX0_ask 133 = .ok (.iinc 6 1, 3) := dk_132 6 1 (dk_at dksX0_ask_5 18 rfl rfl)
theorem dX0_ask_136 : decode cX0_ask 136 = .ok (.goto (-57), 3) := dk_167 255 199 (dk_at dksX0_ask_5 21 rfl rfl)
theorem dX0_ask_139 : decode cX0_ask 139 = .ok (.aload_n 0, 1) := dk_42 (dk_at dksX0_ask_6 0 rfl rfl)
theorem dX0_ask_140 : decode cX0_ask 140 = .ok (.iload 5, 2) := dk_21 5 (dk_at dksX0_ask_6 1 rfl rfl)
theorem dX0_ask_142 : decode cX0_ask 142 = .ok (.invokevirtual 265, 3) := dk_182 1 9 (dk_at dksX0_ask_6 3 rfl rfl)
theorem dX0_ask_145 : decode cX0_ask 145 = .ok (.ireturn, 1) := dk_172 (dk_at dksX0_ask_6 6 rfl rfl)
abbrev cX0_mostAlike : ByteArray := prog_1_method_76_code
def yX0_mostAlike : MethodName := ⟨RX0, "mostAlike", "(III)I"⟩
def dkwX0_mostAlike_4 : List UInt8 := [21, 6, 46, 184, 1, 82, 54, 4, 132, 5, 1, 167, 255, 180, 21, 4, 172]
abbrev dktX0_mostAlike_4 : List UInt8 := dkwX0_mostAlike_4 ++ []
def dkwX0_mostAlike_3 : List UInt8 := [126, 184, 1, 96, 54, 6, 42, 180, 0, 59, 21, 6, 92, 46, 4, 96, 79, 21, 4, 42, 180, 0, 59]
abbrev dktX0_mostAlike_3 : List UInt8 := dkwX0_mostAlike_3 ++ dktX0_mostAlike_4
def dkwX0_mostAlike_2 : List UInt8 := [29, 182, 1, 118, 154, 0, 6, 167, 0, 48, 21, 5, 42, 180, 0, 34, 180, 0, 241, 27, 50, 180, 0, 245]
abbrev dktX0_mostAlike_2 : List UInt8 := dkwX0_mostAlike_2 ++ dktX0_mostAlike_3
def dkwX0_mostAlike_1 : List UInt8 := [3, 54, 4, 3, 54, 5, 21, 5, 4, 42, 180, 0, 34, 180, 0, 138, 120, 162, 0, 68, 42, 21, 5, 28]
abbrev dktX0_mostAlike_1 : List UInt8 := dkwX0_mostAlike_1 ++ dktX0_mostAlike_2
def dkwX0_mostAlike_0 : List UInt8 := [3, 54, 4, 21, 4, 16, 6, 163, 0, 17, 42, 180, 0, 59, 21, 4, 3, 79, 132, 4, 1, 167, 255, 238]
abbrev dktX0_mostAlike_0 : List UInt8 := dkwX0_mostAlike_0 ++ dktX0_mostAlike_1
theorem dksX0_mostAlike_0 : cX0_mostAlike.data.toList.drop 0 = dktX0_mostAlike_0 := by decide +kernel
theorem dksX0_mostAlike_1 : cX0_mostAlike.data.toList.drop 24 = dktX0_mostAlike_1 := dk_seg dksX0_mostAlike_0 24 rfl rfl
theorem dksX0_mostAlike_2 : cX0_mostAlike.data.toList.drop 48 = dktX0_mostAlike_2 := dk_seg dksX0_mostAlike_1 24 rfl rfl
theorem dksX0_mostAlike_3 : cX0_mostAlike.data.toList.drop 72 = dktX0_mostAlike_3 := dk_seg dksX0_mostAlike_2 24 rfl rfl
theorem dksX0_mostAlike_4 : cX0_mostAlike.data.toList.drop 95 = dktX0_mostAlike_4 := dk_seg dksX0_mostAlike_3 23 rfl rfl
theorem dX0_mostAlike_0 : decode cX0_mostAlike 0 = .ok (.iconst 0, 1) := dk_3 (dk_at dksX0_mostAlike_0 0 rfl rfl)
theorem dX0_mostAlike_1 : decode cX0_mostAlike 1 = .ok (.istore 4, 2) := dk_54 4 (dk_at dksX0_mostAlike_0 1 rfl rfl)
theorem dX0_mostAlike_3 : decode cX0_mostAlike 3 = .ok (.iload 4, 2) := dk_21 4 (dk_at dksX0_mostAlike_0 3 rfl rfl)
theorem dX0_mostAlike_5 : decode cX0_mostAlike 5 = .ok (.bipush 6, 2) := dk_16 6 (dk_at dksX0_mostAlike_0 5 rfl rfl)
theorem dX0_mostAlike_7 : decode cX0_mostAlike 7 = .ok (.if_icmp .gt 17, 3) := dk_163 0 17 (dk_at dksX0_mostAlike_0 7 rfl rfl)
theorem dX0_mostAlike_10 : decode cX0_mostAlike 10 = .ok (.aload_n 0, 1) := dk_42 (dk_at dksX0_mostAlike_0 10 rfl rfl)
theorem dX0_mostAlike_11 : decode cX0_mostAlike 11 = .ok (.getfield 59, 3) := dk_180 0 59 (dk_at dksX0_mostAlike_0 11 rfl rfl)
theorem dX0_mostAlike_14 : decode cX0_mostAlike 14 = .ok (.iload 4, 2) := dk_21 4 (dk_at dksX0_mostAlike_0 14 rfl rfl)
theorem dX0_mostAlike_16 : decode cX0_mostAlike 16 = .ok (.iconst 0, 1) := dk_3 (dk_at dksX0_mostAlike_0 16 rfl rfl)
theorem dX0_mostAlike_17 : decode cX0_mostAlike 17 = .ok (.iastore, 1) := dk_79 (dk_at dksX0_mostAlike_0 17 rfl rfl)
theorem dX0_mostAlike_18 : decode cX0_mostAlike 18 = .ok (.iinc 4 1, 3) := dk_132 4 1 (dk_at dksX0_mostAlike_0 18 rfl rfl)
theorem dX0_mostAlike_21 : decode cX0_mostAlike 21 = .ok (.goto (-18), 3) := dk_167 255 238 (dk_at dksX0_mostAlike_0 21 rfl rfl)
theorem dX0_mostAlike_24 : decode cX0_mostAlike 24 = .ok (.iconst 0, 1) := dk_3 (dk_at dksX0_mostAlike_1 0 rfl rfl)
theorem dX0_mostAlike_25 : decode cX0_mostAlike 25 = .ok (.istore 4, 2) := dk_54 4 (dk_at dksX0_mostAlike_1 1 rfl rfl)
theorem dX0_mostAlike_27 : decode cX0_mostAlike 27 = .ok (.iconst 0, 1) := dk_3 (dk_at dksX0_mostAlike_1 3 rfl rfl)
theorem dX0_mostAlike_28 : decode cX0_mostAlike 28 = .ok (.istore 5, 2) := dk_54 5 (dk_at dksX0_mostAlike_1 4 rfl rfl)
theorem dX0_mostAlike_30 : decode cX0_mostAlike 30 = .ok (.iload 5, 2) := dk_21 5 (dk_at dksX0_mostAlike_1 6 rfl rfl)
theorem dX0_mostAlike_32 : decode cX0_mostAlike 32 = .ok (.iconst 1, 1) := dk_4 (dk_at dksX0_mostAlike_1 8 rfl rfl)
theorem dX0_mostAlike_33 : decode cX0_mostAlike 33 = .ok (.aload_n 0, 1) := dk_42 (dk_at dksX0_mostAlike_1 9 rfl rfl)
theorem dX0_mostAlike_34 : decode cX0_mostAlike 34 = .ok (.getfield 34, 3) := dk_180 0 34 (dk_at dksX0_mostAlike_1 10 rfl rfl)
theorem dX0_mostAlike_37 : decode cX0_mostAlike 37 = .ok (.getfield 138, 3) := dk_180 0 138 (dk_at dksX0_mostAlike_1 13 rfl rfl)
theorem dX0_mostAlike_40 : decode cX0_mostAlike 40 = .ok (.ishl, 1) := dk_120 (dk_at dksX0_mostAlike_1 16 rfl rfl)
theorem dX0_mostAlike_41 : decode cX0_mostAlike 41 = .ok (.if_icmp .ge 68, 3) := dk_162 0 68 (dk_at dksX0_mostAlike_1 17 rfl rfl)
theorem dX0_mostAlike_44 : decode cX0_mostAlike 44 = .ok (.aload_n 0, 1) := dk_42 (dk_at dksX0_mostAlike_1 20 rfl rfl)
theorem dX0_mostAlike_45 : decode cX0_mostAlike 45 = .ok (.iload 5, 2) := dk_21 5 (dk_at dksX0_mostAlike_1 21 rfl rfl)
theorem dX0_mostAlike_47 : decode cX0_mostAlike 47 = .ok (.iload_n 2, 1) := dk_28 (dk_at dksX0_mostAlike_1 23 rfl rfl)
theorem dX0_mostAlike_48 : decode cX0_mostAlike 48 = .ok (.iload_n 3, 1) := dk_29 (dk_at dksX0_mostAlike_2 0 rfl rfl)
theorem dX0_mostAlike_49 : decode cX0_mostAlike 49 = .ok (.invokevirtual 374, 3) := dk_182 1 118 (dk_at dksX0_mostAlike_2 1 rfl rfl)
theorem dX0_mostAlike_52 : decode cX0_mostAlike 52 = .ok (.ifCond .ne 6, 3) := dk_154 0 6 (dk_at dksX0_mostAlike_2 4 rfl rfl)
theorem dX0_mostAlike_55 : decode cX0_mostAlike 55 = .ok (.goto 48, 3) := dk_167 0 48 (dk_at dksX0_mostAlike_2 7 rfl rfl)
theorem dX0_mostAlike_58 : decode cX0_mostAlike 58 = .ok (.iload 5, 2) := dk_21 5 (dk_at dksX0_mostAlike_2 10 rfl rfl)
theorem dX0_mostAlike_60 : decode cX0_mostAlike 60 = .ok (.aload_n 0, 1) := dk_42 (dk_at dksX0_mostAlike_2 12 rfl rfl)
theorem dX0_mostAlike_61 : decode cX0_mostAlike 61 = .ok (.getfield 34, 3) := dk_180 0 34 (dk_at dksX0_mostAlike_2 13 rfl rfl)
theorem dX0_mostAlike_64 : decode cX0_mostAlike 64 = .ok (.getfield 241, 3) := dk_180 0 241 (dk_at dksX0_mostAlike_2 16 rfl rfl)
theorem dX0_mostAlike_67 : decode cX0_mostAlike 67 = .ok (.iload_n 1, 1) := dk_27 (dk_at dksX0_mostAlike_2 19 rfl rfl)
theorem dX0_mostAlike_68 : decode cX0_mostAlike 68 = .ok (.aaload, 1) := dk_50 (dk_at dksX0_mostAlike_2 20 rfl rfl)
theorem dX0_mostAlike_69 : decode cX0_mostAlike 69 = .ok (.getfield 245, 3) := dk_180 0 245 (dk_at dksX0_mostAlike_2 21 rfl rfl)
theorem dX0_mostAlike_72 : decode cX0_mostAlike 72 = .ok (.iand, 1) := dk_126 (dk_at dksX0_mostAlike_3 0 rfl rfl)
theorem dX0_mostAlike_73 : decode cX0_mostAlike 73 = .ok (.invokestatic 352, 3) := dk_184 1 96 (dk_at dksX0_mostAlike_3 1 rfl rfl)
theorem dX0_mostAlike_76 : decode cX0_mostAlike 76 = .ok (.istore 6, 2) := dk_54 6 (dk_at dksX0_mostAlike_3 4 rfl rfl)
theorem dX0_mostAlike_78 : decode cX0_mostAlike 78 = .ok (.aload_n 0, 1) := dk_42 (dk_at dksX0_mostAlike_3 6 rfl rfl)
theorem dX0_mostAlike_79 : decode cX0_mostAlike 79 = .ok (.getfield 59, 3) := dk_180 0 59 (dk_at dksX0_mostAlike_3 7 rfl rfl)
theorem dX0_mostAlike_82 : decode cX0_mostAlike 82 = .ok (.iload 6, 2) := dk_21 6 (dk_at dksX0_mostAlike_3 10 rfl rfl)
theorem dX0_mostAlike_84 : decode cX0_mostAlike 84 = .ok (.dup2, 1) := dk_92 (dk_at dksX0_mostAlike_3 12 rfl rfl)
theorem dX0_mostAlike_85 : decode cX0_mostAlike 85 = .ok (.iaload, 1) := dk_46 (dk_at dksX0_mostAlike_3 13 rfl rfl)
theorem dX0_mostAlike_86 : decode cX0_mostAlike 86 = .ok (.iconst 1, 1) := dk_4 (dk_at dksX0_mostAlike_3 14 rfl rfl)
theorem dX0_mostAlike_87 : decode cX0_mostAlike 87 = .ok (.iadd, 1) := dk_96 (dk_at dksX0_mostAlike_3 15 rfl rfl)
theorem dX0_mostAlike_88 : decode cX0_mostAlike 88 = .ok (.iastore, 1) := dk_79 (dk_at dksX0_mostAlike_3 16 rfl rfl)
theorem dX0_mostAlike_89 : decode cX0_mostAlike 89 = .ok (.iload 4, 2) := dk_21 4 (dk_at dksX0_mostAlike_3 17 rfl rfl)
theorem dX0_mostAlike_91 : decode cX0_mostAlike 91 = .ok (.aload_n 0, 1) := dk_42 (dk_at dksX0_mostAlike_3 19 rfl rfl)
theorem dX0_mostAlike_92 : decode cX0_mostAlike 92 = .ok (.getfield 59, 3) := dk_180 0 59 (dk_at dksX0_mostAlike_3 20 rfl rfl)
theorem dX0_mostAlike_95 : decode cX0_mostAlike 95 = .ok (.iload 6, 2) := dk_21 6 (dk_at dksX0_mostAlike_4 0 rfl rfl)
theorem dX0_mostAlike_97 : decode cX0_mostAlike 97 = .ok (.iaload, 1) := dk_46 (dk_at dksX0_mostAlike_4 2 rfl rfl)
theorem dX0_mostAlike_98 : decode cX0_mostAlike 98 = .ok (.invokestatic 338, 3) := dk_184 1 82 (dk_at dksX0_mostAlike_4 3 rfl rfl)
theorem dX0_mostAlike_101 : decode cX0_mostAlike 101 = .ok (.istore 4, 2) := dk_54 4 (dk_at dksX0_mostAlike_4 6 rfl rfl)
theorem dX0_mostAlike_103 : decode cX0_mostAlike 103 = .ok (.iinc 5 1, 3) := dk_132 5 1 (dk_at dksX0_mostAlike_4 8 rfl rfl)
theorem dX0_mostAlike_106 : decode cX0_mostAlike 106 = .ok (.goto (-76), 3) := dk_167 255 180 (dk_at dksX0_mostAlike_4 11 rfl rfl)
theorem dX0_mostAlike_109 : decode cX0_mostAlike 109 = .ok (.iload 4, 2) := dk_21 4 (dk_at dksX0_mostAlike_4 14 rfl rfl)
theorem dX0_mostAlike_111 : decode cX0_mostAlike 111 = .ok (.ireturn, 1) := dk_172 (dk_at dksX0_mostAlike_4 16 rfl rfl)
abbrev cX0_game : ByteArray := prog_1_method_81_code
def yX0_game : MethodName := ⟨RX0, "game", "(III)I"⟩
def dkwX0_game_1 : List UInt8 := [42, 42, 27, 28, 29, 182, 1, 154, 182, 0, 93, 172]
abbrev dktX0_game_1 : List UInt8 := dkwX0_game_1 ++ []
def dkwX0_game_0 : List UInt8 := [42, 27, 28, 29, 3, 182, 1, 151, 54, 4, 21, 4, 158, 0, 12, 42, 21, 4, 182, 0, 89, 167, 0, 14]
abbrev dktX0_game_0 : List UInt8 := dkwX0_game_0 ++ dktX0_game_1
theorem dksX0_game_0 : cX0_game.data.toList.drop 0 = dktX0_game_0 := by decide +kernel
theorem dksX0_game_1 : cX0_game.data.toList.drop 24 = dktX0_game_1 := dk_seg dksX0_game_0 24 rfl rfl
theorem dX0_game_0 : decode cX0_game 0 = .ok (.aload_n 0, 1) := dk_42 (dk_at dksX0_game_0 0 rfl rfl)
theorem dX0_game_1 : decode cX0_game 1 = .ok (.iload_n 1, 1) := dk_27 (dk_at dksX0_game_0 1 rfl rfl)
theorem dX0_game_2 : decode cX0_game 2 = .ok (.iload_n 2, 1) := dk_28 (dk_at dksX0_game_0 2 rfl rfl)
theorem dX0_game_3 : decode cX0_game 3 = .ok (.iload_n 3, 1) := dk_29 (dk_at dksX0_game_0 3 rfl rfl)
theorem dX0_game_4 : decode cX0_game 4 = .ok (.iconst 0, 1) := dk_3 (dk_at dksX0_game_0 4 rfl rfl)
theorem dX0_game_5 : decode cX0_game 5 = .ok (.invokevirtual 407, 3) := dk_182 1 151 (dk_at dksX0_game_0 5 rfl rfl)
theorem dX0_game_8 : decode cX0_game 8 = .ok (.istore 4, 2) := dk_54 4 (dk_at dksX0_game_0 8 rfl rfl)
theorem dX0_game_10 : decode cX0_game 10 = .ok (.iload 4, 2) := dk_21 4 (dk_at dksX0_game_0 10 rfl rfl)
theorem dX0_game_12 : decode cX0_game 12 = .ok (.ifCond .le 12, 3) := dk_158 0 12 (dk_at dksX0_game_0 12 rfl rfl)
theorem dX0_game_15 : decode cX0_game 15 = .ok (.aload_n 0, 1) := dk_42 (dk_at dksX0_game_0 15 rfl rfl)
theorem dX0_game_16 : decode cX0_game 16 = .ok (.iload 4, 2) := dk_21 4 (dk_at dksX0_game_0 16 rfl rfl)
theorem dX0_game_18 : decode cX0_game 18 = .ok (.invokevirtual 89, 3) := dk_182 0 89 (dk_at dksX0_game_0 18 rfl rfl)
theorem dX0_game_21 : decode cX0_game 21 = .ok (.goto 14, 3) := dk_167 0 14 (dk_at dksX0_game_0 21 rfl rfl)
theorem dX0_game_24 : decode cX0_game 24 = .ok (.aload_n 0, 1) := dk_42 (dk_at dksX0_game_1 0 rfl rfl)
theorem dX0_game_25 : decode cX0_game 25 = .ok (.aload_n 0, 1) := dk_42 (dk_at dksX0_game_1 1 rfl rfl)
theorem dX0_game_26 : decode cX0_game 26 = .ok (.iload_n 1, 1) := dk_27 (dk_at dksX0_game_1 2 rfl rfl)
theorem dX0_game_27 : decode cX0_game 27 = .ok (.iload_n 2, 1) := dk_28 (dk_at dksX0_game_1 3 rfl rfl)
theorem dX0_game_28 : decode cX0_game 28 = .ok (.iload_n 3, 1) := dk_29 (dk_at dksX0_game_1 4 rfl rfl)
theorem dX0_game_29 : decode cX0_game 29 = .ok (.invokevirtual 410, 3) := dk_182 1 154 (dk_at dksX0_game_1 5 rfl rfl)
theorem dX0_game_32 : decode cX0_game 32 = .ok (.invokevirtual 93, 3) := dk_182 0 93 (dk_at dksX0_game_1 8 rfl rfl)
theorem dX0_game_35 : decode cX0_game 35 = .ok (.ireturn, 1) := dk_172 (dk_at dksX0_game_1 11 rfl rfl)
abbrev cX0_wrongGame : ByteArray := prog_1_method_80_code
def yX0_wrongGame : MethodName := ⟨RX0, "wrongGame", "(IIII)I"⟩
def dkwX0_wrongGame_1 : List UInt8 := [159, 0, 17, 29, 133, 21, 4, 133, 20, 1, 149, 184, 0, 147, 154, 0, 7, 8, 167, 0, 4, 3, 172]
abbrev dktX0_wrongGame_1 : List UInt8 := dkwX0_wrongGame_1 ++ []
def dkwX0_wrongGame_0 : List UInt8 := [42, 27, 133, 182, 0, 237, 153, 0, 12, 42, 28, 133, 182, 0, 237, 154, 0, 7, 5, 167, 0, 27, 27, 28]
abbrev dktX0_wrongGame_0 : List UInt8 := dkwX0_wrongGame_0 ++ dktX0_wrongGame_1
theorem dksX0_wrongGame_0 : cX0_wrongGame.data.toList.drop 0 = dktX0_wrongGame_0 := by decide +kernel
theorem dksX0_wrongGame_1 : cX0_wrongGame.data.toList.drop 24 = dktX0_wrongGame_1 := dk_seg dksX0_wrongGame_0 24 rfl rfl
theorem dX0_wrongGame_0 : decode cX0_wrongGame 0 = .ok (.aload_n 0, 1) := dk_42 (dk_at dksX0_wrongGame_0 0 rfl rfl)
theorem dX0_wrongGame_1 : decode cX0_wrongGame 1 = .ok (.iload_n 1, 1) := dk_27 (dk_at dksX0_wrongGame_0 1 rfl rfl)
theorem dX0_wrongGame_2 : decode cX0_wrongGame 2 = .ok (.i2l, 1) := dk_133 (dk_at dksX0_wrongGame_0 2 rfl rfl)
theorem dX0_wrongGame_3 : decode cX0_wrongGame 3 = .ok (.invokevirtual 237, 3) := dk_182 0 237 (dk_at dksX0_wrongGame_0 3 rfl rfl)
theorem dX0_wrongGame_6 : decode cX0_wrongGame 6 = .ok (.ifCond .eq 12, 3) := dk_153 0 12 (dk_at dksX0_wrongGame_0 6 rfl rfl)
theorem dX0_wrongGame_9 : decode cX0_wrongGame 9 = .ok (.aload_n 0, 1) := dk_42 (dk_at dksX0_wrongGame_0 9 rfl rfl)
theorem dX0_wrongGame_10 : decode cX0_wrongGame 10 = .ok (.iload_n 2, 1) := dk_28 (dk_at dksX0_wrongGame_0 10 rfl rfl)
theorem dX0_wrongGame_11 : decode cX0_wrongGame 11 = .ok (.i2l, 1) := dk_133 (dk_at dksX0_wrongGame_0 11 rfl rfl)
theorem dX0_wrongGame_12 : decode cX0_wrongGame 12 = .ok (.invokevirtual 237, 3) := dk_182 0 237 (dk_at dksX0_wrongGame_0 12 rfl rfl)
theorem dX0_wrongGame_15 : decode cX0_wrongGame 15 = .ok (.ifCond .ne 7, 3) := dk_154 0 7 (dk_at dksX0_wrongGame_0 15 rfl rfl)
theorem dX0_wrongGame_18 : decode cX0_wrongGame 18 = .ok (.iconst 2, 1) := dk_5 (dk_at dksX0_wrongGame_0 18 rfl rfl)
theorem dX0_wrongGame_19 : decode cX0_wrongGame 19 = .ok (.goto 27, 3) := dk_167 0 27 (dk_at dksX0_wrongGame_0 19 rfl rfl)
theorem dX0_wrongGame_22 : decode cX0_wrongGame 22 = .ok (.iload_n 1, 1) := dk_27 (dk_at dksX0_wrongGame_0 22 rfl rfl)
theorem dX0_wrongGame_23 : decode cX0_wrongGame 23 = .ok (.iload_n 2, 1) := dk_28 (dk_at dksX0_wrongGame_0 23 rfl rfl)
theorem dX0_wrongGame_24 : decode cX0_wrongGame 24 = .ok (.if_icmp .eq 17, 3) := dk_159 0 17 (dk_at dksX0_wrongGame_1 0 rfl rfl)
theorem dX0_wrongGame_27 : decode cX0_wrongGame 27 = .ok (.iload_n 3, 1) := dk_29 (dk_at dksX0_wrongGame_1 3 rfl rfl)
theorem dX0_wrongGame_28 : decode cX0_wrongGame 28 = .ok (.i2l, 1) := dk_133 (dk_at dksX0_wrongGame_1 4 rfl rfl)
theorem dX0_wrongGame_29 : decode cX0_wrongGame 29 = .ok (.iload 4, 2) := dk_21 4 (dk_at dksX0_wrongGame_1 5 rfl rfl)
theorem dX0_wrongGame_31 : decode cX0_wrongGame 31 = .ok (.i2l, 1) := dk_133 (dk_at dksX0_wrongGame_1 7 rfl rfl)
theorem dX0_wrongGame_32 : decode cX0_wrongGame 32 = .ok (.ldc2_w 405, 3) := dk_20 1 149 (dk_at dksX0_wrongGame_1 8 rfl rfl)
theorem dX0_wrongGame_35 : decode cX0_wrongGame 35 = .ok (.invokestatic 147, 3) := dk_184 0 147 (dk_at dksX0_wrongGame_1 11 rfl rfl)
theorem dX0_wrongGame_38 : decode cX0_wrongGame 38 = .ok (.ifCond .ne 7, 3) := dk_154 0 7 (dk_at dksX0_wrongGame_1 14 rfl rfl)
theorem dX0_wrongGame_41 : decode cX0_wrongGame 41 = .ok (.iconst 5, 1) := dk_8 (dk_at dksX0_wrongGame_1 17 rfl rfl)
theorem dX0_wrongGame_42 : decode cX0_wrongGame 42 = .ok (.goto 4, 3) := dk_167 0 4 (dk_at dksX0_wrongGame_1 18 rfl rfl)
theorem dX0_wrongGame_45 : decode cX0_wrongGame 45 = .ok (.iconst 0, 1) := dk_3 (dk_at dksX0_wrongGame_1 21 rfl rfl)
theorem dX0_wrongGame_46 : decode cX0_wrongGame 46 = .ok (.ireturn, 1) := dk_172 (dk_at dksX0_wrongGame_1 22 rfl rfl)
abbrev cX0_playing : ByteArray := prog_1_method_79_code
def yX0_playing : MethodName := ⟨RX0, "playing", "(III)I"⟩
def dkwX0_playing_2 : List UInt8 := [180, 0, 253, 100, 42, 180, 0, 34, 180, 0, 241, 28, 50, 180, 0, 253, 96, 172]
abbrev dktX0_playing_2 : List UInt8 := dkwX0_playing_2 ++ []
def dkwX0_playing_1 : List UInt8 := [132, 4, 1, 167, 255, 233, 42, 3, 29, 27, 28, 182, 1, 142, 42, 180, 0, 34, 180, 0, 241, 27, 50]
abbrev dktX0_playing_1 : List UInt8 := dkwX0_playing_1 ++ dktX0_playing_2
def dkwX0_playing_0 : List UInt8 := [3, 54, 4, 21, 4, 29, 163, 0, 23, 42, 180, 0, 62, 21, 4, 42, 180, 0, 34, 182, 1, 145, 83]
abbrev dktX0_playing_0 : List UInt8 := dkwX0_playing_0 ++ dktX0_playing_1
theorem dksX0_playing_0 : cX0_playing.data.toList.drop 0 = dktX0_playing_0 := by decide +kernel
theorem dksX0_playing_1 : cX0_playing.data.toList.drop 23 = dktX0_playing_1 := dk_seg dksX0_playing_0 23 rfl rfl
theorem dksX0_playing_2 : cX0_playing.data.toList.drop 46 = dktX0_playing_2 := dk_seg dksX0_playing_1 23 rfl rfl
theorem dX0_playing_0 : decode cX0_playing 0 = .ok (.iconst 0, 1) := dk_3 (dk_at dksX0_playing_0 0 rfl rfl)
theorem dX0_playing_1 : decode cX0_playing 1 = .ok (.istore 4, 2) := dk_54 4 (dk_at dksX0_playing_0 1 rfl rfl)
theorem dX0_playing_3 : decode cX0_playing 3 = .ok (.iload 4, 2) := dk_21 4 (dk_at dksX0_playing_0 3 rfl rfl)
theorem dX0_playing_5 : decode cX0_playing 5 = .ok (.iload_n 3, 1) := dk_29 (dk_at dksX0_playing_0 5 rfl rfl)
theorem dX0_playing_6 : decode cX0_playing 6 = .ok (.if_icmp .gt 23, 3) := dk_163 0 23 (dk_at dksX0_playing_0 6 rfl rfl)
theorem dX0_playing_9 : decode cX0_playing 9 = .ok (.aload_n 0, 1) := dk_42 (dk_at dksX0_playing_0 9 rfl rfl)
theorem dX0_playing_10 : decode cX0_playing 10 = .ok (.getfield 62, 3) := dk_180 0 62 (dk_at dksX0_playing_0 10 rfl rfl)
theorem dX0_playing_13 : decode cX0_playing 13 = .ok (.iload 4, 2) := dk_21 4 (dk_at dksX0_playing_0 13 rfl rfl)
theorem dX0_playing_15 : decode cX0_playing 15 = .ok (.aload_n 0, 1) := dk_42 (dk_at dksX0_playing_0 15 rfl rfl)
theorem dX0_playing_16 : decode cX0_playing 16 = .ok (.getfield 34, 3) := dk_180 0 34 (dk_at dksX0_playing_0 16 rfl rfl)
theorem dX0_playing_19 : decode cX0_playing 19 = .ok (.invokevirtual 401, 3) := dk_182 1 145 (dk_at dksX0_playing_0 19 rfl rfl)
theorem dX0_playing_22 : decode cX0_playing 22 = .ok (.aastore, 1) := dk_83 (dk_at dksX0_playing_0 22 rfl rfl)
theorem dX0_playing_23 : decode cX0_playing 23 = .ok (.iinc 4 1, 3) := dk_132 4 1 (dk_at dksX0_playing_1 0 rfl rfl)
theorem dX0_playing_26 : decode cX0_playing 26 = .ok (.goto (-23), 3) := dk_167 255 233 (dk_at dksX0_playing_1 3 rfl rfl)
theorem dX0_playing_29 : decode cX0_playing 29 = .ok (.aload_n 0, 1) := dk_42 (dk_at dksX0_playing_1 6 rfl rfl)
theorem dX0_playing_30 : decode cX0_playing 30 = .ok (.iconst 0, 1) := dk_3 (dk_at dksX0_playing_1 7 rfl rfl)
theorem dX0_playing_31 : decode cX0_playing 31 = .ok (.iload_n 3, 1) := dk_29 (dk_at dksX0_playing_1 8 rfl rfl)
theorem dX0_playing_32 : decode cX0_playing 32 = .ok (.iload_n 1, 1) := dk_27 (dk_at dksX0_playing_1 9 rfl rfl)
theorem dX0_playing_33 : decode cX0_playing 33 = .ok (.iload_n 2, 1) := dk_28 (dk_at dksX0_playing_1 10 rfl rfl)
theorem dX0_playing_34 : decode cX0_playing 34 = .ok (.invokevirtual 398, 3) := dk_182 1 142 (dk_at dksX0_playing_1 11 rfl rfl)
theorem dX0_playing_37 : decode cX0_playing 37 = .ok (.aload_n 0, 1) := dk_42 (dk_at dksX0_playing_1 14 rfl rfl)
theorem dX0_playing_38 : decode cX0_playing 38 = .ok (.getfield 34, 3) := dk_180 0 34 (dk_at dksX0_playing_1 15 rfl rfl)
theorem dX0_playing_41 : decode cX0_playing 41 = .ok (.getfield 241, 3) := dk_180 0 241 (dk_at dksX0_playing_1 18 rfl rfl)
theorem dX0_playing_44 : decode cX0_playing 44 = .ok (.iload_n 1, 1) := dk_27 (dk_at dksX0_playing_1 21 rfl rfl)
theorem dX0_playing_45 : decode cX0_playing 45 = .ok (.aaload, 1) := dk_50 (dk_at dksX0_playing_1 22 rfl rfl)
theorem dX0_playing_46 : decode cX0_playing 46 = .ok (.getfield 253, 3) := dk_180 0 253 (dk_at dksX0_playing_2 0 rfl rfl)
theorem dX0_playing_49 : decode cX0_playing 49 = .ok (.isub, 1) := dk_100 (dk_at dksX0_playing_2 3 rfl rfl)
theorem dX0_playing_50 : decode cX0_playing 50 = .ok (.aload_n 0, 1) := dk_42 (dk_at dksX0_playing_2 4 rfl rfl)
theorem dX0_playing_51 : decode cX0_playing 51 = .ok (.getfield 34, 3) := dk_180 0 34 (dk_at dksX0_playing_2 5 rfl rfl)
theorem dX0_playing_54 : decode cX0_playing 54 = .ok (.getfield 241, 3) := dk_180 0 241 (dk_at dksX0_playing_2 8 rfl rfl)
theorem dX0_playing_57 : decode cX0_playing 57 = .ok (.iload_n 2, 1) := dk_28 (dk_at dksX0_playing_2 11 rfl rfl)
theorem dX0_playing_58 : decode cX0_playing 58 = .ok (.aaload, 1) := dk_50 (dk_at dksX0_playing_2 12 rfl rfl)
theorem dX0_playing_59 : decode cX0_playing 59 = .ok (.getfield 253, 3) := dk_180 0 253 (dk_at dksX0_playing_2 13 rfl rfl)
theorem dX0_playing_62 : decode cX0_playing 62 = .ok (.iadd, 1) := dk_96 (dk_at dksX0_playing_2 16 rfl rfl)
theorem dX0_playing_63 : decode cX0_playing 63 = .ok (.ireturn, 1) := dk_172 (dk_at dksX0_playing_2 17 rfl rfl)
abbrev cX0_plays : ByteArray := prog_1_method_78_code
def yX0_plays : MethodName := ⟨RX0, "plays", "(IIII)I"⟩
def dkwX0_plays_11 : List UInt8 := [21, 9, 181, 1, 132, 21, 8, 172]
abbrev dktX0_plays_11 : List UInt8 := dkwX0_plays_11 ++ []
def dkwX0_plays_10 : List UInt8 := [21, 8, 161, 0, 6, 167, 0, 11, 21, 12, 54, 8, 21, 10, 54, 9, 132, 10, 1, 167, 255, 83, 42]
abbrev dktX0_plays_10 : List UInt8 := dkwX0_plays_10 ++ dktX0_plays_11
def dkwX0_plays_9 : List UInt8 := [21, 9, 2, 159, 0, 29, 27, 5, 112, 154, 0, 13, 21, 12, 21, 8, 163, 0, 16, 167, 0, 21, 21, 12]
abbrev dktX0_plays_9 : List UInt8 := dkwX0_plays_9 ++ dktX0_plays_10
def dkwX0_plays_8 : List UInt8 := [180, 0, 34, 180, 0, 141, 112, 182, 1, 21, 87, 42, 27, 4, 96, 28, 29, 21, 4, 182, 1, 142, 54, 12]
abbrev dktX0_plays_8 : List UInt8 := dkwX0_plays_8 ++ dktX0_plays_9
def dkwX0_plays_7 : List UInt8 := [21, 10, 21, 7, 162, 0, 29, 25, 11, 21, 10, 42, 180, 0, 34, 180, 0, 141, 108, 21, 10, 42]
abbrev dktX0_plays_7 : List UInt8 := dkwX0_plays_7 ++ dktX0_plays_8
def dkwX0_plays_6 : List UInt8 := [182, 1, 135, 154, 0, 6, 167, 0, 104, 42, 180, 0, 62, 27, 4, 96, 50, 25, 5, 182, 1, 138, 58, 11]
abbrev dktX0_plays_6 : List UInt8 := dkwX0_plays_6 ++ dktX0_plays_7
def dkwX0_plays_5 : List UInt8 := [25, 5, 21, 10, 42, 180, 0, 34, 180, 0, 141, 108, 21, 10, 42, 180, 0, 34, 180, 0, 141, 112]
abbrev dktX0_plays_5 : List UInt8 := dkwX0_plays_5 ++ dktX0_plays_6
def dkwX0_plays_4 : List UInt8 := [25, 5, 180, 0, 193, 21, 10, 42, 180, 0, 34, 180, 0, 141, 108, 50, 180, 1, 6, 21, 6, 160, 0, 135]
abbrev dktX0_plays_4 : List UInt8 := dkwX0_plays_4 ++ dktX0_plays_5
def dkwX0_plays_3 : List UInt8 := [3, 54, 8, 2, 54, 9, 3, 54, 10, 21, 10, 21, 7, 163, 0, 172, 21, 10, 21, 7, 162, 0, 58]
abbrev dktX0_plays_3 : List UInt8 := dkwX0_plays_3 ++ dktX0_plays_4
def dkwX0_plays_2 : List UInt8 := [167, 0, 5, 21, 4, 54, 6, 42, 180, 0, 34, 180, 0, 144, 42, 180, 0, 34, 180, 0, 141, 104, 54, 7]
abbrev dktX0_plays_2 : List UInt8 := dkwX0_plays_2 ++ dktX0_plays_3
def dkwX0_plays_1 : List UInt8 := [50, 180, 0, 253, 25, 5, 180, 0, 241, 21, 4, 50, 180, 0, 253, 100, 172, 27, 5, 112, 154, 0, 7, 29]
abbrev dktX0_plays_1 : List UInt8 := dkwX0_plays_1 ++ dktX0_plays_2
def dkwX0_plays_0 : List UInt8 := [42, 2, 181, 1, 132, 42, 180, 0, 62, 27, 50, 58, 5, 27, 28, 160, 0, 26, 25, 5, 180, 0, 241, 29]
abbrev dktX0_plays_0 : List UInt8 := dkwX0_plays_0 ++ dktX0_plays_1
theorem dksX0_plays_0 : cX0_plays.data.toList.drop 0 = dktX0_plays_0 := by decide +kernel
theorem dksX0_plays_1 : cX0_plays.data.toList.drop 24 = dktX0_plays_1 := dk_seg dksX0_plays_0 24 rfl rfl
theorem dksX0_plays_2 : cX0_plays.data.toList.drop 48 = dktX0_plays_2 := dk_seg dksX0_plays_1 24 rfl rfl
theorem dksX0_plays_3 : cX0_plays.data.toList.drop 72 = dktX0_plays_3 := dk_seg dksX0_plays_2 24 rfl rfl
theorem dksX0_plays_4 : cX0_plays.data.toList.drop 95 = dktX0_plays_4 := dk_seg dksX0_plays_3 23 rfl rfl
theorem dksX0_plays_5 : cX0_plays.data.toList.drop 119 = dktX0_plays_5 := dk_seg dksX0_plays_4 24 rfl rfl
theorem dksX0_plays_6 : cX0_plays.data.toList.drop 141 = dktX0_plays_6 := dk_seg dksX0_plays_5 22 rfl rfl
theorem dksX0_plays_7 : cX0_plays.data.toList.drop 165 = dktX0_plays_7 := dk_seg dksX0_plays_6 24 rfl rfl
theorem dksX0_plays_8 : cX0_plays.data.toList.drop 187 = dktX0_plays_8 := dk_seg dksX0_plays_7 22 rfl rfl
theorem dksX0_plays_9 : cX0_plays.data.toList.drop 211 = dktX0_plays_9 := dk_seg dksX0_plays_8 24 rfl rfl
theorem dksX0_plays_10 : cX0_plays.data.toList.drop 235 = dktX0_plays_10 := dk_seg dksX0_plays_9 24 rfl rfl
theorem dksX0_plays_11 : cX0_plays.data.toList.drop 258 = dktX0_plays_11 := dk_seg dksX0_plays_10 23 rfl rfl
theorem dX0_plays_0 : decode cX0_plays 0 = .ok (.aload_n 0, 1) := dk_42 (dk_at dksX0_plays_0 0 rfl rfl)
theorem dX0_plays_1 : decode cX0_plays 1 = .ok (.iconst (-1), 1) := dk_2 (dk_at dksX0_plays_0 1 rfl rfl)
theorem dX0_plays_2 : decode cX0_plays 2 = .ok (.putfield 388, 3) := dk_181 1 132 (dk_at dksX0_plays_0 2 rfl rfl)
theorem dX0_plays_5 : decode cX0_plays 5 = .ok (.aload_n 0, 1) := dk_42 (dk_at dksX0_plays_0 5 rfl rfl)
theorem dX0_plays_6 : decode cX0_plays 6 = .ok (.getfield 62, 3) := dk_180 0 62 (dk_at dksX0_plays_0 6 rfl rfl)
theorem dX0_plays_9 : decode cX0_plays 9 = .ok (.iload_n 1, 1) := dk_27 (dk_at dksX0_plays_0 9 rfl rfl)
theorem dX0_plays_10 : decode cX0_plays 10 = .ok (.aaload, 1) := dk_50 (dk_at dksX0_plays_0 10 rfl rfl)
theorem dX0_plays_11 : decode cX0_plays 11 = .ok (.astore 5, 2) := dk_58 5 (dk_at dksX0_plays_0 11 rfl rfl)
theorem dX0_plays_13 : decode cX0_plays 13 = .ok (.iload_n 1, 1) := dk_27 (dk_at dksX0_plays_0 13 rfl rfl)
theorem dX0_plays_14 : decode cX0_plays 14 = .ok (.iload_n 2, 1) := dk_28 (dk_at dksX0_plays_0 14 rfl rfl)
theorem dX0_plays_15 : decode cX0_plays 15 = .ok (.if_icmp .ne 26, 3) := dk_160 0 26 (dk_at dksX0_plays_0 15 rfl rfl)
theorem dX0_plays_18 : decode cX0_plays 18 = .ok (.aload 5, 2) := dk_25 5 (dk_at dksX0_plays_0 18 rfl rfl)
theorem dX0_plays_20 : decode cX0_plays 20 = .ok (.getfield 241, 3) := dk_180 0 241 (dk_at dksX0_plays_0 20 rfl rfl)
theorem dX0_plays_23 : decode cX0_plays 23 = .ok (.iload_n 3, 1) := dk_29 (dk_at dksX0_plays_0 23 rfl rfl)
theorem dX0_plays_24 : decode cX0_plays 24 = .ok (.aaload, 1) := dk_50 (dk_at dksX0_plays_1 0 rfl rfl)
theorem dX0_plays_25 : decode cX0_plays 25 = .ok (.getfield 253, 3) := dk_180 0 253 (dk_at dksX0_plays_1 1 rfl rfl)
theorem dX0_plays_28 : decode cX0_plays 28 = .ok (.aload 5, 2) := dk_25 5 (dk_at dksX0_plays_1 4 rfl rfl)
theorem dX0_plays_30 : decode cX0_plays 30 = .ok (.getfield 241, 3) := dk_180 0 241 (dk_at dksX0_plays_1 6 rfl rfl)
theorem dX0_plays_33 : decode cX0_plays 33 = .ok (.iload 4, 2) := dk_21 4 (dk_at dksX0_plays_1 9 rfl rfl)
theorem dX0_plays_35 : decode cX0_plays 35 = .ok (.aaload, 1) := dk_50 (dk_at dksX0_plays_1 11 rfl rfl)
theorem dX0_plays_36 : decode cX0_plays 36 = .ok (.getfield 253, 3) := dk_180 0 253 (dk_at dksX0_plays_1 12 rfl rfl)
theorem dX0_plays_39 : decode cX0_plays 39 = .ok (.isub, 1) := dk_100 (dk_at dksX0_plays_1 15 rfl rfl)
theorem dX0_plays_40 : decode cX0_plays 40 = .ok (.ireturn, 1) := dk_172 (dk_at dksX0_plays_1 16 rfl rfl)
theorem dX0_plays_41 : decode cX0_plays 41 = .ok (.iload_n 1, 1) := dk_27 (dk_at dksX0_plays_1 17 rfl rfl)
theorem dX0_plays_42 : decode cX0_plays 42 = .ok (.iconst 2, 1) := dk_5 (dk_at dksX0_plays_1 18 rfl rfl)
theorem dX0_plays_43 : decode cX0_plays 43 = .ok (.irem, 1) := dk_112 (dk_at dksX0_plays_1 19 rfl rfl)
theorem dX0_plays_44 : decode cX0_plays 44 = .ok (.ifCond .ne 7, 3) := dk_154 0 7 (dk_at dksX0_plays_1 20 rfl rfl)
theorem dX0_plays_47 : decode cX0_plays 47 = .ok (.iload_n 3, 1) := dk_29 (dk_at dksX0_plays_1 23 rfl rfl)
theorem dX0_plays_48 : decode cX0_plays 48 = .ok (.goto 5, 3) := dk_167 0 5 (dk_at dksX0_plays_2 0 rfl rfl)
theorem dX0_plays_51 : decode cX0_plays 51 = .ok (.iload 4, 2) := dk_21 4 (dk_at dksX0_plays_2 3 rfl rfl)
theorem dX0_plays_53 : decode cX0_plays 53 = .ok (.istore 6, 2) := dk_54 6 (dk_at dksX0_plays_2 5 rfl rfl)
theorem dX0_plays_55 : decode cX0_plays 55 = .ok (.aload_n 0, 1) := dk_42 (dk_at dksX0_plays_2 7 rfl rfl)
theorem dX0_plays_56 : decode cX0_plays 56 = .ok (.getfield 34, 3) := dk_180 0 34 (dk_at dksX0_plays_2 8 rfl rfl)
theorem dX0_plays_59 : decode cX0_plays 59 = .ok (.getfield 144, 3) := dk_180 0 144 (dk_at dksX0_plays_2 11 rfl rfl)
theorem dX0_plays_62 : decode cX0_plays 62 = .ok (.aload_n 0, 1) := dk_42 (dk_at dksX0_plays_2 14 rfl rfl)
theorem dX0_plays_63 : decode cX0_plays 63 = .ok (.getfield 34, 3) := dk_180 0 34 (dk_at dksX0_plays_2 15 rfl rfl)
theorem dX0_plays_66 : decode cX0_plays 66 = .ok (.getfield 141, 3) := dk_180 0 141 (dk_at dksX0_plays_2 18 rfl rfl)
theorem dX0_plays_69 : decode cX0_plays 69 = .ok (.imul, 1) := dk_104 (dk_at dksX0_plays_2 21 rfl rfl)
theorem dX0_plays_70 : decode cX0_plays 70 = .ok (.istore 7, 2) := dk_54 7 (dk_at dksX0_plays_2 22 rfl rfl)
theorem dX0_plays_72 : decode cX0_plays 72 = .ok (.iconst 0, 1) := dk_3 (dk_at dksX0_plays_3 0 rfl rfl)
theorem dX0_plays_73 : decode cX0_plays 73 = .ok (.istore 8, 2) := dk_54 8 (dk_at dksX0_plays_3 1 rfl rfl)
theorem dX0_plays_75 : decode cX0_plays 75 = .ok (.iconst (-1), 1) := dk_2 (dk_at dksX0_plays_3 3 rfl rfl)
theorem dX0_plays_76 : decode cX0_plays 76 = .ok (.istore 9, 2) := dk_54 9 (dk_at dksX0_plays_3 4 rfl rfl)
theorem dX0_plays_78 : decode cX0_plays 78 = .ok (.iconst 0, 1) := dk_3 (dk_at dksX0_plays_3 6 rfl rfl)
theorem dX0_plays_79 : decode cX0_plays 79 = .ok (.istore 10, 2) := dk_54 10 (dk_at dksX0_plays_3 7 rfl rfl)
theorem dX0_plays_81 : decode cX0_plays 81 = .ok (.iload 10, 2) := dk_21 10 (dk_at dksX0_plays_3 9 rfl rfl)
theorem dX0_plays_83 : decode cX0_plays 83 = .ok (.iload 7, 2) := dk_21 7 (dk_at dksX0_plays_3 11 rfl rfl)
theorem dX0_plays_85 : decode cX0_plays 85 = .ok (.if_icmp .gt 172, 3) := dk_163 0 172 (dk_at dksX0_plays_3 13 rfl rfl)
theorem dX0_plays_88 : decode cX0_plays 88 = .ok (.iload 10, 2) := dk_21 10 (dk_at dksX0_plays_3 16 rfl rfl)
theorem dX0_plays_90 : decode cX0_plays 90 = .ok (.iload 7, 2) := dk_21 7 (dk_at dksX0_plays_3 18 rfl rfl)
theorem dX0_plays_92 : decode cX0_plays 92 = .ok (.if_icmp .ge 58, 3) := dk_162 0 58 (dk_at dksX0_plays_3 20 rfl rfl)
theorem dX0_plays_95 : decode cX0_plays 95 = .ok (.aload 5, 2) := dk_25 5 (dk_at dksX0_plays_4 0 rfl rfl)
theorem dX0_plays_97 : decode cX0_plays 97 = .ok (.getfield 193, 3) := dk_180 0 193 (dk_at dksX0_plays_4 2 rfl rfl)
theorem dX0_plays_100 : decode cX0_plays 100 = .ok (.iload 10, 2) := dk_21 10 (dk_at dksX0_plays_4 5 rfl rfl)
theorem dX0_plays_102 : decode cX0_plays 102 = .ok (.aload_n 0, 1) := dk_42 (dk_at dksX0_plays_4 7 rfl rfl)
theorem dX0_plays_103 : decode cX0_plays 103 = .ok (.getfield 34, 3) := dk_180 0 34 (dk_at dksX0_plays_4 8 rfl rfl)
theorem dX0_plays_106 : decode cX0_plays 106 = .ok (.getfield 141, 3) := dk_180 0 141 (dk_at dksX0_plays_4 11 rfl rfl)
theorem dX0_plays_109 : decode cX0_plays 109 = .ok (.idiv, 1) := dk_108 (dk_at dksX0_plays_4 14 rfl rfl)
theorem dX0_plays_110 : decode cX0_plays 110 = .ok (.aaload, 1) := dk_50 (dk_at dksX0_plays_4 15 rfl rfl)
theorem dX0_plays_111 : decode cX0_plays 111 = .ok (.getfield 262, 3) := dk_180 1 6 (dk_at dksX0_plays_4 16 rfl rfl)
theorem dX0_plays_114 : decode cX0_plays 114 = .ok (.iload 6, 2) := dk_21 6 (dk_at dksX0_plays_4 19 rfl rfl)
theorem dX0_plays_116 : decode cX0_plays 116 = .ok (.if_icmp .ne 135, 3) := dk_160 0 135 (dk_at dksX0_plays_4 21 rfl rfl)
theorem dX0_plays_119 : decode cX0_plays 119 = .ok (.aload 5, 2) := dk_25 5 (dk_at dksX0_plays_5 0 rfl rfl)
theorem dX0_plays_121 : decode cX0_plays 121 = .ok (.iload 10, 2) := dk_21 10 (dk_at dksX0_plays_5 2 rfl rfl)
theorem dX0_plays_123 : decode cX0_plays 123 = .ok (.aload_n 0, 1) := dk_42 (dk_at dksX0_plays_5 4 rfl rfl)
theorem dX0_plays_124 : decode cX0_plays 124 = .ok (.getfield 34, 3) := dk_180 0 34 (dk_at dksX0_plays_5 5 rfl rfl)
theorem dX0_plays_127 : decode cX0_plays 127 = .ok (.getfield 141, 3) := dk_180 0 141 (dk_at dksX0_plays_5 8 rfl rfl)
theorem dX0_plays_130 : decode cX0_plays 130 = .ok (.idiv, 1) := dk_108 (dk_at dksX0_plays_5 11 rfl rfl)
theorem dX0_plays_131 : decode cX0_plays 131 = .ok (.iload 10, 2) := dk_21 10 (dk_at dksX0_plays_5 12 rfl rfl)
theorem dX0_plays_133 : decode cX0_plays 133 = .ok (.aload_n 0, 1) := dk_42 (dk_at dksX0_plays_5 14 rfl rfl)
theorem dX0_plays_134 : decode cX0_plays 134 = .ok (.getfield 34, 3) := dk_180 0 34 (dk_at dksX0_plays_5 15 rfl rfl)
theorem dX0_plays_137 : decode cX0_plays 137 = .ok (.getfield 141, 3) := dk_180 0 141 (dk_at dksX0_plays_5 18 rfl rfl)
theorem dX0_plays_140 : decode cX0_plays 140 = .ok (.irem, 1) := dk_112 (dk_at dksX0_plays_5 21 rfl rfl)
theorem dX0_plays_141 : decode cX0_plays 141 = .ok (.invokevirtual 391, 3) := dk_182 1 135 (dk_at dksX0_plays_6 0 rfl rfl)
theorem dX0_plays_144 : decode cX0_plays 144 = .ok (.ifCond .ne 6, 3) := dk_154 0 6 (dk_at dksX0_plays_6 3 rfl rfl)
theorem dX0_plays_147 : decode cX0_plays 147 = .ok (.goto 104, 3) := dk_167 0 104 (dk_at dksX0_plays_6 6 rfl rfl)
theorem dX0_plays_150 : decode cX0_plays 150 = .ok (.aload_n 0, 1) := dk_42 (dk_at dksX0_plays_6 9 rfl rfl)
theorem dX0_plays_151 : decode cX0_plays 151 = .ok (.getfield 62, 3) := dk_180 0 62 (dk_at dksX0_plays_6 10 rfl rfl)
theorem dX0_plays_154 : decode cX0_plays 154 = .ok (.iload_n 1, 1) := dk_27 (dk_at dksX0_plays_6 13 rfl rfl)
theorem dX0_plays_155 : decode cX0_plays 155 = .ok (.iconst 1, 1) := dk_4 (dk_at dksX0_plays_6 14 rfl rfl)
theorem dX0_plays_156 : decode cX0_plays 156 = .ok (.iadd, 1) := dk_96 (dk_at dksX0_plays_6 15 rfl rfl)
theorem dX0_plays_157 : decode cX0_plays 157 = .ok (.aaload, 1) := dk_50 (dk_at dksX0_plays_6 16 rfl rfl)
theorem dX0_plays_158 : decode cX0_plays 158 = .ok (.aload 5, 2) := dk_25 5 (dk_at dksX0_plays_6 17 rfl rfl)
theorem dX0_plays_160 : decode cX0_plays 160 = .ok (.invokevirtual 394, 3) := dk_182 1 138 (dk_at dksX0_plays_6 19 rfl rfl)
theorem dX0_plays_163 : decode cX0_plays 163 = .ok (.astore 11, 2) := dk_58 11 (dk_at dksX0_plays_6 22 rfl rfl)
theorem dX0_plays_165 : decode cX0_plays 165 = .ok (.iload 10, 2) := dk_21 10 (dk_at dksX0_plays_7 0 rfl rfl)
theorem dX0_plays_167 : decode cX0_plays 167 = .ok (.iload 7, 2) := dk_21 7 (dk_at dksX0_plays_7 2 rfl rfl)
theorem dX0_plays_169 : decode cX0_plays 169 = .ok (.if_icmp .ge 29, 3) := dk_162 0 29 (dk_at dksX0_plays_7 4 rfl rfl)
theorem dX0_plays_172 : decode cX0_plays 172 = .ok (.aload 11, 2) := dk_25 11 (dk_at dksX0_plays_7 7 rfl rfl)
theorem dX0_plays_174 : decode cX0_plays 174 = .ok (.iload 10, 2) := dk_21 10 (dk_at dksX0_plays_7 9 rfl rfl)
theorem dX0_plays_176 : decode cX0_plays 176 = .ok (.aload_n 0, 1) := dk_42 (dk_at dksX0_plays_7 11 rfl rfl)
theorem dX0_plays_177 : decode cX0_plays 177 = .ok (.getfield 34, 3) := dk_180 0 34 (dk_at dksX0_plays_7 12 rfl rfl)
theorem dX0_plays_180 : decode cX0_plays 180 = .ok (.getfield 141, 3) := dk_180 0 141 (dk_at dksX0_plays_7 15 rfl rfl)
theorem dX0_plays_183 : decode cX0_plays 183 = .ok (.idiv, 1) := dk_108 (dk_at dksX0_plays_7 18 rfl rfl)
theorem dX0_plays_184 : decode cX0_plays 184 = .ok (.iload 10, 2) := dk_21 10 (dk_at dksX0_plays_7 19 rfl rfl)
theorem dX0_plays_186 : decode cX0_plays 186 = .ok (.aload_n 0, 1) := dk_42 (dk_at dksX0_plays_7 21 rfl rfl)
theorem dX0_plays_187 : decode cX0_plays 187 = .ok (.getfield 34, 3) := dk_180 0 34 (dk_at dksX0_plays_8 0 rfl rfl)
theorem dX0_plays_190 : decode cX0_plays 190 = .ok (.getfield 141, 3) := dk_180 0 141 (dk_at dksX0_plays_8 3 rfl rfl)
theorem dX0_plays_193 : decode cX0_plays 193 = .ok (.irem, 1) := dk_112 (dk_at dksX0_plays_8 6 rfl rfl)
theorem dX0_plays_194 : decode cX0_plays 194 = .ok (.invokevirtual 277, 3) := dk_182 1 21 (dk_at dksX0_plays_8 7 rfl rfl)
theorem dX0_plays_197 : decode cX0_plays 197 = .ok (.pop, 1) := dk_87 (dk_at dksX0_plays_8 10 rfl rfl)
theorem dX0_plays_198 : decode cX0_plays 198 = .ok (.aload_n 0, 1) := dk_42 (dk_at dksX0_plays_8 11 rfl rfl)
theorem dX0_plays_199 : decode cX0_plays 199 = .ok (.iload_n 1, 1) := dk_27 (dk_at dksX0_plays_8 12 rfl rfl)
theorem dX0_plays_200 : decode cX0_plays 200 = .ok (.iconst 1, 1) := dk_4 (dk_at dksX0_plays_8 13 rfl rfl)
theorem dX0_plays_201 : decode cX0_plays 201 = .ok (.iadd, 1) := dk_96 (dk_at dksX0_plays_8 14 rfl rfl)
theorem dX0_plays_202 : decode cX0_plays 202 = .ok (.iload_n 2, 1) := dk_28 (dk_at dksX0_plays_8 15 rfl rfl)
theorem dX0_plays_203 : decode cX0_plays 203 = .ok (.iload_n 3, 1) := dk_29 (dk_at dksX0_plays_8 16 rfl rfl)
theorem dX0_plays_204 : decode cX0_plays 204 = .ok (.iload 4, 2) := dk_21 4 (dk_at dksX0_plays_8 17 rfl rfl)
theorem dX0_plays_206 : decode cX0_plays 206 = .ok (.invokevirtual 398, 3) := dk_182 1 142 (dk_at dksX0_plays_8 19 rfl rfl)
theorem dX0_plays_209 : decode cX0_plays 209 = .ok (.istore 12, 2) := dk_54 12 (dk_at dksX0_plays_8 22 rfl rfl)
theorem dX0_plays_211 : decode cX0_plays 211 = .ok (.iload 9, 2) := dk_21 9 (dk_at dksX0_plays_9 0 rfl rfl)
theorem dX0_plays_213 : decode cX0_plays 213 = .ok (.iconst (-1), 1) := dk_2 (dk_at dksX0_plays_9 2 rfl rfl)
theorem dX0_plays_214 : decode cX0_plays 214 = .ok (.if_icmp .eq 29, 3) := dk_159 0 29 (dk_at dksX0_plays_9 3 rfl rfl)
theorem dX0_plays_217 : decode cX0_plays 217 = .ok (.iload_n 1, 1) := dk_27 (dk_at dksX0_plays_9 6 rfl rfl)
theorem dX0_plays_218 : decode cX0_plays 218 = .ok (.iconst 2, 1) := dk_5 (dk_at dksX0_plays_9 7 rfl rfl)
theorem dX0_plays_219 : decode cX0_plays 219 = .ok (.irem, 1) := dk_112 (dk_at dksX0_plays_9 8 rfl rfl)
theorem dX0_plays_220 : decode cX0_plays 220 = .ok (.ifCond .ne 13, 3) := dk_154 0 13 (dk_at dksX0_plays_9 9 rfl rfl)
theorem dX0_plays_223 : decode cX0_plays 223 = .ok (.iload 12, 2) := dk_21 12 (dk_at dksX0_plays_9 12 rfl rfl)
theorem dX0_plays_225 : decode cX0_plays 225 = .ok (.iload 8, 2) := dk_21 8 (dk_at dksX0_plays_9 14 rfl rfl)
theorem dX0_plays_227 : decode cX0_plays 227 = .ok (.if_icmp .gt 16, 3) := dk_163 0 16 (dk_at dksX0_plays_9 16 rfl rfl)
theorem dX0_plays_230 : decode cX0_plays 230 = .ok (.goto 21, 3) := dk_167 0 21 (dk_at dksX0_plays_9 19 rfl rfl)
theorem dX0_plays_233 : decode cX0_plays 233 = .ok (.iload 12, 2) := dk_21 12 (dk_at dksX0_plays_9 22 rfl rfl)
theorem dX0_plays_235 : decode cX0_plays 235 = .ok (.iload 8, 2) := dk_21 8 (dk_at dksX0_plays_10 0 rfl rfl)
theorem dX0_plays_237 : decode cX0_plays 237 = .ok (.if_icmp .lt 6, 3) := dk_161 0 6 (dk_at dksX0_plays_10 2 rfl rfl)
theorem dX0_plays_240 : decode cX0_plays 240 = .ok (.goto 11, 3) := dk_167 0 11 (dk_at dksX0_plays_10 5 rfl rfl)
theorem dX0_plays_243 : decode cX0_plays 243 = .ok (.iload 12, 2) := dk_21 12 (dk_at dksX0_plays_10 8 rfl rfl)
theorem dX0_plays_245 : decode cX0_plays 245 = .ok (.istore 8, 2) := dk_54 8 (dk_at dksX0_plays_10 10 rfl rfl)
theorem dX0_plays_247 : decode cX0_plays 247 = .ok (.iload 10, 2) := dk_21 10 (dk_at dksX0_plays_10 12 rfl rfl)
theorem dX0_plays_249 : decode cX0_plays 249 = .ok (.istore 9, 2) := dk_54 9 (dk_at dksX0_plays_10 14 rfl rfl)
theorem dX0_plays_251 : decode cX0_plays 251 = .ok (.iinc 10 1, 3) := dk_132 10 1 (dk_at dksX0_plays_10 16 rfl rfl)
theorem dX0_plays_254 : decode cX0_plays 254 = .ok (.goto (-173), 3) := dk_167 255 83 (dk_at dksX0_plays_10 19 rfl rfl)
theorem dX0_plays_257 : decode cX0_plays 257 = .ok (.aload_n 0, 1) := dk_42 (dk_at dksX0_plays_10 22 rfl rfl)
theorem dX0_plays_258 : decode cX0_plays 258 = .ok (.iload 9, 2) := dk_21 9 (dk_at dksX0_plays_11 0 rfl rfl)
theorem dX0_plays_260 : decode cX0_plays 260 = .ok (.putfield 388, 3) := dk_181 1 132 (dk_at dksX0_plays_11 2 rfl rfl)
theorem dX0_plays_263 : decode cX0_plays 263 = .ok (.iload 8, 2) := dk_21 8 (dk_at dksX0_plays_11 5 rfl rfl)
theorem dX0_plays_265 : decode cX0_plays 265 = .ok (.ireturn, 1) := dk_172 (dk_at dksX0_plays_11 7 rfl rfl)
abbrev cX0_moveOf : ByteArray := prog_1_method_82_code
def yX0_moveOf : MethodName := ⟨RX0, "moveOf", "(IIII)I"⟩
def dkwX0_moveOf_4 : List UInt8 := [180, 0, 141, 108, 167, 0, 15, 42, 180, 1, 132, 42, 180, 0, 34, 180, 0, 141, 112, 182, 0, 93, 172]
abbrev dktX0_moveOf_4 : List UInt8 := dkwX0_moveOf_4 ++ []
def dkwX0_moveOf_3 : List UInt8 := [160, 0, 10, 42, 16, 8, 182, 0, 89, 172, 42, 21, 4, 154, 0, 18, 42, 180, 1, 132, 42, 180, 0, 34]
abbrev dktX0_moveOf_3 : List UInt8 := dkwX0_moveOf_3 ++ dktX0_moveOf_4
def dkwX0_moveOf_2 : List UInt8 := [182, 1, 154, 87, 42, 180, 1, 132, 42, 180, 0, 34, 180, 0, 144, 42, 180, 0, 34, 180, 0, 141, 104]
abbrev dktX0_moveOf_2 : List UInt8 := dkwX0_moveOf_2 ++ dktX0_moveOf_3
def dkwX0_moveOf_1 : List UInt8 := [154, 0, 6, 8, 54, 5, 21, 5, 158, 0, 10, 42, 21, 5, 182, 0, 89, 172, 42, 27, 28, 29]
abbrev dktX0_moveOf_1 : List UInt8 := dkwX0_moveOf_1 ++ dktX0_moveOf_2
def dkwX0_moveOf_0 : List UInt8 := [42, 27, 28, 29, 4, 182, 1, 151, 54, 5, 21, 5, 154, 0, 17, 21, 4, 133, 9, 10, 184, 0, 147]
abbrev dktX0_moveOf_0 : List UInt8 := dkwX0_moveOf_0 ++ dktX0_moveOf_1
theorem dksX0_moveOf_0 : cX0_moveOf.data.toList.drop 0 = dktX0_moveOf_0 := by decide +kernel
theorem dksX0_moveOf_1 : cX0_moveOf.data.toList.drop 23 = dktX0_moveOf_1 := dk_seg dksX0_moveOf_0 23 rfl rfl
theorem dksX0_moveOf_2 : cX0_moveOf.data.toList.drop 45 = dktX0_moveOf_2 := dk_seg dksX0_moveOf_1 22 rfl rfl
theorem dksX0_moveOf_3 : cX0_moveOf.data.toList.drop 68 = dktX0_moveOf_3 := dk_seg dksX0_moveOf_2 23 rfl rfl
theorem dksX0_moveOf_4 : cX0_moveOf.data.toList.drop 92 = dktX0_moveOf_4 := dk_seg dksX0_moveOf_3 24 rfl rfl
theorem dX0_moveOf_0 : decode cX0_moveOf 0 = .ok (.aload_n 0, 1) := dk_42 (dk_at dksX0_moveOf_0 0 rfl rfl)
theorem dX0_moveOf_1 : decode cX0_moveOf 1 = .ok (.iload_n 1, 1) := dk_27 (dk_at dksX0_moveOf_0 1 rfl rfl)
theorem dX0_moveOf_2 : decode cX0_moveOf 2 = .ok (.iload_n 2, 1) := dk_28 (dk_at dksX0_moveOf_0 2 rfl rfl)
theorem dX0_moveOf_3 : decode cX0_moveOf 3 = .ok (.iload_n 3, 1) := dk_29 (dk_at dksX0_moveOf_0 3 rfl rfl)
theorem dX0_moveOf_4 : decode cX0_moveOf 4 = .ok (.iconst 1, 1) := dk_4 (dk_at dksX0_moveOf_0 4 rfl rfl)
theorem dX0_moveOf_5 : decode cX0_moveOf 5 = .ok (.invokevirtual 407, 3) := dk_182 1 151 (dk_at dksX0_moveOf_0 5 rfl rfl)
theorem dX0_moveOf_8 : decode cX0_moveOf 8 = .ok (.istore 5, 2) := dk_54 5 (dk_at dksX0_moveOf_0 8 rfl rfl)
theorem dX0_moveOf_10 : decode cX0_moveOf 10 = .ok (.iload 5, 2) := dk_21 5 (dk_at dksX0_moveOf_0 10 rfl rfl)
theorem dX0_moveOf_12 : decode cX0_moveOf 12 = .ok (.ifCond .ne 17, 3) := dk_154 0 17 (dk_at dksX0_moveOf_0 12 rfl rfl)
theorem dX0_moveOf_15 : decode cX0_moveOf 15 = .ok (.iload 4, 2) := dk_21 4 (dk_at dksX0_moveOf_0 15 rfl rfl)
theorem dX0_moveOf_17 : decode cX0_moveOf 17 = .ok (.i2l, 1) := dk_133 (dk_at dksX0_moveOf_0 17 rfl rfl)
theorem dX0_moveOf_18 : decode cX0_moveOf 18 = .ok (.lconst 0, 1) := dk_9 (dk_at dksX0_moveOf_0 18 rfl rfl)
theorem dX0_moveOf_19 : decode cX0_moveOf 19 = .ok (.lconst 1, 1) := dk_10 (dk_at dksX0_moveOf_0 19 rfl rfl)
theorem dX0_moveOf_20 : decode cX0_moveOf 20 = .ok (.invokestatic 147, 3) := dk_184 0 147 (dk_at dksX0_moveOf_0 20 rfl rfl)
theorem dX0_moveOf_23 : decode cX0_moveOf 23 = .ok (.ifCond .ne 6, 3) := dk_154 0 6 (dk_at dksX0_moveOf_1 0 rfl rfl)
theorem dX0_moveOf_26 : decode cX0_moveOf 26 = .ok (.iconst 5, 1) := dk_8 (dk_at dksX0_moveOf_1 3 rfl rfl)
theorem dX0_moveOf_27 : decode cX0_moveOf 27 = .ok (.istore 5, 2) := dk_54 5 (dk_at dksX0_moveOf_1 4 rfl rfl)
theorem dX0_moveOf_29 : decode cX0_moveOf 29 = .ok (.iload 5, 2) := dk_21 5 (dk_at dksX0_moveOf_1 6 rfl rfl)
theorem dX0_moveOf_31 : decode cX0_moveOf 31 = .ok (.ifCond .le 10, 3) := dk_158 0 10 (dk_at dksX0_moveOf_1 8 rfl rfl)
theorem dX0_moveOf_34 : decode cX0_moveOf 34 = .ok (.aload_n 0, 1) := dk_42 (dk_at dksX0_moveOf_1 11 rfl rfl)
theorem dX0_moveOf_35 : decode cX0_moveOf 35 = .ok (.iload 5, 2) := dk_21 5 (dk_at dksX0_moveOf_1 12 rfl rfl)
theorem dX0_moveOf_37 : decode cX0_moveOf 37 = .ok (.invokevirtual 89, 3) := dk_182 0 89 (dk_at dksX0_moveOf_1 14 rfl rfl)
theorem dX0_moveOf_40 : decode cX0_moveOf 40 = .ok (.ireturn, 1) := dk_172 (dk_at dksX0_moveOf_1 17 rfl rfl)
theorem dX0_moveOf_41 : decode cX0_moveOf 41 = .ok (.aload_n 0, 1) := dk_42 (dk_at dksX0_moveOf_1 18 rfl rfl)
theorem dX0_moveOf_42 : decode cX0_moveOf 42 = .ok (.iload_n 1, 1) := dk_27 (dk_at dksX0_moveOf_1 19 rfl rfl)
theorem dX0_moveOf_43 : decode cX0_moveOf 43 = .ok (.iload_n 2, 1) := dk_28 (dk_at dksX0_moveOf_1 20 rfl rfl)
theorem dX0_moveOf_44 : decode cX0_moveOf 44 = .ok (.iload_n 3, 1) := dk_29 (dk_at dksX0_moveOf_1 21 rfl rfl)
theorem dX0_moveOf_45 : decode cX0_moveOf 45 = .ok (.invokevirtual 410, 3) := dk_182 1 154 (dk_at dksX0_moveOf_2 0 rfl rfl)
theorem dX0_moveOf_48 : decode cX0_moveOf 48 = .ok (.pop, 1) := dk_87 (dk_at dksX0_moveOf_2 3 rfl rfl)
theorem dX0_moveOf_49 : decode cX0_moveOf 49 = .ok (.aload_n 0, 1) := dk_42 (dk_at dksX0_moveOf_2 4 rfl rfl)
theorem dX0_moveOf_50 : decode cX0_moveOf 50 = .ok (.getfield 388, 3) := dk_180 1 132 (dk_at dksX0_moveOf_2 5 rfl rfl)
theorem dX0_moveOf_53 : decode cX0_moveOf 53 = .ok (.aload_n 0, 1) := dk_42 (dk_at dksX0_moveOf_2 8 rfl rfl)
theorem dX0_moveOf_54 : decode cX0_moveOf 54 = .ok (.getfield 34, 3) := dk_180 0 34 (dk_at dksX0_moveOf_2 9 rfl rfl)
theorem dX0_moveOf_57 : decode cX0_moveOf 57 = .ok (.getfield 144, 3) := dk_180 0 144 (dk_at dksX0_moveOf_2 12 rfl rfl)
theorem dX0_moveOf_60 : decode cX0_moveOf 60 = .ok (.aload_n 0, 1) := dk_42 (dk_at dksX0_moveOf_2 15 rfl rfl)
theorem dX0_moveOf_61 : decode cX0_moveOf 61 = .ok (.getfield 34, 3) := dk_180 0 34 (dk_at dksX0_moveOf_2 16 rfl rfl)
theorem dX0_moveOf_64 : decode cX0_moveOf 64 = .ok (.getfield 141, 3) := dk_180 0 141 (dk_at dksX0_moveOf_2 19 rfl rfl)
theorem dX0_moveOf_67 : decode cX0_moveOf 67 = .ok (.imul, 1) := dk_104 (dk_at dksX0_moveOf_2 22 rfl rfl)
theorem dX0_moveOf_68 : decode cX0_moveOf 68 = .ok (.if_icmp .ne 10, 3) := dk_160 0 10 (dk_at dksX0_moveOf_3 0 rfl rfl)
theorem dX0_moveOf_71 : decode cX0_moveOf 71 = .ok (.aload_n 0, 1) := dk_42 (dk_at dksX0_moveOf_3 3 rfl rfl)
theorem dX0_moveOf_72 : decode cX0_moveOf 72 = .ok (.bipush 8, 2) := dk_16 8 (dk_at dksX0_moveOf_3 4 rfl rfl)
theorem dX0_moveOf_74 : decode cX0_moveOf 74 = .ok (.invokevirtual 89, 3) := dk_182 0 89 (dk_at dksX0_moveOf_3 6 rfl rfl)
theorem dX0_moveOf_77 : decode cX0_moveOf 77 = .ok (.ireturn, 1) := dk_172 (dk_at dksX0_moveOf_3 9 rfl rfl)
theorem dX0_moveOf_78 : decode cX0_moveOf 78 = .ok (.aload_n 0, 1) := dk_42 (dk_at dksX0_moveOf_3 10 rfl rfl)
theorem dX0_moveOf_79 : decode cX0_moveOf 79 = .ok (.iload 4, 2) := dk_21 4 (dk_at dksX0_moveOf_3 11 rfl rfl)
theorem dX0_moveOf_81 : decode cX0_moveOf 81 = .ok (.ifCond .ne 18, 3) := dk_154 0 18 (dk_at dksX0_moveOf_3 13 rfl rfl)
theorem dX0_moveOf_84 : decode cX0_moveOf 84 = .ok (.aload_n 0, 1) := dk_42 (dk_at dksX0_moveOf_3 16 rfl rfl)
theorem dX0_moveOf_85 : decode cX0_moveOf 85 = .ok (.getfield 388, 3) := dk_180 1 132 (dk_at dksX0_moveOf_3 17 rfl rfl)
theorem dX0_moveOf_88 : decode cX0_moveOf 88 = .ok (.aload_n 0, 1) := dk_42 (dk_at dksX0_moveOf_3 20 rfl rfl)
theorem dX0_moveOf_89 : decode cX0_moveOf 89 = .ok (.getfield 34, 3) := dk_180 0 34 (dk_at dksX0_moveOf_3 21 rfl rfl)
theorem dX0_moveOf_92 : decode cX0_moveOf 92 = .ok (.getfield 141, 3) := dk_180 0 141 (dk_at dksX0_moveOf_4 0 rfl rfl)
theorem dX0_moveOf_95 : decode cX0_moveOf 95 = .ok (.idiv, 1) := dk_108 (dk_at dksX0_moveOf_4 3 rfl rfl)
theorem dX0_moveOf_96 : decode cX0_moveOf 96 = .ok (.goto 15, 3) := dk_167 0 15 (dk_at dksX0_moveOf_4 4 rfl rfl)
theorem dX0_moveOf_99 : decode cX0_moveOf 99 = .ok (.aload_n 0, 1) := dk_42 (dk_at dksX0_moveOf_4 7 rfl rfl)
theorem dX0_moveOf_100 : decode cX0_moveOf 100 = .ok (.getfield 388, 3) := dk_180 1 132 (dk_at dksX0_moveOf_4 8 rfl rfl)
theorem dX0_moveOf_103 : decode cX0_moveOf 103 = .ok (.aload_n 0, 1) := dk_42 (dk_at dksX0_moveOf_4 11 rfl rfl)
theorem dX0_moveOf_104 : decode cX0_moveOf 104 = .ok (.getfield 34, 3) := dk_180 0 34 (dk_at dksX0_moveOf_4 12 rfl rfl)
theorem dX0_moveOf_107 : decode cX0_moveOf 107 = .ok (.getfield 141, 3) := dk_180 0 141 (dk_at dksX0_moveOf_4 15 rfl rfl)
theorem dX0_moveOf_110 : decode cX0_moveOf 110 = .ok (.irem, 1) := dk_112 (dk_at dksX0_moveOf_4 18 rfl rfl)
theorem dX0_moveOf_111 : decode cX0_moveOf 111 = .ok (.invokevirtual 93, 3) := dk_182 0 93 (dk_at dksX0_moveOf_4 19 rfl rfl)
theorem dX0_moveOf_114 : decode cX0_moveOf 114 = .ok (.ireturn, 1) := dk_172 (dk_at dksX0_moveOf_4 22 rfl rfl)
abbrev cX0_bites : ByteArray := prog_1_method_83_code
def yX0_bites : MethodName := ⟨RX0, "bites", "(II)Z"⟩
def dkwX0_bites_9 : List UInt8 := [167, 255, 234, 42, 22, 6, 22, 4, 182, 1, 159, 172]
abbrev dktX0_bites_9 : List UInt8 := dkwX0_bites_9 ++ []
def dkwX0_bites_8 : List UInt8 := [21, 8, 16, 9, 163, 0, 21, 22, 6, 42, 180, 0, 66, 21, 8, 47, 97, 55, 6, 132, 8, 1]
abbrev dktX0_bites_8 : List UInt8 := dkwX0_bites_8 ++ dktX0_bites_9
def dkwX0_bites_7 : List UInt8 := [167, 255, 194, 22, 4, 20, 1, 54, 105, 55, 4, 132, 6, 1, 167, 255, 170, 9, 55, 6, 28, 54, 8]
abbrev dktX0_bites_7 : List UInt8 := dkwX0_bites_7 ++ dktX0_bites_8
def dkwX0_bites_6 : List UInt8 := [180, 0, 66, 21, 7, 4, 100, 47, 42, 180, 0, 34, 180, 0, 209, 133, 105, 97, 80, 132, 7, 255]
abbrev dktX0_bites_6 : List UInt8 := dkwX0_bites_6 ++ dktX0_bites_7
def dkwX0_bites_5 : List UInt8 := [47, 16, 16, 42, 180, 0, 34, 180, 0, 209, 100, 133, 105, 21, 7, 154, 0, 7, 9, 167, 0, 21, 42]
abbrev dktX0_bites_5 : List UInt8 := dkwX0_bites_5 ++ dktX0_bites_6
def dkwX0_bites_4 : List UInt8 := [162, 0, 86, 16, 9, 54, 7, 21, 7, 155, 0, 63, 42, 180, 0, 66, 21, 7, 42, 180, 0, 66, 21, 7]
abbrev dktX0_bites_4 : List UInt8 := dkwX0_bites_4 ++ dktX0_bites_5
def dkwX0_bites_3 : List UInt8 := [21, 6, 154, 0, 7, 10, 167, 0, 4, 9, 80, 132, 6, 1, 167, 255, 229, 3, 54, 6, 21, 6, 29]
abbrev dktX0_bites_3 : List UInt8 := dkwX0_bites_3 ++ dktX0_bites_4
def dkwX0_bites_2 : List UInt8 := [184, 1, 96, 62, 10, 55, 4, 3, 54, 6, 21, 6, 16, 9, 163, 0, 26, 42, 180, 0, 66, 21, 6]
abbrev dktX0_bites_2 : List UInt8 := dkwX0_bites_2 ++ dktX0_bites_3
def dkwX0_bites_1 : List UInt8 := [154, 0, 9, 42, 8, 182, 0, 96, 172, 42, 180, 0, 34, 27, 182, 0, 215, 42, 182, 0, 222, 126]
abbrev dktX0_bites_1 : List UInt8 := dkwX0_bites_1 ++ dktX0_bites_2
def dkwX0_bites_0 : List UInt8 := [42, 27, 133, 182, 0, 237, 154, 0, 9, 42, 5, 182, 0, 96, 172, 28, 133, 9, 20, 1, 157, 184, 0, 147]
abbrev dktX0_bites_0 : List UInt8 := dkwX0_bites_0 ++ dktX0_bites_1
theorem dksX0_bites_0 : cX0_bites.data.toList.drop 0 = dktX0_bites_0 := by decide +kernel
theorem dksX0_bites_1 : cX0_bites.data.toList.drop 24 = dktX0_bites_1 := dk_seg dksX0_bites_0 24 rfl rfl
theorem dksX0_bites_2 : cX0_bites.data.toList.drop 46 = dktX0_bites_2 := dk_seg dksX0_bites_1 22 rfl rfl
theorem dksX0_bites_3 : cX0_bites.data.toList.drop 69 = dktX0_bites_3 := dk_seg dksX0_bites_2 23 rfl rfl
theorem dksX0_bites_4 : cX0_bites.data.toList.drop 92 = dktX0_bites_4 := dk_seg dksX0_bites_3 23 rfl rfl
theorem dksX0_bites_5 : cX0_bites.data.toList.drop 116 = dktX0_bites_5 := dk_seg dksX0_bites_4 24 rfl rfl
theorem dksX0_bites_6 : cX0_bites.data.toList.drop 139 = dktX0_bites_6 := dk_seg dksX0_bites_5 23 rfl rfl
theorem dksX0_bites_7 : cX0_bites.data.toList.drop 161 = dktX0_bites_7 := dk_seg dksX0_bites_6 22 rfl rfl
theorem dksX0_bites_8 : cX0_bites.data.toList.drop 184 = dktX0_bites_8 := dk_seg dksX0_bites_7 23 rfl rfl
theorem dksX0_bites_9 : cX0_bites.data.toList.drop 206 = dktX0_bites_9 := dk_seg dksX0_bites_8 22 rfl rfl
theorem dX0_bites_0 : decode cX0_bites 0 = .ok (.aload_n 0, 1) := dk_42 (dk_at dksX0_bites_0 0 rfl rfl)
theorem dX0_bites_1 : decode cX0_bites 1 = .ok (.iload_n 1, 1) := dk_27 (dk_at dksX0_bites_0 1 rfl rfl)
theorem dX0_bites_2 : decode cX0_bites 2 = .ok (.i2l, 1) := dk_133 (dk_at dksX0_bites_0 2 rfl rfl)
theorem dX0_bites_3 : decode cX0_bites 3 = .ok (.invokevirtual 237, 3) := dk_182 0 237 (dk_at dksX0_bites_0 3 rfl rfl)
theorem dX0_bites_6 : decode cX0_bites 6 = .ok (.ifCond .ne 9, 3) := dk_154 0 9 (dk_at dksX0_bites_0 6 rfl rfl)
theorem dX0_bites_9 : decode cX0_bites 9 = .ok (.aload_n 0, 1) := dk_42 (dk_at dksX0_bites_0 9 rfl rfl)
theorem dX0_bites_10 : decode cX0_bites 10 = .ok (.iconst 2, 1) := dk_5 (dk_at dksX0_bites_0 10 rfl rfl)
theorem dX0_bites_11 : decode cX0_bites 11 = .ok (.invokevirtual 96, 3) := dk_182 0 96 (dk_at dksX0_bites_0 11 rfl rfl)
theorem dX0_bites_14 : decode cX0_bites 14 = .ok (.ireturn, 1) := dk_172 (dk_at dksX0_bites_0 14 rfl rfl)
theorem dX0_bites_15 : decode cX0_bites 15 = .ok (.iload_n 2, 1) := dk_28 (dk_at dksX0_bites_0 15 rfl rfl)
theorem dX0_bites_16 : decode cX0_bites 16 = .ok (.i2l, 1) := dk_133 (dk_at dksX0_bites_0 16 rfl rfl)
theorem dX0_bites_17 : decode cX0_bites 17 = .ok (.lconst 0, 1) := dk_9 (dk_at dksX0_bites_0 17 rfl rfl)
theorem dX0_bites_18 : decode cX0_bites 18 = .ok (.ldc2_w 413, 3) := dk_20 1 157 (dk_at dksX0_bites_0 18 rfl rfl)
theorem dX0_bites_21 : decode cX0_bites 21 = .ok (.invokestatic 147, 3) := dk_184 0 147 (dk_at dksX0_bites_0 21 rfl rfl)
theorem dX0_bites_24 : decode cX0_bites 24 = .ok (.ifCond .ne 9, 3) := dk_154 0 9 (dk_at dksX0_bites_1 0 rfl rfl)
theorem dX0_bites_27 : decode cX0_bites 27 = .ok (.aload_n 0, 1) := dk_42 (dk_at dksX0_bites_1 3 rfl rfl)
theorem dX0_bites_28 : decode cX0_bites 28 = .ok (.iconst 5, 1) := dk_8 (dk_at dksX0_bites_1 4 rfl rfl)
theorem dX0_bites_29 : decode cX0_bites 29 = .ok (.invokevirtual 96, 3) := dk_182 0 96 (dk_at dksX0_bites_1 5 rfl rfl)
theorem dX0_bites_32 : decode cX0_bites 32 = .ok (.ireturn, 1) := dk_172 (dk_at dksX0_bites_1 8 rfl rfl)
theorem dX0_bites_33 : decode cX0_bites 33 = .ok (.aload_n 0, 1) := dk_42 (dk_at dksX0_bites_1 9 rfl rfl)
theorem dX0_bites_34 : decode cX0_bites 34 = .ok (.getfield 34, 3) := dk_180 0 34 (dk_at dksX0_bites_1 10 rfl rfl)
theorem dX0_bites_37 : decode cX0_bites 37 = .ok (.iload_n 1, 1) := dk_27 (dk_at dksX0_bites_1 13 rfl rfl)
theorem dX0_bites_38 : decode cX0_bites 38 = .ok (.invokevirtual 215, 3) := dk_182 0 215 (dk_at dksX0_bites_1 14 rfl rfl)
theorem dX0_bites_41 : decode cX0_bites 41 = .ok (.aload_n 0, 1) := dk_42 (dk_at dksX0_bites_1 17 rfl rfl)
theorem dX0_bites_42 : decode cX0_bites 42 = .ok (.invokevirtual 222, 3) := dk_182 0 222 (dk_at dksX0_bites_1 18 rfl rfl)
theorem dX0_bites_45 : decode cX0_bites 45 = .ok (.iand, 1) := dk_126 (dk_at dksX0_bites_1 21 rfl rfl)
theorem dX0_bites_46 : decode cX0_bites 46 = .ok (.invokestatic 352, 3) := dk_184 1 96 (dk_at dksX0_bites_2 0 rfl rfl)
theorem dX0_bites_49 : decode cX0_bites 49 = .ok (.istore_n 3, 1) := dk_62 (dk_at dksX0_bites_2 3 rfl rfl)
theorem dX0_bites_50 : decode cX0_bites 50 = .ok (.lconst 1, 1) := dk_10 (dk_at dksX0_bites_2 4 rfl rfl)
theorem dX0_bites_51 : decode cX0_bites 51 = .ok (.lstore 4, 2) := dk_55 4 (dk_at dksX0_bites_2 5 rfl rfl)
theorem dX0_bites_53 : decode cX0_bites 53 = .ok (.iconst 0, 1) := dk_3 (dk_at dksX0_bites_2 7 rfl rfl)
theorem dX0_bites_54 : decode cX0_bites 54 = .ok (.istore 6, 2) := dk_54 6 (dk_at dksX0_bites_2 8 rfl rfl)
theorem dX0_bites_56 : decode cX0_bites 56 = .ok (.iload 6, 2) := dk_21 6 (dk_at dksX0_bites_2 10 rfl rfl)
theorem dX0_bites_58 : decode cX0_bites 58 = .ok (.bipush 9, 2) := dk_16 9 (dk_at dksX0_bites_2 12 rfl rfl)
theorem dX0_bites_60 : decode cX0_bites 60 = .ok (.if_icmp .gt 26, 3) := dk_163 0 26 (dk_at dksX0_bites_2 14 rfl rfl)
theorem dX0_bites_63 : decode cX0_bites 63 = .ok (.aload_n 0, 1) := dk_42 (dk_at dksX0_bites_2 17 rfl rfl)
theorem dX0_bites_64 : decode cX0_bites 64 = .ok (.getfield 66, 3) := dk_180 0 66 (dk_at dksX0_bites_2 18 rfl rfl)
theorem dX0_bites_67 : decode cX0_bites 67 = .ok (.iload 6, 2) := dk_21 6 (dk_at dksX0_bites_2 21 rfl rfl)
theorem dX0_bites_69 : decode cX0_bites 69 = .ok (.iload 6, 2) := dk_21 6 (dk_at dksX0_bites_3 0 rfl rfl)
theorem dX0_bites_71 : decode cX0_bites 71 = .ok (.ifCond .ne 7, 3) := dk_154 0 7 (dk_at dksX0_bites_3 2 rfl rfl)
theorem dX0_bites_74 : decode cX0_bites 74 = .ok (.lconst 1, 1) := dk_10 (dk_at dksX0_bites_3 5 rfl rfl)
theorem dX0_bites_75 : decode cX0_bites 75 = .ok (.goto 4, 3) := dk_167 0 4 (dk_at dksX0_bites_3 6 rfl rfl)
theorem dX0_bites_78 : decode cX0_bites 78 = .ok (.lconst 0, 1) := dk_9 (dk_at dksX0_bites_3 9 rfl rfl)
theorem dX0_bites_79 : decode cX0_bites 79 = .ok (.lastore, 1) := dk_80 (dk_at dksX0_bites_3 10 rfl rfl)
theorem dX0_bites_80 : decode cX0_bites 80 = .ok (.iinc 6 1, 3) := dk_132 6 1 (dk_at dksX0_bites_3 11 rfl rfl)
theorem dX0_bites_83 : decode cX0_bites 83 = .ok (.goto (-27), 3) := dk_167 255 229 (dk_at dksX0_bites_3 14 rfl rfl)
theorem dX0_bites_86 : decode cX0_bites 86 = .ok (.iconst 0, 1) := dk_3 (dk_at dksX0_bites_3 17 rfl rfl)
theorem dX0_bites_87 : decode cX0_bites 87 = .ok (.istore 6, 2) := dk_54 6 (dk_at dksX0_bites_3 18 rfl rfl)
theorem dX0_bites_89 : decode cX0_bites 89 = .ok (.iload 6, 2) := dk_21 6 (dk_at dksX0_bites_3 20 rfl rfl)
theorem dX0_bites_91 : decode cX0_bites 91 = .ok (.iload_n 3, 1) := dk_29 (dk_at dksX0_bites_3 22 rfl rfl)
theorem dX0_bites_92 : decode cX0_bites 92 = .ok (.if_icmp .ge 86, 3) := dk_162 0 86 (dk_at dksX0_bites_4 0 rfl rfl)
theorem dX0_bites_95 : decode cX0_bites 95 = .ok (.bipush 9, 2) := dk_16 9 (dk_at dksX0_bites_4 3 rfl rfl)
theorem dX0_bites_97 : decode cX0_bites 97 = .ok (.istore 7, 2) := dk_54 7 (dk_at dksX0_bites_4 5 rfl rfl)
theorem dX0_bites_99 : decode cX0_bites 99 = .ok (.iload 7, 2) := dk_21 7 (dk_at dksX0_bites_4 7 rfl rfl)
theorem dX0_bites_101 : decode cX0_bites 101 = .ok (.ifCond .lt 63, 3) := dk_155 0 63 (dk_at dksX0_bites_4 9 rfl rfl)
theorem dX0_bites_104 : decode cX0_bites 104 = .ok (.aload_n 0, 1) := dk_42 (dk_at dksX0_bites_4 12 rfl rfl)
theorem dX0_bites_105 : decode cX0_bites 105 = .ok (.getfield 66, 3) := dk_180 0 66 (dk_at dksX0_bites_4 13 rfl rfl)
theorem dX0_bites_108 : decode cX0_bites 108 = .ok (.iload 7, 2) := dk_21 7 (dk_at dksX0_bites_4 16 rfl rfl)
theorem dX0_bites_110 : decode cX0_bites 110 = .ok (.aload_n 0, 1) := dk_42 (dk_at dksX0_bites_4 18 rfl rfl)
theorem dX0_bites_111 : decode cX0_bites 111 = .ok (.getfield 66, 3) := dk_180 0 66 (dk_at dksX0_bites_4 19 rfl rfl)
theorem dX0_bites_114 : decode cX0_bites 114 = .ok (.iload 7, 2) := dk_21 7 (dk_at dksX0_bites_4 22 rfl rfl)
theorem dX0_bites_116 : decode cX0_bites 116 = .ok (.laload, 1) := dk_47 (dk_at dksX0_bites_5 0 rfl rfl)
theorem dX0_bites_117 : decode cX0_bites 117 = .ok (.bipush 16, 2) := dk_16 16 (dk_at dksX0_bites_5 1 rfl rfl)
theorem dX0_bites_119 : decode cX0_bites 119 = .ok (.aload_n 0, 1) := dk_42 (dk_at dksX0_bites_5 3 rfl rfl)
theorem dX0_bites_120 : decode cX0_bites 120 = .ok (.getfield 34, 3) := dk_180 0 34 (dk_at dksX0_bites_5 4 rfl rfl)
theorem dX0_bites_123 : decode cX0_bites 123 = .ok (.getfield 209, 3) := dk_180 0 209 (dk_at dksX0_bites_5 7 rfl rfl)
theorem dX0_bites_126 : decode cX0_bites 126 = .ok (.isub, 1) := dk_100 (dk_at dksX0_bites_5 10 rfl rfl)
theorem dX0_bites_127 : decode cX0_bites 127 = .ok (.i2l, 1) := dk_133 (dk_at dksX0_bites_5 11 rfl rfl)
theorem dX0_bites_128 : decode cX0_bites 128 = .ok (.lmul, 1) := dk_105 (dk_at dksX0_bites_5 12 rfl rfl)
theorem dX0_bites_129 : decode cX0_bites 129 = .ok (.iload 7, 2) := dk_21 7 (dk_at dksX0_bites_5 13 rfl rfl)
theorem dX0_bites_131 : decode cX0_bites 131 = .ok (.ifCond .ne 7, 3) := dk_154 0 7 (dk_at dksX0_bites_5 15 rfl rfl)
theorem dX0_bites_134 : decode cX0_bites 134 = .ok (.lconst 0, 1) := dk_9 (dk_at dksX0_bites_5 18 rfl rfl)
theorem dX0_bites_135 : decode cX0_bites 135 = .ok (.goto 21, 3) := dk_167 0 21 (dk_at dksX0_bites_5 19 rfl rfl)
theorem dX0_bites_138 : decode cX0_bites 138 = .ok (.aload_n 0, 1) := dk_42 (dk_at dksX0_bites_5 22 rfl rfl)
theorem dX0_bites_139 : decode cX0_bites 139 = .ok (.getfield 66, 3) := dk_180 0 66 (dk_at dksX0_bites_6 0 rfl rfl)
theorem dX0_bites_142 : decode cX0_bites 142 = .ok (.iload 7, 2) := dk_21 7 (dk_at dksX0_bites_6 3 rfl rfl)
theorem dX0_bites_144 : decode cX0_bites 144 = .ok (.iconst 1, 1) := dk_4 (dk_at dksX0_bites_6 5 rfl rfl)
theorem dX0_bites_145 : decode cX0_bites 145 = .ok (.isub, 1) := dk_100 (dk_at dksX0_bites_6 6 rfl rfl)
theorem dX0_bites_146 : decode cX0_bites 146 = .ok (.laload, 1) := dk_47 (dk_at dksX0_bites_6 7 rfl rfl)
theorem dX0_bites_147 : decode cX0_bites 147 = .ok (.aload_n 0, 1) := dk_42 (dk_at dksX0_bites_6 8 rfl rfl)
theorem dX0_bites_148 : decode cX0_bites 148 = .ok (.getfield 34, 3) := dk_180 0 34 (dk_at dksX0_bites_6 9 rfl rfl)
theorem dX0_bites_151 : decode cX0_bites 151 = .ok (.getfield 209, 3) := dk_180 0 209 (dk_at dksX0_bites_6 12 rfl rfl)
theorem dX0_bites_154 : decode cX0_bites 154 = .ok (.i2l, 1) := dk_133 (dk_at dksX0_bites_6 15 rfl rfl)
theorem dX0_bites_155 : decode cX0_bites 155 = .ok (.lmul, 1) := dk_105 (dk_at dksX0_bites_6 16 rfl rfl)
theorem dX0_bites_156 : decode cX0_bites 156 = .ok (.ladd, 1) := dk_97 (dk_at dksX0_bites_6 17 rfl rfl)
theorem dX0_bites_157 : decode cX0_bites 157 = .ok (.lastore, 1) := dk_80 (dk_at dksX0_bites_6 18 rfl rfl)
theorem dX0_bites_158 : decode cX0_bites 158 = .ok (.iinc 7 (-1), 3) := dk_132 7 255 (dk_at dksX0_bites_6 19 rfl rfl)
theorem dX0_bites_161 : decode cX0_bites 161 = .ok (.goto (-62), 3) := dk_167 255 194 (dk_at dksX0_bites_7 0 rfl rfl)
theorem dX0_bites_164 : decode cX0_bites 164 = .ok (.lload 4, 2) := dk_22 4 (dk_at dksX0_bites_7 3 rfl rfl)
theorem dX0_bites_166 : decode cX0_bites 166 = .ok (.ldc2_w 310, 3) := dk_20 1 54 (dk_at dksX0_bites_7 5 rfl rfl)
theorem dX0_bites_169 : decode cX0_bites 169 = .ok (.lmul, 1) := dk_105 (dk_at dksX0_bites_7 8 rfl rfl)
theorem dX0_bites_170 : decode cX0_bites 170 = .ok (.lstore 4, 2) := dk_55 4 (dk_at dksX0_bites_7 9 rfl rfl)
theorem dX0_bites_172 : decode cX0_bites 172 = .ok (.iinc 6 1, 3) := dk_132 6 1 (dk_at dksX0_bites_7 11 rfl rfl)
theorem dX0_bites_175 : decode cX0_bites 175 = .ok (.goto (-86), 3) := dk_167 255 170 (dk_at dksX0_bites_7 14 rfl rfl)
theorem dX0_bites_178 : decode cX0_bites 178 = .ok (.lconst 0, 1) := dk_9 (dk_at dksX0_bites_7 17 rfl rfl)
theorem dX0_bites_179 : decode cX0_bites 179 = .ok (.lstore 6, 2) := dk_55 6 (dk_at dksX0_bites_7 18 rfl rfl)
theorem dX0_bites_181 : decode cX0_bites 181 = .ok (.iload_n 2, 1) := dk_28 (dk_at dksX0_bites_7 20 rfl rfl)
theorem dX0_bites_182 : decode cX0_bites 182 = .ok (.istore 8, 2) := dk_54 8 (dk_at dksX0_bites_7 21 rfl rfl)
theorem dX0_bites_184 : decode cX0_bites 184 = .ok (.iload 8, 2) := dk_21 8 (dk_at dksX0_bites_8 0 rfl rfl)
theorem dX0_bites_186 : decode cX0_bites 186 = .ok (.bipush 9, 2) := dk_16 9 (dk_at dksX0_bites_8 2 rfl rfl)
theorem dX0_bites_188 : decode cX0_bites 188 = .ok (.if_icmp .gt 21, 3) := dk_163 0 21 (dk_at dksX0_bites_8 4 rfl rfl)
theorem dX0_bites_191 : decode cX0_bites 191 = .ok (.lload 6, 2) := dk_22 6 (dk_at dksX0_bites_8 7 rfl rfl)
theorem dX0_bites_193 : decode cX0_bites 193 = .ok (.aload_n 0, 1) := dk_42 (dk_at dksX0_bites_8 9 rfl rfl)
theorem dX0_bites_194 : decode cX0_bites 194 = .ok (.getfield 66, 3) := dk_180 0 66 (dk_at dksX0_bites_8 10 rfl rfl)
theorem dX0_bites_197 : decode cX0_bites 197 = .ok (.iload 8, 2) := dk_21 8 (dk_at dksX0_bites_8 13 rfl rfl)
theorem dX0_bites_199 : decode cX0_bites 199 = .ok (.laload, 1) := dk_47 (dk_at dksX0_bites_8 15 rfl rfl)
theorem dX0_bites_200 : decode cX0_bites 200 = .ok (.ladd, 1) := dk_97 (dk_at dksX0_bites_8 16 rfl rfl)
theorem dX0_bites_201 : decode cX0_bites 201 = .ok (.lstore 6, 2) := dk_55 6 (dk_at dksX0_bites_8 17 rfl rfl)
theorem dX0_bites_203 : decode cX0_bites 203 = .ok (.iinc 8 1, 3) := dk_132 8 1 (dk_at dksX0_bites_8 19 rfl rfl)
theorem dX0_bites_206 : decode cX0_bites 206 = .ok (.goto (-22), 3) := dk_167 255 234 (dk_at dksX0_bites_9 0 rfl rfl)
theorem dX0_bites_209 : decode cX0_bites 209 = .ok (.aload_n 0, 1) := dk_42 (dk_at dksX0_bites_9 3 rfl rfl)
theorem dX0_bites_210 : decode cX0_bites 210 = .ok (.lload 6, 2) := dk_22 6 (dk_at dksX0_bites_9 4 rfl rfl)
theorem dX0_bites_212 : decode cX0_bites 212 = .ok (.lload 4, 2) := dk_22 4 (dk_at dksX0_bites_9 6 rfl rfl)
theorem dX0_bites_214 : decode cX0_bites 214 = .ok (.invokevirtual 415, 3) := dk_182 1 159 (dk_at dksX0_bites_9 8 rfl rfl)
theorem dX0_bites_217 : decode cX0_bites 217 = .ok (.ireturn, 1) := dk_172 (dk_at dksX0_bites_9 11 rfl rfl)
abbrev cX0_tell : ByteArray := prog_1_method_12_code
def yX0_tell : MethodName := ⟨RX0, "tell", "(JJ)Z"⟩
def dkwX0_tell_2 : List UInt8 := [3, 182, 0, 96, 172]
abbrev dktX0_tell_2 : List UInt8 := dkwX0_tell_2 ++ []
def dkwX0_tell_1 : List UInt8 := [22, 9, 55, 7, 167, 255, 234, 42, 31, 22, 5, 109, 181, 0, 86, 42, 33, 22, 5, 109, 181, 0, 45, 42]
abbrev dktX0_tell_1 : List UInt8 := dkwX0_tell_1 ++ dktX0_tell_2
def dkwX0_tell_0 : List UInt8 := [31, 55, 5, 33, 55, 7, 22, 7, 9, 148, 153, 0, 21, 22, 5, 22, 7, 113, 55, 9, 22, 7, 55, 5]
abbrev dktX0_tell_0 : List UInt8 := dkwX0_tell_0 ++ dktX0_tell_1
theorem dksX0_tell_0 : cX0_tell.data.toList.drop 0 = dktX0_tell_0 := by decide +kernel
theorem dksX0_tell_1 : cX0_tell.data.toList.drop 24 = dktX0_tell_1 := dk_seg dksX0_tell_0 24 rfl rfl
theorem dksX0_tell_2 : cX0_tell.data.toList.drop 48 = dktX0_tell_2 := dk_seg dksX0_tell_1 24 rfl rfl
theorem dX0_tell_0 : decode cX0_tell 0 = .ok (.lload_n 1, 1) := dk_31 (dk_at dksX0_tell_0 0 rfl rfl)
theorem dX0_tell_1 : decode cX0_tell 1 = .ok (.lstore 5, 2) := dk_55 5 (dk_at dksX0_tell_0 1 rfl rfl)
theorem dX0_tell_3 : decode cX0_tell 3 = .ok (.lload_n 3, 1) := dk_33 (dk_at dksX0_tell_0 3 rfl rfl)
theorem dX0_tell_4 : decode cX0_tell 4 = .ok (.lstore 7, 2) := dk_55 7 (dk_at dksX0_tell_0 4 rfl rfl)
theorem dX0_tell_6 : decode cX0_tell 6 = .ok (.lload 7, 2) := dk_22 7 (dk_at dksX0_tell_0 6 rfl rfl)
theorem dX0_tell_8 : decode cX0_tell 8 = .ok (.lconst 0, 1) := dk_9 (dk_at dksX0_tell_0 8 rfl rfl)
theorem dX0_tell_9 : decode cX0_tell 9 = .ok (.lcmp, 1) := dk_148 (dk_at dksX0_tell_0 9 rfl rfl)
theorem dX0_tell_10 : decode cX0_tell 10 = .ok (.ifCond .eq 21, 3) := dk_153 0 21 (dk_at dksX0_tell_0 10 rfl rfl)
theorem dX0_tell_13 : decode cX0_tell 13 = .ok (.lload 5, 2) := dk_22 5 (dk_at dksX0_tell_0 13 rfl rfl)
theorem dX0_tell_15 : decode cX0_tell 15 = .ok (.lload 7, 2) := dk_22 7 (dk_at dksX0_tell_0 15 rfl rfl)
theorem dX0_tell_17 : decode cX0_tell 17 = .ok (.lrem, 1) := dk_113 (dk_at dksX0_tell_0 17 rfl rfl)
theorem dX0_tell_18 : decode cX0_tell 18 = .ok (.lstore 9, 2) := dk_55 9 (dk_at dksX0_tell_0 18 rfl rfl)
theorem dX0_tell_20 : decode cX0_tell 20 = .ok (.lload 7, 2) := dk_22 7 (dk_at dksX0_tell_0 20 rfl rfl)
theorem dX0_tell_22 : decode cX0_tell 22 = .ok (.lstore 5, 2) := dk_55 5 (dk_at dksX0_tell_0 22 rfl rfl)
theorem dX0_tell_24 : decode cX0_tell 24 = .ok (.lload 9, 2) := dk_22 9 (dk_at dksX0_tell_1 0 rfl rfl)
theorem dX0_tell_26 : decode cX0_tell 26 = .ok (.lstore 7, 2) := dk_55 7 (dk_at dksX0_tell_1 2 rfl rfl)
theorem dX0_tell_28 : decode cX0_tell 28 = .ok (.goto (-22), 3) := dk_167 255 234 (dk_at dksX0_tell_1 4 rfl rfl)
theorem dX0_tell_31 : decode cX0_tell 31 = .ok (.aload_n 0, 1) := dk_42 (dk_at dksX0_tell_1 7 rfl rfl)
theorem dX0_tell_32 : decode cX0_tell 32 = .ok (.lload_n 1, 1) := dk_31 (dk_at dksX0_tell_1 8 rfl rfl)
theorem dX0_tell_33 : decode cX0_tell 33 = .ok (.lload 5, 2) := dk_22 5 (dk_at dksX0_tell_1 9 rfl rfl)
theorem dX0_tell_35 : decode cX0_tell 35 = .ok (.ldiv, 1) := dk_109 (dk_at dksX0_tell_1 11 rfl rfl)
theorem dX0_tell_36 : decode cX0_tell 36 = .ok (.putfield 86, 3) := dk_181 0 86 (dk_at dksX0_tell_1 12 rfl rfl)
theorem dX0_tell_39 : decode cX0_tell 39 = .ok (.aload_n 0, 1) := dk_42 (dk_at dksX0_tell_1 15 rfl rfl)
theorem dX0_tell_40 : decode cX0_tell 40 = .ok (.lload_n 3, 1) := dk_33 (dk_at dksX0_tell_1 16 rfl rfl)
theorem dX0_tell_41 : decode cX0_tell 41 = .ok (.lload 5, 2) := dk_22 5 (dk_at dksX0_tell_1 17 rfl rfl)
theorem dX0_tell_43 : decode cX0_tell 43 = .ok (.ldiv, 1) := dk_109 (dk_at dksX0_tell_1 19 rfl rfl)
theorem dX0_tell_44 : decode cX0_tell 44 = .ok (.putfield 45, 3) := dk_181 0 45 (dk_at dksX0_tell_1 20 rfl rfl)
theorem dX0_tell_47 : decode cX0_tell 47 = .ok (.aload_n 0, 1) := dk_42 (dk_at dksX0_tell_1 23 rfl rfl)
theorem dX0_tell_48 : decode cX0_tell 48 = .ok (.iconst 0, 1) := dk_3 (dk_at dksX0_tell_2 0 rfl rfl)
theorem dX0_tell_49 : decode cX0_tell 49 = .ok (.invokevirtual 96, 3) := dk_182 0 96 (dk_at dksX0_tell_2 1 rfl rfl)
theorem dX0_tell_52 : decode cX0_tell 52 = .ok (.ireturn, 1) := dk_172 (dk_at dksX0_tell_2 4 rfl rfl)
abbrev cX0_share : ByteArray := prog_1_method_84_code
def yX0_share : MethodName := ⟨RX0, "share", "(I)Z"⟩
def dkwX0_share_3 : List UInt8 := [182, 1, 159, 172]
abbrev dktX0_share_3 : List UInt8 := dkwX0_share_3 ++ []
def dkwX0_share_2 : List UInt8 := [167, 0, 25, 42, 42, 180, 0, 34, 42, 180, 0, 34, 27, 182, 0, 215, 182, 0, 228, 133, 28, 133]
abbrev dktX0_share_2 : List UInt8 := dkwX0_share_2 ++ dktX0_share_3
def dkwX0_share_1 : List UInt8 := [180, 0, 34, 2, 182, 0, 215, 2, 130, 126, 182, 0, 228, 61, 28, 154, 0, 12, 42, 16, 8, 182, 0, 96]
abbrev dktX0_share_1 : List UInt8 := dkwX0_share_1 ++ dktX0_share_2
def dkwX0_share_0 : List UInt8 := [42, 27, 133, 182, 0, 237, 154, 0, 9, 42, 5, 182, 0, 96, 172, 42, 180, 0, 34, 42, 182, 0, 225, 42]
abbrev dktX0_share_0 : List UInt8 := dkwX0_share_0 ++ dktX0_share_1
theorem dksX0_share_0 : cX0_share.data.toList.drop 0 = dktX0_share_0 := by decide +kernel
theorem dksX0_share_1 : cX0_share.data.toList.drop 24 = dktX0_share_1 := dk_seg dksX0_share_0 24 rfl rfl
theorem dksX0_share_2 : cX0_share.data.toList.drop 48 = dktX0_share_2 := dk_seg dksX0_share_1 24 rfl rfl
theorem dksX0_share_3 : cX0_share.data.toList.drop 70 = dktX0_share_3 := dk_seg dksX0_share_2 22 rfl rfl
theorem dX0_share_0 : decode cX0_share 0 = .ok (.aload_n 0, 1) := dk_42 (dk_at dksX0_share_0 0 rfl rfl)
theorem dX0_share_1 : decode cX0_share 1 = .ok (.iload_n 1, 1) := dk_27 (dk_at dksX0_share_0 1 rfl rfl)
theorem dX0_share_2 : decode cX0_share 2 = .ok (.i2l, 1) := dk_133 (dk_at dksX0_share_0 2 rfl rfl)
theorem dX0_share_3 : decode cX0_share 3 = .ok (.invokevirtual 237, 3) := dk_182 0 237 (dk_at dksX0_share_0 3 rfl rfl)
theorem dX0_share_6 : decode cX0_share 6 = .ok (.ifCond .ne 9, 3) := dk_154 0 9 (dk_at dksX0_share_0 6 rfl rfl)
theorem dX0_share_9 : decode cX0_share 9 = .ok (.aload_n 0, 1) := dk_42 (dk_at dksX0_share_0 9 rfl rfl)
theorem dX0_share_10 : decode cX0_share 10 = .ok (.iconst 2, 1) := dk_5 (dk_at dksX0_share_0 10 rfl rfl)
theorem dX0_share_11 : decode cX0_share 11 = .ok (.invokevirtual 96, 3) := dk_182 0 96 (dk_at dksX0_share_0 11 rfl rfl)
theorem dX0_share_14 : decode cX0_share 14 = .ok (.ireturn, 1) := dk_172 (dk_at dksX0_share_0 14 rfl rfl)
theorem dX0_share_15 : decode cX0_share 15 = .ok (.aload_n 0, 1) := dk_42 (dk_at dksX0_share_0 15 rfl rfl)
theorem dX0_share_16 : decode cX0_share 16 = .ok (.getfield 34, 3) := dk_180 0 34 (dk_at dksX0_share_0 16 rfl rfl)
theorem dX0_share_19 : decode cX0_share 19 = .ok (.aload_n 0, 1) := dk_42 (dk_at dksX0_share_0 19 rfl rfl)
theorem dX0_share_20 : decode cX0_share 20 = .ok (.invokevirtual 225, 3) := dk_182 0 225 (dk_at dksX0_share_0 20 rfl rfl)
theorem dX0_share_23 : decode cX0_share 23 = .ok (.aload_n 0, 1) := dk_42 (dk_at dksX0_share_0 23 rfl rfl)
theorem dX0_share_24 : decode cX0_share 24 = .ok (.getfield 34, 3) := dk_180 0 34 (dk_at dksX0_share_1 0 rfl rfl)
theorem dX0_share_27 : decode cX0_share 27 = .ok (.iconst (-1), 1) := dk_2 (dk_at dksX0_share_1 3 rfl rfl)
theorem dX0_share_28 : decode cX0_share 28 = .ok (.invokevirtual 215, 3) := dk_182 0 215 (dk_at dksX0_share_1 4 rfl rfl)
theorem dX0_share_31 : decode cX0_share 31 = .ok (.iconst (-1), 1) := dk_2 (dk_at dksX0_share_1 7 rfl rfl)
theorem dX0_share_32 : decode cX0_share 32 = .ok (.ixor, 1) := dk_130 (dk_at dksX0_share_1 8 rfl rfl)
theorem dX0_share_33 : decode cX0_share 33 = .ok (.iand, 1) := dk_126 (dk_at dksX0_share_1 9 rfl rfl)
theorem dX0_share_34 : decode cX0_share 34 = .ok (.invokevirtual 228, 3) := dk_182 0 228 (dk_at dksX0_share_1 10 rfl rfl)
theorem dX0_share_37 : decode cX0_share 37 = .ok (.istore_n 2, 1) := dk_61 (dk_at dksX0_share_1 13 rfl rfl)
theorem dX0_share_38 : decode cX0_share 38 = .ok (.iload_n 2, 1) := dk_28 (dk_at dksX0_share_1 14 rfl rfl)
theorem dX0_share_39 : decode cX0_share 39 = .ok (.ifCond .ne 12, 3) := dk_154 0 12 (dk_at dksX0_share_1 15 rfl rfl)
theorem dX0_share_42 : decode cX0_share 42 = .ok (.aload_n 0, 1) := dk_42 (dk_at dksX0_share_1 18 rfl rfl)
theorem dX0_share_43 : decode cX0_share 43 = .ok (.bipush 8, 2) := dk_16 8 (dk_at dksX0_share_1 19 rfl rfl)
theorem dX0_share_45 : decode cX0_share 45 = .ok (.invokevirtual 96, 3) := dk_182 0 96 (dk_at dksX0_share_1 21 rfl rfl)
theorem dX0_share_48 : decode cX0_share 48 = .ok (.goto 25, 3) := dk_167 0 25 (dk_at dksX0_share_2 0 rfl rfl)
theorem dX0_share_51 : decode cX0_share 51 = .ok (.aload_n 0, 1) := dk_42 (dk_at dksX0_share_2 3 rfl rfl)
theorem dX0_share_52 : decode cX0_share 52 = .ok (.aload_n 0, 1) := dk_42 (dk_at dksX0_share_2 4 rfl rfl)
theorem dX0_share_53 : decode cX0_share 53 = .ok (.getfield 34, 3) := dk_180 0 34 (dk_at dksX0_share_2 5 rfl rfl)
theorem dX0_share_56 : decode cX0_share 56 = .ok (.aload_n 0, 1) := dk_42 (dk_at dksX0_share_2 8 rfl rfl)
theorem dX0_share_57 : decode cX0_share 57 = .ok (.getfield 34, 3) := dk_180 0 34 (dk_at dksX0_share_2 9 rfl rfl)
theorem dX0_share_60 : decode cX0_share 60 = .ok (.iload_n 1, 1) := dk_27 (dk_at dksX0_share_2 12 rfl rfl)
theorem dX0_share_61 : decode cX0_share 61 = .ok (.invokevirtual 215, 3) := dk_182 0 215 (dk_at dksX0_share_2 13 rfl rfl)
theorem dX0_share_64 : decode cX0_share 64 = .ok (.invokevirtual 228, 3) := dk_182 0 228 (dk_at dksX0_share_2 16 rfl rfl)
theorem dX0_share_67 : decode cX0_share 67 = .ok (.i2l, 1) := dk_133 (dk_at dksX0_share_2 19 rfl rfl)
theorem dX0_share_68 : decode cX0_share 68 = .ok (.iload_n 2, 1) := dk_28 (dk_at dksX0_share_2 20 rfl rfl)
theorem dX0_share_69 : decode cX0_share 69 = .ok (.i2l, 1) := dk_133 (dk_at dksX0_share_2 21 rfl rfl)
theorem dX0_share_70 : decode cX0_share 70 = .ok (.invokevirtual 415, 3) := dk_182 1 159 (dk_at dksX0_share_3 0 rfl rfl)
theorem dX0_share_73 : decode cX0_share 73 = .ok (.ireturn, 1) := dk_172 (dk_at dksX0_share_3 3 rfl rfl)
abbrev cX0_live : ByteArray := prog_1_method_93_code
def yX0_live : MethodName := ⟨RX0, "live", "(I)I"⟩
def dkwX0_live_2 : List UInt8 := [3, 8, 184, 0, 130, 42, 4, 181, 1, 222, 42, 42, 180, 1, 201, 182, 0, 93, 172]
abbrev dktX0_live_2 : List UInt8 := dkwX0_live_2 ++ []
def dkwX0_live_1 : List UInt8 := [199, 0, 10, 42, 16, 8, 182, 0, 89, 172, 42, 27, 182, 1, 219, 42, 180, 0, 70, 3, 42, 180, 0, 73]
abbrev dktX0_live_1 : List UInt8 := dkwX0_live_1 ++ dktX0_live_2
def dkwX0_live_0 : List UInt8 := [27, 133, 9, 20, 1, 217, 184, 0, 147, 154, 0, 9, 42, 8, 182, 0, 89, 172, 42, 180, 0, 178]
abbrev dktX0_live_0 : List UInt8 := dkwX0_live_0 ++ dktX0_live_1
theorem dksX0_live_0 : cX0_live.data.toList.drop 0 = dktX0_live_0 := by decide +kernel
theorem dksX0_live_1 : cX0_live.data.toList.drop 22 = dktX0_live_1 := dk_seg dksX0_live_0 22 rfl rfl
theorem dksX0_live_2 : cX0_live.data.toList.drop 46 = dktX0_live_2 := dk_seg dksX0_live_1 24 rfl rfl
theorem dX0_live_0 : decode cX0_live 0 = .ok (.iload_n 1, 1) := dk_27 (dk_at dksX0_live_0 0 rfl rfl)
theorem dX0_live_1 : decode cX0_live 1 = .ok (.i2l, 1) := dk_133 (dk_at dksX0_live_0 1 rfl rfl)
theorem dX0_live_2 : decode cX0_live 2 = .ok (.lconst 0, 1) := dk_9 (dk_at dksX0_live_0 2 rfl rfl)
theorem dX0_live_3 : decode cX0_live 3 = .ok (.ldc2_w 473, 3) := dk_20 1 217 (dk_at dksX0_live_0 3 rfl rfl)
theorem dX0_live_6 : decode cX0_live 6 = .ok (.invokestatic 147, 3) := dk_184 0 147 (dk_at dksX0_live_0 6 rfl rfl)
theorem dX0_live_9 : decode cX0_live 9 = .ok (.ifCond .ne 9, 3) := dk_154 0 9 (dk_at dksX0_live_0 9 rfl rfl)
theorem dX0_live_12 : decode cX0_live 12 = .ok (.aload_n 0, 1) := dk_42 (dk_at dksX0_live_0 12 rfl rfl)
theorem dX0_live_13 : decode cX0_live 13 = .ok (.iconst 5, 1) := dk_8 (dk_at dksX0_live_0 13 rfl rfl)
theorem dX0_live_14 : decode cX0_live 14 = .ok (.invokevirtual 89, 3) := dk_182 0 89 (dk_at dksX0_live_0 14 rfl rfl)
theorem dX0_live_17 : decode cX0_live 17 = .ok (.ireturn, 1) := dk_172 (dk_at dksX0_live_0 17 rfl rfl)
theorem dX0_live_18 : decode cX0_live 18 = .ok (.aload_n 0, 1) := dk_42 (dk_at dksX0_live_0 18 rfl rfl)
theorem dX0_live_19 : decode cX0_live 19 = .ok (.getfield 178, 3) := dk_180 0 178 (dk_at dksX0_live_0 19 rfl rfl)
theorem dX0_live_22 : decode cX0_live 22 = .ok (.ifnonnull 10, 3) := dk_199 0 10 (dk_at dksX0_live_1 0 rfl rfl)
theorem dX0_live_25 : decode cX0_live 25 = .ok (.aload_n 0, 1) := dk_42 (dk_at dksX0_live_1 3 rfl rfl)
theorem dX0_live_26 : decode cX0_live 26 = .ok (.bipush 8, 2) := dk_16 8 (dk_at dksX0_live_1 4 rfl rfl)
theorem dX0_live_28 : decode cX0_live 28 = .ok (.invokevirtual 89, 3) := dk_182 0 89 (dk_at dksX0_live_1 6 rfl rfl)
theorem dX0_live_31 : decode cX0_live 31 = .ok (.ireturn, 1) := dk_172 (dk_at dksX0_live_1 9 rfl rfl)
theorem dX0_live_32 : decode cX0_live 32 = .ok (.aload_n 0, 1) := dk_42 (dk_at dksX0_live_1 10 rfl rfl)
theorem dX0_live_33 : decode cX0_live 33 = .ok (.iload_n 1, 1) := dk_27 (dk_at dksX0_live_1 11 rfl rfl)
theorem dX0_live_34 : decode cX0_live 34 = .ok (.invokevirtual 475, 3) := dk_182 1 219 (dk_at dksX0_live_1 12 rfl rfl)
theorem dX0_live_37 : decode cX0_live 37 = .ok (.aload_n 0, 1) := dk_42 (dk_at dksX0_live_1 15 rfl rfl)
theorem dX0_live_38 : decode cX0_live 38 = .ok (.getfield 70, 3) := dk_180 0 70 (dk_at dksX0_live_1 16 rfl rfl)
theorem dX0_live_41 : decode cX0_live 41 = .ok (.iconst 0, 1) := dk_3 (dk_at dksX0_live_1 19 rfl rfl)
theorem dX0_live_42 : decode cX0_live 42 = .ok (.aload_n 0, 1) := dk_42 (dk_at dksX0_live_1 20 rfl rfl)
theorem dX0_live_43 : decode cX0_live 43 = .ok (.getfield 73, 3) := dk_180 0 73 (dk_at dksX0_live_1 21 rfl rfl)
theorem dX0_live_46 : decode cX0_live 46 = .ok (.iconst 0, 1) := dk_3 (dk_at dksX0_live_2 0 rfl rfl)
theorem dX0_live_47 : decode cX0_live 47 = .ok (.iconst 5, 1) := dk_8 (dk_at dksX0_live_2 1 rfl rfl)
theorem dX0_live_48 : decode cX0_live 48 = .ok (.invokestatic 130, 3) := dk_184 0 130 (dk_at dksX0_live_2 2 rfl rfl)
theorem dX0_live_51 : decode cX0_live 51 = .ok (.aload_n 0, 1) := dk_42 (dk_at dksX0_live_2 5 rfl rfl)
theorem dX0_live_52 : decode cX0_live 52 = .ok (.iconst 1, 1) := dk_4 (dk_at dksX0_live_2 6 rfl rfl)
theorem dX0_live_53 : decode cX0_live 53 = .ok (.putfield 478, 3) := dk_181 1 222 (dk_at dksX0_live_2 7 rfl rfl)
theorem dX0_live_56 : decode cX0_live 56 = .ok (.aload_n 0, 1) := dk_42 (dk_at dksX0_live_2 10 rfl rfl)
theorem dX0_live_57 : decode cX0_live 57 = .ok (.aload_n 0, 1) := dk_42 (dk_at dksX0_live_2 11 rfl rfl)
theorem dX0_live_58 : decode cX0_live 58 = .ok (.getfield 457, 3) := dk_180 1 201 (dk_at dksX0_live_2 12 rfl rfl)
theorem dX0_live_61 : decode cX0_live 61 = .ok (.invokevirtual 93, 3) := dk_182 0 93 (dk_at dksX0_live_2 15 rfl rfl)
theorem dX0_live_64 : decode cX0_live 64 = .ok (.ireturn, 1) := dk_172 (dk_at dksX0_live_2 18 rfl rfl)
abbrev cX0_livesBy : ByteArray := prog_1_method_92_code
def yX0_livesBy : MethodName := ⟨RX0, "livesBy", "(I)V"⟩
def dkwX0_livesBy_7 : List UInt8 := [182, 1, 204, 28, 100, 79, 177]
abbrev dktX0_livesBy_7 : List UInt8 := dkwX0_livesBy_7 ++ []
def dkwX0_livesBy_6 : List UInt8 := [4, 96, 167, 0, 6, 29, 4, 96, 182, 1, 214, 62, 167, 255, 141, 42, 180, 0, 70, 6, 42, 180, 0, 34]
abbrev dktX0_livesBy_6 : List UInt8 := dkwX0_livesBy_6 ++ dktX0_livesBy_7
def dkwX0_livesBy_5 : List UInt8 := [25, 4, 180, 1, 173, 16, 15, 160, 0, 22, 42, 25, 4, 182, 1, 211, 154, 0, 13, 25, 4, 180, 1, 198]
abbrev dktX0_livesBy_5 : List UInt8 := dkwX0_livesBy_5 ++ dktX0_livesBy_6
def dkwX0_livesBy_4 : List UInt8 := [167, 0, 62, 42, 25, 4, 182, 1, 207, 154, 0, 13, 42, 180, 0, 70, 3, 92, 46, 4, 96, 79, 42]
abbrev dktX0_livesBy_4 : List UInt8 := dkwX0_livesBy_4 ++ dktX0_livesBy_5
def dkwX0_livesBy_3 : List UInt8 := [29, 50, 58, 4, 42, 89, 180, 1, 201, 4, 96, 181, 1, 201, 25, 4, 180, 1, 173, 16, 17, 160, 0, 6]
abbrev dktX0_livesBy_3 : List UInt8 := dkwX0_livesBy_3 ++ dktX0_livesBy_4
def dkwX0_livesBy_2 : List UInt8 := [42, 180, 1, 201, 17, 1, 44, 160, 0, 13, 42, 180, 0, 70, 7, 4, 79, 167, 0, 93, 42, 180, 0, 178]
abbrev dktX0_livesBy_2 : List UInt8 := dkwX0_livesBy_2 ++ dktX0_livesBy_3
def dkwX0_livesBy_1 : List UInt8 := [132, 2, 1, 167, 255, 241, 42, 180, 0, 34, 182, 1, 204, 61, 3, 62, 29, 42, 180, 0, 182, 162, 0, 113]
abbrev dktX0_livesBy_1 : List UInt8 := dkwX0_livesBy_1 ++ dktX0_livesBy_2
def dkwX0_livesBy_0 : List UInt8 := [42, 27, 181, 1, 163, 42, 3, 181, 1, 201, 3, 61, 28, 8, 162, 0, 16, 42, 180, 0, 70, 28, 3, 79]
abbrev dktX0_livesBy_0 : List UInt8 := dkwX0_livesBy_0 ++ dktX0_livesBy_1
theorem dksX0_livesBy_0 : cX0_livesBy.data.toList.drop 0 = dktX0_livesBy_0 := by decide +kernel
theorem dksX0_livesBy_1 : cX0_livesBy.data.toList.drop 24 = dktX0_livesBy_1 := dk_seg dksX0_livesBy_0 24 rfl rfl
theorem dksX0_livesBy_2 : cX0_livesBy.data.toList.drop 48 = dktX0_livesBy_2 := dk_seg dksX0_livesBy_1 24 rfl rfl
theorem dksX0_livesBy_3 : cX0_livesBy.data.toList.drop 72 = dktX0_livesBy_3 := dk_seg dksX0_livesBy_2 24 rfl rfl
theorem dksX0_livesBy_4 : cX0_livesBy.data.toList.drop 96 = dktX0_livesBy_4 := dk_seg dksX0_livesBy_3 24 rfl rfl
theorem dksX0_livesBy_5 : cX0_livesBy.data.toList.drop 119 = dktX0_livesBy_5 := dk_seg dksX0_livesBy_4 23 rfl rfl
theorem dksX0_livesBy_6 : cX0_livesBy.data.toList.drop 143 = dktX0_livesBy_6 := dk_seg dksX0_livesBy_5 24 rfl rfl
theorem dksX0_livesBy_7 : cX0_livesBy.data.toList.drop 167 = dktX0_livesBy_7 := dk_seg dksX0_livesBy_6 24 rfl rfl
theorem dX0_livesBy_0 : decode cX0_livesBy 0 = .ok (.aload_n 0, 1) := dk_42 (dk_at dksX0_livesBy_0 0 rfl rfl)
theorem dX0_livesBy_1 : decode cX0_livesBy 1 = .ok (.iload_n 1, 1) := dk_27 (dk_at dksX0_livesBy_0 1 rfl rfl)
theorem dX0_livesBy_2 : decode cX0_livesBy 2 = .ok (.putfield 419, 3) := dk_181 1 163 (dk_at dksX0_livesBy_0 2 rfl rfl)
theorem dX0_livesBy_5 : decode cX0_livesBy 5 = .ok (.aload_n 0, 1) := dk_42 (dk_at dksX0_livesBy_0 5 rfl rfl)
theorem dX0_livesBy_6 : decode cX0_livesBy 6 = .ok (.iconst 0, 1) := dk_3 (dk_at dksX0_livesBy_0 6 rfl rfl)
theorem dX0_livesBy_7 : decode cX0_livesBy 7 = .ok (.putfield 457, 3) := dk_181 1 201 (dk_at dksX0_livesBy_0 7 rfl rfl)
theorem dX0_livesBy_10 : decode cX0_livesBy 10 = .ok (.iconst 0, 1) := dk_3 (dk_at dksX0_livesBy_0 10 rfl rfl)
theorem dX0_livesBy_11 : decode cX0_livesBy 11 = .ok (.istore_n 2, 1) := dk_61 (dk_at dksX0_livesBy_0 11 rfl rfl)
theorem dX0_livesBy_12 : decode cX0_livesBy 12 = .ok (.iload_n 2, 1) := dk_28 (dk_at dksX0_livesBy_0 12 rfl rfl)
theorem dX0_livesBy_13 : decode cX0_livesBy 13 = .ok (.iconst 5, 1) := dk_8 (dk_at dksX0_livesBy_0 13 rfl rfl)
theorem dX0_livesBy_14 : decode cX0_livesBy 14 = .ok (.if_icmp .ge 16, 3) := dk_162 0 16 (dk_at dksX0_livesBy_0 14 rfl rfl)
theorem dX0_livesBy_17 : decode cX0_livesBy 17 = .ok (.aload_n 0, 1) := dk_42 (dk_at dksX0_livesBy_0 17 rfl rfl)
theorem dX0_livesBy_18 : decode cX0_livesBy 18 = .ok (.getfield 70, 3) := dk_180 0 70 (dk_at dksX0_livesBy_0 18 rfl rfl)
theorem dX0_livesBy_21 : decode cX0_livesBy 21 = .ok (.iload_n 2, 1) := dk_28 (dk_at dksX0_livesBy_0 21 rfl rfl)
theorem dX0_livesBy_22 : decode cX0_livesBy 22 = .ok (.iconst 0, 1) := dk_3 (dk_at dksX0_livesBy_0 22 rfl rfl)
theorem dX0_livesBy_23 : decode cX0_livesBy 23 = .ok (.iastore, 1) := dk_79 (dk_at dksX0_livesBy_0 23 rfl rfl)
theorem dX0_livesBy_24 : decode cX0_livesBy 24 = .ok (.iinc 2 1, 3) := dk_132 2 1 (dk_at dksX0_livesBy_1 0 rfl rfl)
theorem dX0_livesBy_27 : decode cX0_livesBy 27 = .ok (.goto (-15), 3) := dk_167 255 241 (dk_at dksX0_livesBy_1 3 rfl rfl)
theorem dX0_livesBy_30 : decode cX0_livesBy 30 = .ok (.aload_n 0, 1) := dk_42 (dk_at dksX0_livesBy_1 6 rfl rfl)
theorem dX0_livesBy_31 : decode cX0_livesBy 31 = .ok (.getfield 34, 3) := dk_180 0 34 (dk_at dksX0_livesBy_1 7 rfl rfl)
theorem dX0_livesBy_34 : decode cX0_livesBy 34 = .ok (.invokevirtual 460, 3) := dk_182 1 204 (dk_at dksX0_livesBy_1 10 rfl rfl)
theorem dX0_livesBy_37 : decode cX0_livesBy 37 = .ok (.istore_n 2, 1) := dk_61 (dk_at dksX0_livesBy_1 13 rfl rfl)
theorem dX0_livesBy_38 : decode cX0_livesBy 38 = .ok (.iconst 0, 1) := dk_3 (dk_at dksX0_livesBy_1 14 rfl rfl)
theorem dX0_livesBy_39 : decode cX0_livesBy 39 = .ok (.istore_n 3, 1) := dk_62 (dk_at dksX0_livesBy_1 15 rfl rfl)
theorem dX0_livesBy_40 : decode cX0_livesBy 40 = .ok (.iload_n 3, 1) := dk_29 (dk_at dksX0_livesBy_1 16 rfl rfl)
theorem dX0_livesBy_41 : decode cX0_livesBy 41 = .ok (.aload_n 0, 1) := dk_42 (dk_at dksX0_livesBy_1 17 rfl rfl)
theorem dX0_livesBy_42 : decode cX0_livesBy 42 = .ok (.getfield 182, 3) := dk_180 0 182 (dk_at dksX0_livesBy_1 18 rfl rfl)
theorem dX0_livesBy_45 : decode cX0_livesBy 45 = .ok (.if_icmp .ge 113, 3) := dk_162 0 113 (dk_at dksX0_livesBy_1 21 rfl rfl)
theorem dX0_livesBy_48 : decode cX0_livesBy 48 = .ok (.aload_n 0, 1) := dk_42 (dk_at dksX0_livesBy_2 0 rfl rfl)
theorem dX0_livesBy_49 : decode cX0_livesBy 49 = .ok (.getfield 457, 3) := dk_180 1 201 (dk_at dksX0_livesBy_2 1 rfl rfl)
theorem dX0_livesBy_52 : decode cX0_livesBy 52 = .ok (.sipush 300, 3) := dk_17 1 44 (dk_at dksX0_livesBy_2 4 rfl rfl)
theorem dX0_livesBy_55 : decode cX0_livesBy 55 = .ok (.if_icmp .ne 13, 3) := dk_160 0 13 (dk_at dksX0_livesBy_2 7 rfl rfl)
theorem dX0_livesBy_58 : decode cX0_livesBy 58 = .ok (.aload_n 0, 1) := dk_42 (dk_at dksX0_livesBy_2 10 rfl rfl)
theorem dX0_livesBy_59 : decode cX0_livesBy 59 = .ok (.getfield 70, 3) := dk_180 0 70 (dk_at dksX0_livesBy_2 11 rfl rfl)
theorem dX0_livesBy_62 : decode cX0_livesBy 62 = .ok (.iconst 4, 1) := dk_7 (dk_at dksX0_livesBy_2 14 rfl rfl)
theorem dX0_livesBy_63 : decode cX0_livesBy 63 = .ok (.iconst 1, 1) := dk_4 (dk_at dksX0_livesBy_2 15 rfl rfl)
theorem dX0_livesBy_64 : decode cX0_livesBy 64 = .ok (.iastore, 1) := dk_79 (dk_at dksX0_livesBy_2 16 rfl rfl)
theorem dX0_livesBy_65 : decode cX0_livesBy 65 = .ok (.goto 93, 3) := dk_167 0 93 (dk_at dksX0_livesBy_2 17 rfl rfl)
theorem dX0_livesBy_68 : decode cX0_livesBy 68 = .ok (.aload_n 0, 1) := dk_42 (dk_at dksX0_livesBy_2 20 rfl rfl)
theorem dX0_livesBy_69 : decode cX0_livesBy 69 = .ok (.getfield 178, 3) := dk_180 0 178 (dk_at dksX0_livesBy_2 21 rfl rfl)
theorem dX0_livesBy_72 : decode cX0_livesBy 72 = .ok (.iload_n 3, 1) := dk_29 (dk_at dksX0_livesBy_3 0 rfl rfl)
theorem dX0_livesBy_73 : decode cX0_livesBy 73 = .ok (.aaload, 1) := dk_50 (dk_at dksX0_livesBy_3 1 rfl rfl)
theorem dX0_livesBy_74 : decode cX0_livesBy 74 = .ok (.astore 4, 2) := dk_58 4 (dk_at dksX0_livesBy_3 2 rfl rfl)
theorem dX0_livesBy_76 : decode cX0_livesBy 76 = .ok (.aload_n 0, 1) := dk_42 (dk_at dksX0_livesBy_3 4 rfl rfl)
theorem dX0_livesBy_77 : decode cX0_livesBy 77 = .ok (.dup, 1) := dk_89 (dk_at dksX0_livesBy_3 5 rfl rfl)
theorem dX0_livesBy_78 : decode cX0_livesBy 78 = .ok (.getfield 457, 3) := dk_180 1 201 (dk_at dksX0_livesBy_3 6 rfl rfl)
theorem dX0_livesBy_81 : decode cX0_livesBy 81 = .ok (.iconst 1, 1) := dk_4 (dk_at dksX0_livesBy_3 9 rfl rfl)
theorem dX0_livesBy_82 : decode cX0_livesBy 82 = .ok (.iadd, 1) := dk_96 (dk_at dksX0_livesBy_3 10 rfl rfl)
theorem dX0_livesBy_83 : decode cX0_livesBy 83 = .ok (.putfield 457, 3) := dk_181 1 201 (dk_at dksX0_livesBy_3 11 rfl rfl)
theorem dX0_livesBy_86 : decode cX0_livesBy 86 = .ok (.aload 4, 2) := dk_25 4 (dk_at dksX0_livesBy_3 14 rfl rfl)
theorem dX0_livesBy_88 : decode cX0_livesBy 88 = .ok (.getfield 429, 3) := dk_180 1 173 (dk_at dksX0_livesBy_3 16 rfl rfl)
theorem dX0_livesBy_91 : decode cX0_livesBy 91 = .ok (.bipush 17, 2) := dk_16 17 (dk_at dksX0_livesBy_3 19 rfl rfl)
theorem dX0_livesBy_93 : decode cX0_livesBy 93 = .ok (.if_icmp .ne 6, 3) := dk_160 0 6 (dk_at dksX0_livesBy_3 21 rfl rfl)
theorem dX0_livesBy_96 : decode cX0_livesBy 96 = .ok (.goto 62, 3) := dk_167 0 62 (dk_at dksX0_livesBy_4 0 rfl rfl)
theorem dX0_livesBy_99 : decode cX0_livesBy 99 = .ok (.aload_n 0, 1) := dk_42 (dk_at dksX0_livesBy_4 3 rfl rfl)
theorem dX0_livesBy_100 : decode cX0_livesBy 100 = .ok (.aload 4, 2) := dk_25 4 (dk_at dksX0_livesBy_4 4 rfl rfl)
theorem dX0_livesBy_102 : decode cX0_livesBy 102 = .ok (.invokevirtual 463, 3) := dk_182 1 207 (dk_at dksX0_livesBy_4 6 rfl rfl)
theorem dX0_livesBy_105 : decode cX0_livesBy 105 = .ok (.ifCond .ne 13, 3) := dk_154 0 13 (dk_at dksX0_livesBy_4 9 rfl rfl)
theorem dX0_livesBy_108 : decode cX0_livesBy 108 = .ok (.aload_n 0, 1) := dk_42 (dk_at dksX0_livesBy_4 12 rfl rfl)
theorem dX0_livesBy_109 : decode cX0_livesBy 109 = .ok (.getfield 70, 3) := dk_180 0 70 (dk_at dksX0_livesBy_4 13 rfl rfl)
theorem dX0_livesBy_112 : decode cX0_livesBy 112 = .ok (.iconst 0, 1) := dk_3 (dk_at dksX0_livesBy_4 16 rfl rfl)
theorem dX0_livesBy_113 : decode cX0_livesBy 113 = .ok (.dup2, 1) := dk_92 (dk_at dksX0_livesBy_4 17 rfl rfl)
theorem dX0_livesBy_114 : decode cX0_livesBy 114 = .ok (.iaload, 1) := dk_46 (dk_at dksX0_livesBy_4 18 rfl rfl)
theorem dX0_livesBy_115 : decode cX0_livesBy 115 = .ok (.iconst 1, 1) := dk_4 (dk_at dksX0_livesBy_4 19 rfl rfl)
theorem dX0_livesBy_116 : decode cX0_livesBy 116 = .ok (.iadd, 1) := dk_96 (dk_at dksX0_livesBy_4 20 rfl rfl)
theorem dX0_livesBy_117 : decode cX0_livesBy 117 = .ok (.iastore, 1) := dk_79 (dk_at dksX0_livesBy_4 21 rfl rfl)
theorem dX0_livesBy_118 : decode cX0_livesBy 118 = .ok (.aload_n 0, 1) := dk_42 (dk_at dksX0_livesBy_4 22 rfl rfl)
theorem dX0_livesBy_119 : decode cX0_livesBy 119 = .ok (.aload 4, 2) := dk_25 4 (dk_at dksX0_livesBy_5 0 rfl rfl)
theorem dX0_livesBy_121 : decode cX0_livesBy 121 = .ok (.getfield 429, 3) := dk_180 1 173 (dk_at dksX0_livesBy_5 2 rfl rfl)
theorem dX0_livesBy_124 : decode cX0_livesBy 124 = .ok (.bipush 15, 2) := dk_16 15 (dk_at dksX0_livesBy_5 5 rfl rfl)
theorem dX0_livesBy_126 : decode cX0_livesBy 126 = .ok (.if_icmp .ne 22, 3) := dk_160 0 22 (dk_at dksX0_livesBy_5 7 rfl rfl)
theorem dX0_livesBy_129 : decode cX0_livesBy 129 = .ok (.aload_n 0, 1) := dk_42 (dk_at dksX0_livesBy_5 10 rfl rfl)
theorem dX0_livesBy_130 : decode cX0_livesBy 130 = .ok (.aload 4, 2) := dk_25 4 (dk_at dksX0_livesBy_5 11 rfl rfl)
theorem dX0_livesBy_132 : decode cX0_livesBy 132 = .ok (.invokevirtual 467, 3) := dk_182 1 211 (dk_at dksX0_livesBy_5 13 rfl rfl)
theorem dX0_livesBy_135 : decode cX0_livesBy 135 = .ok (.ifCond .ne 13, 3) := dk_154 0 13 (dk_at dksX0_livesBy_5 16 rfl rfl)
theorem dX0_livesBy_138 : decode cX0_livesBy 138 = .ok (.aload 4, 2) := dk_25 4 (dk_at dksX0_livesBy_5 19 rfl rfl)
theorem dX0_livesBy_140 : decode cX0_livesBy 140 = .ok (.getfield 454, 3) := dk_180 1 198 (dk_at dksX0_livesBy_5 21 rfl rfl)
theorem dX0_livesBy_143 : decode cX0_livesBy 143 = .ok (.iconst 1, 1) := dk_4 (dk_at dksX0_livesBy_6 0 rfl rfl)
theorem dX0_livesBy_144 : decode cX0_livesBy 144 = .ok (.iadd, 1) := dk_96 (dk_at dksX0_livesBy_6 1 rfl rfl)
theorem dX0_livesBy_145 : decode cX0_livesBy 145 = .ok (.goto 6, 3) := dk_167 0 6 (dk_at dksX0_livesBy_6 2 rfl rfl)
theorem dX0_livesBy_148 : decode cX0_livesBy 148 = .ok (.iload_n 3, 1) := dk_29 (dk_at dksX0_livesBy_6 5 rfl rfl)
theorem dX0_livesBy_149 : decode cX0_livesBy 149 = .ok (.iconst 1, 1) := dk_4 (dk_at dksX0_livesBy_6 6 rfl rfl)
theorem dX0_livesBy_150 : decode cX0_livesBy 150 = .ok (.iadd, 1) := dk_96 (dk_at dksX0_livesBy_6 7 rfl rfl)
theorem dX0_livesBy_151 : decode cX0_livesBy 151 = .ok (.invokevirtual 470, 3) := dk_182 1 214 (dk_at dksX0_livesBy_6 8 rfl rfl)
theorem dX0_livesBy_154 : decode cX0_livesBy 154 = .ok (.istore_n 3, 1) := dk_62 (dk_at dksX0_livesBy_6 11 rfl rfl)
theorem dX0_livesBy_155 : decode cX0_livesBy 155 = .ok (.goto (-115), 3) := dk_167 255 141 (dk_at dksX0_livesBy_6 12 rfl rfl)
theorem dX0_livesBy_158 : decode cX0_livesBy 158 = .ok (.aload_n 0, 1) := dk_42 (dk_at dksX0_livesBy_6 15 rfl rfl)
theorem dX0_livesBy_159 : decode cX0_livesBy 159 = .ok (.getfield 70, 3) := dk_180 0 70 (dk_at dksX0_livesBy_6 16 rfl rfl)
theorem dX0_livesBy_162 : decode cX0_livesBy 162 = .ok (.iconst 3, 1) := dk_6 (dk_at dksX0_livesBy_6 19 rfl rfl)
theorem dX0_livesBy_163 : decode cX0_livesBy 163 = .ok (.aload_n 0, 1) := dk_42 (dk_at dksX0_livesBy_6 20 rfl rfl)
theorem dX0_livesBy_164 : decode cX0_livesBy 164 = .ok (.getfield 34, 3) := dk_180 0 34 (dk_at dksX0_livesBy_6 21 rfl rfl)
theorem dX0_livesBy_167 : decode cX0_livesBy 167 = .ok (.invokevirtual 460, 3) := dk_182 1 204 (dk_at dksX0_livesBy_7 0 rfl rfl)
theorem dX0_livesBy_170 : decode cX0_livesBy 170 = .ok (.iload_n 2, 1) := dk_28 (dk_at dksX0_livesBy_7 3 rfl rfl)
theorem dX0_livesBy_171 : decode cX0_livesBy 171 = .ok (.isub, 1) := dk_100 (dk_at dksX0_livesBy_7 4 rfl rfl)
theorem dX0_livesBy_172 : decode cX0_livesBy 172 = .ok (.iastore, 1) := dk_79 (dk_at dksX0_livesBy_7 5 rfl rfl)
theorem dX0_livesBy_173 : decode cX0_livesBy 173 = .ok (.return_, 1) := dk_177 (dk_at dksX0_livesBy_7 6 rfl rfl)
abbrev cX0_does : ByteArray := prog_1_method_89_code
def yX0_does : MethodName := ⟨RX0, "does", "(LTinFen$Step;)Z"⟩
def dkwX0_does_5 : List UInt8 := [4, 172]
abbrev dktX0_does_5 : List UInt8 := dkwX0_does_5 ++ []
def dkwX0_does_4 : List UInt8 := [43, 180, 1, 179, 3, 182, 1, 46, 172, 42, 182, 1, 185, 172, 43, 43, 180, 1, 176, 181, 1, 189, 4, 172]
abbrev dktX0_does_4 : List UInt8 := dkwX0_does_4 ++ dktX0_does_5
def dkwX0_does_3 : List UInt8 := [180, 0, 34, 43, 180, 1, 176, 43, 180, 1, 179, 4, 182, 1, 46, 172, 42, 180, 0, 34, 43, 180, 1, 176]
abbrev dktX0_does_3 : List UInt8 := dkwX0_does_3 ++ dktX0_does_4
def dkwX0_does_2 : List UInt8 := [42, 43, 180, 1, 176, 43, 180, 1, 179, 182, 1, 170, 172, 42, 43, 180, 1, 176, 182, 1, 182, 172, 42]
abbrev dktX0_does_2 : List UInt8 := dkwX0_does_2 ++ dktX0_does_3
def dkwX0_does_1 : List UInt8 := [170, 0, 0, 0, 0, 0, 0, 115, 0, 0, 0, 10, 0, 0, 0, 16, 0, 0, 0, 44, 0, 0, 0, 57, 0, 0, 0, 66, 0, 0, 0, 83, 0, 0, 0, 100, 0, 0, 0, 115, 0, 0, 0, 105]
abbrev dktX0_does_1 : List UInt8 := dkwX0_does_1 ++ dktX0_does_2
def dkwX0_does_0 : List UInt8 := [43, 180, 1, 173]
abbrev dktX0_does_0 : List UInt8 := dkwX0_does_0 ++ dktX0_does_1
theorem dksX0_does_0 : cX0_does.data.toList.drop 0 = dktX0_does_0 := by decide +kernel
theorem dksX0_does_1 : cX0_does.data.toList.drop 4 = dktX0_does_1 := dk_seg dksX0_does_0 4 rfl rfl
theorem dksX0_does_2 : cX0_does.data.toList.drop 48 = dktX0_does_2 := dk_seg dksX0_does_1 44 rfl rfl
theorem dksX0_does_3 : cX0_does.data.toList.drop 71 = dktX0_does_3 := dk_seg dksX0_does_2 23 rfl rfl
theorem dksX0_does_4 : cX0_does.data.toList.drop 95 = dktX0_does_4 := dk_seg dksX0_does_3 24 rfl rfl
theorem dksX0_does_5 : cX0_does.data.toList.drop 119 = dktX0_does_5 := dk_seg dksX0_does_4 24 rfl rfl
theorem dX0_does_0 : decode cX0_does 0 = .ok (.aload_n 1, 1) := dk_43 (dk_at dksX0_does_0 0 rfl rfl)
theorem dX0_does_1 : decode cX0_does 1 = .ok (.getfield 429, 3) := dk_180 1 173 (dk_at dksX0_does_0 1 rfl rfl)
theorem dX0_does_4 : decode cX0_does 4 = .ok (.tableswitch 115 10 16 #[44, 57, 66, 83, 100, 115, 105], 44) := by decide +kernel
theorem dX0_does_48 : decode cX0_does 48 = .ok (.aload_n 0, 1) := dk_42 (dk_at dksX0_does_2 0 rfl rfl)
theorem dX0_does_49 : decode cX0_does 49 = .ok (.aload_n 1, 1) := dk_43 (dk_at dksX0_does_2 1 rfl rfl)
theorem dX0_does_50 : decode cX0_does 50 = .ok (.getfield 432, 3) := dk_180 1 176 (dk_at dksX0_does_2 2 rfl rfl)
theorem dX0_does_53 : decode cX0_does 53 = .ok (.aload_n 1, 1) := dk_43 (dk_at dksX0_does_2 5 rfl rfl)
theorem dX0_does_54 : decode cX0_does 54 = .ok (.getfield 435, 3) := dk_180 1 179 (dk_at dksX0_does_2 6 rfl rfl)
theorem dX0_does_57 : decode cX0_does 57 = .ok (.invokevirtual 426, 3) := dk_182 1 170 (dk_at dksX0_does_2 9 rfl rfl)
theorem dX0_does_60 : decode cX0_does 60 = .ok (.ireturn, 1) := dk_172 (dk_at dksX0_does_2 12 rfl rfl)
theorem dX0_does_61 : decode cX0_does 61 = .ok (.aload_n 0, 1) := dk_42 (dk_at dksX0_does_2 13 rfl rfl)
theorem dX0_does_62 : decode cX0_does 62 = .ok (.aload_n 1, 1) := dk_43 (dk_at dksX0_does_2 14 rfl rfl)
theorem dX0_does_63 : decode cX0_does 63 = .ok (.getfield 432, 3) := dk_180 1 176 (dk_at dksX0_does_2 15 rfl rfl)
theorem dX0_does_66 : decode cX0_does 66 = .ok (.invokevirtual 438, 3) := dk_182 1 182 (dk_at dksX0_does_2 18 rfl rfl)
theorem dX0_does_69 : decode cX0_does 69 = .ok (.ireturn, 1) := dk_172 (dk_at dksX0_does_2 21 rfl rfl)
theorem dX0_does_70 : decode cX0_does 70 = .ok (.aload_n 0, 1) := dk_42 (dk_at dksX0_does_2 22 rfl rfl)
theorem dX0_does_71 : decode cX0_does 71 = .ok (.getfield 34, 3) := dk_180 0 34 (dk_at dksX0_does_3 0 rfl rfl)
theorem dX0_does_74 : decode cX0_does 74 = .ok (.aload_n 1, 1) := dk_43 (dk_at dksX0_does_3 3 rfl rfl)
theorem dX0_does_75 : decode cX0_does 75 = .ok (.getfield 432, 3) := dk_180 1 176 (dk_at dksX0_does_3 4 rfl rfl)
theorem dX0_does_78 : decode cX0_does 78 = .ok (.aload_n 1, 1) := dk_43 (dk_at dksX0_does_3 7 rfl rfl)
theorem dX0_does_79 : decode cX0_does 79 = .ok (.getfield 435, 3) := dk_180 1 179 (dk_at dksX0_does_3 8 rfl rfl)
theorem dX0_does_82 : decode cX0_does 82 = .ok (.iconst 1, 1) := dk_4 (dk_at dksX0_does_3 11 rfl rfl)
theorem dX0_does_83 : decode cX0_does 83 = .ok (.invokevirtual 302, 3) := dk_182 1 46 (dk_at dksX0_does_3 12 rfl rfl)
theorem dX0_does_86 : decode cX0_does 86 = .ok (.ireturn, 1) := dk_172 (dk_at dksX0_does_3 15 rfl rfl)
theorem dX0_does_87 : decode cX0_does 87 = .ok (.aload_n 0, 1) := dk_42 (dk_at dksX0_does_3 16 rfl rfl)
theorem dX0_does_88 : decode cX0_does 88 = .ok (.getfield 34, 3) := dk_180 0 34 (dk_at dksX0_does_3 17 rfl rfl)
theorem dX0_does_91 : decode cX0_does 91 = .ok (.aload_n 1, 1) := dk_43 (dk_at dksX0_does_3 20 rfl rfl)
theorem dX0_does_92 : decode cX0_does 92 = .ok (.getfield 432, 3) := dk_180 1 176 (dk_at dksX0_does_3 21 rfl rfl)
theorem dX0_does_95 : decode cX0_does 95 = .ok (.aload_n 1, 1) := dk_43 (dk_at dksX0_does_4 0 rfl rfl)
theorem dX0_does_96 : decode cX0_does 96 = .ok (.getfield 435, 3) := dk_180 1 179 (dk_at dksX0_does_4 1 rfl rfl)
theorem dX0_does_99 : decode cX0_does 99 = .ok (.iconst 0, 1) := dk_3 (dk_at dksX0_does_4 4 rfl rfl)
theorem dX0_does_100 : decode cX0_does 100 = .ok (.invokevirtual 302, 3) := dk_182 1 46 (dk_at dksX0_does_4 5 rfl rfl)
theorem dX0_does_103 : decode cX0_does 103 = .ok (.ireturn, 1) := dk_172 (dk_at dksX0_does_4 8 rfl rfl)
theorem dX0_does_104 : decode cX0_does 104 = .ok (.aload_n 0, 1) := dk_42 (dk_at dksX0_does_4 9 rfl rfl)
theorem dX0_does_105 : decode cX0_does 105 = .ok (.invokevirtual 441, 3) := dk_182 1 185 (dk_at dksX0_does_4 10 rfl rfl)
theorem dX0_does_108 : decode cX0_does 108 = .ok (.ireturn, 1) := dk_172 (dk_at dksX0_does_4 13 rfl rfl)
theorem dX0_does_109 : decode cX0_does 109 = .ok (.aload_n 1, 1) := dk_43 (dk_at dksX0_does_4 14 rfl rfl)
theorem dX0_does_110 : decode cX0_does 110 = .ok (.aload_n 1, 1) := dk_43 (dk_at dksX0_does_4 15 rfl rfl)
theorem dX0_does_111 : decode cX0_does 111 = .ok (.getfield 432, 3) := dk_180 1 176 (dk_at dksX0_does_4 16 rfl rfl)
theorem dX0_does_114 : decode cX0_does 114 = .ok (.putfield 445, 3) := dk_181 1 189 (dk_at dksX0_does_4 19 rfl rfl)
theorem dX0_does_117 : decode cX0_does 117 = .ok (.iconst 1, 1) := dk_4 (dk_at dksX0_does_4 22 rfl rfl)
theorem dX0_does_118 : decode cX0_does 118 = .ok (.ireturn, 1) := dk_172 (dk_at dksX0_does_4 23 rfl rfl)
theorem dX0_does_119 : decode cX0_does 119 = .ok (.iconst 1, 1) := dk_4 (dk_at dksX0_does_5 0 rfl rfl)
theorem dX0_does_120 : decode cX0_does 120 = .ok (.ireturn, 1) := dk_172 (dk_at dksX0_does_5 1 rfl rfl)
abbrev cX0_passesOn : ByteArray := prog_1_method_86_code
def yX0_passesOn : MethodName := ⟨RX0, "passesOn", "(II)Z"⟩
def dkwX0_passesOn_1 : List UInt8 := [4, 172]
abbrev dktX0_passesOn_1 : List UInt8 := dkwX0_passesOn_1 ++ []
def dkwX0_passesOn_0 : List UInt8 := [42, 180, 0, 34, 27, 28, 182, 1, 21, 154, 0, 5, 3, 172, 42, 180, 0, 70, 4, 92, 46, 4, 96, 79]
abbrev dktX0_passesOn_0 : List UInt8 := dkwX0_passesOn_0 ++ dktX0_passesOn_1
theorem dksX0_passesOn_0 : cX0_passesOn.data.toList.drop 0 = dktX0_passesOn_0 := by decide +kernel
theorem dksX0_passesOn_1 : cX0_passesOn.data.toList.drop 24 = dktX0_passesOn_1 := dk_seg dksX0_passesOn_0 24 rfl rfl
theorem dX0_passesOn_0 : decode cX0_passesOn 0 = .ok (.aload_n 0, 1) := dk_42 (dk_at dksX0_passesOn_0 0 rfl rfl)
theorem dX0_passesOn_1 : decode cX0_passesOn 1 = .ok (.getfield 34, 3) := dk_180 0 34 (dk_at dksX0_passesOn_0 1 rfl rfl)
theorem dX0_passesOn_4 : decode cX0_passesOn 4 = .ok (.iload_n 1, 1) := dk_27 (dk_at dksX0_passesOn_0 4 rfl rfl)
theorem dX0_passesOn_5 : decode cX0_passesOn 5 = .ok (.iload_n 2, 1) := dk_28 (dk_at dksX0_passesOn_0 5 rfl rfl)
theorem dX0_passesOn_6 : decode cX0_passesOn 6 = .ok (.invokevirtual 277, 3) := dk_182 1 21 (dk_at dksX0_passesOn_0 6 rfl rfl)
theorem dX0_passesOn_9 : decode cX0_passesOn 9 = .ok (.ifCond .ne 5, 3) := dk_154 0 5 (dk_at dksX0_passesOn_0 9 rfl rfl)
theorem dX0_passesOn_12 : decode cX0_passesOn 12 = .ok (.iconst 0, 1) := dk_3 (dk_at dksX0_passesOn_0 12 rfl rfl)
theorem dX0_passesOn_13 : decode cX0_passesOn 13 = .ok (.ireturn, 1) := dk_172 (dk_at dksX0_passesOn_0 13 rfl rfl)
theorem dX0_passesOn_14 : decode cX0_passesOn 14 = .ok (.aload_n 0, 1) := dk_42 (dk_at dksX0_passesOn_0 14 rfl rfl)
theorem dX0_passesOn_15 : decode cX0_passesOn 15 = .ok (.getfield 70, 3) := dk_180 0 70 (dk_at dksX0_passesOn_0 15 rfl rfl)
theorem dX0_passesOn_18 : decode cX0_passesOn 18 = .ok (.iconst 1, 1) := dk_4 (dk_at dksX0_passesOn_0 18 rfl rfl)
theorem dX0_passesOn_19 : decode cX0_passesOn 19 = .ok (.dup2, 1) := dk_92 (dk_at dksX0_passesOn_0 19 rfl rfl)
theorem dX0_passesOn_20 : decode cX0_passesOn 20 = .ok (.iaload, 1) := dk_46 (dk_at dksX0_passesOn_0 20 rfl rfl)
theorem dX0_passesOn_21 : decode cX0_passesOn 21 = .ok (.iconst 1, 1) := dk_4 (dk_at dksX0_passesOn_0 21 rfl rfl)
theorem dX0_passesOn_22 : decode cX0_passesOn 22 = .ok (.iadd, 1) := dk_96 (dk_at dksX0_passesOn_0 22 rfl rfl)
theorem dX0_passesOn_23 : decode cX0_passesOn 23 = .ok (.iastore, 1) := dk_79 (dk_at dksX0_passesOn_0 23 rfl rfl)
theorem dX0_passesOn_24 : decode cX0_passesOn 24 = .ok (.iconst 1, 1) := dk_4 (dk_at dksX0_passesOn_1 0 rfl rfl)
theorem dX0_passesOn_25 : decode cX0_passesOn 25 = .ok (.ireturn, 1) := dk_172 (dk_at dksX0_passesOn_1 1 rfl rfl)
abbrev cX0_bitesOn : ByteArray := prog_1_method_87_code
def yX0_bitesOn : MethodName := ⟨RX0, "bitesOn", "(I)Z"⟩
def dkwX0_bitesOn_3 : List UInt8 := [96, 79, 4, 172]
abbrev dktX0_bitesOn_3 : List UInt8 := dkwX0_bitesOn_3 ++ []
def dkwX0_bitesOn_2 : List UInt8 := [162, 0, 14, 44, 180, 0, 197, 44, 182, 1, 23, 154, 0, 5, 3, 172, 42, 180, 0, 70, 5, 92, 46, 4]
abbrev dktX0_bitesOn_2 : List UInt8 := dkwX0_bitesOn_2 ++ dktX0_bitesOn_3
def dkwX0_bitesOn_1 : List UInt8 := [180, 0, 27, 180, 0, 203, 166, 0, 30, 42, 16, 16, 182, 1, 167, 42, 180, 0, 34, 180, 0, 209]
abbrev dktX0_bitesOn_1 : List UInt8 := dkwX0_bitesOn_1 ++ dktX0_bitesOn_2
def dkwX0_bitesOn_0 : List UInt8 := [42, 180, 0, 34, 180, 0, 193, 27, 50, 77, 44, 180, 1, 6, 2, 159, 0, 44, 44, 180, 0, 197, 42]
abbrev dktX0_bitesOn_0 : List UInt8 := dkwX0_bitesOn_0 ++ dktX0_bitesOn_1
theorem dksX0_bitesOn_0 : cX0_bitesOn.data.toList.drop 0 = dktX0_bitesOn_0 := by decide +kernel
theorem dksX0_bitesOn_1 : cX0_bitesOn.data.toList.drop 23 = dktX0_bitesOn_1 := dk_seg dksX0_bitesOn_0 23 rfl rfl
theorem dksX0_bitesOn_2 : cX0_bitesOn.data.toList.drop 45 = dktX0_bitesOn_2 := dk_seg dksX0_bitesOn_1 22 rfl rfl
theorem dksX0_bitesOn_3 : cX0_bitesOn.data.toList.drop 69 = dktX0_bitesOn_3 := dk_seg dksX0_bitesOn_2 24 rfl rfl
theorem dX0_bitesOn_0 : decode cX0_bitesOn 0 = .ok (.aload_n 0, 1) := dk_42 (dk_at dksX0_bitesOn_0 0 rfl rfl)
theorem dX0_bitesOn_1 : decode cX0_bitesOn 1 = .ok (.getfield 34, 3) := dk_180 0 34 (dk_at dksX0_bitesOn_0 1 rfl rfl)
theorem dX0_bitesOn_4 : decode cX0_bitesOn 4 = .ok (.getfield 193, 3) := dk_180 0 193 (dk_at dksX0_bitesOn_0 4 rfl rfl)
theorem dX0_bitesOn_7 : decode cX0_bitesOn 7 = .ok (.iload_n 1, 1) := dk_27 (dk_at dksX0_bitesOn_0 7 rfl rfl)
theorem dX0_bitesOn_8 : decode cX0_bitesOn 8 = .ok (.aaload, 1) := dk_50 (dk_at dksX0_bitesOn_0 8 rfl rfl)
theorem dX0_bitesOn_9 : decode cX0_bitesOn 9 = .ok (.astore_n 2, 1) := dk_77 (dk_at dksX0_bitesOn_0 9 rfl rfl)
theorem dX0_bitesOn_10 : decode cX0_bitesOn 10 = .ok (.aload_n 2, 1) := dk_44 (dk_at dksX0_bitesOn_0 10 rfl rfl)
theorem dX0_bitesOn_11 : decode cX0_bitesOn 11 = .ok (.getfield 262, 3) := dk_180 1 6 (dk_at dksX0_bitesOn_0 11 rfl rfl)
theorem dX0_bitesOn_14 : decode cX0_bitesOn 14 = .ok (.iconst (-1), 1) := dk_2 (dk_at dksX0_bitesOn_0 14 rfl rfl)
theorem dX0_bitesOn_15 : decode cX0_bitesOn 15 = .ok (.if_icmp .eq 44, 3) := dk_159 0 44 (dk_at dksX0_bitesOn_0 15 rfl rfl)
theorem dX0_bitesOn_18 : decode cX0_bitesOn 18 = .ok (.aload_n 2, 1) := dk_44 (dk_at dksX0_bitesOn_0 18 rfl rfl)
theorem dX0_bitesOn_19 : decode cX0_bitesOn 19 = .ok (.getfield 197, 3) := dk_180 0 197 (dk_at dksX0_bitesOn_0 19 rfl rfl)
theorem dX0_bitesOn_22 : decode cX0_bitesOn 22 = .ok (.aload_n 0, 1) := dk_42 (dk_at dksX0_bitesOn_0 22 rfl rfl)
theorem dX0_bitesOn_23 : decode cX0_bitesOn 23 = .ok (.getfield 27, 3) := dk_180 0 27 (dk_at dksX0_bitesOn_1 0 rfl rfl)
theorem dX0_bitesOn_26 : decode cX0_bitesOn 26 = .ok (.getfield 203, 3) := dk_180 0 203 (dk_at dksX0_bitesOn_1 3 rfl rfl)
theorem dX0_bitesOn_29 : decode cX0_bitesOn 29 = .ok (.if_acmp .ne 30, 3) := dk_166 0 30 (dk_at dksX0_bitesOn_1 6 rfl rfl)
theorem dX0_bitesOn_32 : decode cX0_bitesOn 32 = .ok (.aload_n 0, 1) := dk_42 (dk_at dksX0_bitesOn_1 9 rfl rfl)
theorem dX0_bitesOn_33 : decode cX0_bitesOn 33 = .ok (.bipush 16, 2) := dk_16 16 (dk_at dksX0_bitesOn_1 10 rfl rfl)
theorem dX0_bitesOn_35 : decode cX0_bitesOn 35 = .ok (.invokevirtual 423, 3) := dk_182 1 167 (dk_at dksX0_bitesOn_1 12 rfl rfl)
theorem dX0_bitesOn_38 : decode cX0_bitesOn 38 = .ok (.aload_n 0, 1) := dk_42 (dk_at dksX0_bitesOn_1 15 rfl rfl)
theorem dX0_bitesOn_39 : decode cX0_bitesOn 39 = .ok (.getfield 34, 3) := dk_180 0 34 (dk_at dksX0_bitesOn_1 16 rfl rfl)
theorem dX0_bitesOn_42 : decode cX0_bitesOn 42 = .ok (.getfield 209, 3) := dk_180 0 209 (dk_at dksX0_bitesOn_1 19 rfl rfl)
theorem dX0_bitesOn_45 : decode cX0_bitesOn 45 = .ok (.if_icmp .ge 14, 3) := dk_162 0 14 (dk_at dksX0_bitesOn_2 0 rfl rfl)
theorem dX0_bitesOn_48 : decode cX0_bitesOn 48 = .ok (.aload_n 2, 1) := dk_44 (dk_at dksX0_bitesOn_2 3 rfl rfl)
theorem dX0_bitesOn_49 : decode cX0_bitesOn 49 = .ok (.getfield 197, 3) := dk_180 0 197 (dk_at dksX0_bitesOn_2 4 rfl rfl)
theorem dX0_bitesOn_52 : decode cX0_bitesOn 52 = .ok (.aload_n 2, 1) := dk_44 (dk_at dksX0_bitesOn_2 7 rfl rfl)
theorem dX0_bitesOn_53 : decode cX0_bitesOn 53 = .ok (.invokevirtual 279, 3) := dk_182 1 23 (dk_at dksX0_bitesOn_2 8 rfl rfl)
theorem dX0_bitesOn_56 : decode cX0_bitesOn 56 = .ok (.ifCond .ne 5, 3) := dk_154 0 5 (dk_at dksX0_bitesOn_2 11 rfl rfl)
theorem dX0_bitesOn_59 : decode cX0_bitesOn 59 = .ok (.iconst 0, 1) := dk_3 (dk_at dksX0_bitesOn_2 14 rfl rfl)
theorem dX0_bitesOn_60 : decode cX0_bitesOn 60 = .ok (.ireturn, 1) := dk_172 (dk_at dksX0_bitesOn_2 15 rfl rfl)
theorem dX0_bitesOn_61 : decode cX0_bitesOn 61 = .ok (.aload_n 0, 1) := dk_42 (dk_at dksX0_bitesOn_2 16 rfl rfl)
theorem dX0_bitesOn_62 : decode cX0_bitesOn 62 = .ok (.getfield 70, 3) := dk_180 0 70 (dk_at dksX0_bitesOn_2 17 rfl rfl)
theorem dX0_bitesOn_65 : decode cX0_bitesOn 65 = .ok (.iconst 2, 1) := dk_5 (dk_at dksX0_bitesOn_2 20 rfl rfl)
theorem dX0_bitesOn_66 : decode cX0_bitesOn 66 = .ok (.dup2, 1) := dk_92 (dk_at dksX0_bitesOn_2 21 rfl rfl)
theorem dX0_bitesOn_67 : decode cX0_bitesOn 67 = .ok (.iaload, 1) := dk_46 (dk_at dksX0_bitesOn_2 22 rfl rfl)
theorem dX0_bitesOn_68 : decode cX0_bitesOn 68 = .ok (.iconst 1, 1) := dk_4 (dk_at dksX0_bitesOn_2 23 rfl rfl)
theorem dX0_bitesOn_69 : decode cX0_bitesOn 69 = .ok (.iadd, 1) := dk_96 (dk_at dksX0_bitesOn_3 0 rfl rfl)
theorem dX0_bitesOn_70 : decode cX0_bitesOn 70 = .ok (.iastore, 1) := dk_79 (dk_at dksX0_bitesOn_3 1 rfl rfl)
theorem dX0_bitesOn_71 : decode cX0_bitesOn 71 = .ok (.iconst 1, 1) := dk_4 (dk_at dksX0_bitesOn_3 2 rfl rfl)
theorem dX0_bitesOn_72 : decode cX0_bitesOn 72 = .ok (.ireturn, 1) := dk_172 (dk_at dksX0_bitesOn_3 3 rfl rfl)
abbrev cX0_draw : ByteArray := prog_1_method_85_code
def yX0_draw : MethodName := ⟨RX0, "draw", "(I)I"⟩
def dkwX0_draw_1 : List UInt8 := [16, 8, 108, 27, 112, 172]
abbrev dktX0_draw_1 : List UInt8 := dkwX0_draw_1 ++ []
def dkwX0_draw_0 : List UInt8 := [42, 42, 180, 1, 163, 17, 11, 155, 104, 17, 42, 139, 96, 19, 1, 166, 112, 181, 1, 163, 42, 180, 1, 163]
abbrev dktX0_draw_0 : List UInt8 := dkwX0_draw_0 ++ dktX0_draw_1
theorem dksX0_draw_0 : cX0_draw.data.toList.drop 0 = dktX0_draw_0 := by decide +kernel
theorem dksX0_draw_1 : cX0_draw.data.toList.drop 24 = dktX0_draw_1 := dk_seg dksX0_draw_0 24 rfl rfl
theorem dX0_draw_0 : decode cX0_draw 0 = .ok (.aload_n 0, 1) := dk_42 (dk_at dksX0_draw_0 0 rfl rfl)
theorem dX0_draw_1 : decode cX0_draw 1 = .ok (.aload_n 0, 1) := dk_42 (dk_at dksX0_draw_0 1 rfl rfl)
theorem dX0_draw_2 : decode cX0_draw 2 = .ok (.getfield 419, 3) := dk_180 1 163 (dk_at dksX0_draw_0 2 rfl rfl)
theorem dX0_draw_5 : decode cX0_draw 5 = .ok (.sipush 2971, 3) := dk_17 11 155 (dk_at dksX0_draw_0 5 rfl rfl)
theorem dX0_draw_8 : decode cX0_draw 8 = .ok (.imul, 1) := dk_104 (dk_at dksX0_draw_0 8 rfl rfl)
theorem dX0_draw_9 : decode cX0_draw 9 = .ok (.sipush 10891, 3) := dk_17 42 139 (dk_at dksX0_draw_0 9 rfl rfl)
theorem dX0_draw_12 : decode cX0_draw 12 = .ok (.iadd, 1) := dk_96 (dk_at dksX0_draw_0 12 rfl rfl)
theorem dX0_draw_13 : decode cX0_draw 13 = .ok (.ldc_w 422, 3) := dk_19 1 166 (dk_at dksX0_draw_0 13 rfl rfl)
theorem dX0_draw_16 : decode cX0_draw 16 = .ok (.irem, 1) := dk_112 (dk_at dksX0_draw_0 16 rfl rfl)
theorem dX0_draw_17 : decode cX0_draw 17 = .ok (.putfield 419, 3) := dk_181 1 163 (dk_at dksX0_draw_0 17 rfl rfl)
theorem dX0_draw_20 : decode cX0_draw 20 = .ok (.aload_n 0, 1) := dk_42 (dk_at dksX0_draw_0 20 rfl rfl)
theorem dX0_draw_21 : decode cX0_draw 21 = .ok (.getfield 419, 3) := dk_180 1 163 (dk_at dksX0_draw_0 21 rfl rfl)
theorem dX0_draw_24 : decode cX0_draw 24 = .ok (.bipush 8, 2) := dk_16 8 (dk_at dksX0_draw_1 0 rfl rfl)
theorem dX0_draw_26 : decode cX0_draw 26 = .ok (.idiv, 1) := dk_108 (dk_at dksX0_draw_1 2 rfl rfl)
theorem dX0_draw_27 : decode cX0_draw 27 = .ok (.iload_n 1, 1) := dk_27 (dk_at dksX0_draw_1 3 rfl rfl)
theorem dX0_draw_28 : decode cX0_draw 28 = .ok (.irem, 1) := dk_112 (dk_at dksX0_draw_1 4 rfl rfl)
theorem dX0_draw_29 : decode cX0_draw 29 = .ok (.ireturn, 1) := dk_172 (dk_at dksX0_draw_1 5 rfl rfl)
abbrev cX0_passesAny : ByteArray := prog_1_method_88_code
def yX0_passesAny : MethodName := ⟨RX0, "passesAny", "()Z"⟩
def dkwX0_passesAny_1 : List UInt8 := [42, 27, 42, 42, 180, 0, 34, 180, 0, 141, 182, 1, 167, 182, 1, 170, 172]
abbrev dktX0_passesAny_1 : List UInt8 := dkwX0_passesAny_1 ++ []
def dkwX0_passesAny_0 : List UInt8 := [42, 180, 0, 34, 180, 0, 144, 154, 0, 5, 3, 172, 42, 42, 180, 0, 34, 180, 0, 144, 182, 1, 167, 60]
abbrev dktX0_passesAny_0 : List UInt8 := dkwX0_passesAny_0 ++ dktX0_passesAny_1
theorem dksX0_passesAny_0 : cX0_passesAny.data.toList.drop 0 = dktX0_passesAny_0 := by decide +kernel
theorem dksX0_passesAny_1 : cX0_passesAny.data.toList.drop 24 = dktX0_passesAny_1 := dk_seg dksX0_passesAny_0 24 rfl rfl
theorem dX0_passesAny_0 : decode cX0_passesAny 0 = .ok (.aload_n 0, 1) := dk_42 (dk_at dksX0_passesAny_0 0 rfl rfl)
theorem dX0_passesAny_1 : decode cX0_passesAny 1 = .ok (.getfield 34, 3) := dk_180 0 34 (dk_at dksX0_passesAny_0 1 rfl rfl)
theorem dX0_passesAny_4 : decode cX0_passesAny 4 = .ok (.getfield 144, 3) := dk_180 0 144 (dk_at dksX0_passesAny_0 4 rfl rfl)
theorem dX0_passesAny_7 : decode cX0_passesAny 7 = .ok (.ifCond .ne 5, 3) := dk_154 0 5 (dk_at dksX0_passesAny_0 7 rfl rfl)
theorem dX0_passesAny_10 : decode cX0_passesAny 10 = .ok (.iconst 0, 1) := dk_3 (dk_at dksX0_passesAny_0 10 rfl rfl)
theorem dX0_passesAny_11 : decode cX0_passesAny 11 = .ok (.ireturn, 1) := dk_172 (dk_at dksX0_passesAny_0 11 rfl rfl)
theorem dX0_passesAny_12 : decode cX0_passesAny 12 = .ok (.aload_n 0, 1) := dk_42 (dk_at dksX0_passesAny_0 12 rfl rfl)
theorem dX0_passesAny_13 : decode cX0_passesAny 13 = .ok (.aload_n 0, 1) := dk_42 (dk_at dksX0_passesAny_0 13 rfl rfl)
theorem dX0_passesAny_14 : decode cX0_passesAny 14 = .ok (.getfield 34, 3) := dk_180 0 34 (dk_at dksX0_passesAny_0 14 rfl rfl)
theorem dX0_passesAny_17 : decode cX0_passesAny 17 = .ok (.getfield 144, 3) := dk_180 0 144 (dk_at dksX0_passesAny_0 17 rfl rfl)
theorem dX0_passesAny_20 : decode cX0_passesAny 20 = .ok (.invokevirtual 423, 3) := dk_182 1 167 (dk_at dksX0_passesAny_0 20 rfl rfl)
theorem dX0_passesAny_23 : decode cX0_passesAny 23 = .ok (.istore_n 1, 1) := dk_60 (dk_at dksX0_passesAny_0 23 rfl rfl)
theorem dX0_passesAny_24 : decode cX0_passesAny 24 = .ok (.aload_n 0, 1) := dk_42 (dk_at dksX0_passesAny_1 0 rfl rfl)
theorem dX0_passesAny_25 : decode cX0_passesAny 25 = .ok (.iload_n 1, 1) := dk_27 (dk_at dksX0_passesAny_1 1 rfl rfl)
theorem dX0_passesAny_26 : decode cX0_passesAny 26 = .ok (.aload_n 0, 1) := dk_42 (dk_at dksX0_passesAny_1 2 rfl rfl)
theorem dX0_passesAny_27 : decode cX0_passesAny 27 = .ok (.aload_n 0, 1) := dk_42 (dk_at dksX0_passesAny_1 3 rfl rfl)
theorem dX0_passesAny_28 : decode cX0_passesAny 28 = .ok (.getfield 34, 3) := dk_180 0 34 (dk_at dksX0_passesAny_1 4 rfl rfl)
theorem dX0_passesAny_31 : decode cX0_passesAny 31 = .ok (.getfield 141, 3) := dk_180 0 141 (dk_at dksX0_passesAny_1 7 rfl rfl)
theorem dX0_passesAny_34 : decode cX0_passesAny 34 = .ok (.invokevirtual 423, 3) := dk_182 1 167 (dk_at dksX0_passesAny_1 10 rfl rfl)
theorem dX0_passesAny_37 : decode cX0_passesAny 37 = .ok (.invokevirtual 426, 3) := dk_182 1 170 (dk_at dksX0_passesAny_1 13 rfl rfl)
theorem dX0_passesAny_40 : decode cX0_passesAny 40 = .ok (.ireturn, 1) := dk_172 (dk_at dksX0_passesAny_1 16 rfl rfl)
abbrev cX0_holds : ByteArray := prog_1_method_90_code
def yX0_holds : MethodName := ⟨RX0, "holds", "(LTinFen$Step;)Z"⟩
def dkwX0_holds_6 : List UInt8 := [180, 1, 179, 160, 0, 7, 4, 167, 0, 4, 3, 172]
abbrev dktX0_holds_6 : List UInt8 := dkwX0_holds_6 ++ []
def dkwX0_holds_5 : List UInt8 := [16, 62, 160, 0, 19, 28, 43, 180, 1, 179, 164, 0, 7, 4, 167, 0, 20, 3, 167, 0, 16, 28, 43]
abbrev dktX0_holds_5 : List UInt8 := dkwX0_holds_5 ++ dktX0_holds_6
def dkwX0_holds_4 : List UInt8 := [160, 0, 19, 28, 43, 180, 1, 179, 162, 0, 7, 4, 167, 0, 45, 3, 167, 0, 41, 43, 180, 1, 195]
abbrev dktX0_holds_4 : List UInt8 := dkwX0_holds_4 ++ dktX0_holds_5
def dkwX0_holds_3 : List UInt8 := [42, 180, 0, 34, 180, 0, 241, 43, 180, 1, 176, 50, 180, 0, 253, 61, 43, 180, 1, 195, 16, 60]
abbrev dktX0_holds_3 : List UInt8 := dkwX0_holds_3 ++ dktX0_holds_4
def dkwX0_holds_2 : List UInt8 := [180, 0, 34, 180, 0, 193, 43, 180, 1, 176, 50, 180, 1, 6, 2, 160, 0, 7, 4, 167, 0, 4, 3, 172]
abbrev dktX0_holds_2 : List UInt8 := dkwX0_holds_2 ++ dktX0_holds_3
def dkwX0_holds_1 : List UInt8 := [43, 180, 1, 179, 160, 0, 7, 4, 167, 0, 4, 3, 172, 43, 180, 1, 192, 16, 20, 160, 0, 28, 42]
abbrev dktX0_holds_1 : List UInt8 := dkwX0_holds_1 ++ dktX0_holds_2
def dkwX0_holds_0 : List UInt8 := [43, 180, 1, 192, 16, 8, 160, 0, 31, 42, 180, 0, 34, 180, 0, 193, 43, 180, 1, 176, 50, 180, 1, 6]
abbrev dktX0_holds_0 : List UInt8 := dkwX0_holds_0 ++ dktX0_holds_1
theorem dksX0_holds_0 : cX0_holds.data.toList.drop 0 = dktX0_holds_0 := by decide +kernel
theorem dksX0_holds_1 : cX0_holds.data.toList.drop 24 = dktX0_holds_1 := dk_seg dksX0_holds_0 24 rfl rfl
theorem dksX0_holds_2 : cX0_holds.data.toList.drop 47 = dktX0_holds_2 := dk_seg dksX0_holds_1 23 rfl rfl
theorem dksX0_holds_3 : cX0_holds.data.toList.drop 71 = dktX0_holds_3 := dk_seg dksX0_holds_2 24 rfl rfl
theorem dksX0_holds_4 : cX0_holds.data.toList.drop 93 = dktX0_holds_4 := dk_seg dksX0_holds_3 22 rfl rfl
theorem dksX0_holds_5 : cX0_holds.data.toList.drop 116 = dktX0_holds_5 := dk_seg dksX0_holds_4 23 rfl rfl
theorem dksX0_holds_6 : cX0_holds.data.toList.drop 139 = dktX0_holds_6 := dk_seg dksX0_holds_5 23 rfl rfl
theorem dX0_holds_0 : decode cX0_holds 0 = .ok (.aload_n 1, 1) := dk_43 (dk_at dksX0_holds_0 0 rfl rfl)
theorem dX0_holds_1 : decode cX0_holds 1 = .ok (.getfield 448, 3) := dk_180 1 192 (dk_at dksX0_holds_0 1 rfl rfl)
theorem dX0_holds_4 : decode cX0_holds 4 = .ok (.bipush 8, 2) := dk_16 8 (dk_at dksX0_holds_0 4 rfl rfl)
theorem dX0_holds_6 : decode cX0_holds 6 = .ok (.if_icmp .ne 31, 3) := dk_160 0 31 (dk_at dksX0_holds_0 6 rfl rfl)
theorem dX0_holds_9 : decode cX0_holds 9 = .ok (.aload_n 0, 1) := dk_42 (dk_at dksX0_holds_0 9 rfl rfl)
theorem dX0_holds_10 : decode cX0_holds 10 = .ok (.getfield 34, 3) := dk_180 0 34 (dk_at dksX0_holds_0 10 rfl rfl)
theorem dX0_holds_13 : decode cX0_holds 13 = .ok (.getfield 193, 3) := dk_180 0 193 (dk_at dksX0_holds_0 13 rfl rfl)
theorem dX0_holds_16 : decode cX0_holds 16 = .ok (.aload_n 1, 1) := dk_43 (dk_at dksX0_holds_0 16 rfl rfl)
theorem dX0_holds_17 : decode cX0_holds 17 = .ok (.getfield 432, 3) := dk_180 1 176 (dk_at dksX0_holds_0 17 rfl rfl)
theorem dX0_holds_20 : decode cX0_holds 20 = .ok (.aaload, 1) := dk_50 (dk_at dksX0_holds_0 20 rfl rfl)
theorem dX0_holds_21 : decode cX0_holds 21 = .ok (.getfield 262, 3) := dk_180 1 6 (dk_at dksX0_holds_0 21 rfl rfl)
theorem dX0_holds_24 : decode cX0_holds 24 = .ok (.aload_n 1, 1) := dk_43 (dk_at dksX0_holds_1 0 rfl rfl)
theorem dX0_holds_25 : decode cX0_holds 25 = .ok (.getfield 435, 3) := dk_180 1 179 (dk_at dksX0_holds_1 1 rfl rfl)
theorem dX0_holds_28 : decode cX0_holds 28 = .ok (.if_icmp .ne 7, 3) := dk_160 0 7 (dk_at dksX0_holds_1 4 rfl rfl)
theorem dX0_holds_31 : decode cX0_holds 31 = .ok (.iconst 1, 1) := dk_4 (dk_at dksX0_holds_1 7 rfl rfl)
theorem dX0_holds_32 : decode cX0_holds 32 = .ok (.goto 4, 3) := dk_167 0 4 (dk_at dksX0_holds_1 8 rfl rfl)
theorem dX0_holds_35 : decode cX0_holds 35 = .ok (.iconst 0, 1) := dk_3 (dk_at dksX0_holds_1 11 rfl rfl)
theorem dX0_holds_36 : decode cX0_holds 36 = .ok (.ireturn, 1) := dk_172 (dk_at dksX0_holds_1 12 rfl rfl)
theorem dX0_holds_37 : decode cX0_holds 37 = .ok (.aload_n 1, 1) := dk_43 (dk_at dksX0_holds_1 13 rfl rfl)
theorem dX0_holds_38 : decode cX0_holds 38 = .ok (.getfield 448, 3) := dk_180 1 192 (dk_at dksX0_holds_1 14 rfl rfl)
theorem dX0_holds_41 : decode cX0_holds 41 = .ok (.bipush 20, 2) := dk_16 20 (dk_at dksX0_holds_1 17 rfl rfl)
theorem dX0_holds_43 : decode cX0_holds 43 = .ok (.if_icmp .ne 28, 3) := dk_160 0 28 (dk_at dksX0_holds_1 19 rfl rfl)
theorem dX0_holds_46 : decode cX0_holds 46 = .ok (.aload_n 0, 1) := dk_42 (dk_at dksX0_holds_1 22 rfl rfl)
theorem dX0_holds_47 : decode cX0_holds 47 = .ok (.getfield 34, 3) := dk_180 0 34 (dk_at dksX0_holds_2 0 rfl rfl)
theorem dX0_holds_50 : decode cX0_holds 50 = .ok (.getfield 193, 3) := dk_180 0 193 (dk_at dksX0_holds_2 3 rfl rfl)
theorem dX0_holds_53 : decode cX0_holds 53 = .ok (.aload_n 1, 1) := dk_43 (dk_at dksX0_holds_2 6 rfl rfl)
theorem dX0_holds_54 : decode cX0_holds 54 = .ok (.getfield 432, 3) := dk_180 1 176 (dk_at dksX0_holds_2 7 rfl rfl)
theorem dX0_holds_57 : decode cX0_holds 57 = .ok (.aaload, 1) := dk_50 (dk_at dksX0_holds_2 10 rfl rfl)
theorem dX0_holds_58 : decode cX0_holds 58 = .ok (.getfield 262, 3) := dk_180 1 6 (dk_at dksX0_holds_2 11 rfl rfl)
theorem dX0_holds_61 : decode cX0_holds 61 = .ok (.iconst (-1), 1) := dk_2 (dk_at dksX0_holds_2 14 rfl rfl)
theorem dX0_holds_62 : decode cX0_holds 62 = .ok (.if_icmp .ne 7, 3) := dk_160 0 7 (dk_at dksX0_holds_2 15 rfl rfl)
theorem dX0_holds_65 : decode cX0_holds 65 = .ok (.iconst 1, 1) := dk_4 (dk_at dksX0_holds_2 18 rfl rfl)
theorem dX0_holds_66 : decode cX0_holds 66 = .ok (.goto 4, 3) := dk_167 0 4 (dk_at dksX0_holds_2 19 rfl rfl)
theorem dX0_holds_69 : decode cX0_holds 69 = .ok (.iconst 0, 1) := dk_3 (dk_at dksX0_holds_2 22 rfl rfl)
theorem dX0_holds_70 : decode cX0_holds 70 = .ok (.ireturn, 1) := dk_172 (dk_at dksX0_holds_2 23 rfl rfl)
theorem dX0_holds_71 : decode cX0_holds 71 = .ok (.aload_n 0, 1) := dk_42 (dk_at dksX0_holds_3 0 rfl rfl)
theorem dX0_holds_72 : decode cX0_holds 72 = .ok (.getfield 34, 3) := dk_180 0 34 (dk_at dksX0_holds_3 1 rfl rfl)
theorem dX0_holds_75 : decode cX0_holds 75 = .ok (.getfield 241, 3) := dk_180 0 241 (dk_at dksX0_holds_3 4 rfl rfl)
theorem dX0_holds_78 : decode cX0_holds 78 = .ok (.aload_n 1, 1) := dk_43 (dk_at dksX0_holds_3 7 rfl rfl)
theorem dX0_holds_79 : decode cX0_holds 79 = .ok (.getfield 432, 3) := dk_180 1 176 (dk_at dksX0_holds_3 8 rfl rfl)
theorem dX0_holds_82 : decode cX0_holds 82 = .ok (.aaload, 1) := dk_50 (dk_at dksX0_holds_3 11 rfl rfl)
theorem dX0_holds_83 : decode cX0_holds 83 = .ok (.getfield 253, 3) := dk_180 0 253 (dk_at dksX0_holds_3 12 rfl rfl)
theorem dX0_holds_86 : decode cX0_holds 86 = .ok (.istore_n 2, 1) := dk_61 (dk_at dksX0_holds_3 15 rfl rfl)
theorem dX0_holds_87 : decode cX0_holds 87 = .ok (.aload_n 1, 1) := dk_43 (dk_at dksX0_holds_3 16 rfl rfl)
theorem dX0_holds_88 : decode cX0_holds 88 = .ok (.getfield 451, 3) := dk_180 1 195 (dk_at dksX0_holds_3 17 rfl rfl)
theorem dX0_holds_91 : decode cX0_holds 91 = .ok (.bipush 60, 2) := dk_16 60 (dk_at dksX0_holds_3 20 rfl rfl)
theorem dX0_holds_93 : decode cX0_holds 93 = .ok (.if_icmp .ne 19, 3) := dk_160 0 19 (dk_at dksX0_holds_4 0 rfl rfl)
theorem dX0_holds_96 : decode cX0_holds 96 = .ok (.iload_n 2, 1) := dk_28 (dk_at dksX0_holds_4 3 rfl rfl)
theorem dX0_holds_97 : decode cX0_holds 97 = .ok (.aload_n 1, 1) := dk_43 (dk_at dksX0_holds_4 4 rfl rfl)
theorem dX0_holds_98 : decode cX0_holds 98 = .ok (.getfield 435, 3) := dk_180 1 179 (dk_at dksX0_holds_4 5 rfl rfl)
theorem dX0_holds_101 : decode cX0_holds 101 = .ok (.if_icmp .ge 7, 3) := dk_162 0 7 (dk_at dksX0_holds_4 8 rfl rfl)
theorem dX0_holds_104 : decode cX0_holds 104 = .ok (.iconst 1, 1) := dk_4 (dk_at dksX0_holds_4 11 rfl rfl)
theorem dX0_holds_105 : decode cX0_holds 105 = .ok (.goto 45, 3) := dk_167 0 45 (dk_at dksX0_holds_4 12 rfl rfl)
theorem dX0_holds_108 : decode cX0_holds 108 = .ok (.iconst 0, 1) := dk_3 (dk_at dksX0_holds_4 15 rfl rfl)
theorem dX0_holds_109 : decode cX0_holds 109 = .ok (.goto 41, 3) := dk_167 0 41 (dk_at dksX0_holds_4 16 rfl rfl)
theorem dX0_holds_112 : decode cX0_holds 112 = .ok (.aload_n 1, 1) := dk_43 (dk_at dksX0_holds_4 19 rfl rfl)
theorem dX0_holds_113 : decode cX0_holds 113 = .ok (.getfield 451, 3) := dk_180 1 195 (dk_at dksX0_holds_4 20 rfl rfl)
theorem dX0_holds_116 : decode cX0_holds 116 = .ok (.bipush 62, 2) := dk_16 62 (dk_at dksX0_holds_5 0 rfl rfl)
theorem dX0_holds_118 : decode cX0_holds 118 = .ok (.if_icmp .ne 19, 3) := dk_160 0 19 (dk_at dksX0_holds_5 2 rfl rfl)
theorem dX0_holds_121 : decode cX0_holds 121 = .ok (.iload_n 2, 1) := dk_28 (dk_at dksX0_holds_5 5 rfl rfl)
theorem dX0_holds_122 : decode cX0_holds 122 = .ok (.aload_n 1, 1) := dk_43 (dk_at dksX0_holds_5 6 rfl rfl)
theorem dX0_holds_123 : decode cX0_holds 123 = .ok (.getfield 435, 3) := dk_180 1 179 (dk_at dksX0_holds_5 7 rfl rfl)
theorem dX0_holds_126 : decode cX0_holds 126 = .ok (.if_icmp .le 7, 3) := dk_164 0 7 (dk_at dksX0_holds_5 10 rfl rfl)
theorem dX0_holds_129 : decode cX0_holds 129 = .ok (.iconst 1, 1) := dk_4 (dk_at dksX0_holds_5 13 rfl rfl)
theorem dX0_holds_130 : decode cX0_holds 130 = .ok (.goto 20, 3) := dk_167 0 20 (dk_at dksX0_holds_5 14 rfl rfl)
theorem dX0_holds_133 : decode cX0_holds 133 = .ok (.iconst 0, 1) := dk_3 (dk_at dksX0_holds_5 17 rfl rfl)
theorem dX0_holds_134 : decode cX0_holds 134 = .ok (.goto 16, 3) := dk_167 0 16 (dk_at dksX0_holds_5 18 rfl rfl)
theorem dX0_holds_137 : decode cX0_holds 137 = .ok (.iload_n 2, 1) := dk_28 (dk_at dksX0_holds_5 21 rfl rfl)
theorem dX0_holds_138 : decode cX0_holds 138 = .ok (.aload_n 1, 1) := dk_43 (dk_at dksX0_holds_5 22 rfl rfl)
theorem dX0_holds_139 : decode cX0_holds 139 = .ok (.getfield 435, 3) := dk_180 1 179 (dk_at dksX0_holds_6 0 rfl rfl)
theorem dX0_holds_142 : decode cX0_holds 142 = .ok (.if_icmp .ne 7, 3) := dk_160 0 7 (dk_at dksX0_holds_6 3 rfl rfl)
theorem dX0_holds_145 : decode cX0_holds 145 = .ok (.iconst 1, 1) := dk_4 (dk_at dksX0_holds_6 6 rfl rfl)
theorem dX0_holds_146 : decode cX0_holds 146 = .ok (.goto 4, 3) := dk_167 0 4 (dk_at dksX0_holds_6 7 rfl rfl)
theorem dX0_holds_149 : decode cX0_holds 149 = .ok (.iconst 0, 1) := dk_3 (dk_at dksX0_holds_6 10 rfl rfl)
theorem dX0_holds_150 : decode cX0_holds 150 = .ok (.ireturn, 1) := dk_172 (dk_at dksX0_holds_6 11 rfl rfl)
abbrev cX0_behindEnds : ByteArray := prog_1_method_91_code
def yX0_behindEnds : MethodName := ⟨RX0, "behindEnds", "(I)I"⟩
def dkwX0_behindEnds_4 : List UInt8 := [96, 61, 167, 255, 160, 28, 172]
abbrev dktX0_behindEnds_4 : List UInt8 := dkwX0_behindEnds_4 ++ []
def dkwX0_behindEnds_3 : List UInt8 := [3, 54, 4, 21, 4, 153, 0, 17, 42, 180, 0, 178, 28, 50, 180, 1, 198, 4, 96, 167, 0, 6, 28, 4]
abbrev dktX0_behindEnds_3 : List UInt8 := dkwX0_behindEnds_3 ++ dktX0_behindEnds_4
def dkwX0_behindEnds_2 : List UInt8 := [160, 0, 27, 45, 89, 180, 1, 189, 4, 100, 181, 1, 189, 45, 180, 1, 189, 158, 0, 7, 4, 167, 0, 4]
abbrev dktX0_behindEnds_2 : List UInt8 := dkwX0_behindEnds_2 ++ dktX0_behindEnds_3
def dkwX0_behindEnds_1 : List UInt8 := [42, 180, 0, 178, 42, 180, 0, 178, 28, 50, 180, 1, 198, 50, 78, 3, 54, 4, 45, 180, 1, 173, 16, 16]
abbrev dktX0_behindEnds_1 : List UInt8 := dkwX0_behindEnds_1 ++ dktX0_behindEnds_2
def dkwX0_behindEnds_0 : List UInt8 := [27, 61, 28, 42, 180, 0, 182, 162, 0, 94, 42, 180, 0, 178, 28, 50, 180, 1, 173, 16, 18, 160, 0, 80]
abbrev dktX0_behindEnds_0 : List UInt8 := dkwX0_behindEnds_0 ++ dktX0_behindEnds_1
theorem dksX0_behindEnds_0 : cX0_behindEnds.data.toList.drop 0 = dktX0_behindEnds_0 := by decide +kernel
theorem dksX0_behindEnds_1 : cX0_behindEnds.data.toList.drop 24 = dktX0_behindEnds_1 := dk_seg dksX0_behindEnds_0 24 rfl rfl
theorem dksX0_behindEnds_2 : cX0_behindEnds.data.toList.drop 48 = dktX0_behindEnds_2 := dk_seg dksX0_behindEnds_1 24 rfl rfl
theorem dksX0_behindEnds_3 : cX0_behindEnds.data.toList.drop 72 = dktX0_behindEnds_3 := dk_seg dksX0_behindEnds_2 24 rfl rfl
theorem dksX0_behindEnds_4 : cX0_behindEnds.data.toList.drop 96 = dktX0_behindEnds_4 := dk_seg dksX0_behindEnds_3 24 rfl rfl
theorem dX0_behindEnds_0 : decode cX0_behindEnds 0 = .ok (.iload_n 1, 1) := dk_27 (dk_at dksX0_behindEnds_0 0 rfl rfl)
theorem dX0_behindEnds_1 : decode cX0_behindEnds 1 = .ok (.istore_n 2, 1) := dk_61 (dk_at dksX0_behindEnds_0 1 rfl rfl)
theorem dX0_behindEnds_2 : decode cX0_behindEnds 2 = .ok (.iload_n 2, 1) := dk_28 (dk_at dksX0_behindEnds_0 2 rfl rfl)
theorem dX0_behindEnds_3 : decode cX0_behindEnds 3 = .ok (.aload_n 0, 1) := dk_42 (dk_at dksX0_behindEnds_0 3 rfl rfl)
theorem dX0_behindEnds_4 : decode cX0_behindEnds 4 = .ok (.getfield 182, 3) := dk_180 0 182 (dk_at dksX0_behindEnds_0 4 rfl rfl)
theorem dX0_behindEnds_7 : decode cX0_behindEnds 7 = .ok (.if_icmp .ge 94, 3) := dk_162 0 94 (dk_at dksX0_behindEnds_0 7 rfl rfl)
theorem dX0_behindEnds_10 : decode cX0_behindEnds 10 = .ok (.aload_n 0, 1) := dk_42 (dk_at dksX0_behindEnds_0 10 rfl rfl)
theorem dX0_behindEnds_11 : decode cX0_behindEnds 11 = .ok (.getfield 178, 3) := dk_180 0 178 (dk_at dksX0_behindEnds_0 11 rfl rfl)
theorem dX0_behindEnds_14 : decode cX0_behindEnds 14 = .ok (.iload_n 2, 1) := dk_28 (dk_at dksX0_behindEnds_0 14 rfl rfl)
theorem dX0_behindEnds_15 : decode cX0_behindEnds 15 = .ok (.aaload, 1) := dk_50 (dk_at dksX0_behindEnds_0 15 rfl rfl)
theorem dX0_behindEnds_16 : decode cX0_behindEnds 16 = .ok (.getfield 429, 3) := dk_180 1 173 (dk_at dksX0_behindEnds_0 16 rfl rfl)
theorem dX0_behindEnds_19 : decode cX0_behindEnds 19 = .ok (.bipush 18, 2) := dk_16 18 (dk_at dksX0_behindEnds_0 19 rfl rfl)
theorem dX0_behindEnds_21 : decode cX0_behindEnds 21 = .ok (.if_icmp .ne 80, 3) := dk_160 0 80 (dk_at dksX0_behindEnds_0 21 rfl rfl)
theorem dX0_behindEnds_24 : decode cX0_behindEnds 24 = .ok (.aload_n 0, 1) := dk_42 (dk_at dksX0_behindEnds_1 0 rfl rfl)
theorem dX0_behindEnds_25 : decode cX0_behindEnds 25 = .ok (.getfield 178, 3) := dk_180 0 178 (dk_at dksX0_behindEnds_1 1 rfl rfl)
theorem dX0_behindEnds_28 : decode cX0_behindEnds 28 = .ok (.aload_n 0, 1) := dk_42 (dk_at dksX0_behindEnds_1 4 rfl rfl)
theorem dX0_behindEnds_29 : decode cX0_behindEnds 29 = .ok (.getfield 178, 3) := dk_180 0 178 (dk_at dksX0_behindEnds_1 5 rfl rfl)
theorem dX0_behindEnds_32 : decode cX0_behindEnds 32 = .ok (.iload_n 2, 1) := dk_28 (dk_at dksX0_behindEnds_1 8 rfl rfl)
theorem dX0_behindEnds_33 : decode cX0_behindEnds 33 = .ok (.aaload, 1) := dk_50 (dk_at dksX0_behindEnds_1 9 rfl rfl)
theorem dX0_behindEnds_34 : decode cX0_behindEnds 34 = .ok (.getfield 454, 3) := dk_180 1 198 (dk_at dksX0_behindEnds_1 10 rfl rfl)
theorem dX0_behindEnds_37 : decode cX0_behindEnds 37 = .ok (.aaload, 1) := dk_50 (dk_at dksX0_behindEnds_1 13 rfl rfl)
theorem dX0_behindEnds_38 : decode cX0_behindEnds 38 = .ok (.astore_n 3, 1) := dk_78 (dk_at dksX0_behindEnds_1 14 rfl rfl)
theorem dX0_behindEnds_39 : decode cX0_behindEnds 39 = .ok (.iconst 0, 1) := dk_3 (dk_at dksX0_behindEnds_1 15 rfl rfl)
theorem dX0_behindEnds_40 : decode cX0_behindEnds 40 = .ok (.istore 4, 2) := dk_54 4 (dk_at dksX0_behindEnds_1 16 rfl rfl)
theorem dX0_behindEnds_42 : decode cX0_behindEnds 42 = .ok (.aload_n 3, 1) := dk_45 (dk_at dksX0_behindEnds_1 18 rfl rfl)
theorem dX0_behindEnds_43 : decode cX0_behindEnds 43 = .ok (.getfield 429, 3) := dk_180 1 173 (dk_at dksX0_behindEnds_1 19 rfl rfl)
theorem dX0_behindEnds_46 : decode cX0_behindEnds 46 = .ok (.bipush 16, 2) := dk_16 16 (dk_at dksX0_behindEnds_1 22 rfl rfl)
theorem dX0_behindEnds_48 : decode cX0_behindEnds 48 = .ok (.if_icmp .ne 27, 3) := dk_160 0 27 (dk_at dksX0_behindEnds_2 0 rfl rfl)
theorem dX0_behindEnds_51 : decode cX0_behindEnds 51 = .ok (.aload_n 3, 1) := dk_45 (dk_at dksX0_behindEnds_2 3 rfl rfl)
theorem dX0_behindEnds_52 : decode cX0_behindEnds 52 = .ok (.dup, 1) := dk_89 (dk_at dksX0_behindEnds_2 4 rfl rfl)
theorem dX0_behindEnds_53 : decode cX0_behindEnds 53 = .ok (.getfield 445, 3) := dk_180 1 189 (dk_at dksX0_behindEnds_2 5 rfl rfl)
theorem dX0_behindEnds_56 : decode cX0_behindEnds 56 = .ok (.iconst 1, 1) := dk_4 (dk_at dksX0_behindEnds_2 8 rfl rfl)
theorem dX0_behindEnds_57 : decode cX0_behindEnds 57 = .ok (.isub, 1) := dk_100 (dk_at dksX0_behindEnds_2 9 rfl rfl)
theorem dX0_behindEnds_58 : decode cX0_behindEnds 58 = .ok (.putfield 445, 3) := dk_181 1 189 (dk_at dksX0_behindEnds_2 10 rfl rfl)
theorem dX0_behindEnds_61 : decode cX0_behindEnds 61 = .ok (.aload_n 3, 1) := dk_45 (dk_at dksX0_behindEnds_2 13 rfl rfl)
theorem dX0_behindEnds_62 : decode cX0_behindEnds 62 = .ok (.getfield 445, 3) := dk_180 1 189 (dk_at dksX0_behindEnds_2 14 rfl rfl)
theorem dX0_behindEnds_65 : decode cX0_behindEnds 65 = .ok (.ifCond .le 7, 3) := dk_158 0 7 (dk_at dksX0_behindEnds_2 17 rfl rfl)
theorem dX0_behindEnds_68 : decode cX0_behindEnds 68 = .ok (.iconst 1, 1) := dk_4 (dk_at dksX0_behindEnds_2 20 rfl rfl)
theorem dX0_behindEnds_69 : decode cX0_behindEnds 69 = .ok (.goto 4, 3) := dk_167 0 4 (dk_at dksX0_behindEnds_2 21 rfl rfl)
theorem dX0_behindEnds_72 : decode cX0_behindEnds 72 = .ok (.iconst 0, 1) := dk_3 (dk_at dksX0_behindEnds_3 0 rfl rfl)
theorem dX0_behindEnds_73 : decode cX0_behindEnds 73 = .ok (.istore 4, 2) := dk_54 4 (dk_at dksX0_behindEnds_3 1 rfl rfl)
theorem dX0_behindEnds_75 : decode cX0_behindEnds 75 = .ok (.iload 4, 2) := dk_21 4 (dk_at dksX0_behindEnds_3 3 rfl rfl)
theorem dX0_behindEnds_77 : decode cX0_behindEnds 77 = .ok (.ifCond .eq 17, 3) := dk_153 0 17 (dk_at dksX0_behindEnds_3 5 rfl rfl)
theorem dX0_behindEnds_80 : decode cX0_behindEnds 80 = .ok (.aload_n 0, 1) := dk_42 (dk_at dksX0_behindEnds_3 8 rfl rfl)
theorem dX0_behindEnds_81 : decode cX0_behindEnds 81 = .ok (.getfield 178, 3) := dk_180 0 178 (dk_at dksX0_behindEnds_3 9 rfl rfl)
theorem dX0_behindEnds_84 : decode cX0_behindEnds 84 = .ok (.iload_n 2, 1) := dk_28 (dk_at dksX0_behindEnds_3 12 rfl rfl)
theorem dX0_behindEnds_85 : decode cX0_behindEnds 85 = .ok (.aaload, 1) := dk_50 (dk_at dksX0_behindEnds_3 13 rfl rfl)
theorem dX0_behindEnds_86 : decode cX0_behindEnds 86 = .ok (.getfield 454, 3) := dk_180 1 198 (dk_at dksX0_behindEnds_3 14 rfl rfl)
theorem dX0_behindEnds_89 : decode cX0_behindEnds 89 = .ok (.iconst 1, 1) := dk_4 (dk_at dksX0_behindEnds_3 17 rfl rfl)
theorem dX0_behindEnds_90 : decode cX0_behindEnds 90 = .ok (.iadd, 1) := dk_96 (dk_at dksX0_behindEnds_3 18 rfl rfl)
theorem dX0_behindEnds_91 : decode cX0_behindEnds 91 = .ok (.goto 6, 3) := dk_167 0 6 (dk_at dksX0_behindEnds_3 19 rfl rfl)
theorem dX0_behindEnds_94 : decode cX0_behindEnds 94 = .ok (.iload_n 2, 1) := dk_28 (dk_at dksX0_behindEnds_3 22 rfl rfl)
theorem dX0_behindEnds_95 : decode cX0_behindEnds 95 = .ok (.iconst 1, 1) := dk_4 (dk_at dksX0_behindEnds_3 23 rfl rfl)
theorem dX0_behindEnds_96 : decode cX0_behindEnds 96 = .ok (.iadd, 1) := dk_96 (dk_at dksX0_behindEnds_4 0 rfl rfl)
theorem dX0_behindEnds_97 : decode cX0_behindEnds 97 = .ok (.istore_n 2, 1) := dk_61 (dk_at dksX0_behindEnds_4 1 rfl rfl)
theorem dX0_behindEnds_98 : decode cX0_behindEnds 98 = .ok (.goto (-96), 3) := dk_167 255 160 (dk_at dksX0_behindEnds_4 2 rfl rfl)
theorem dX0_behindEnds_101 : decode cX0_behindEnds 101 = .ok (.iload_n 2, 1) := dk_28 (dk_at dksX0_behindEnds_4 5 rfl rfl)
theorem dX0_behindEnds_102 : decode cX0_behindEnds 102 = .ok (.ireturn, 1) := dk_172 (dk_at dksX0_behindEnds_4 6 rfl rfl)
abbrev cX0_lived : ByteArray := prog_1_method_94_code
def yX0_lived : MethodName := ⟨RX0, "lived", "(I)I"⟩
def dkwX0_lived_1 : List UInt8 := [180, 0, 73, 27, 46, 182, 0, 93, 167, 0, 9, 42, 16, 8, 182, 0, 89, 172]
abbrev dktX0_lived_1 : List UInt8 := dkwX0_lived_1 ++ []
def dkwX0_lived_0 : List UInt8 := [27, 155, 0, 8, 27, 7, 164, 0, 9, 42, 8, 182, 0, 89, 172, 42, 180, 1, 222, 153, 0, 16, 42, 42]
abbrev dktX0_lived_0 : List UInt8 := dkwX0_lived_0 ++ dktX0_lived_1
theorem dksX0_lived_0 : cX0_lived.data.toList.drop 0 = dktX0_lived_0 := by decide +kernel
theorem dksX0_lived_1 : cX0_lived.data.toList.drop 24 = dktX0_lived_1 := dk_seg dksX0_lived_0 24 rfl rfl
theorem dX0_lived_0 : decode cX0_lived 0 = .ok (.iload_n 1, 1) := dk_27 (dk_at dksX0_lived_0 0 rfl rfl)
theorem dX0_lived_1 : decode cX0_lived 1 = .ok (.ifCond .lt 8, 3) := dk_155 0 8 (dk_at dksX0_lived_0 1 rfl rfl)
theorem dX0_lived_4 : decode cX0_lived 4 = .ok (.iload_n 1, 1) := dk_27 (dk_at dksX0_lived_0 4 rfl rfl)
theorem dX0_lived_5 : decode cX0_lived 5 = .ok (.iconst 4, 1) := dk_7 (dk_at dksX0_lived_0 5 rfl rfl)
theorem dX0_lived_6 : decode cX0_lived 6 = .ok (.if_icmp .le 9, 3) := dk_164 0 9 (dk_at dksX0_lived_0 6 rfl rfl)
theorem dX0_lived_9 : decode cX0_lived 9 = .ok (.aload_n 0, 1) := dk_42 (dk_at dksX0_lived_0 9 rfl rfl)
theorem dX0_lived_10 : decode cX0_lived 10 = .ok (.iconst 5, 1) := dk_8 (dk_at dksX0_lived_0 10 rfl rfl)
theorem dX0_lived_11 : decode cX0_lived 11 = .ok (.invokevirtual 89, 3) := dk_182 0 89 (dk_at dksX0_lived_0 11 rfl rfl)
theorem dX0_lived_14 : decode cX0_lived 14 = .ok (.ireturn, 1) := dk_172 (dk_at dksX0_lived_0 14 rfl rfl)
theorem dX0_lived_15 : decode cX0_lived 15 = .ok (.aload_n 0, 1) := dk_42 (dk_at dksX0_lived_0 15 rfl rfl)
theorem dX0_lived_16 : decode cX0_lived 16 = .ok (.getfield 478, 3) := dk_180 1 222 (dk_at dksX0_lived_0 16 rfl rfl)
theorem dX0_lived_19 : decode cX0_lived 19 = .ok (.ifCond .eq 16, 3) := dk_153 0 16 (dk_at dksX0_lived_0 19 rfl rfl)
theorem dX0_lived_22 : decode cX0_lived 22 = .ok (.aload_n 0, 1) := dk_42 (dk_at dksX0_lived_0 22 rfl rfl)
theorem dX0_lived_23 : decode cX0_lived 23 = .ok (.aload_n 0, 1) := dk_42 (dk_at dksX0_lived_0 23 rfl rfl)
theorem dX0_lived_24 : decode cX0_lived 24 = .ok (.getfield 73, 3) := dk_180 0 73 (dk_at dksX0_lived_1 0 rfl rfl)
theorem dX0_lived_27 : decode cX0_lived 27 = .ok (.iload_n 1, 1) := dk_27 (dk_at dksX0_lived_1 3 rfl rfl)
theorem dX0_lived_28 : decode cX0_lived 28 = .ok (.iaload, 1) := dk_46 (dk_at dksX0_lived_1 4 rfl rfl)
theorem dX0_lived_29 : decode cX0_lived 29 = .ok (.invokevirtual 93, 3) := dk_182 0 93 (dk_at dksX0_lived_1 5 rfl rfl)
theorem dX0_lived_32 : decode cX0_lived 32 = .ok (.goto 9, 3) := dk_167 0 9 (dk_at dksX0_lived_1 8 rfl rfl)
theorem dX0_lived_35 : decode cX0_lived 35 = .ok (.aload_n 0, 1) := dk_42 (dk_at dksX0_lived_1 11 rfl rfl)
theorem dX0_lived_36 : decode cX0_lived 36 = .ok (.bipush 8, 2) := dk_16 8 (dk_at dksX0_lived_1 12 rfl rfl)
theorem dX0_lived_38 : decode cX0_lived 38 = .ok (.invokevirtual 89, 3) := dk_182 0 89 (dk_at dksX0_lived_1 14 rfl rfl)
theorem dX0_lived_41 : decode cX0_lived 41 = .ok (.ireturn, 1) := dk_172 (dk_at dksX0_lived_1 17 rfl rfl)
abbrev cX0_mean : ByteArray := prog_1_method_95_code
def yX0_mean : MethodName := ⟨RX0, "mean", "(II)Z"⟩
def dkwX0_mean_5 : List UInt8 := [181, 0, 34, 42, 22, 4, 28, 133, 182, 1, 159, 172]
abbrev dktX0_mean_5 : List UInt8 := dkwX0_mean_5 ++ []
def dkwX0_mean_4 : List UInt8 := [182, 1, 219, 22, 4, 42, 180, 0, 34, 182, 1, 204, 133, 97, 55, 4, 132, 6, 1, 167, 255, 217, 42, 45]
abbrev dktX0_mean_4 : List UInt8 := dkwX0_mean_4 ++ dktX0_mean_5
def dkwX0_mean_3 : List UInt8 := [54, 6, 21, 6, 28, 162, 0, 39, 42, 180, 0, 34, 45, 182, 1, 138, 87, 42, 27, 21, 6, 96]
abbrev dktX0_mean_3 : List UInt8 := dkwX0_mean_3 ++ dktX0_mean_4
def dkwX0_mean_2 : List UInt8 := [42, 16, 8, 182, 0, 96, 172, 42, 180, 0, 34, 78, 9, 55, 4, 42, 45, 182, 1, 145, 181, 0, 34, 3]
abbrev dktX0_mean_2 : List UInt8 := dkwX0_mean_2 ++ dktX0_mean_3
def dkwX0_mean_1 : List UInt8 := [27, 28, 96, 4, 100, 17, 39, 15, 164, 0, 9, 42, 8, 182, 0, 96, 172, 42, 180, 0, 178, 199, 0, 10]
abbrev dktX0_mean_1 : List UInt8 := dkwX0_mean_1 ++ dktX0_mean_2
def dkwX0_mean_0 : List UInt8 := [27, 133, 9, 20, 1, 217, 184, 0, 147, 153, 0, 26, 28, 133, 10, 20, 1, 225, 184, 0, 147, 153, 0, 14]
abbrev dktX0_mean_0 : List UInt8 := dkwX0_mean_0 ++ dktX0_mean_1
theorem dksX0_mean_0 : cX0_mean.data.toList.drop 0 = dktX0_mean_0 := by decide +kernel
theorem dksX0_mean_1 : cX0_mean.data.toList.drop 24 = dktX0_mean_1 := dk_seg dksX0_mean_0 24 rfl rfl
theorem dksX0_mean_2 : cX0_mean.data.toList.drop 48 = dktX0_mean_2 := dk_seg dksX0_mean_1 24 rfl rfl
theorem dksX0_mean_3 : cX0_mean.data.toList.drop 72 = dktX0_mean_3 := dk_seg dksX0_mean_2 24 rfl rfl
theorem dksX0_mean_4 : cX0_mean.data.toList.drop 94 = dktX0_mean_4 := dk_seg dksX0_mean_3 22 rfl rfl
theorem dksX0_mean_5 : cX0_mean.data.toList.drop 118 = dktX0_mean_5 := dk_seg dksX0_mean_4 24 rfl rfl
theorem dX0_mean_0 : decode cX0_mean 0 = .ok (.iload_n 1, 1) := dk_27 (dk_at dksX0_mean_0 0 rfl rfl)
theorem dX0_mean_1 : decode cX0_mean 1 = .ok (.i2l, 1) := dk_133 (dk_at dksX0_mean_0 1 rfl rfl)
theorem dX0_mean_2 : decode cX0_mean 2 = .ok (.lconst 0, 1) := dk_9 (dk_at dksX0_mean_0 2 rfl rfl)
theorem dX0_mean_3 : decode cX0_mean 3 = .ok (.ldc2_w 473, 3) := dk_20 1 217 (dk_at dksX0_mean_0 3 rfl rfl)
theorem dX0_mean_6 : decode cX0_mean 6 = .ok (.invokestatic 147, 3) := dk_184 0 147 (dk_at dksX0_mean_0 6 rfl rfl)
theorem dX0_mean_9 : decode cX0_mean 9 = .ok (.ifCond .eq 26, 3) := dk_153 0 26 (dk_at dksX0_mean_0 9 rfl rfl)
theorem dX0_mean_12 : decode cX0_mean 12 = .ok (.iload_n 2, 1) := dk_28 (dk_at dksX0_mean_0 12 rfl rfl)
theorem dX0_mean_13 : decode cX0_mean 13 = .ok (.i2l, 1) := dk_133 (dk_at dksX0_mean_0 13 rfl rfl)
theorem dX0_mean_14 : decode cX0_mean 14 = .ok (.lconst 1, 1) := dk_10 (dk_at dksX0_mean_0 14 rfl rfl)
theorem dX0_mean_15 : decode cX0_mean 15 = .ok (.ldc2_w 481, 3) := dk_20 1 225 (dk_at dksX0_mean_0 15 rfl rfl)
theorem dX0_mean_18 : decode cX0_mean 18 = .ok (.invokestatic 147, 3) := dk_184 0 147 (dk_at dksX0_mean_0 18 rfl rfl)
theorem dX0_mean_21 : decode cX0_mean 21 = .ok (.ifCond .eq 14, 3) := dk_153 0 14 (dk_at dksX0_mean_0 21 rfl rfl)
theorem dX0_mean_24 : decode cX0_mean 24 = .ok (.iload_n 1, 1) := dk_27 (dk_at dksX0_mean_1 0 rfl rfl)
theorem dX0_mean_25 : decode cX0_mean 25 = .ok (.iload_n 2, 1) := dk_28 (dk_at dksX0_mean_1 1 rfl rfl)
theorem dX0_mean_26 : decode cX0_mean 26 = .ok (.iadd, 1) := dk_96 (dk_at dksX0_mean_1 2 rfl rfl)
theorem dX0_mean_27 : decode cX0_mean 27 = .ok (.iconst 1, 1) := dk_4 (dk_at dksX0_mean_1 3 rfl rfl)
theorem dX0_mean_28 : decode cX0_mean 28 = .ok (.isub, 1) := dk_100 (dk_at dksX0_mean_1 4 rfl rfl)
theorem dX0_mean_29 : decode cX0_mean 29 = .ok (.sipush 9999, 3) := dk_17 39 15 (dk_at dksX0_mean_1 5 rfl rfl)
theorem dX0_mean_32 : decode cX0_mean 32 = .ok (.if_icmp .le 9, 3) := dk_164 0 9 (dk_at dksX0_mean_1 8 rfl rfl)
theorem dX0_mean_35 : decode cX0_mean 35 = .ok (.aload_n 0, 1) := dk_42 (dk_at dksX0_mean_1 11 rfl rfl)
theorem dX0_mean_36 : decode cX0_mean 36 = .ok (.iconst 5, 1) := dk_8 (dk_at dksX0_mean_1 12 rfl rfl)
theorem dX0_mean_37 : decode cX0_mean 37 = .ok (.invokevirtual 96, 3) := dk_182 0 96 (dk_at dksX0_mean_1 13 rfl rfl)
theorem dX0_mean_40 : decode cX0_mean 40 = .ok (.ireturn, 1) := dk_172 (dk_at dksX0_mean_1 16 rfl rfl)
theorem dX0_mean_41 : decode cX0_mean 41 = .ok (.aload_n 0, 1) := dk_42 (dk_at dksX0_mean_1 17 rfl rfl)
theorem dX0_mean_42 : decode cX0_mean 42 = .ok (.getfield 178, 3) := dk_180 0 178 (dk_at dksX0_mean_1 18 rfl rfl)
theorem dX0_mean_45 : decode cX0_mean 45 = .ok (.ifnonnull 10, 3) := dk_199 0 10 (dk_at dksX0_mean_1 21 rfl rfl)
theorem dX0_mean_48 : decode cX0_mean 48 = .ok (.aload_n 0, 1) := dk_42 (dk_at dksX0_mean_2 0 rfl rfl)
theorem dX0_mean_49 : decode cX0_mean 49 = .ok (.bipush 8, 2) := dk_16 8 (dk_at dksX0_mean_2 1 rfl rfl)
theorem dX0_mean_51 : decode cX0_mean 51 = .ok (.invokevirtual 96, 3) := dk_182 0 96 (dk_at dksX0_mean_2 3 rfl rfl)
theorem dX0_mean_54 : decode cX0_mean 54 = .ok (.ireturn, 1) := dk_172 (dk_at dksX0_mean_2 6 rfl rfl)
theorem dX0_mean_55 : decode cX0_mean 55 = .ok (.aload_n 0, 1) := dk_42 (dk_at dksX0_mean_2 7 rfl rfl)
theorem dX0_mean_56 : decode cX0_mean 56 = .ok (.getfield 34, 3) := dk_180 0 34 (dk_at dksX0_mean_2 8 rfl rfl)
theorem dX0_mean_59 : decode cX0_mean 59 = .ok (.astore_n 3, 1) := dk_78 (dk_at dksX0_mean_2 11 rfl rfl)
theorem dX0_mean_60 : decode cX0_mean 60 = .ok (.lconst 0, 1) := dk_9 (dk_at dksX0_mean_2 12 rfl rfl)
theorem dX0_mean_61 : decode cX0_mean 61 = .ok (.lstore 4, 2) := dk_55 4 (dk_at dksX0_mean_2 13 rfl rfl)
theorem dX0_mean_63 : decode cX0_mean 63 = .ok (.aload_n 0, 1) := dk_42 (dk_at dksX0_mean_2 15 rfl rfl)
theorem dX0_mean_64 : decode cX0_mean 64 = .ok (.aload_n 3, 1) := dk_45 (dk_at dksX0_mean_2 16 rfl rfl)
theorem dX0_mean_65 : decode cX0_mean 65 = .ok (.invokevirtual 401, 3) := dk_182 1 145 (dk_at dksX0_mean_2 17 rfl rfl)
theorem dX0_mean_68 : decode cX0_mean 68 = .ok (.putfield 34, 3) := dk_181 0 34 (dk_at dksX0_mean_2 20 rfl rfl)
theorem dX0_mean_71 : decode cX0_mean 71 = .ok (.iconst 0, 1) := dk_3 (dk_at dksX0_mean_2 23 rfl rfl)
theorem dX0_mean_72 : decode cX0_mean 72 = .ok (.istore 6, 2) := dk_54 6 (dk_at dksX0_mean_3 0 rfl rfl)
theorem dX0_mean_74 : decode cX0_mean 74 = .ok (.iload 6, 2) := dk_21 6 (dk_at dksX0_mean_3 2 rfl rfl)
theorem dX0_mean_76 : decode cX0_mean 76 = .ok (.iload_n 2, 1) := dk_28 (dk_at dksX0_mean_3 4 rfl rfl)
theorem dX0_mean_77 : decode cX0_mean 77 = .ok (.if_icmp .ge 39, 3) := dk_162 0 39 (dk_at dksX0_mean_3 5 rfl rfl)
theorem dX0_mean_80 : decode cX0_mean 80 = .ok (.aload_n 0, 1) := dk_42 (dk_at dksX0_mean_3 8 rfl rfl)
theorem dX0_mean_81 : decode cX0_mean 81 = .ok (.getfield 34, 3) := dk_180 0 34 (dk_at dksX0_mean_3 9 rfl rfl)
theorem dX0_mean_84 : decode cX0_mean 84 = .ok (.aload_n 3, 1) := dk_45 (dk_at dksX0_mean_3 12 rfl rfl)
theorem dX0_mean_85 : decode cX0_mean 85 = .ok (.invokevirtual 394, 3) := dk_182 1 138 (dk_at dksX0_mean_3 13 rfl rfl)
theorem dX0_mean_88 : decode cX0_mean 88 = .ok (.pop, 1) := dk_87 (dk_at dksX0_mean_3 16 rfl rfl)
theorem dX0_mean_89 : decode cX0_mean 89 = .ok (.aload_n 0, 1) := dk_42 (dk_at dksX0_mean_3 17 rfl rfl)
theorem dX0_mean_90 : decode cX0_mean 90 = .ok (.iload_n 1, 1) := dk_27 (dk_at dksX0_mean_3 18 rfl rfl)
theorem dX0_mean_91 : decode cX0_mean 91 = .ok (.iload 6, 2) := dk_21 6 (dk_at dksX0_mean_3 19 rfl rfl)
theorem dX0_mean_93 : decode cX0_mean 93 = .ok (.iadd, 1) := dk_96 (dk_at dksX0_mean_3 21 rfl rfl)
theorem dX0_mean_94 : decode cX0_mean 94 = .ok (.invokevirtual 475, 3) := dk_182 1 219 (dk_at dksX0_mean_4 0 rfl rfl)
theorem dX0_mean_97 : decode cX0_mean 97 = .ok (.lload 4, 2) := dk_22 4 (dk_at dksX0_mean_4 3 rfl rfl)
theorem dX0_mean_99 : decode cX0_mean 99 = .ok (.aload_n 0, 1) := dk_42 (dk_at dksX0_mean_4 5 rfl rfl)
theorem dX0_mean_100 : decode cX0_mean 100 = .ok (.getfield 34, 3) := dk_180 0 34 (dk_at dksX0_mean_4 6 rfl rfl)
theorem dX0_mean_103 : decode cX0_mean 103 = .ok (.invokevirtual 460, 3) := dk_182 1 204 (dk_at dksX0_mean_4 9 rfl rfl)
theorem dX0_mean_106 : decode cX0_mean 106 = .ok (.i2l, 1) := dk_133 (dk_at dksX0_mean_4 12 rfl rfl)
theorem dX0_mean_107 : decode cX0_mean 107 = .ok (.ladd, 1) := dk_97 (dk_at dksX0_mean_4 13 rfl rfl)
theorem dX0_mean_108 : decode cX0_mean 108 = .ok (.lstore 4, 2) := dk_55 4 (dk_at dksX0_mean_4 14 rfl rfl)
theorem dX0_mean_110 : decode cX0_mean 110 = .ok (.iinc 6 1, 3) := dk_132 6 1 (dk_at dksX0_mean_4 16 rfl rfl)
theorem dX0_mean_113 : decode cX0_mean 113 = .ok (.goto (-39), 3) := dk_167 255 217 (dk_at dksX0_mean_4 19 rfl rfl)
theorem dX0_mean_116 : decode cX0_mean 116 = .ok (.aload_n 0, 1) := dk_42 (dk_at dksX0_mean_4 22 rfl rfl)
theorem dX0_mean_117 : decode cX0_mean 117 = .ok (.aload_n 3, 1) := dk_45 (dk_at dksX0_mean_4 23 rfl rfl)
theorem dX0_mean_118 : decode cX0_mean 118 = .ok (.putfield 34, 3) := dk_181 0 34 (dk_at dksX0_mean_5 0 rfl rfl)
theorem dX0_mean_121 : decode cX0_mean 121 = .ok (.aload_n 0, 1) := dk_42 (dk_at dksX0_mean_5 3 rfl rfl)
theorem dX0_mean_122 : decode cX0_mean 122 = .ok (.lload 4, 2) := dk_22 4 (dk_at dksX0_mean_5 4 rfl rfl)
theorem dX0_mean_124 : decode cX0_mean 124 = .ok (.iload_n 2, 1) := dk_28 (dk_at dksX0_mean_5 6 rfl rfl)
theorem dX0_mean_125 : decode cX0_mean 125 = .ok (.i2l, 1) := dk_133 (dk_at dksX0_mean_5 7 rfl rfl)
theorem dX0_mean_126 : decode cX0_mean 126 = .ok (.invokevirtual 415, 3) := dk_182 1 159 (dk_at dksX0_mean_5 8 rfl rfl)
theorem dX0_mean_129 : decode cX0_mean 129 = .ok (.ireturn, 1) := dk_172 (dk_at dksX0_mean_5 11 rfl rfl)
abbrev cX0_mark : ByteArray := prog_1_method_96_code
def yX0_mark : MethodName := ⟨RX0, "mark", "()I"⟩
def dkwX0_mark_2 : List UInt8 := [89, 180, 1, 227, 4, 96, 181, 1, 227, 42, 42, 180, 1, 227, 182, 0, 93, 172]
abbrev dktX0_mark_2 : List UInt8 := dkwX0_mark_2 ++ []
def dkwX0_mark_1 : List UInt8 := [187, 0, 76, 89, 42, 180, 0, 34, 182, 1, 145, 42, 180, 0, 178, 42, 180, 0, 182, 183, 1, 230, 83, 42]
abbrev dktX0_mark_1 : List UInt8 := dkwX0_mark_1 ++ dktX0_mark_2
def dkwX0_mark_0 : List UInt8 := [42, 180, 1, 227, 6, 160, 0, 10, 42, 16, 7, 182, 0, 89, 172, 42, 180, 0, 78, 42, 180, 1, 227]
abbrev dktX0_mark_0 : List UInt8 := dkwX0_mark_0 ++ dktX0_mark_1
theorem dksX0_mark_0 : cX0_mark.data.toList.drop 0 = dktX0_mark_0 := by decide +kernel
theorem dksX0_mark_1 : cX0_mark.data.toList.drop 23 = dktX0_mark_1 := dk_seg dksX0_mark_0 23 rfl rfl
theorem dksX0_mark_2 : cX0_mark.data.toList.drop 47 = dktX0_mark_2 := dk_seg dksX0_mark_1 24 rfl rfl
theorem dX0_mark_0 : decode cX0_mark 0 = .ok (.aload_n 0, 1) := dk_42 (dk_at dksX0_mark_0 0 rfl rfl)
theorem dX0_mark_1 : decode cX0_mark 1 = .ok (.getfield 483, 3) := dk_180 1 227 (dk_at dksX0_mark_0 1 rfl rfl)
theorem dX0_mark_4 : decode cX0_mark 4 = .ok (.iconst 3, 1) := dk_6 (dk_at dksX0_mark_0 4 rfl rfl)
theorem dX0_mark_5 : decode cX0_mark 5 = .ok (.if_icmp .ne 10, 3) := dk_160 0 10 (dk_at dksX0_mark_0 5 rfl rfl)
theorem dX0_mark_8 : decode cX0_mark 8 = .ok (.aload_n 0, 1) := dk_42 (dk_at dksX0_mark_0 8 rfl rfl)
theorem dX0_mark_9 : decode cX0_mark 9 = .ok (.bipush 7, 2) := dk_16 7 (dk_at dksX0_mark_0 9 rfl rfl)
theorem dX0_mark_11 : decode cX0_mark 11 = .ok (.invokevirtual 89, 3) := dk_182 0 89 (dk_at dksX0_mark_0 11 rfl rfl)
theorem dX0_mark_14 : decode cX0_mark 14 = .ok (.ireturn, 1) := dk_172 (dk_at dksX0_mark_0 14 rfl rfl)
theorem dX0_mark_15 : decode cX0_mark 15 = .ok (.aload_n 0, 1) := dk_42 (dk_at dksX0_mark_0 15 rfl rfl)
theorem dX0_mark_16 : decode cX0_mark 16 = .ok (.getfield 78, 3) := dk_180 0 78 (dk_at dksX0_mark_0 16 rfl rfl)
theorem dX0_mark_19 : decode cX0_mark 19 = .ok (.aload_n 0, 1) := dk_42 (dk_at dksX0_mark_0 19 rfl rfl)
theorem dX0_mark_20 : decode cX0_mark 20 = .ok (.getfield 483, 3) := dk_180 1 227 (dk_at dksX0_mark_0 20 rfl rfl)
theorem dX0_mark_23 : decode cX0_mark 23 = .ok (.new 76, 3) := dk_187 0 76 (dk_at dksX0_mark_1 0 rfl rfl)
theorem dX0_mark_26 : decode cX0_mark 26 = .ok (.dup, 1) := dk_89 (dk_at dksX0_mark_1 3 rfl rfl)
theorem dX0_mark_27 : decode cX0_mark 27 = .ok (.aload_n 0, 1) := dk_42 (dk_at dksX0_mark_1 4 rfl rfl)
theorem dX0_mark_28 : decode cX0_mark 28 = .ok (.getfield 34, 3) := dk_180 0 34 (dk_at dksX0_mark_1 5 rfl rfl)
theorem dX0_mark_31 : decode cX0_mark 31 = .ok (.invokevirtual 401, 3) := dk_182 1 145 (dk_at dksX0_mark_1 8 rfl rfl)
theorem dX0_mark_34 : decode cX0_mark 34 = .ok (.aload_n 0, 1) := dk_42 (dk_at dksX0_mark_1 11 rfl rfl)
theorem dX0_mark_35 : decode cX0_mark 35 = .ok (.getfield 178, 3) := dk_180 0 178 (dk_at dksX0_mark_1 12 rfl rfl)
theorem dX0_mark_38 : decode cX0_mark 38 = .ok (.aload_n 0, 1) := dk_42 (dk_at dksX0_mark_1 15 rfl rfl)
theorem dX0_mark_39 : decode cX0_mark 39 = .ok (.getfield 182, 3) := dk_180 0 182 (dk_at dksX0_mark_1 16 rfl rfl)
theorem dX0_mark_42 : decode cX0_mark 42 = .ok (.invokespecial 486, 3) := dk_183 1 230 (dk_at dksX0_mark_1 19 rfl rfl)
theorem dX0_mark_45 : decode cX0_mark 45 = .ok (.aastore, 1) := dk_83 (dk_at dksX0_mark_1 22 rfl rfl)
theorem dX0_mark_46 : decode cX0_mark 46 = .ok (.aload_n 0, 1) := dk_42 (dk_at dksX0_mark_1 23 rfl rfl)
theorem dX0_mark_47 : decode cX0_mark 47 = .ok (.dup, 1) := dk_89 (dk_at dksX0_mark_2 0 rfl rfl)
theorem dX0_mark_48 : decode cX0_mark 48 = .ok (.getfield 483, 3) := dk_180 1 227 (dk_at dksX0_mark_2 1 rfl rfl)
theorem dX0_mark_51 : decode cX0_mark 51 = .ok (.iconst 1, 1) := dk_4 (dk_at dksX0_mark_2 4 rfl rfl)
theorem dX0_mark_52 : decode cX0_mark 52 = .ok (.iadd, 1) := dk_96 (dk_at dksX0_mark_2 5 rfl rfl)
theorem dX0_mark_53 : decode cX0_mark 53 = .ok (.putfield 483, 3) := dk_181 1 227 (dk_at dksX0_mark_2 6 rfl rfl)
theorem dX0_mark_56 : decode cX0_mark 56 = .ok (.aload_n 0, 1) := dk_42 (dk_at dksX0_mark_2 9 rfl rfl)
theorem dX0_mark_57 : decode cX0_mark 57 = .ok (.aload_n 0, 1) := dk_42 (dk_at dksX0_mark_2 10 rfl rfl)
theorem dX0_mark_58 : decode cX0_mark 58 = .ok (.getfield 483, 3) := dk_180 1 227 (dk_at dksX0_mark_2 11 rfl rfl)
theorem dX0_mark_61 : decode cX0_mark 61 = .ok (.invokevirtual 93, 3) := dk_182 0 93 (dk_at dksX0_mark_2 14 rfl rfl)
theorem dX0_mark_64 : decode cX0_mark 64 = .ok (.ireturn, 1) := dk_172 (dk_at dksX0_mark_2 17 rfl rfl)
abbrev cX0_back : ByteArray := prog_1_method_97_code
def yX0_back : MethodName := ⟨RX0, "back", "()I"⟩
def dkwX0_back_2 : List UInt8 := [181, 0, 178, 42, 43, 180, 1, 235, 181, 0, 182, 42, 42, 180, 1, 227, 182, 0, 93, 172]
abbrev dktX0_back_2 : List UInt8 := dkwX0_back_2 ++ []
def dkwX0_back_1 : List UInt8 := [42, 180, 0, 78, 42, 180, 1, 227, 50, 76, 42, 43, 180, 1, 233, 181, 0, 34, 42, 43, 180, 1, 234]
abbrev dktX0_back_1 : List UInt8 := dkwX0_back_1 ++ dktX0_back_2
def dkwX0_back_0 : List UInt8 := [42, 180, 1, 227, 154, 0, 10, 42, 16, 8, 182, 0, 89, 172, 42, 89, 180, 1, 227, 4, 100, 181, 1, 227]
abbrev dktX0_back_0 : List UInt8 := dkwX0_back_0 ++ dktX0_back_1
theorem dksX0_back_0 : cX0_back.data.toList.drop 0 = dktX0_back_0 := by decide +kernel
theorem dksX0_back_1 : cX0_back.data.toList.drop 24 = dktX0_back_1 := dk_seg dksX0_back_0 24 rfl rfl
theorem dksX0_back_2 : cX0_back.data.toList.drop 47 = dktX0_back_2 := dk_seg dksX0_back_1 23 rfl rfl
theorem dX0_back_0 : decode cX0_back 0 = .ok (.aload_n 0, 1) := dk_42 (dk_at dksX0_back_0 0 rfl rfl)
theorem dX0_back_1 : decode cX0_back 1 = .ok (.getfield 483, 3) := dk_180 1 227 (dk_at dksX0_back_0 1 rfl rfl)
theorem dX0_back_4 : decode cX0_back 4 = .ok (.ifCond .ne 10, 3) := dk_154 0 10 (dk_at dksX0_back_0 4 rfl rfl)
theorem dX0_back_7 : decode cX0_back 7 = .ok (.aload_n 0, 1) := dk_42 (dk_at dksX0_back_0 7 rfl rfl)
theorem dX0_back_8 : decode cX0_back 8 = .ok (.bipush 8, 2) := dk_16 8 (dk_at dksX0_back_0 8 rfl rfl)
theorem dX0_back_10 : decode cX0_back 10 = .ok (.invokevirtual 89, 3) := dk_182 0 89 (dk_at dksX0_back_0 10 rfl rfl)
theorem dX0_back_13 : decode cX0_back 13 = .ok (.ireturn, 1) := dk_172 (dk_at dksX0_back_0 13 rfl rfl)
theorem dX0_back_14 : decode cX0_back 14 = .ok (.aload_n 0, 1) := dk_42 (dk_at dksX0_back_0 14 rfl rfl)
theorem dX0_back_15 : decode cX0_back 15 = .ok (.dup, 1) := dk_89 (dk_at dksX0_back_0 15 rfl rfl)
theorem dX0_back_16 : decode cX0_back 16 = .ok (.getfield 483, 3) := dk_180 1 227 (dk_at dksX0_back_0 16 rfl rfl)
theorem dX0_back_19 : decode cX0_back 19 = .ok (.iconst 1, 1) := dk_4 (dk_at dksX0_back_0 19 rfl rfl)
theorem dX0_back_20 : decode cX0_back 20 = .ok (.isub, 1) := dk_100 (dk_at dksX0_back_0 20 rfl rfl)
theorem dX0_back_21 : decode cX0_back 21 = .ok (.putfield 483, 3) := dk_181 1 227 (dk_at dksX0_back_0 21 rfl rfl)
theorem dX0_back_24 : decode cX0_back 24 = .ok (.aload_n 0, 1) := dk_42 (dk_at dksX0_back_1 0 rfl rfl)
theorem dX0_back_25 : decode cX0_back 25 = .ok (.getfield 78, 3) := dk_180 0 78 (dk_at dksX0_back_1 1 rfl rfl)
theorem dX0_back_28 : decode cX0_back 28 = .ok (.aload_n 0, 1) := dk_42 (dk_at dksX0_back_1 4 rfl rfl)
theorem dX0_back_29 : decode cX0_back 29 = .ok (.getfield 483, 3) := dk_180 1 227 (dk_at dksX0_back_1 5 rfl rfl)
theorem dX0_back_32 : decode cX0_back 32 = .ok (.aaload, 1) := dk_50 (dk_at dksX0_back_1 8 rfl rfl)
theorem dX0_back_33 : decode cX0_back 33 = .ok (.astore_n 1, 1) := dk_76 (dk_at dksX0_back_1 9 rfl rfl)
theorem dX0_back_34 : decode cX0_back 34 = .ok (.aload_n 0, 1) := dk_42 (dk_at dksX0_back_1 10 rfl rfl)
theorem dX0_back_35 : decode cX0_back 35 = .ok (.aload_n 1, 1) := dk_43 (dk_at dksX0_back_1 11 rfl rfl)
theorem dX0_back_36 : decode cX0_back 36 = .ok (.getfield 489, 3) := dk_180 1 233 (dk_at dksX0_back_1 12 rfl rfl)
theorem dX0_back_39 : decode cX0_back 39 = .ok (.putfield 34, 3) := dk_181 0 34 (dk_at dksX0_back_1 15 rfl rfl)
theorem dX0_back_42 : decode cX0_back 42 = .ok (.aload_n 0, 1) := dk_42 (dk_at dksX0_back_1 18 rfl rfl)
theorem dX0_back_43 : decode cX0_back 43 = .ok (.aload_n 1, 1) := dk_43 (dk_at dksX0_back_1 19 rfl rfl)
theorem dX0_back_44 : decode cX0_back 44 = .ok (.getfield 490, 3) := dk_180 1 234 (dk_at dksX0_back_1 20 rfl rfl)
theorem dX0_back_47 : decode cX0_back 47 = .ok (.putfield 178, 3) := dk_181 0 178 (dk_at dksX0_back_2 0 rfl rfl)
theorem dX0_back_50 : decode cX0_back 50 = .ok (.aload_n 0, 1) := dk_42 (dk_at dksX0_back_2 3 rfl rfl)
theorem dX0_back_51 : decode cX0_back 51 = .ok (.aload_n 1, 1) := dk_43 (dk_at dksX0_back_2 4 rfl rfl)
theorem dX0_back_52 : decode cX0_back 52 = .ok (.getfield 491, 3) := dk_180 1 235 (dk_at dksX0_back_2 5 rfl rfl)
theorem dX0_back_55 : decode cX0_back 55 = .ok (.putfield 182, 3) := dk_181 0 182 (dk_at dksX0_back_2 8 rfl rfl)
theorem dX0_back_58 : decode cX0_back 58 = .ok (.aload_n 0, 1) := dk_42 (dk_at dksX0_back_2 11 rfl rfl)
theorem dX0_back_59 : decode cX0_back 59 = .ok (.aload_n 0, 1) := dk_42 (dk_at dksX0_back_2 12 rfl rfl)
theorem dX0_back_60 : decode cX0_back 60 = .ok (.getfield 483, 3) := dk_180 1 227 (dk_at dksX0_back_2 13 rfl rfl)
theorem dX0_back_63 : decode cX0_back 63 = .ok (.invokevirtual 93, 3) := dk_182 0 93 (dk_at dksX0_back_2 16 rfl rfl)
theorem dX0_back_66 : decode cX0_back 66 = .ok (.ireturn, 1) := dk_172 (dk_at dksX0_back_2 19 rfl rfl)
theorem q153 : (Jvm.Cond.initialized "TinFen") ∈ lw_all := lw_g (lw_at lw_m1 1 rfl) rfl
theorem q180 : (Jvm.Cond.instantiable "TinFen" (25 : Nat)) ∈ lw_all := lw_g (lw_at lw_m1 28 rfl) rfl
theorem q182 : (Jvm.Cond.instanceMethod ({ cls := "TinFen", name := "<init>", desc := "()V" } : Jvm.MethodName)) ∈ lw_all := lw_g (lw_at lw_m1 30 rfl) rfl
theorem q183 : (Jvm.Cond.code ({ cls := "TinFen", name := "<init>", desc := "()V" } : Jvm.MethodName) prog_1_method_4_code (2 : Nat) (Option.none : Option Jvm.ClassFile.FieldType)) ∈ lw_all := lw_g (lw_at lw_m1 31 rfl) rfl
theorem q184 : (Jvm.Cond.methodLink "TinFen" (7 : Nat) ({ cls := "java/lang/Object", name := "<init>", desc := "()V" } : Jvm.MethodName)) ∈ lw_all := lw_g (lw_at lw_m1 32 rfl) rfl
theorem q187 : (Jvm.Cond.classLink "TinFen" (13 : Nat) "TinFen$Tray") ∈ lw_all := lw_g (lw_at lw_m1 35 rfl) rfl
theorem q189 : (Jvm.Cond.classLink "TinFen" (19 : Nat) "TinFen$Reader") ∈ lw_all := lw_g (lw_at lw_m1 37 rfl) rfl
theorem q191 : (Jvm.Cond.classLink "TinFen" (21 : Nat) "TinFen$Wrong") ∈ lw_all := lw_g (lw_at lw_m1 39 rfl) rfl
theorem q246 : (Jvm.Cond.methodLink "TinFen" (23 : Nat) ({ cls := "TinFen$Wrong", name := "<init>", desc := "()V" } : Jvm.MethodName)) ∈ lw_all := lw_g (lw_at lw_m1 94 rfl) rfl
theorem q259 : (Jvm.Cond.fieldLinkNest "TinFen" (162 : Nat) "TinFen$Wrong" "kind" "I" "TinFen") ∈ lw_tbl := lw_at lw_m1 107 rfl
theorem q261 : (Jvm.Cond.fieldLinkNest "TinFen" (165 : Nat) "TinFen$Wrong" "place" "I" "TinFen") ∈ lw_tbl := lw_at lw_m1 109 rfl
theorem q279 : (Jvm.Cond.methodLink "TinFen" (24 : Nat) ({ cls := "TinFen$Reader", name := "<init>", desc := "(LTinFen$Wrong;)V" } : Jvm.MethodName)) ∈ lw_all := lw_g (lw_at lw_m1 127 rfl) rfl
theorem q303 : (Jvm.Cond.fieldLinkNest "TinFen" (151 : Nat) "TinFen$Reader" "taped" "I" "TinFen") ∈ lw_tbl := lw_at lw_m1 151 rfl
theorem q305 : (Jvm.Cond.fieldLinkNest "TinFen" (189 : Nat) "TinFen$Reader" "stepMany" "I" "TinFen") ∈ lw_tbl := lw_at lw_m1 153 rfl
theorem q307 : (Jvm.Cond.fieldLinkNest "TinFen" (190 : Nat) "TinFen$Reader" "counted" "I" "TinFen") ∈ lw_tbl := lw_at lw_m1 155 rfl
theorem q311 : (Jvm.Cond.fieldLinkNest "TinFen" (292 : Nat) "TinFen$Reader" "sound" "LTinFen$Metal;" "TinFen") ∈ lw_tbl := lw_at lw_m1 159 rfl
theorem q313 : (Jvm.Cond.fieldLinkNest "TinFen" (203 : Nat) "TinFen$Reader" "lead" "LTinFen$Metal;" "TinFen") ∈ lw_tbl := lw_at lw_m1 161 rfl
theorem q318 : (Jvm.Cond.fieldLink "TinFen" (158 : Nat) "TinFen$Reader" "tape" "[B") ∈ lw_all := lw_g (lw_at lw_m1 166 rfl) rfl
theorem q376 : (Jvm.Cond.classLink "TinFen" (31 : Nat) "TinFen$Fen") ∈ lw_all := lw_g (lw_at lw_m1 224 rfl) rfl
theorem q378 : (Jvm.Cond.methodLinkNest "TinFen" (33 : Nat) ({ cls := "TinFen$Fen", name := "<init>", desc := "()V" } : Jvm.MethodName) "TinFen") ∈ lw_tbl := lw_at lw_m1 226 rfl
theorem q390 : (Jvm.Cond.fieldLink "TinFen" (234 : Nat) "TinFen$Fen" "worth" "[I") ∈ lw_all := lw_g (lw_at lw_m1 238 rfl) rfl
theorem q393 : (Jvm.Cond.fieldLink "TinFen" (241 : Nat) "TinFen$Fen" "people" "[LTinFen$Person;") ∈ lw_all := lw_g (lw_at lw_m2 1 rfl) rfl
theorem q395 : (Jvm.Cond.fieldLink "TinFen" (193 : Nat) "TinFen$Fen" "tins" "[LTinFen$Tin;") ∈ lw_all := lw_g (lw_at lw_m2 3 rfl) rfl
theorem q398 : (Jvm.Cond.fieldLinkNest "TinFen" (138 : Nat) "TinFen$Fen" "traitMany" "I" "TinFen") ∈ lw_tbl := lw_at lw_m2 6 rfl
theorem q401 : (Jvm.Cond.fieldLinkNest "TinFen" (141 : Nat) "TinFen$Fen" "personMany" "I" "TinFen") ∈ lw_tbl := lw_at lw_m2 9 rfl
theorem q404 : (Jvm.Cond.fieldLinkNest "TinFen" (206 : Nat) "TinFen$Fen" "laneMany" "I" "TinFen") ∈ lw_tbl := lw_at lw_m2 12 rfl
theorem q407 : (Jvm.Cond.fieldLinkNest "TinFen" (144 : Nat) "TinFen$Fen" "tinMany" "I" "TinFen") ∈ lw_tbl := lw_at lw_m2 15 rfl
theorem q410 : (Jvm.Cond.fieldLinkNest "TinFen" (209 : Nat) "TinFen$Fen" "odds" "I" "TinFen") ∈ lw_tbl := lw_at lw_m2 18 rfl
theorem q412 : (Jvm.Cond.fieldLinkNest "TinFen" (212 : Nat) "TinFen$Fen" "passes" "I" "TinFen") ∈ lw_tbl := lw_at lw_m2 20 rfl
theorem q436 : (Jvm.Cond.classLink "TinFen" (76 : Nat) "TinFen$Kept") ∈ lw_all := lw_g (lw_at lw_m2 44 rfl) rfl
theorem q439 : (Jvm.Cond.methodLinkNest "TinFen" (82 : Nat) ({ cls := "TinFen$Tray", name := "<init>", desc := "()V" } : Jvm.MethodName) "TinFen") ∈ lw_tbl := lw_at lw_m2 47 rfl
theorem q444 : (Jvm.Cond.fieldLinkNest "TinFen" (123 : Nat) "TinFen$Tray" "row" "Ljava/lang/Object;" "TinFen") ∈ lw_tbl := lw_at lw_m2 52 rfl
theorem q446 : (Jvm.Cond.fieldLinkNest "TinFen" (127 : Nat) "TinFen$Tray" "sort" "I" "TinFen") ∈ lw_tbl := lw_at lw_m2 54 rfl
theorem q452 : (Jvm.Cond.fieldLink "TinFen" (15 : Nat) "TinFen" "trays" "[LTinFen$Tray;") ∈ lw_all := lw_g (lw_at lw_m2 60 rfl) rfl
theorem q453 : (Jvm.Cond.fieldLink "TinFen" (27 : Nat) "TinFen" "reader" "LTinFen$Reader;") ∈ lw_all := lw_g (lw_at lw_m2 61 rfl) rfl
theorem q454 : (Jvm.Cond.fieldLink "TinFen" (34 : Nat) "TinFen" "fen" "LTinFen$Fen;") ∈ lw_all := lw_g (lw_at lw_m2 62 rfl) rfl
theorem q455 : (Jvm.Cond.fieldLink "TinFen" (178 : Nat) "TinFen" "steps" "[LTinFen$Step;") ∈ lw_all := lw_g (lw_at lw_m2 63 rfl) rfl
theorem q456 : (Jvm.Cond.fieldLink "TinFen" (182 : Nat) "TinFen" "stepMany" "I") ∈ lw_all := lw_g (lw_at lw_m2 64 rfl) rfl
theorem q457 : (Jvm.Cond.fieldLink "TinFen" (83 : Nat) "TinFen" "status" "I") ∈ lw_all := lw_g (lw_at lw_m2 65 rfl) rfl
theorem q458 : (Jvm.Cond.fieldLink "TinFen" (38 : Nat) "TinFen" "faultKind" "I") ∈ lw_all := lw_g (lw_at lw_m2 66 rfl) rfl
theorem q459 : (Jvm.Cond.fieldLink "TinFen" (42 : Nat) "TinFen" "faultPlace" "I") ∈ lw_all := lw_g (lw_at lw_m2 67 rfl) rfl
theorem q460 : (Jvm.Cond.fieldLink "TinFen" (86 : Nat) "TinFen" "top" "J") ∈ lw_all := lw_g (lw_at lw_m2 68 rfl) rfl
theorem q461 : (Jvm.Cond.fieldLink "TinFen" (45 : Nat) "TinFen" "bottom" "J") ∈ lw_all := lw_g (lw_at lw_m2 69 rfl) rfl
theorem q462 : (Jvm.Cond.fieldLink "TinFen" (49 : Nat) "TinFen" "farBy" "[I") ∈ lw_all := lw_g (lw_at lw_m2 70 rfl) rfl
theorem q463 : (Jvm.Cond.fieldLink "TinFen" (53 : Nat) "TinFen" "rowBy" "[I") ∈ lw_all := lw_g (lw_at lw_m2 71 rfl) rfl
theorem q464 : (Jvm.Cond.fieldLink "TinFen" (56 : Nat) "TinFen" "roundBy" "[I") ∈ lw_all := lw_g (lw_at lw_m2 72 rfl) rfl
theorem q465 : (Jvm.Cond.fieldLink "TinFen" (322 : Nat) "TinFen" "roundMany" "I") ∈ lw_all := lw_g (lw_at lw_m2 73 rfl) rfl
theorem q466 : (Jvm.Cond.fieldLink "TinFen" (59 : Nat) "TinFen" "numbers" "[I") ∈ lw_all := lw_g (lw_at lw_m2 74 rfl) rfl
theorem q467 : (Jvm.Cond.fieldLink "TinFen" (62 : Nat) "TinFen" "levels" "[LTinFen$Fen;") ∈ lw_all := lw_g (lw_at lw_m2 75 rfl) rfl
theorem q468 : (Jvm.Cond.fieldLink "TinFen" (388 : Nat) "TinFen" "firstMove" "I") ∈ lw_all := lw_g (lw_at lw_m2 76 rfl) rfl
theorem q469 : (Jvm.Cond.fieldLink "TinFen" (66 : Nat) "TinFen" "foundBy" "[J") ∈ lw_all := lw_g (lw_at lw_m2 77 rfl) rfl
theorem q470 : (Jvm.Cond.fieldLink "TinFen" (419 : Nat) "TinFen" "drawn" "I") ∈ lw_all := lw_g (lw_at lw_m2 78 rfl) rfl
theorem q471 : (Jvm.Cond.fieldLink "TinFen" (457 : Nat) "TinFen" "ranSteps" "I") ∈ lw_all := lw_g (lw_at lw_m2 79 rfl) rfl
theorem q472 : (Jvm.Cond.fieldLink "TinFen" (70 : Nat) "TinFen" "ran" "[I") ∈ lw_all := lw_g (lw_at lw_m2 80 rfl) rfl
theorem q473 : (Jvm.Cond.fieldLink "TinFen" (73 : Nat) "TinFen" "lasted" "[I") ∈ lw_all := lw_g (lw_at lw_m2 81 rfl) rfl
theorem q474 : (Jvm.Cond.fieldLink "TinFen" (478 : Nat) "TinFen" "isLasted" "Z") ∈ lw_all := lw_g (lw_at lw_m2 82 rfl) rfl
theorem q475 : (Jvm.Cond.fieldLink "TinFen" (78 : Nat) "TinFen" "kept" "[LTinFen$Kept;") ∈ lw_all := lw_g (lw_at lw_m2 83 rfl) rfl
theorem q476 : (Jvm.Cond.fieldLink "TinFen" (483 : Nat) "TinFen" "marks" "I") ∈ lw_all := lw_g (lw_at lw_m2 84 rfl) rfl
theorem q477 : (Jvm.Cond.laysFinal "TinFen" "TinFen" "trays" "[LTinFen$Tray;") ∈ lw_all := lw_g (lw_at lw_m2 85 rfl) rfl
theorem q478 : (Jvm.Cond.soleField "TinFen" "trays") ∈ lw_all := lw_g (lw_at lw_m2 86 rfl) rfl
theorem q479 : (Jvm.Cond.laysFinal "TinFen" "TinFen" "reader" "LTinFen$Reader;") ∈ lw_all := lw_g (lw_at lw_m2 87 rfl) rfl
theorem q480 : (Jvm.Cond.soleField "TinFen" "reader") ∈ lw_all := lw_g (lw_at lw_m2 88 rfl) rfl
theorem q481 : (Jvm.Cond.lays "TinFen" "TinFen" "fen" "LTinFen$Fen;") ∈ lw_all := lw_g (lw_at lw_m2 89 rfl) rfl
theorem q482 : (Jvm.Cond.soleField "TinFen" "fen") ∈ lw_all := lw_g (lw_at lw_m2 90 rfl) rfl
theorem q483 : (Jvm.Cond.lays "TinFen" "TinFen" "steps" "[LTinFen$Step;") ∈ lw_all := lw_g (lw_at lw_m2 91 rfl) rfl
theorem q484 : (Jvm.Cond.soleField "TinFen" "steps") ∈ lw_all := lw_g (lw_at lw_m2 92 rfl) rfl
theorem q485 : (Jvm.Cond.lays "TinFen" "TinFen" "stepMany" "I") ∈ lw_all := lw_g (lw_at lw_m2 93 rfl) rfl
theorem q486 : (Jvm.Cond.soleField "TinFen" "stepMany") ∈ lw_all := lw_g (lw_at lw_m2 94 rfl) rfl
theorem q487 : (Jvm.Cond.lays "TinFen" "TinFen" "status" "I") ∈ lw_all := lw_g (lw_at lw_m2 95 rfl) rfl
theorem q488 : (Jvm.Cond.soleField "TinFen" "status") ∈ lw_all := lw_g (lw_at lw_m2 96 rfl) rfl
theorem q489 : (Jvm.Cond.lays "TinFen" "TinFen" "faultKind" "I") ∈ lw_all := lw_g (lw_at lw_m2 97 rfl) rfl
theorem q490 : (Jvm.Cond.soleField "TinFen" "faultKind") ∈ lw_all := lw_g (lw_at lw_m2 98 rfl) rfl
theorem q491 : (Jvm.Cond.lays "TinFen" "TinFen" "faultPlace" "I") ∈ lw_all := lw_g (lw_at lw_m2 99 rfl) rfl
theorem q492 : (Jvm.Cond.soleField "TinFen" "faultPlace") ∈ lw_all := lw_g (lw_at lw_m2 100 rfl) rfl
theorem q493 : (Jvm.Cond.lays "TinFen" "TinFen" "top" "J") ∈ lw_all := lw_g (lw_at lw_m2 101 rfl) rfl
theorem q494 : (Jvm.Cond.soleField "TinFen" "top") ∈ lw_all := lw_g (lw_at lw_m2 102 rfl) rfl
theorem q495 : (Jvm.Cond.lays "TinFen" "TinFen" "bottom" "J") ∈ lw_all := lw_g (lw_at lw_m2 103 rfl) rfl
theorem q496 : (Jvm.Cond.soleField "TinFen" "bottom") ∈ lw_all := lw_g (lw_at lw_m2 104 rfl) rfl
theorem q497 : (Jvm.Cond.laysFinal "TinFen" "TinFen" "farBy" "[I") ∈ lw_all := lw_g (lw_at lw_m2 105 rfl) rfl
theorem q498 : (Jvm.Cond.soleField "TinFen" "farBy") ∈ lw_all := lw_g (lw_at lw_m2 106 rfl) rfl
theorem q499 : (Jvm.Cond.laysFinal "TinFen" "TinFen" "rowBy" "[I") ∈ lw_all := lw_g (lw_at lw_m2 107 rfl) rfl
theorem q500 : (Jvm.Cond.soleField "TinFen" "rowBy") ∈ lw_all := lw_g (lw_at lw_m2 108 rfl) rfl
theorem q501 : (Jvm.Cond.laysFinal "TinFen" "TinFen" "roundBy" "[I") ∈ lw_all := lw_g (lw_at lw_m2 109 rfl) rfl
theorem q502 : (Jvm.Cond.soleField "TinFen" "roundBy") ∈ lw_all := lw_g (lw_at lw_m2 110 rfl) rfl
theorem q503 : (Jvm.Cond.lays "TinFen" "TinFen" "roundMany" "I") ∈ lw_all := lw_g (lw_at lw_m2 111 rfl) rfl
theorem q504 : (Jvm.Cond.soleField "TinFen" "roundMany") ∈ lw_all := lw_g (lw_at lw_m2 112 rfl) rfl
theorem q505 : (Jvm.Cond.laysFinal "TinFen" "TinFen" "numbers" "[I") ∈ lw_all := lw_g (lw_at lw_m2 113 rfl) rfl
theorem q506 : (Jvm.Cond.soleField "TinFen" "numbers") ∈ lw_all := lw_g (lw_at lw_m2 114 rfl) rfl
theorem q507 : (Jvm.Cond.laysFinal "TinFen" "TinFen" "levels" "[LTinFen$Fen;") ∈ lw_all := lw_g (lw_at lw_m2 115 rfl) rfl
theorem q508 : (Jvm.Cond.soleField "TinFen" "levels") ∈ lw_all := lw_g (lw_at lw_m2 116 rfl) rfl
theorem q509 : (Jvm.Cond.lays "TinFen" "TinFen" "firstMove" "I") ∈ lw_all := lw_g (lw_at lw_m2 117 rfl) rfl
theorem q510 : (Jvm.Cond.soleField "TinFen" "firstMove") ∈ lw_all := lw_g (lw_at lw_m2 118 rfl) rfl
theorem q511 : (Jvm.Cond.laysFinal "TinFen" "TinFen" "foundBy" "[J") ∈ lw_all := lw_g (lw_at lw_m2 119 rfl) rfl
theorem q512 : (Jvm.Cond.soleField "TinFen" "foundBy") ∈ lw_all := lw_g (lw_at lw_m2 120 rfl) rfl
theorem q513 : (Jvm.Cond.lays "TinFen" "TinFen" "drawn" "I") ∈ lw_all := lw_g (lw_at lw_m2 121 rfl) rfl
theorem q514 : (Jvm.Cond.soleField "TinFen" "drawn") ∈ lw_all := lw_g (lw_at lw_m2 122 rfl) rfl
theorem q515 : (Jvm.Cond.lays "TinFen" "TinFen" "ranSteps" "I") ∈ lw_all := lw_g (lw_at lw_m2 123 rfl) rfl
theorem q516 : (Jvm.Cond.soleField "TinFen" "ranSteps") ∈ lw_all := lw_g (lw_at lw_m2 124 rfl) rfl
theorem q517 : (Jvm.Cond.laysFinal "TinFen" "TinFen" "ran" "[I") ∈ lw_all := lw_g (lw_at lw_m2 125 rfl) rfl
theorem q518 : (Jvm.Cond.soleField "TinFen" "ran") ∈ lw_all := lw_g (lw_at lw_m2 126 rfl) rfl
theorem q519 : (Jvm.Cond.laysFinal "TinFen" "TinFen" "lasted" "[I") ∈ lw_all := lw_g (lw_at lw_m2 127 rfl) rfl
theorem q520 : (Jvm.Cond.soleField "TinFen" "lasted") ∈ lw_all := lw_g (lw_at lw_m2 128 rfl) rfl
theorem q521 : (Jvm.Cond.lays "TinFen" "TinFen" "isLasted" "Z") ∈ lw_all := lw_g (lw_at lw_m2 129 rfl) rfl
theorem q522 : (Jvm.Cond.soleField "TinFen" "isLasted") ∈ lw_all := lw_g (lw_at lw_m2 130 rfl) rfl
theorem q523 : (Jvm.Cond.laysFinal "TinFen" "TinFen" "kept" "[LTinFen$Kept;") ∈ lw_all := lw_g (lw_at lw_m2 131 rfl) rfl
theorem q524 : (Jvm.Cond.soleField "TinFen" "kept") ∈ lw_all := lw_g (lw_at lw_m2 132 rfl) rfl
theorem q525 : (Jvm.Cond.lays "TinFen" "TinFen" "marks" "I") ∈ lw_all := lw_g (lw_at lw_m2 133 rfl) rfl
theorem q526 : (Jvm.Cond.soleField "TinFen" "marks") ∈ lw_all := lw_g (lw_at lw_m2 134 rfl) rfl
theorem q527 : (Jvm.Cond.superclass "TinFen" "java/lang/Object") ∈ lw_all := lw_g (lw_at lw_m2 135 rfl) rfl
theorem q529 : (Jvm.Cond.instanceMethod ({ cls := "TinFen", name := "status", desc := "()I" } : Jvm.MethodName)) ∈ lw_all := lw_g (lw_at lw_m2 137 rfl) rfl
theorem q530 : (Jvm.Cond.selects "TinFen" ({ cls := "TinFen", name := "status", desc := "()I" } : Jvm.MethodName) ({ cls := "TinFen", name := "status", desc := "()I" } : Jvm.MethodName)) ∈ lw_all := lw_g (lw_at lw_m2 138 rfl) rfl
theorem q531 : (Jvm.Cond.code ({ cls := "TinFen", name := "status", desc := "()I" } : Jvm.MethodName) prog_1_method_5_code (1 : Nat) (Option.some Jvm.ClassFile.FieldType.int)) ∈ lw_all := lw_g (lw_at lw_m2 139 rfl) rfl
theorem q533 : (Jvm.Cond.instanceMethod ({ cls := "TinFen", name := "top", desc := "()J" } : Jvm.MethodName)) ∈ lw_all := lw_g (lw_at lw_m2 141 rfl) rfl
theorem q534 : (Jvm.Cond.selects "TinFen" ({ cls := "TinFen", name := "top", desc := "()J" } : Jvm.MethodName) ({ cls := "TinFen", name := "top", desc := "()J" } : Jvm.MethodName)) ∈ lw_all := lw_g (lw_at lw_m2 142 rfl) rfl
theorem q535 : (Jvm.Cond.code ({ cls := "TinFen", name := "top", desc := "()J" } : Jvm.MethodName) prog_1_method_6_code (1 : Nat) (Option.some Jvm.ClassFile.FieldType.long)) ∈ lw_all := lw_g (lw_at lw_m2 143 rfl) rfl
theorem q537 : (Jvm.Cond.instanceMethod ({ cls := "TinFen", name := "bottom", desc := "()J" } : Jvm.MethodName)) ∈ lw_all := lw_g (lw_at lw_m2 145 rfl) rfl
theorem q538 : (Jvm.Cond.selects "TinFen" ({ cls := "TinFen", name := "bottom", desc := "()J" } : Jvm.MethodName) ({ cls := "TinFen", name := "bottom", desc := "()J" } : Jvm.MethodName)) ∈ lw_all := lw_g (lw_at lw_m2 146 rfl) rfl
theorem q539 : (Jvm.Cond.code ({ cls := "TinFen", name := "bottom", desc := "()J" } : Jvm.MethodName) prog_1_method_7_code (1 : Nat) (Option.some Jvm.ClassFile.FieldType.long)) ∈ lw_all := lw_g (lw_at lw_m2 147 rfl) rfl
theorem q541 : (Jvm.Cond.instanceMethod ({ cls := "TinFen", name := "tray", desc := "(III)Z" } : Jvm.MethodName)) ∈ lw_all := lw_g (lw_at lw_m2 149 rfl) rfl
theorem q542 : (Jvm.Cond.selects "TinFen" ({ cls := "TinFen", name := "tray", desc := "(III)Z" } : Jvm.MethodName) ({ cls := "TinFen", name := "tray", desc := "(III)Z" } : Jvm.MethodName)) ∈ lw_all := lw_g (lw_at lw_m2 150 rfl) rfl
theorem q543 : (Jvm.Cond.codeWith ({ cls := "TinFen", name := "tray", desc := "(III)Z" } : Jvm.MethodName) prog_1_method_14_code (5 : Nat) (Option.some Jvm.ClassFile.FieldType.boolean) [((34 : Nat), (45 : Nat), (48 : Nat), (107 : Nat))]) ∈ lw_all := lw_g (lw_at lw_m2 151 rfl) rfl
theorem q544 : (Jvm.Cond.classLink "TinFen" (107 : Nat) "java/lang/NegativeArraySizeException") ∈ lw_all := lw_g (lw_at lw_m2 152 rfl) rfl
theorem q571 : (Jvm.Cond.methodLink "TinFen" (100 : Nat) ({ cls := "TinFen", name := "isTray", desc := "(I)Z" } : Jvm.MethodName)) ∈ lw_all := lw_g (lw_at lw_m2 179 rfl) rfl
theorem q572 : (Jvm.Cond.static ({ cls := "TinFen", name := "isTray", desc := "(I)Z" } : Jvm.MethodName)) ∈ lw_all := lw_g (lw_at lw_m2 180 rfl) rfl
theorem q573 : (Jvm.Cond.code ({ cls := "TinFen", name := "isTray", desc := "(I)Z" } : Jvm.MethodName) prog_1_method_13_code (1 : Nat) (Option.some Jvm.ClassFile.FieldType.boolean)) ∈ lw_all := lw_g (lw_at lw_m2 181 rfl) rfl
theorem q574 : (Jvm.Cond.methodLink "TinFen" (96 : Nat) ({ cls := "TinFen", name := "is", desc := "(I)Z" } : Jvm.MethodName)) ∈ lw_all := lw_g (lw_at lw_m2 182 rfl) rfl
theorem q575 : (Jvm.Cond.privateMethod ({ cls := "TinFen", name := "is", desc := "(I)Z" } : Jvm.MethodName)) ∈ lw_tbl := lw_at lw_m2 183 rfl
theorem q576 : (Jvm.Cond.instanceMethod ({ cls := "TinFen", name := "is", desc := "(I)Z" } : Jvm.MethodName)) ∈ lw_all := lw_g (lw_at lw_m2 184 rfl) rfl
theorem q577 : (Jvm.Cond.code ({ cls := "TinFen", name := "is", desc := "(I)Z" } : Jvm.MethodName) prog_1_method_8_code (2 : Nat) (Option.some Jvm.ClassFile.FieldType.boolean)) ∈ lw_all := lw_g (lw_at lw_m2 185 rfl) rfl
theorem q578 : (Jvm.Cond.methodLink "TinFen" (103 : Nat) ({ cls := "TinFen$Tray", name := "make", desc := "(II)V" } : Jvm.MethodName)) ∈ lw_all := lw_g (lw_at lw_m2 186 rfl) rfl
theorem q584 : (Jvm.Cond.instanceMethod ({ cls := "TinFen", name := "write", desc := "(IIJ)Z" } : Jvm.MethodName)) ∈ lw_all := lw_g (lw_at lw_m2 192 rfl) rfl
theorem q585 : (Jvm.Cond.selects "TinFen" ({ cls := "TinFen", name := "write", desc := "(IIJ)Z" } : Jvm.MethodName) ({ cls := "TinFen", name := "write", desc := "(IIJ)Z" } : Jvm.MethodName)) ∈ lw_all := lw_g (lw_at lw_m2 193 rfl) rfl
theorem q586 : (Jvm.Cond.codeWith ({ cls := "TinFen", name := "write", desc := "(IIJ)Z" } : Jvm.MethodName) prog_1_method_15_code (6 : Nat) (Option.some Jvm.ClassFile.FieldType.boolean) [((13 : Nat), (24 : Nat), (27 : Nat), (113 : Nat)), ((13 : Nat), (24 : Nat), (35 : Nat), (115 : Nat))]) ∈ lw_all := lw_g (lw_at lw_m2 194 rfl) rfl
theorem q587 : (Jvm.Cond.classLink "TinFen" (113 : Nat) "java/lang/NullPointerException") ∈ lw_all := lw_g (lw_at lw_m2 195 rfl) rfl
theorem q612 : (Jvm.Cond.classLink "TinFen" (115 : Nat) "java/lang/ArrayIndexOutOfBoundsException") ∈ lw_all := lw_g (lw_at lw_m2 220 rfl) rfl
theorem q631 : (Jvm.Cond.methodLink "TinFen" (109 : Nat) ({ cls := "TinFen$Tray", name := "set", desc := "(IJ)V" } : Jvm.MethodName)) ∈ lw_all := lw_g (lw_at lw_m2 239 rfl) rfl
theorem q640 : (Jvm.Cond.instanceMethod ({ cls := "TinFen", name := "read", desc := "(II)J" } : Jvm.MethodName)) ∈ lw_all := lw_g (lw_at lw_m3 8 rfl) rfl
theorem q641 : (Jvm.Cond.selects "TinFen" ({ cls := "TinFen", name := "read", desc := "(II)J" } : Jvm.MethodName) ({ cls := "TinFen", name := "read", desc := "(II)J" } : Jvm.MethodName)) ∈ lw_all := lw_g (lw_at lw_m3 9 rfl) rfl
theorem q642 : (Jvm.Cond.codeWith ({ cls := "TinFen", name := "read", desc := "(II)J" } : Jvm.MethodName) prog_1_method_16_code (4 : Nat) (Option.some Jvm.ClassFile.FieldType.long) [((19 : Nat), (29 : Nat), (30 : Nat), (113 : Nat)), ((19 : Nat), (29 : Nat), (39 : Nat), (115 : Nat))]) ∈ lw_all := lw_g (lw_at lw_m3 10 rfl) rfl
theorem q643 : (Jvm.Cond.methodLink "TinFen" (89 : Nat) ({ cls := "TinFen", name := "none", desc := "(I)I" } : Jvm.MethodName)) ∈ lw_all := lw_g (lw_at lw_m3 11 rfl) rfl
theorem q644 : (Jvm.Cond.privateMethod ({ cls := "TinFen", name := "none", desc := "(I)I" } : Jvm.MethodName)) ∈ lw_tbl := lw_at lw_m3 12 rfl
theorem q645 : (Jvm.Cond.instanceMethod ({ cls := "TinFen", name := "none", desc := "(I)I" } : Jvm.MethodName)) ∈ lw_all := lw_g (lw_at lw_m3 13 rfl) rfl
theorem q646 : (Jvm.Cond.code ({ cls := "TinFen", name := "none", desc := "(I)I" } : Jvm.MethodName) prog_1_method_9_code (2 : Nat) (Option.some Jvm.ClassFile.FieldType.int)) ∈ lw_all := lw_g (lw_at lw_m3 14 rfl) rfl
theorem q647 : (Jvm.Cond.methodLink "TinFen" (117 : Nat) ({ cls := "TinFen$Tray", name := "get", desc := "(I)J" } : Jvm.MethodName)) ∈ lw_all := lw_g (lw_at lw_m3 15 rfl) rfl
theorem q651 : (Jvm.Cond.constantLong "TinFen" (121 : Nat) (-1 : Int64)) ∈ lw_all := lw_g (lw_at lw_m3 19 rfl) rfl
theorem q653 : (Jvm.Cond.instanceMethod ({ cls := "TinFen", name := "pour", desc := "(IIIII)Z" } : Jvm.MethodName)) ∈ lw_all := lw_g (lw_at lw_m3 21 rfl) rfl
theorem q654 : (Jvm.Cond.selects "TinFen" ({ cls := "TinFen", name := "pour", desc := "(IIIII)Z" } : Jvm.MethodName) ({ cls := "TinFen", name := "pour", desc := "(IIIII)Z" } : Jvm.MethodName)) ∈ lw_all := lw_g (lw_at lw_m3 22 rfl) rfl
theorem q655 : (Jvm.Cond.codeWith ({ cls := "TinFen", name := "pour", desc := "(IIIII)Z" } : Jvm.MethodName) prog_1_method_17_code (9 : Nat) (Option.some Jvm.ClassFile.FieldType.boolean) [((80 : Nat), (92 : Nat), (95 : Nat), (113 : Nat)), ((80 : Nat), (92 : Nat), (103 : Nat), (136 : Nat))]) ∈ lw_all := lw_g (lw_at lw_m3 23 rfl) rfl
theorem q656 : (Jvm.Cond.classLink "TinFen" (136 : Nat) "java/lang/IndexOutOfBoundsException") ∈ lw_all := lw_g (lw_at lw_m3 24 rfl) rfl
theorem q657 : (Jvm.Cond.methodLink "TinFen" (130 : Nat) ({ cls := "java/lang/System", name := "arraycopy", desc := "(Ljava/lang/Object;ILjava/lang/Object;II)V" } : Jvm.MethodName)) ∈ lw_all := lw_g (lw_at lw_m3 25 rfl) rfl
theorem q661 : (Jvm.Cond.instanceMethod ({ cls := "TinFen", name := "feed", desc := "(IIIII)I" } : Jvm.MethodName)) ∈ lw_all := lw_g (lw_at lw_m3 29 rfl) rfl
theorem q662 : (Jvm.Cond.selects "TinFen" ({ cls := "TinFen", name := "feed", desc := "(IIIII)I" } : Jvm.MethodName) ({ cls := "TinFen", name := "feed", desc := "(IIIII)I" } : Jvm.MethodName)) ∈ lw_all := lw_g (lw_at lw_m3 30 rfl) rfl
theorem q663 : (Jvm.Cond.code ({ cls := "TinFen", name := "feed", desc := "(IIIII)I" } : Jvm.MethodName) prog_1_method_23_code (6 : Nat) (Option.some Jvm.ClassFile.FieldType.int)) ∈ lw_all := lw_g (lw_at lw_m3 31 rfl) rfl
theorem q664 : (Jvm.Cond.methodLink "TinFen" (154 : Nat) ({ cls := "TinFen", name := "four", desc := "(I)V" } : Jvm.MethodName)) ∈ lw_all := lw_g (lw_at lw_m3 32 rfl) rfl
theorem q665 : (Jvm.Cond.privateMethod ({ cls := "TinFen", name := "four", desc := "(I)V" } : Jvm.MethodName)) ∈ lw_tbl := lw_at lw_m3 33 rfl
theorem q666 : (Jvm.Cond.instanceMethod ({ cls := "TinFen", name := "four", desc := "(I)V" } : Jvm.MethodName)) ∈ lw_all := lw_g (lw_at lw_m3 34 rfl) rfl
theorem q667 : (Jvm.Cond.code ({ cls := "TinFen", name := "four", desc := "(I)V" } : Jvm.MethodName) prog_1_method_24_code (3 : Nat) (Option.none : Option Jvm.ClassFile.FieldType)) ∈ lw_all := lw_g (lw_at lw_m3 35 rfl) rfl
theorem q669 : (Jvm.Cond.instanceMethod ({ cls := "TinFen", name := "fen", desc := "(I)I" } : Jvm.MethodName)) ∈ lw_all := lw_g (lw_at lw_m3 37 rfl) rfl
theorem q670 : (Jvm.Cond.selects "TinFen" ({ cls := "TinFen", name := "fen", desc := "(I)I" } : Jvm.MethodName) ({ cls := "TinFen", name := "fen", desc := "(I)I" } : Jvm.MethodName)) ∈ lw_all := lw_g (lw_at lw_m3 38 rfl) rfl
theorem q671 : (Jvm.Cond.codeWith ({ cls := "TinFen", name := "fen", desc := "(I)I" } : Jvm.MethodName) prog_1_method_27_code (3 : Nat) (Option.some Jvm.ClassFile.FieldType.int) [((17 : Nat), (29 : Nat), (32 : Nat), (21 : Nat))]) ∈ lw_all := lw_g (lw_at lw_m3 39 rfl) rfl
theorem q672 : (Jvm.Cond.methodLink "TinFen" (168 : Nat) ({ cls := "TinFen", name := "accepts", desc := "(II)Z" } : Jvm.MethodName)) ∈ lw_all := lw_g (lw_at lw_m3 40 rfl) rfl
theorem q673 : (Jvm.Cond.privateMethod ({ cls := "TinFen", name := "accepts", desc := "(II)Z" } : Jvm.MethodName)) ∈ lw_tbl := lw_at lw_m3 41 rfl
theorem q674 : (Jvm.Cond.instanceMethod ({ cls := "TinFen", name := "accepts", desc := "(II)Z" } : Jvm.MethodName)) ∈ lw_all := lw_g (lw_at lw_m3 42 rfl) rfl
theorem q675 : (Jvm.Cond.code ({ cls := "TinFen", name := "accepts", desc := "(II)Z" } : Jvm.MethodName) prog_1_method_25_code (3 : Nat) (Option.some Jvm.ClassFile.FieldType.boolean)) ∈ lw_all := lw_g (lw_at lw_m3 43 rfl) rfl
theorem q676 : (Jvm.Cond.methodLink "TinFen" (171 : Nat) ({ cls := "TinFen$Reader", name := "fen", desc := "(I)LTinFen$Fen;" } : Jvm.MethodName)) ∈ lw_all := lw_g (lw_at lw_m3 44 rfl) rfl
theorem q863 : (Jvm.Cond.fieldLinkNest "TinFen" (245 : Nat) "TinFen$Person" "isTrue" "I" "TinFen") ∈ lw_tbl := lw_at lw_m3 231 rfl
theorem q866 : (Jvm.Cond.fieldLinkNest "TinFen" (250 : Nat) "TinFen$Person" "meets" "I" "TinFen") ∈ lw_tbl := lw_at lw_m3 234 rfl
theorem q869 : (Jvm.Cond.fieldLinkNest "TinFen" (253 : Nat) "TinFen$Person" "got" "I" "TinFen") ∈ lw_tbl := lw_at lw_m3 237 rfl
theorem q893 : (Jvm.Cond.static ({ cls := "TinFen", name := "isIn", desc := "(II)Z" } : Jvm.MethodName)) ∈ lw_all := lw_g (lw_at lw_m4 21 rfl) rfl
theorem q894 : (Jvm.Cond.code ({ cls := "TinFen", name := "isIn", desc := "(II)Z" } : Jvm.MethodName) prog_1_method_2_code (2 : Nat) (Option.some Jvm.ClassFile.FieldType.boolean)) ∈ lw_all := lw_g (lw_at lw_m4 22 rfl) rfl
theorem q929 : (Jvm.Cond.fieldLink "TinFen" (197 : Nat) "TinFen$Tin" "of" "LTinFen$Metal;") ∈ lw_all := lw_g (lw_at lw_m4 57 rfl) rfl
theorem q932 : (Jvm.Cond.fieldLinkNest "TinFen" (259 : Nat) "TinFen$Tin" "trait" "I" "TinFen") ∈ lw_tbl := lw_at lw_m4 60 rfl
theorem q937 : (Jvm.Cond.fieldLinkNest "TinFen" (262 : Nat) "TinFen$Tin" "on" "I" "TinFen") ∈ lw_tbl := lw_at lw_m4 65 rfl
theorem q940 : (Jvm.Cond.fieldLinkNest "TinFen" (268 : Nat) "TinFen$Tin" "held" "I" "TinFen") ∈ lw_tbl := lw_at lw_m4 68 rfl
theorem q943 : (Jvm.Cond.fieldLinkNest "TinFen" (271 : Nat) "TinFen$Tin" "passed" "I" "TinFen") ∈ lw_tbl := lw_at lw_m4 71 rfl
theorem q947 : (Jvm.Cond.fieldLinkNest "TinFen" (285 : Nat) "TinFen$Tin" "isFound" "Z" "TinFen") ∈ lw_tbl := lw_at lw_m4 75 rfl
theorem q978 : (Jvm.Cond.methodLink "TinFen" (174 : Nat) ({ cls := "TinFen", name := "refused", desc := "(LTinFen$Wrong;)I" } : Jvm.MethodName)) ∈ lw_all := lw_g (lw_at lw_m4 106 rfl) rfl
theorem q979 : (Jvm.Cond.privateMethod ({ cls := "TinFen", name := "refused", desc := "(LTinFen$Wrong;)I" } : Jvm.MethodName)) ∈ lw_tbl := lw_at lw_m4 107 rfl
theorem q980 : (Jvm.Cond.instanceMethod ({ cls := "TinFen", name := "refused", desc := "(LTinFen$Wrong;)I" } : Jvm.MethodName)) ∈ lw_all := lw_g (lw_at lw_m4 108 rfl) rfl
theorem q981 : (Jvm.Cond.code ({ cls := "TinFen", name := "refused", desc := "(LTinFen$Wrong;)I" } : Jvm.MethodName) prog_1_method_26_code (2 : Nat) (Option.some Jvm.ClassFile.FieldType.int)) ∈ lw_all := lw_g (lw_at lw_m4 109 rfl) rfl
theorem q982 : (Jvm.Cond.methodLink "TinFen" (93 : Nat) ({ cls := "TinFen", name := "gives", desc := "(I)I" } : Jvm.MethodName)) ∈ lw_all := lw_g (lw_at lw_m4 110 rfl) rfl
theorem q983 : (Jvm.Cond.privateMethod ({ cls := "TinFen", name := "gives", desc := "(I)I" } : Jvm.MethodName)) ∈ lw_tbl := lw_at lw_m4 111 rfl
theorem q984 : (Jvm.Cond.instanceMethod ({ cls := "TinFen", name := "gives", desc := "(I)I" } : Jvm.MethodName)) ∈ lw_all := lw_g (lw_at lw_m4 112 rfl) rfl
theorem q985 : (Jvm.Cond.code ({ cls := "TinFen", name := "gives", desc := "(I)I" } : Jvm.MethodName) prog_1_method_10_code (2 : Nat) (Option.some Jvm.ClassFile.FieldType.int)) ∈ lw_all := lw_g (lw_at lw_m4 113 rfl) rfl
theorem q987 : (Jvm.Cond.instanceMethod ({ cls := "TinFen", name := "years", desc := "(I)I" } : Jvm.MethodName)) ∈ lw_all := lw_g (lw_at lw_m4 115 rfl) rfl
theorem q988 : (Jvm.Cond.selects "TinFen" ({ cls := "TinFen", name := "years", desc := "(I)I" } : Jvm.MethodName) ({ cls := "TinFen", name := "years", desc := "(I)I" } : Jvm.MethodName)) ∈ lw_all := lw_g (lw_at lw_m4 116 rfl) rfl
theorem q989 : (Jvm.Cond.codeWith ({ cls := "TinFen", name := "years", desc := "(I)I" } : Jvm.MethodName) prog_1_method_28_code (3 : Nat) (Option.some Jvm.ClassFile.FieldType.int) [((17 : Nat), (33 : Nat), (36 : Nat), (21 : Nat))]) ∈ lw_all := lw_g (lw_at lw_m4 117 rfl) rfl
theorem q990 : (Jvm.Cond.methodLink "TinFen" (185 : Nat) ({ cls := "TinFen$Reader", name := "years", desc := "(ILTinFen$Fen;)[LTinFen$Step;" } : Jvm.MethodName)) ∈ lw_all := lw_g (lw_at lw_m4 118 rfl) rfl
theorem q1007 : (Jvm.Cond.fieldLink "TinFen" (429 : Nat) "TinFen$Step" "kind" "I") ∈ lw_all := lw_g (lw_at lw_m4 135 rfl) rfl
theorem q1009 : (Jvm.Cond.fieldLinkNest "TinFen" (432 : Nat) "TinFen$Step" "one" "I" "TinFen") ∈ lw_tbl := lw_at lw_m4 137 rfl
theorem q1011 : (Jvm.Cond.fieldLinkNest "TinFen" (435 : Nat) "TinFen$Step" "two" "I" "TinFen") ∈ lw_tbl := lw_at lw_m4 139 rfl
theorem q1013 : (Jvm.Cond.fieldLinkNest "TinFen" (448 : Nat) "TinFen$Step" "test" "I" "TinFen") ∈ lw_tbl := lw_at lw_m4 141 rfl
theorem q1015 : (Jvm.Cond.fieldLinkNest "TinFen" (451 : Nat) "TinFen$Step" "compares" "I" "TinFen") ∈ lw_tbl := lw_at lw_m4 143 rfl
theorem q1017 : (Jvm.Cond.fieldLinkNest "TinFen" (454 : Nat) "TinFen$Step" "to" "I" "TinFen") ∈ lw_tbl := lw_at lw_m4 145 rfl
theorem q1018 : (Jvm.Cond.fieldLinkNest "TinFen" (445 : Nat) "TinFen$Step" "rounds" "I" "TinFen") ∈ lw_tbl := lw_at lw_m4 146 rfl
theorem q1052 : (Jvm.Cond.instanceMethod ({ cls := "TinFen", name := "fault", desc := "(I)I" } : Jvm.MethodName)) ∈ lw_all := lw_g (lw_at lw_m4 180 rfl) rfl
theorem q1053 : (Jvm.Cond.selects "TinFen" ({ cls := "TinFen", name := "fault", desc := "(I)I" } : Jvm.MethodName) ({ cls := "TinFen", name := "fault", desc := "(I)I" } : Jvm.MethodName)) ∈ lw_all := lw_g (lw_at lw_m4 181 rfl) rfl
theorem q1054 : (Jvm.Cond.code ({ cls := "TinFen", name := "fault", desc := "(I)I" } : Jvm.MethodName) prog_1_method_29_code (2 : Nat) (Option.some Jvm.ClassFile.FieldType.int)) ∈ lw_all := lw_g (lw_at lw_m4 182 rfl) rfl
theorem q1056 : (Jvm.Cond.instanceMethod ({ cls := "TinFen", name := "many", desc := "(I)I" } : Jvm.MethodName)) ∈ lw_all := lw_g (lw_at lw_m4 184 rfl) rfl
theorem q1057 : (Jvm.Cond.selects "TinFen" ({ cls := "TinFen", name := "many", desc := "(I)I" } : Jvm.MethodName) ({ cls := "TinFen", name := "many", desc := "(I)I" } : Jvm.MethodName)) ∈ lw_all := lw_g (lw_at lw_m4 185 rfl) rfl
theorem q1058 : (Jvm.Cond.code ({ cls := "TinFen", name := "many", desc := "(I)I" } : Jvm.MethodName) prog_1_method_32_code (2 : Nat) (Option.some Jvm.ClassFile.FieldType.int)) ∈ lw_all := lw_g (lw_at lw_m4 186 rfl) rfl
theorem q1059 : (Jvm.Cond.methodLink "TinFen" (215 : Nat) ({ cls := "TinFen$Fen", name := "tinsOn", desc := "(I)I" } : Jvm.MethodName)) ∈ lw_all := lw_g (lw_at lw_m4 187 rfl) rfl
theorem q1063 : (Jvm.Cond.methodLink "TinFen" (218 : Nat) ({ cls := "TinFen$Fen", name := "found", desc := "()I" } : Jvm.MethodName)) ∈ lw_all := lw_g (lw_at lw_m4 191 rfl) rfl
theorem q1067 : (Jvm.Cond.methodLink "TinFen" (222 : Nat) ({ cls := "TinFen", name := "ofLead", desc := "()I" } : Jvm.MethodName)) ∈ lw_all := lw_g (lw_at lw_m4 195 rfl) rfl
theorem q1068 : (Jvm.Cond.privateMethod ({ cls := "TinFen", name := "ofLead", desc := "()I" } : Jvm.MethodName)) ∈ lw_tbl := lw_at lw_m4 196 rfl
theorem q1069 : (Jvm.Cond.instanceMethod ({ cls := "TinFen", name := "ofLead", desc := "()I" } : Jvm.MethodName)) ∈ lw_all := lw_g (lw_at lw_m4 197 rfl) rfl
theorem q1070 : (Jvm.Cond.code ({ cls := "TinFen", name := "ofLead", desc := "()I" } : Jvm.MethodName) prog_1_method_30_code (3 : Nat) (Option.some Jvm.ClassFile.FieldType.int)) ∈ lw_all := lw_g (lw_at lw_m4 198 rfl) rfl
theorem q1071 : (Jvm.Cond.methodLink "TinFen" (225 : Nat) ({ cls := "TinFen", name := "allTins", desc := "()I" } : Jvm.MethodName)) ∈ lw_all := lw_g (lw_at lw_m4 199 rfl) rfl
theorem q1072 : (Jvm.Cond.privateMethod ({ cls := "TinFen", name := "allTins", desc := "()I" } : Jvm.MethodName)) ∈ lw_tbl := lw_at lw_m4 200 rfl
theorem q1073 : (Jvm.Cond.instanceMethod ({ cls := "TinFen", name := "allTins", desc := "()I" } : Jvm.MethodName)) ∈ lw_all := lw_g (lw_at lw_m4 201 rfl) rfl
theorem q1074 : (Jvm.Cond.code ({ cls := "TinFen", name := "allTins", desc := "()I" } : Jvm.MethodName) prog_1_method_31_code (1 : Nat) (Option.some Jvm.ClassFile.FieldType.int)) ∈ lw_all := lw_g (lw_at lw_m4 202 rfl) rfl
theorem q1075 : (Jvm.Cond.methodLink "TinFen" (228 : Nat) ({ cls := "TinFen$Fen", name := "worthOf", desc := "(I)I" } : Jvm.MethodName)) ∈ lw_all := lw_g (lw_at lw_m4 203 rfl) rfl
theorem q1081 : (Jvm.Cond.instanceMethod ({ cls := "TinFen", name := "worth", desc := "(I)I" } : Jvm.MethodName)) ∈ lw_all := lw_g (lw_at lw_m4 209 rfl) rfl
theorem q1082 : (Jvm.Cond.selects "TinFen" ({ cls := "TinFen", name := "worth", desc := "(I)I" } : Jvm.MethodName) ({ cls := "TinFen", name := "worth", desc := "(I)I" } : Jvm.MethodName)) ∈ lw_all := lw_g (lw_at lw_m4 210 rfl) rfl
theorem q1083 : (Jvm.Cond.code ({ cls := "TinFen", name := "worth", desc := "(I)I" } : Jvm.MethodName) prog_1_method_33_code (2 : Nat) (Option.some Jvm.ClassFile.FieldType.int)) ∈ lw_all := lw_g (lw_at lw_m4 211 rfl) rfl
theorem q1084 : (Jvm.Cond.methodLink "TinFen" (231 : Nat) ({ cls := "TinFen", name := "isTrait", desc := "(I)Z" } : Jvm.MethodName)) ∈ lw_all := lw_g (lw_at lw_m4 212 rfl) rfl
theorem q1085 : (Jvm.Cond.privateMethod ({ cls := "TinFen", name := "isTrait", desc := "(I)Z" } : Jvm.MethodName)) ∈ lw_tbl := lw_at lw_m4 213 rfl
theorem q1086 : (Jvm.Cond.instanceMethod ({ cls := "TinFen", name := "isTrait", desc := "(I)Z" } : Jvm.MethodName)) ∈ lw_all := lw_g (lw_at lw_m4 214 rfl) rfl
theorem q1087 : (Jvm.Cond.code ({ cls := "TinFen", name := "isTrait", desc := "(I)Z" } : Jvm.MethodName) prog_1_method_19_code (2 : Nat) (Option.some Jvm.ClassFile.FieldType.boolean)) ∈ lw_all := lw_g (lw_at lw_m4 215 rfl) rfl
theorem q1089 : (Jvm.Cond.instanceMethod ({ cls := "TinFen", name := "person", desc := "(II)I" } : Jvm.MethodName)) ∈ lw_all := lw_g (lw_at lw_m4 217 rfl) rfl
theorem q1090 : (Jvm.Cond.selects "TinFen" ({ cls := "TinFen", name := "person", desc := "(II)I" } : Jvm.MethodName) ({ cls := "TinFen", name := "person", desc := "(II)I" } : Jvm.MethodName)) ∈ lw_all := lw_g (lw_at lw_m4 218 rfl) rfl
theorem q1091 : (Jvm.Cond.code ({ cls := "TinFen", name := "person", desc := "(II)I" } : Jvm.MethodName) prog_1_method_34_code (4 : Nat) (Option.some Jvm.ClassFile.FieldType.int)) ∈ lw_all := lw_g (lw_at lw_m4 219 rfl) rfl
theorem q1092 : (Jvm.Cond.methodLink "TinFen" (237 : Nat) ({ cls := "TinFen", name := "isPerson", desc := "(J)Z" } : Jvm.MethodName)) ∈ lw_all := lw_g (lw_at lw_m4 220 rfl) rfl
theorem q1093 : (Jvm.Cond.privateMethod ({ cls := "TinFen", name := "isPerson", desc := "(J)Z" } : Jvm.MethodName)) ∈ lw_tbl := lw_at lw_m4 221 rfl
theorem q1094 : (Jvm.Cond.instanceMethod ({ cls := "TinFen", name := "isPerson", desc := "(J)Z" } : Jvm.MethodName)) ∈ lw_all := lw_g (lw_at lw_m4 222 rfl) rfl
theorem q1095 : (Jvm.Cond.code ({ cls := "TinFen", name := "isPerson", desc := "(J)Z" } : Jvm.MethodName) prog_1_method_20_code (3 : Nat) (Option.some Jvm.ClassFile.FieldType.boolean)) ∈ lw_all := lw_g (lw_at lw_m4 223 rfl) rfl
theorem q1097 : (Jvm.Cond.instanceMethod ({ cls := "TinFen", name := "tin", desc := "(II)I" } : Jvm.MethodName)) ∈ lw_all := lw_g (lw_at lw_m4 225 rfl) rfl
theorem q1098 : (Jvm.Cond.selects "TinFen" ({ cls := "TinFen", name := "tin", desc := "(II)I" } : Jvm.MethodName) ({ cls := "TinFen", name := "tin", desc := "(II)I" } : Jvm.MethodName)) ∈ lw_all := lw_g (lw_at lw_m4 226 rfl) rfl
theorem q1099 : (Jvm.Cond.code ({ cls := "TinFen", name := "tin", desc := "(II)I" } : Jvm.MethodName) prog_1_method_35_code (4 : Nat) (Option.some Jvm.ClassFile.FieldType.int)) ∈ lw_all := lw_g (lw_at lw_m4 227 rfl) rfl
theorem q1100 : (Jvm.Cond.methodLink "TinFen" (256 : Nat) ({ cls := "TinFen", name := "isTin", desc := "(I)Z" } : Jvm.MethodName)) ∈ lw_all := lw_g (lw_at lw_m4 228 rfl) rfl
theorem q1101 : (Jvm.Cond.privateMethod ({ cls := "TinFen", name := "isTin", desc := "(I)Z" } : Jvm.MethodName)) ∈ lw_tbl := lw_at lw_m4 229 rfl
theorem q1102 : (Jvm.Cond.instanceMethod ({ cls := "TinFen", name := "isTin", desc := "(I)Z" } : Jvm.MethodName)) ∈ lw_all := lw_g (lw_at lw_m4 230 rfl) rfl
theorem q1103 : (Jvm.Cond.code ({ cls := "TinFen", name := "isTin", desc := "(I)Z" } : Jvm.MethodName) prog_1_method_21_code (2 : Nat) (Option.some Jvm.ClassFile.FieldType.boolean)) ∈ lw_all := lw_g (lw_at lw_m4 231 rfl) rfl
theorem q1104 : (Jvm.Cond.methodLink "TinFen" (265 : Nat) ({ cls := "TinFen", name := "orNothing", desc := "(I)I" } : Jvm.MethodName)) ∈ lw_all := lw_g (lw_at lw_m4 232 rfl) rfl
theorem q1105 : (Jvm.Cond.privateMethod ({ cls := "TinFen", name := "orNothing", desc := "(I)I" } : Jvm.MethodName)) ∈ lw_tbl := lw_at lw_m4 233 rfl
theorem q1106 : (Jvm.Cond.instanceMethod ({ cls := "TinFen", name := "orNothing", desc := "(I)I" } : Jvm.MethodName)) ∈ lw_all := lw_g (lw_at lw_m4 234 rfl) rfl
theorem q1107 : (Jvm.Cond.code ({ cls := "TinFen", name := "orNothing", desc := "(I)I" } : Jvm.MethodName) prog_1_method_11_code (2 : Nat) (Option.some Jvm.ClassFile.FieldType.int)) ∈ lw_all := lw_g (lw_at lw_m4 235 rfl) rfl
theorem q1109 : (Jvm.Cond.instanceMethod ({ cls := "TinFen", name := "copyGot", desc := "(I)I" } : Jvm.MethodName)) ∈ lw_all := lw_g (lw_at lw_m4 237 rfl) rfl
theorem q1110 : (Jvm.Cond.selects "TinFen" ({ cls := "TinFen", name := "copyGot", desc := "(I)I" } : Jvm.MethodName) ({ cls := "TinFen", name := "copyGot", desc := "(I)I" } : Jvm.MethodName)) ∈ lw_all := lw_g (lw_at lw_m4 238 rfl) rfl
theorem q1111 : (Jvm.Cond.code ({ cls := "TinFen", name := "copyGot", desc := "(I)I" } : Jvm.MethodName) prog_1_method_36_code (4 : Nat) (Option.some Jvm.ClassFile.FieldType.int)) ∈ lw_all := lw_g (lw_at lw_m4 239 rfl) rfl
theorem q1112 : (Jvm.Cond.methodLink "TinFen" (274 : Nat) ({ cls := "TinFen$Tray", name := "many", desc := "()I" } : Jvm.MethodName)) ∈ lw_all := lw_g (lw_at lw_m5 0 rfl) rfl
theorem q1117 : (Jvm.Cond.instanceMethod ({ cls := "TinFen", name := "pass", desc := "(II)I" } : Jvm.MethodName)) ∈ lw_all := lw_g (lw_at lw_m5 5 rfl) rfl
theorem q1118 : (Jvm.Cond.selects "TinFen" ({ cls := "TinFen", name := "pass", desc := "(II)I" } : Jvm.MethodName) ({ cls := "TinFen", name := "pass", desc := "(II)I" } : Jvm.MethodName)) ∈ lw_all := lw_g (lw_at lw_m5 6 rfl) rfl
theorem q1119 : (Jvm.Cond.code ({ cls := "TinFen", name := "pass", desc := "(II)I" } : Jvm.MethodName) prog_1_method_37_code (4 : Nat) (Option.some Jvm.ClassFile.FieldType.int)) ∈ lw_all := lw_g (lw_at lw_m5 7 rfl) rfl
theorem q1120 : (Jvm.Cond.methodLink "TinFen" (277 : Nat) ({ cls := "TinFen$Fen", name := "passes", desc := "(II)Z" } : Jvm.MethodName)) ∈ lw_all := lw_g (lw_at lw_m5 8 rfl) rfl
theorem q1137 : (Jvm.Cond.instanceMethod ({ cls := "TinFen", name := "bite", desc := "(I)I" } : Jvm.MethodName)) ∈ lw_all := lw_g (lw_at lw_m5 25 rfl) rfl
theorem q1138 : (Jvm.Cond.selects "TinFen" ({ cls := "TinFen", name := "bite", desc := "(I)I" } : Jvm.MethodName) ({ cls := "TinFen", name := "bite", desc := "(I)I" } : Jvm.MethodName)) ∈ lw_all := lw_g (lw_at lw_m5 26 rfl) rfl
theorem q1139 : (Jvm.Cond.code ({ cls := "TinFen", name := "bite", desc := "(I)I" } : Jvm.MethodName) prog_1_method_38_code (3 : Nat) (Option.some Jvm.ClassFile.FieldType.int)) ∈ lw_all := lw_g (lw_at lw_m5 27 rfl) rfl
theorem q1140 : (Jvm.Cond.methodLink "TinFen" (279 : Nat) ({ cls := "TinFen$Metal", name := "yields", desc := "(LTinFen$Tin;)Z" } : Jvm.MethodName)) ∈ lw_all := lw_g (lw_at lw_m5 28 rfl) rfl
theorem q1150 : (Jvm.Cond.instanceMethod ({ cls := "TinFen", name := "recite", desc := "(II)Z" } : Jvm.MethodName)) ∈ lw_all := lw_g (lw_at lw_m5 38 rfl) rfl
theorem q1151 : (Jvm.Cond.selects "TinFen" ({ cls := "TinFen", name := "recite", desc := "(II)Z" } : Jvm.MethodName) ({ cls := "TinFen", name := "recite", desc := "(II)Z" } : Jvm.MethodName)) ∈ lw_all := lw_g (lw_at lw_m5 39 rfl) rfl
theorem q1152 : (Jvm.Cond.code ({ cls := "TinFen", name := "recite", desc := "(II)Z" } : Jvm.MethodName) prog_1_method_39_code (4 : Nat) (Option.some Jvm.ClassFile.FieldType.boolean)) ∈ lw_all := lw_g (lw_at lw_m5 40 rfl) rfl
theorem q1153 : (Jvm.Cond.methodLink "TinFen" (289 : Nat) ({ cls := "TinFen$Fen", name := "trueOf", desc := "(I)I" } : Jvm.MethodName)) ∈ lw_all := lw_g (lw_at lw_m5 41 rfl) rfl
theorem q1154 : (Jvm.Cond.methodLink "TinFen" (1 : Nat) ({ cls := "TinFen", name := "isIn", desc := "(II)Z" } : Jvm.MethodName)) ∈ lw_all := lw_g (lw_at lw_m5 42 rfl) rfl
theorem q1156 : (Jvm.Cond.instanceMethod ({ cls := "TinFen", name := "drop", desc := "(I)I" } : Jvm.MethodName)) ∈ lw_all := lw_g (lw_at lw_m5 44 rfl) rfl
theorem q1157 : (Jvm.Cond.selects "TinFen" ({ cls := "TinFen", name := "drop", desc := "(I)I" } : Jvm.MethodName) ({ cls := "TinFen", name := "drop", desc := "(I)I" } : Jvm.MethodName)) ∈ lw_all := lw_g (lw_at lw_m5 45 rfl) rfl
theorem q1158 : (Jvm.Cond.code ({ cls := "TinFen", name := "drop", desc := "(I)I" } : Jvm.MethodName) prog_1_method_40_code (3 : Nat) (Option.some Jvm.ClassFile.FieldType.int)) ∈ lw_all := lw_g (lw_at lw_m5 46 rfl) rfl
theorem q1160 : (Jvm.Cond.instanceMethod ({ cls := "TinFen", name := "strike", desc := "(IIZ)I" } : Jvm.MethodName)) ∈ lw_all := lw_g (lw_at lw_m5 48 rfl) rfl
theorem q1161 : (Jvm.Cond.selects "TinFen" ({ cls := "TinFen", name := "strike", desc := "(IIZ)I" } : Jvm.MethodName) ({ cls := "TinFen", name := "strike", desc := "(IIZ)I" } : Jvm.MethodName)) ∈ lw_all := lw_g (lw_at lw_m5 49 rfl) rfl
theorem q1162 : (Jvm.Cond.code ({ cls := "TinFen", name := "strike", desc := "(IIZ)I" } : Jvm.MethodName) prog_1_method_41_code (4 : Nat) (Option.some Jvm.ClassFile.FieldType.int)) ∈ lw_all := lw_g (lw_at lw_m5 50 rfl) rfl
theorem q1163 : (Jvm.Cond.classLink "TinFen" (198 : Nat) "TinFen$Tin") ∈ lw_all := lw_g (lw_at lw_m5 51 rfl) rfl
theorem q1164 : (Jvm.Cond.methodLink "TinFen" (295 : Nat) ({ cls := "TinFen$Tin", name := "<init>", desc := "(JLTinFen$Metal;)V" } : Jvm.MethodName)) ∈ lw_all := lw_g (lw_at lw_m5 52 rfl) rfl
theorem q1165 : (Jvm.Cond.methodLink "TinFen" (298 : Nat) ({ cls := "TinFen$Fen", name := "strikes", desc := "(LTinFen$Tin;II)LTinFen$Tin;" } : Jvm.MethodName)) ∈ lw_all := lw_g (lw_at lw_m5 53 rfl) rfl
theorem q1167 : (Jvm.Cond.instanceMethod ({ cls := "TinFen", name := "teach", desc := "(IIZ)Z" } : Jvm.MethodName)) ∈ lw_all := lw_g (lw_at lw_m5 55 rfl) rfl
theorem q1168 : (Jvm.Cond.selects "TinFen" ({ cls := "TinFen", name := "teach", desc := "(IIZ)Z" } : Jvm.MethodName) ({ cls := "TinFen", name := "teach", desc := "(IIZ)Z" } : Jvm.MethodName)) ∈ lw_all := lw_g (lw_at lw_m5 56 rfl) rfl
theorem q1169 : (Jvm.Cond.code ({ cls := "TinFen", name := "teach", desc := "(IIZ)Z" } : Jvm.MethodName) prog_1_method_42_code (4 : Nat) (Option.some Jvm.ClassFile.FieldType.boolean)) ∈ lw_all := lw_g (lw_at lw_m5 57 rfl) rfl
theorem q1170 : (Jvm.Cond.methodLink "TinFen" (302 : Nat) ({ cls := "TinFen$Fen", name := "teaches", desc := "(IIZ)Z" } : Jvm.MethodName)) ∈ lw_all := lw_g (lw_at lw_m5 58 rfl) rfl
theorem q1175 : (Jvm.Cond.instanceMethod ({ cls := "TinFen", name := "lane", desc := "(II)I" } : Jvm.MethodName)) ∈ lw_all := lw_g (lw_at lw_m5 63 rfl) rfl
theorem q1176 : (Jvm.Cond.selects "TinFen" ({ cls := "TinFen", name := "lane", desc := "(II)I" } : Jvm.MethodName) ({ cls := "TinFen", name := "lane", desc := "(II)I" } : Jvm.MethodName)) ∈ lw_all := lw_g (lw_at lw_m5 64 rfl) rfl
theorem q1177 : (Jvm.Cond.code ({ cls := "TinFen", name := "lane", desc := "(II)I" } : Jvm.MethodName) prog_1_method_43_code (3 : Nat) (Option.some Jvm.ClassFile.FieldType.int)) ∈ lw_all := lw_g (lw_at lw_m5 65 rfl) rfl
theorem q1178 : (Jvm.Cond.methodLink "TinFen" (306 : Nat) ({ cls := "TinFen$Fen", name := "meets", desc := "(II)V" } : Jvm.MethodName)) ∈ lw_all := lw_g (lw_at lw_m5 66 rfl) rfl
theorem q1180 : (Jvm.Cond.instanceMethod ({ cls := "TinFen", name := "price", desc := "(II)Z" } : Jvm.MethodName)) ∈ lw_all := lw_g (lw_at lw_m5 68 rfl) rfl
theorem q1181 : (Jvm.Cond.selects "TinFen" ({ cls := "TinFen", name := "price", desc := "(II)Z" } : Jvm.MethodName) ({ cls := "TinFen", name := "price", desc := "(II)Z" } : Jvm.MethodName)) ∈ lw_all := lw_g (lw_at lw_m5 69 rfl) rfl
theorem q1182 : (Jvm.Cond.code ({ cls := "TinFen", name := "price", desc := "(II)Z" } : Jvm.MethodName) prog_1_method_44_code (3 : Nat) (Option.some Jvm.ClassFile.FieldType.boolean)) ∈ lw_all := lw_g (lw_at lw_m5 70 rfl) rfl
theorem q1183 : (Jvm.Cond.constantLong "TinFen" (308 : Nat) (99 : Int64)) ∈ lw_all := lw_g (lw_at lw_m5 71 rfl) rfl
theorem q1184 : (Jvm.Cond.methodLink "TinFen" (147 : Nat) ({ cls := "TinFen", name := "isFrom", desc := "(JJJ)Z" } : Jvm.MethodName)) ∈ lw_all := lw_g (lw_at lw_m5 72 rfl) rfl
theorem q1185 : (Jvm.Cond.static ({ cls := "TinFen", name := "isFrom", desc := "(JJJ)Z" } : Jvm.MethodName)) ∈ lw_all := lw_g (lw_at lw_m5 73 rfl) rfl
theorem q1186 : (Jvm.Cond.code ({ cls := "TinFen", name := "isFrom", desc := "(JJJ)Z" } : Jvm.MethodName) prog_1_method_18_code (6 : Nat) (Option.some Jvm.ClassFile.FieldType.boolean)) ∈ lw_all := lw_g (lw_at lw_m5 74 rfl) rfl
theorem q1188 : (Jvm.Cond.instanceMethod ({ cls := "TinFen", name := "rule", desc := "(I)Z" } : Jvm.MethodName)) ∈ lw_all := lw_g (lw_at lw_m5 76 rfl) rfl
theorem q1189 : (Jvm.Cond.selects "TinFen" ({ cls := "TinFen", name := "rule", desc := "(I)Z" } : Jvm.MethodName) ({ cls := "TinFen", name := "rule", desc := "(I)Z" } : Jvm.MethodName)) ∈ lw_all := lw_g (lw_at lw_m5 77 rfl) rfl
theorem q1190 : (Jvm.Cond.code ({ cls := "TinFen", name := "rule", desc := "(I)Z" } : Jvm.MethodName) prog_1_method_45_code (2 : Nat) (Option.some Jvm.ClassFile.FieldType.boolean)) ∈ lw_all := lw_g (lw_at lw_m5 78 rfl) rfl
theorem q1191 : (Jvm.Cond.constantLong "TinFen" (310 : Nat) (16 : Int64)) ∈ lw_all := lw_g (lw_at lw_m5 79 rfl) rfl
theorem q1193 : (Jvm.Cond.instanceMethod ({ cls := "TinFen", name := "way", desc := "(II)I" } : Jvm.MethodName)) ∈ lw_all := lw_g (lw_at lw_m5 81 rfl) rfl
theorem q1194 : (Jvm.Cond.selects "TinFen" ({ cls := "TinFen", name := "way", desc := "(II)I" } : Jvm.MethodName) ({ cls := "TinFen", name := "way", desc := "(II)I" } : Jvm.MethodName)) ∈ lw_all := lw_g (lw_at lw_m5 82 rfl) rfl
theorem q1195 : (Jvm.Cond.code ({ cls := "TinFen", name := "way", desc := "(II)I" } : Jvm.MethodName) prog_1_method_48_code (3 : Nat) (Option.some Jvm.ClassFile.FieldType.int)) ∈ lw_all := lw_g (lw_at lw_m5 83 rfl) rfl
theorem q1196 : (Jvm.Cond.methodLink "TinFen" (316 : Nat) ({ cls := "TinFen", name := "laysFar", desc := "(II)V" } : Jvm.MethodName)) ∈ lw_all := lw_g (lw_at lw_m5 84 rfl) rfl
theorem q1197 : (Jvm.Cond.privateMethod ({ cls := "TinFen", name := "laysFar", desc := "(II)V" } : Jvm.MethodName)) ∈ lw_tbl := lw_at lw_m5 85 rfl
theorem q1198 : (Jvm.Cond.instanceMethod ({ cls := "TinFen", name := "laysFar", desc := "(II)V" } : Jvm.MethodName)) ∈ lw_all := lw_g (lw_at lw_m5 86 rfl) rfl
theorem q1199 : (Jvm.Cond.code ({ cls := "TinFen", name := "laysFar", desc := "(II)V" } : Jvm.MethodName) prog_1_method_46_code (7 : Nat) (Option.none : Option Jvm.ClassFile.FieldType)) ∈ lw_all := lw_g (lw_at lw_m5 87 rfl) rfl
theorem q1200 : (Jvm.Cond.methodLink "TinFen" (312 : Nat) ({ cls := "TinFen$Fen", name := "nextOf", desc := "(II)I" } : Jvm.MethodName)) ∈ lw_all := lw_g (lw_at lw_m5 88 rfl) rfl
theorem q1202 : (Jvm.Cond.instanceMethod ({ cls := "TinFen", name := "wayAt", desc := "(III)I" } : Jvm.MethodName)) ∈ lw_all := lw_g (lw_at lw_m5 90 rfl) rfl
theorem q1203 : (Jvm.Cond.selects "TinFen" ({ cls := "TinFen", name := "wayAt", desc := "(III)I" } : Jvm.MethodName) ({ cls := "TinFen", name := "wayAt", desc := "(III)I" } : Jvm.MethodName)) ∈ lw_all := lw_g (lw_at lw_m5 91 rfl) rfl
theorem q1204 : (Jvm.Cond.code ({ cls := "TinFen", name := "wayAt", desc := "(III)I" } : Jvm.MethodName) prog_1_method_49_code (8 : Nat) (Option.some Jvm.ClassFile.FieldType.int)) ∈ lw_all := lw_g (lw_at lw_m5 92 rfl) rfl
theorem q1206 : (Jvm.Cond.instanceMethod ({ cls := "TinFen", name := "reach", desc := "(I)I" } : Jvm.MethodName)) ∈ lw_all := lw_g (lw_at lw_m5 94 rfl) rfl
theorem q1207 : (Jvm.Cond.selects "TinFen" ({ cls := "TinFen", name := "reach", desc := "(I)I" } : Jvm.MethodName) ({ cls := "TinFen", name := "reach", desc := "(I)I" } : Jvm.MethodName)) ∈ lw_all := lw_g (lw_at lw_m5 95 rfl) rfl
theorem q1208 : (Jvm.Cond.code ({ cls := "TinFen", name := "reach", desc := "(I)I" } : Jvm.MethodName) prog_1_method_50_code (6 : Nat) (Option.some Jvm.ClassFile.FieldType.int)) ∈ lw_all := lw_g (lw_at lw_m5 96 rfl) rfl
theorem q1209 : (Jvm.Cond.methodLink "TinFen" (319 : Nat) ({ cls := "TinFen", name := "wrongTin", desc := "(I)I" } : Jvm.MethodName)) ∈ lw_all := lw_g (lw_at lw_m5 97 rfl) rfl
theorem q1210 : (Jvm.Cond.privateMethod ({ cls := "TinFen", name := "wrongTin", desc := "(I)I" } : Jvm.MethodName)) ∈ lw_tbl := lw_at lw_m5 98 rfl
theorem q1211 : (Jvm.Cond.instanceMethod ({ cls := "TinFen", name := "wrongTin", desc := "(I)I" } : Jvm.MethodName)) ∈ lw_all := lw_g (lw_at lw_m5 99 rfl) rfl
theorem q1212 : (Jvm.Cond.code ({ cls := "TinFen", name := "wrongTin", desc := "(I)I" } : Jvm.MethodName) prog_1_method_47_code (2 : Nat) (Option.some Jvm.ClassFile.FieldType.int)) ∈ lw_all := lw_g (lw_at lw_m5 100 rfl) rfl
theorem q1214 : (Jvm.Cond.instanceMethod ({ cls := "TinFen", name := "next", desc := "(I)I" } : Jvm.MethodName)) ∈ lw_all := lw_g (lw_at lw_m5 102 rfl) rfl
theorem q1215 : (Jvm.Cond.selects "TinFen" ({ cls := "TinFen", name := "next", desc := "(I)I" } : Jvm.MethodName) ({ cls := "TinFen", name := "next", desc := "(I)I" } : Jvm.MethodName)) ∈ lw_all := lw_g (lw_at lw_m5 103 rfl) rfl
theorem q1216 : (Jvm.Cond.code ({ cls := "TinFen", name := "next", desc := "(I)I" } : Jvm.MethodName) prog_1_method_51_code (3 : Nat) (Option.some Jvm.ClassFile.FieldType.int)) ∈ lw_all := lw_g (lw_at lw_m5 104 rfl) rfl
theorem q1218 : (Jvm.Cond.instanceMethod ({ cls := "TinFen", name := "round", desc := "(I)I" } : Jvm.MethodName)) ∈ lw_all := lw_g (lw_at lw_m5 106 rfl) rfl
theorem q1219 : (Jvm.Cond.selects "TinFen" ({ cls := "TinFen", name := "round", desc := "(I)I" } : Jvm.MethodName) ({ cls := "TinFen", name := "round", desc := "(I)I" } : Jvm.MethodName)) ∈ lw_all := lw_g (lw_at lw_m5 107 rfl) rfl
theorem q1220 : (Jvm.Cond.code ({ cls := "TinFen", name := "round", desc := "(I)I" } : Jvm.MethodName) prog_1_method_54_code (3 : Nat) (Option.some Jvm.ClassFile.FieldType.int)) ∈ lw_all := lw_g (lw_at lw_m5 108 rfl) rfl
theorem q1221 : (Jvm.Cond.methodLink "TinFen" (329 : Nat) ({ cls := "TinFen", name := "laysRound", desc := "(I)V" } : Jvm.MethodName)) ∈ lw_all := lw_g (lw_at lw_m5 109 rfl) rfl
theorem q1222 : (Jvm.Cond.privateMethod ({ cls := "TinFen", name := "laysRound", desc := "(I)V" } : Jvm.MethodName)) ∈ lw_tbl := lw_at lw_m5 110 rfl
theorem q1223 : (Jvm.Cond.instanceMethod ({ cls := "TinFen", name := "laysRound", desc := "(I)V" } : Jvm.MethodName)) ∈ lw_all := lw_g (lw_at lw_m5 111 rfl) rfl
theorem q1224 : (Jvm.Cond.code ({ cls := "TinFen", name := "laysRound", desc := "(I)V" } : Jvm.MethodName) prog_1_method_53_code (2 : Nat) (Option.none : Option Jvm.ClassFile.FieldType)) ∈ lw_all := lw_g (lw_at lw_m5 112 rfl) rfl
theorem q1225 : (Jvm.Cond.methodLink "TinFen" (325 : Nat) ({ cls := "TinFen", name := "goesRound", desc := "(III)V" } : Jvm.MethodName)) ∈ lw_all := lw_g (lw_at lw_m5 113 rfl) rfl
theorem q1226 : (Jvm.Cond.privateMethod ({ cls := "TinFen", name := "goesRound", desc := "(III)V" } : Jvm.MethodName)) ∈ lw_tbl := lw_at lw_m5 114 rfl
theorem q1227 : (Jvm.Cond.instanceMethod ({ cls := "TinFen", name := "goesRound", desc := "(III)V" } : Jvm.MethodName)) ∈ lw_all := lw_g (lw_at lw_m5 115 rfl) rfl
theorem q1228 : (Jvm.Cond.code ({ cls := "TinFen", name := "goesRound", desc := "(III)V" } : Jvm.MethodName) prog_1_method_52_code (6 : Nat) (Option.none : Option Jvm.ClassFile.FieldType)) ∈ lw_all := lw_g (lw_at lw_m5 116 rfl) rfl
theorem q1230 : (Jvm.Cond.instanceMethod ({ cls := "TinFen", name := "roundAt", desc := "(II)I" } : Jvm.MethodName)) ∈ lw_all := lw_g (lw_at lw_m5 118 rfl) rfl
theorem q1231 : (Jvm.Cond.selects "TinFen" ({ cls := "TinFen", name := "roundAt", desc := "(II)I" } : Jvm.MethodName) ({ cls := "TinFen", name := "roundAt", desc := "(II)I" } : Jvm.MethodName)) ∈ lw_all := lw_g (lw_at lw_m5 119 rfl) rfl
theorem q1232 : (Jvm.Cond.code ({ cls := "TinFen", name := "roundAt", desc := "(II)I" } : Jvm.MethodName) prog_1_method_55_code (4 : Nat) (Option.some Jvm.ClassFile.FieldType.int)) ∈ lw_all := lw_g (lw_at lw_m5 120 rfl) rfl
theorem q1234 : (Jvm.Cond.instanceMethod ({ cls := "TinFen", name := "most", desc := "(I)I" } : Jvm.MethodName)) ∈ lw_all := lw_g (lw_at lw_m5 122 rfl) rfl
theorem q1235 : (Jvm.Cond.selects "TinFen" ({ cls := "TinFen", name := "most", desc := "(I)I" } : Jvm.MethodName) ({ cls := "TinFen", name := "most", desc := "(I)I" } : Jvm.MethodName)) ∈ lw_all := lw_g (lw_at lw_m5 123 rfl) rfl
theorem q1236 : (Jvm.Cond.code ({ cls := "TinFen", name := "most", desc := "(I)I" } : Jvm.MethodName) prog_1_method_59_code (3 : Nat) (Option.some Jvm.ClassFile.FieldType.int)) ∈ lw_all := lw_g (lw_at lw_m5 124 rfl) rfl
theorem q1237 : (Jvm.Cond.methodLink "TinFen" (349 : Nat) ({ cls := "TinFen", name := "wrongTins", desc := "(I)I" } : Jvm.MethodName)) ∈ lw_all := lw_g (lw_at lw_m5 125 rfl) rfl
theorem q1238 : (Jvm.Cond.privateMethod ({ cls := "TinFen", name := "wrongTins", desc := "(I)I" } : Jvm.MethodName)) ∈ lw_tbl := lw_at lw_m5 126 rfl
theorem q1239 : (Jvm.Cond.instanceMethod ({ cls := "TinFen", name := "wrongTins", desc := "(I)I" } : Jvm.MethodName)) ∈ lw_all := lw_g (lw_at lw_m5 127 rfl) rfl
theorem q1240 : (Jvm.Cond.code ({ cls := "TinFen", name := "wrongTins", desc := "(I)I" } : Jvm.MethodName) prog_1_method_58_code (2 : Nat) (Option.some Jvm.ClassFile.FieldType.int)) ∈ lw_all := lw_g (lw_at lw_m5 128 rfl) rfl
theorem q1241 : (Jvm.Cond.methodLink "TinFen" (346 : Nat) ({ cls := "TinFen", name := "areTins", desc := "(J)Z" } : Jvm.MethodName)) ∈ lw_all := lw_g (lw_at lw_m5 129 rfl) rfl
theorem q1242 : (Jvm.Cond.privateMethod ({ cls := "TinFen", name := "areTins", desc := "(J)Z" } : Jvm.MethodName)) ∈ lw_tbl := lw_at lw_m5 130 rfl
theorem q1243 : (Jvm.Cond.instanceMethod ({ cls := "TinFen", name := "areTins", desc := "(J)Z" } : Jvm.MethodName)) ∈ lw_all := lw_g (lw_at lw_m5 131 rfl) rfl
theorem q1244 : (Jvm.Cond.code ({ cls := "TinFen", name := "areTins", desc := "(J)Z" } : Jvm.MethodName) prog_1_method_22_code (3 : Nat) (Option.some Jvm.ClassFile.FieldType.boolean)) ∈ lw_all := lw_g (lw_at lw_m5 132 rfl) rfl
theorem q1245 : (Jvm.Cond.methodLink "TinFen" (335 : Nat) ({ cls := "TinFen", name := "mostOf", desc := "(II)I" } : Jvm.MethodName)) ∈ lw_all := lw_g (lw_at lw_m5 133 rfl) rfl
theorem q1246 : (Jvm.Cond.privateMethod ({ cls := "TinFen", name := "mostOf", desc := "(II)I" } : Jvm.MethodName)) ∈ lw_tbl := lw_at lw_m5 134 rfl
theorem q1247 : (Jvm.Cond.instanceMethod ({ cls := "TinFen", name := "mostOf", desc := "(II)I" } : Jvm.MethodName)) ∈ lw_all := lw_g (lw_at lw_m5 135 rfl) rfl
theorem q1248 : (Jvm.Cond.code ({ cls := "TinFen", name := "mostOf", desc := "(II)I" } : Jvm.MethodName) prog_1_method_56_code (8 : Nat) (Option.some Jvm.ClassFile.FieldType.int)) ∈ lw_all := lw_g (lw_at lw_m5 136 rfl) rfl
theorem q1249 : (Jvm.Cond.methodLink "TinFen" (332 : Nat) ({ cls := "TinFen", name := "firstOf", desc := "(I)I" } : Jvm.MethodName)) ∈ lw_all := lw_g (lw_at lw_m5 137 rfl) rfl
theorem q1250 : (Jvm.Cond.static ({ cls := "TinFen", name := "firstOf", desc := "(I)I" } : Jvm.MethodName)) ∈ lw_all := lw_g (lw_at lw_m5 138 rfl) rfl
theorem q1251 : (Jvm.Cond.code ({ cls := "TinFen", name := "firstOf", desc := "(I)I" } : Jvm.MethodName) prog_1_method_3_code (2 : Nat) (Option.some Jvm.ClassFile.FieldType.int)) ∈ lw_all := lw_g (lw_at lw_m5 139 rfl) rfl
theorem q1252 : (Jvm.Cond.methodLink "TinFen" (338 : Nat) ({ cls := "java/lang/Math", name := "max", desc := "(II)I" } : Jvm.MethodName)) ∈ lw_all := lw_g (lw_at lw_m5 140 rfl) rfl
theorem q1256 : (Jvm.Cond.instanceMethod ({ cls := "TinFen", name := "givings", desc := "(I)I" } : Jvm.MethodName)) ∈ lw_all := lw_g (lw_at lw_m5 144 rfl) rfl
theorem q1257 : (Jvm.Cond.selects "TinFen" ({ cls := "TinFen", name := "givings", desc := "(I)I" } : Jvm.MethodName) ({ cls := "TinFen", name := "givings", desc := "(I)I" } : Jvm.MethodName)) ∈ lw_all := lw_g (lw_at lw_m5 145 rfl) rfl
theorem q1258 : (Jvm.Cond.code ({ cls := "TinFen", name := "givings", desc := "(I)I" } : Jvm.MethodName) prog_1_method_60_code (3 : Nat) (Option.some Jvm.ClassFile.FieldType.int)) ∈ lw_all := lw_g (lw_at lw_m5 146 rfl) rfl
theorem q1259 : (Jvm.Cond.methodLink "TinFen" (343 : Nat) ({ cls := "TinFen", name := "givingsOf", desc := "(II)I" } : Jvm.MethodName)) ∈ lw_all := lw_g (lw_at lw_m5 147 rfl) rfl
theorem q1260 : (Jvm.Cond.privateMethod ({ cls := "TinFen", name := "givingsOf", desc := "(II)I" } : Jvm.MethodName)) ∈ lw_tbl := lw_at lw_m5 148 rfl
theorem q1261 : (Jvm.Cond.instanceMethod ({ cls := "TinFen", name := "givingsOf", desc := "(II)I" } : Jvm.MethodName)) ∈ lw_all := lw_g (lw_at lw_m5 149 rfl) rfl
theorem q1262 : (Jvm.Cond.code ({ cls := "TinFen", name := "givingsOf", desc := "(II)I" } : Jvm.MethodName) prog_1_method_57_code (7 : Nat) (Option.some Jvm.ClassFile.FieldType.int)) ∈ lw_all := lw_g (lw_at lw_m5 150 rfl) rfl
theorem q1264 : (Jvm.Cond.instanceMethod ({ cls := "TinFen", name := "given", desc := "(II)I" } : Jvm.MethodName)) ∈ lw_all := lw_g (lw_at lw_m5 152 rfl) rfl
theorem q1265 : (Jvm.Cond.selects "TinFen" ({ cls := "TinFen", name := "given", desc := "(II)I" } : Jvm.MethodName) ({ cls := "TinFen", name := "given", desc := "(II)I" } : Jvm.MethodName)) ∈ lw_all := lw_g (lw_at lw_m5 153 rfl) rfl
theorem q1266 : (Jvm.Cond.code ({ cls := "TinFen", name := "given", desc := "(II)I" } : Jvm.MethodName) prog_1_method_61_code (9 : Nat) (Option.some Jvm.ClassFile.FieldType.int)) ∈ lw_all := lw_g (lw_at lw_m5 154 rfl) rfl
theorem q1268 : (Jvm.Cond.instanceMethod ({ cls := "TinFen", name := "cover", desc := "()I" } : Jvm.MethodName)) ∈ lw_all := lw_g (lw_at lw_m5 156 rfl) rfl
theorem q1269 : (Jvm.Cond.selects "TinFen" ({ cls := "TinFen", name := "cover", desc := "()I" } : Jvm.MethodName) ({ cls := "TinFen", name := "cover", desc := "()I" } : Jvm.MethodName)) ∈ lw_all := lw_g (lw_at lw_m5 157 rfl) rfl
theorem q1270 : (Jvm.Cond.code ({ cls := "TinFen", name := "cover", desc := "()I" } : Jvm.MethodName) prog_1_method_63_code (2 : Nat) (Option.some Jvm.ClassFile.FieldType.int)) ∈ lw_all := lw_g (lw_at lw_m5 158 rfl) rfl
theorem q1271 : (Jvm.Cond.methodLink "TinFen" (355 : Nat) ({ cls := "TinFen", name := "covering", desc := "()I" } : Jvm.MethodName)) ∈ lw_all := lw_g (lw_at lw_m5 159 rfl) rfl
theorem q1272 : (Jvm.Cond.privateMethod ({ cls := "TinFen", name := "covering", desc := "()I" } : Jvm.MethodName)) ∈ lw_tbl := lw_at lw_m5 160 rfl
theorem q1273 : (Jvm.Cond.instanceMethod ({ cls := "TinFen", name := "covering", desc := "()I" } : Jvm.MethodName)) ∈ lw_all := lw_g (lw_at lw_m5 161 rfl) rfl
theorem q1274 : (Jvm.Cond.code ({ cls := "TinFen", name := "covering", desc := "()I" } : Jvm.MethodName) prog_1_method_62_code (5 : Nat) (Option.some Jvm.ClassFile.FieldType.int)) ∈ lw_all := lw_g (lw_at lw_m5 162 rfl) rfl
theorem q1275 : (Jvm.Cond.methodLink "TinFen" (352 : Nat) ({ cls := "TinFen", name := "bits", desc := "(I)I" } : Jvm.MethodName)) ∈ lw_all := lw_g (lw_at lw_m5 163 rfl) rfl
theorem q1276 : (Jvm.Cond.static ({ cls := "TinFen", name := "bits", desc := "(I)I" } : Jvm.MethodName)) ∈ lw_all := lw_g (lw_at lw_m5 164 rfl) rfl
theorem q1277 : (Jvm.Cond.code ({ cls := "TinFen", name := "bits", desc := "(I)I" } : Jvm.MethodName) prog_1_method_1_code (3 : Nat) (Option.some Jvm.ClassFile.FieldType.int)) ∈ lw_all := lw_g (lw_at lw_m5 165 rfl) rfl
theorem q1279 : (Jvm.Cond.instanceMethod ({ cls := "TinFen", name := "coverSet", desc := "()I" } : Jvm.MethodName)) ∈ lw_all := lw_g (lw_at lw_m5 167 rfl) rfl
theorem q1280 : (Jvm.Cond.selects "TinFen" ({ cls := "TinFen", name := "coverSet", desc := "()I" } : Jvm.MethodName) ({ cls := "TinFen", name := "coverSet", desc := "()I" } : Jvm.MethodName)) ∈ lw_all := lw_g (lw_at lw_m5 168 rfl) rfl
theorem q1281 : (Jvm.Cond.code ({ cls := "TinFen", name := "coverSet", desc := "()I" } : Jvm.MethodName) prog_1_method_64_code (1 : Nat) (Option.some Jvm.ClassFile.FieldType.int)) ∈ lw_all := lw_g (lw_at lw_m5 169 rfl) rfl
theorem q1283 : (Jvm.Cond.instanceMethod ({ cls := "TinFen", name := "blamed", desc := "()I" } : Jvm.MethodName)) ∈ lw_all := lw_g (lw_at lw_m5 171 rfl) rfl
theorem q1284 : (Jvm.Cond.selects "TinFen" ({ cls := "TinFen", name := "blamed", desc := "()I" } : Jvm.MethodName) ({ cls := "TinFen", name := "blamed", desc := "()I" } : Jvm.MethodName)) ∈ lw_all := lw_g (lw_at lw_m5 172 rfl) rfl
theorem q1285 : (Jvm.Cond.code ({ cls := "TinFen", name := "blamed", desc := "()I" } : Jvm.MethodName) prog_1_method_66_code (1 : Nat) (Option.some Jvm.ClassFile.FieldType.int)) ∈ lw_all := lw_g (lw_at lw_m5 173 rfl) rfl
theorem q1286 : (Jvm.Cond.methodLink "TinFen" (358 : Nat) ({ cls := "TinFen", name := "blaming", desc := "()I" } : Jvm.MethodName)) ∈ lw_all := lw_g (lw_at lw_m5 174 rfl) rfl
theorem q1287 : (Jvm.Cond.privateMethod ({ cls := "TinFen", name := "blaming", desc := "()I" } : Jvm.MethodName)) ∈ lw_tbl := lw_at lw_m5 175 rfl
theorem q1288 : (Jvm.Cond.instanceMethod ({ cls := "TinFen", name := "blaming", desc := "()I" } : Jvm.MethodName)) ∈ lw_all := lw_g (lw_at lw_m5 176 rfl) rfl
theorem q1289 : (Jvm.Cond.code ({ cls := "TinFen", name := "blaming", desc := "()I" } : Jvm.MethodName) prog_1_method_65_code (5 : Nat) (Option.some Jvm.ClassFile.FieldType.int)) ∈ lw_all := lw_g (lw_at lw_m5 177 rfl) rfl
theorem q1291 : (Jvm.Cond.instanceMethod ({ cls := "TinFen", name := "blamedSet", desc := "()I" } : Jvm.MethodName)) ∈ lw_all := lw_g (lw_at lw_m5 179 rfl) rfl
theorem q1292 : (Jvm.Cond.selects "TinFen" ({ cls := "TinFen", name := "blamedSet", desc := "()I" } : Jvm.MethodName) ({ cls := "TinFen", name := "blamedSet", desc := "()I" } : Jvm.MethodName)) ∈ lw_all := lw_g (lw_at lw_m5 180 rfl) rfl
theorem q1293 : (Jvm.Cond.code ({ cls := "TinFen", name := "blamedSet", desc := "()I" } : Jvm.MethodName) prog_1_method_67_code (1 : Nat) (Option.some Jvm.ClassFile.FieldType.int)) ∈ lw_all := lw_g (lw_at lw_m5 181 rfl) rfl
theorem q1295 : (Jvm.Cond.instanceMethod ({ cls := "TinFen", name := "wheels", desc := "(I)I" } : Jvm.MethodName)) ∈ lw_all := lw_g (lw_at lw_m5 183 rfl) rfl
theorem q1296 : (Jvm.Cond.selects "TinFen" ({ cls := "TinFen", name := "wheels", desc := "(I)I" } : Jvm.MethodName) ({ cls := "TinFen", name := "wheels", desc := "(I)I" } : Jvm.MethodName)) ∈ lw_all := lw_g (lw_at lw_m5 184 rfl) rfl
theorem q1297 : (Jvm.Cond.code ({ cls := "TinFen", name := "wheels", desc := "(I)I" } : Jvm.MethodName) prog_1_method_70_code (4 : Nat) (Option.some Jvm.ClassFile.FieldType.int)) ∈ lw_all := lw_g (lw_at lw_m5 185 rfl) rfl
theorem q1298 : (Jvm.Cond.constantLong "TinFen" (368 : Nat) (2 : Int64)) ∈ lw_all := lw_g (lw_at lw_m5 186 rfl) rfl
theorem q1299 : (Jvm.Cond.constantLong "TinFen" (370 : Nat) (7 : Int64)) ∈ lw_all := lw_g (lw_at lw_m5 187 rfl) rfl
theorem q1300 : (Jvm.Cond.methodLink "TinFen" (364 : Nat) ({ cls := "TinFen", name := "wheelsFrom", desc := "(IIII)I" } : Jvm.MethodName)) ∈ lw_all := lw_g (lw_at lw_m5 188 rfl) rfl
theorem q1301 : (Jvm.Cond.privateMethod ({ cls := "TinFen", name := "wheelsFrom", desc := "(IIII)I" } : Jvm.MethodName)) ∈ lw_tbl := lw_at lw_m5 189 rfl
theorem q1302 : (Jvm.Cond.instanceMethod ({ cls := "TinFen", name := "wheelsFrom", desc := "(IIII)I" } : Jvm.MethodName)) ∈ lw_all := lw_g (lw_at lw_m5 190 rfl) rfl
theorem q1303 : (Jvm.Cond.code ({ cls := "TinFen", name := "wheelsFrom", desc := "(IIII)I" } : Jvm.MethodName) prog_1_method_69_code (8 : Nat) (Option.some Jvm.ClassFile.FieldType.int)) ∈ lw_all := lw_g (lw_at lw_m5 191 rfl) rfl
theorem q1304 : (Jvm.Cond.methodLink "TinFen" (361 : Nat) ({ cls := "TinFen", name := "passesTo", desc := "(I)I" } : Jvm.MethodName)) ∈ lw_all := lw_g (lw_at lw_m5 192 rfl) rfl
theorem q1305 : (Jvm.Cond.privateMethod ({ cls := "TinFen", name := "passesTo", desc := "(I)I" } : Jvm.MethodName)) ∈ lw_tbl := lw_at lw_m5 193 rfl
theorem q1306 : (Jvm.Cond.instanceMethod ({ cls := "TinFen", name := "passesTo", desc := "(I)I" } : Jvm.MethodName)) ∈ lw_all := lw_g (lw_at lw_m5 194 rfl) rfl
theorem q1307 : (Jvm.Cond.code ({ cls := "TinFen", name := "passesTo", desc := "(I)I" } : Jvm.MethodName) prog_1_method_68_code (4 : Nat) (Option.some Jvm.ClassFile.FieldType.int)) ∈ lw_all := lw_g (lw_at lw_m5 195 rfl) rfl
theorem q1309 : (Jvm.Cond.instanceMethod ({ cls := "TinFen", name := "whose", desc := "(II)I" } : Jvm.MethodName)) ∈ lw_all := lw_g (lw_at lw_m5 197 rfl) rfl
theorem q1310 : (Jvm.Cond.selects "TinFen" ({ cls := "TinFen", name := "whose", desc := "(II)I" } : Jvm.MethodName) ({ cls := "TinFen", name := "whose", desc := "(II)I" } : Jvm.MethodName)) ∈ lw_all := lw_g (lw_at lw_m5 198 rfl) rfl
theorem q1311 : (Jvm.Cond.code ({ cls := "TinFen", name := "whose", desc := "(II)I" } : Jvm.MethodName) prog_1_method_74_code (4 : Nat) (Option.some Jvm.ClassFile.FieldType.int)) ∈ lw_all := lw_g (lw_at lw_m5 199 rfl) rfl
theorem q1312 : (Jvm.Cond.methodLink "TinFen" (378 : Nat) ({ cls := "TinFen", name := "wrongSeen", desc := "(II)I" } : Jvm.MethodName)) ∈ lw_all := lw_g (lw_at lw_m5 200 rfl) rfl
theorem q1313 : (Jvm.Cond.privateMethod ({ cls := "TinFen", name := "wrongSeen", desc := "(II)I" } : Jvm.MethodName)) ∈ lw_tbl := lw_at lw_m5 201 rfl
theorem q1314 : (Jvm.Cond.instanceMethod ({ cls := "TinFen", name := "wrongSeen", desc := "(II)I" } : Jvm.MethodName)) ∈ lw_all := lw_g (lw_at lw_m5 202 rfl) rfl
theorem q1315 : (Jvm.Cond.code ({ cls := "TinFen", name := "wrongSeen", desc := "(II)I" } : Jvm.MethodName) prog_1_method_71_code (8 : Nat) (Option.some Jvm.ClassFile.FieldType.int)) ∈ lw_all := lw_g (lw_at lw_m5 203 rfl) rfl
theorem q1316 : (Jvm.Cond.constantLong "TinFen" (372 : Nat) (6 : Int64)) ∈ lw_all := lw_g (lw_at lw_m5 204 rfl) rfl
theorem q1317 : (Jvm.Cond.methodLink "TinFen" (381 : Nat) ({ cls := "TinFen", name := "seenMany", desc := "(II)I" } : Jvm.MethodName)) ∈ lw_all := lw_g (lw_at lw_m5 205 rfl) rfl
theorem q1318 : (Jvm.Cond.privateMethod ({ cls := "TinFen", name := "seenMany", desc := "(II)I" } : Jvm.MethodName)) ∈ lw_tbl := lw_at lw_m5 206 rfl
theorem q1319 : (Jvm.Cond.instanceMethod ({ cls := "TinFen", name := "seenMany", desc := "(II)I" } : Jvm.MethodName)) ∈ lw_all := lw_g (lw_at lw_m5 207 rfl) rfl
theorem q1320 : (Jvm.Cond.code ({ cls := "TinFen", name := "seenMany", desc := "(II)I" } : Jvm.MethodName) prog_1_method_73_code (5 : Nat) (Option.some Jvm.ClassFile.FieldType.int)) ∈ lw_all := lw_g (lw_at lw_m5 208 rfl) rfl
theorem q1321 : (Jvm.Cond.methodLink "TinFen" (374 : Nat) ({ cls := "TinFen", name := "isSeen", desc := "(III)Z" } : Jvm.MethodName)) ∈ lw_all := lw_g (lw_at lw_m5 209 rfl) rfl
theorem q1322 : (Jvm.Cond.privateMethod ({ cls := "TinFen", name := "isSeen", desc := "(III)Z" } : Jvm.MethodName)) ∈ lw_tbl := lw_at lw_m5 210 rfl
theorem q1323 : (Jvm.Cond.instanceMethod ({ cls := "TinFen", name := "isSeen", desc := "(III)Z" } : Jvm.MethodName)) ∈ lw_all := lw_g (lw_at lw_m5 211 rfl) rfl
theorem q1324 : (Jvm.Cond.code ({ cls := "TinFen", name := "isSeen", desc := "(III)Z" } : Jvm.MethodName) prog_1_method_72_code (6 : Nat) (Option.some Jvm.ClassFile.FieldType.boolean)) ∈ lw_all := lw_g (lw_at lw_m5 212 rfl) rfl
theorem q1326 : (Jvm.Cond.instanceMethod ({ cls := "TinFen", name := "sure", desc := "(II)I" } : Jvm.MethodName)) ∈ lw_all := lw_g (lw_at lw_m5 214 rfl) rfl
theorem q1327 : (Jvm.Cond.selects "TinFen" ({ cls := "TinFen", name := "sure", desc := "(II)I" } : Jvm.MethodName) ({ cls := "TinFen", name := "sure", desc := "(II)I" } : Jvm.MethodName)) ∈ lw_all := lw_g (lw_at lw_m5 215 rfl) rfl
theorem q1328 : (Jvm.Cond.code ({ cls := "TinFen", name := "sure", desc := "(II)I" } : Jvm.MethodName) prog_1_method_75_code (6 : Nat) (Option.some Jvm.ClassFile.FieldType.int)) ∈ lw_all := lw_g (lw_at lw_m5 216 rfl) rfl
theorem q1330 : (Jvm.Cond.instanceMethod ({ cls := "TinFen", name := "ask", desc := "(II)I" } : Jvm.MethodName)) ∈ lw_all := lw_g (lw_at lw_m5 218 rfl) rfl
theorem q1331 : (Jvm.Cond.selects "TinFen" ({ cls := "TinFen", name := "ask", desc := "(II)I" } : Jvm.MethodName) ({ cls := "TinFen", name := "ask", desc := "(II)I" } : Jvm.MethodName)) ∈ lw_all := lw_g (lw_at lw_m5 219 rfl) rfl
theorem q1332 : (Jvm.Cond.code ({ cls := "TinFen", name := "ask", desc := "(II)I" } : Jvm.MethodName) prog_1_method_77_code (7 : Nat) (Option.some Jvm.ClassFile.FieldType.int)) ∈ lw_all := lw_g (lw_at lw_m5 220 rfl) rfl
theorem q1333 : (Jvm.Cond.methodLink "TinFen" (384 : Nat) ({ cls := "TinFen", name := "mostAlike", desc := "(III)I" } : Jvm.MethodName)) ∈ lw_all := lw_g (lw_at lw_m5 221 rfl) rfl
theorem q1334 : (Jvm.Cond.privateMethod ({ cls := "TinFen", name := "mostAlike", desc := "(III)I" } : Jvm.MethodName)) ∈ lw_tbl := lw_at lw_m5 222 rfl
theorem q1335 : (Jvm.Cond.instanceMethod ({ cls := "TinFen", name := "mostAlike", desc := "(III)I" } : Jvm.MethodName)) ∈ lw_all := lw_g (lw_at lw_m5 223 rfl) rfl
theorem q1336 : (Jvm.Cond.code ({ cls := "TinFen", name := "mostAlike", desc := "(III)I" } : Jvm.MethodName) prog_1_method_76_code (7 : Nat) (Option.some Jvm.ClassFile.FieldType.int)) ∈ lw_all := lw_g (lw_at lw_m5 224 rfl) rfl
theorem q1338 : (Jvm.Cond.instanceMethod ({ cls := "TinFen", name := "game", desc := "(III)I" } : Jvm.MethodName)) ∈ lw_all := lw_g (lw_at lw_m5 226 rfl) rfl
theorem q1339 : (Jvm.Cond.selects "TinFen" ({ cls := "TinFen", name := "game", desc := "(III)I" } : Jvm.MethodName) ({ cls := "TinFen", name := "game", desc := "(III)I" } : Jvm.MethodName)) ∈ lw_all := lw_g (lw_at lw_m5 227 rfl) rfl
theorem q1340 : (Jvm.Cond.code ({ cls := "TinFen", name := "game", desc := "(III)I" } : Jvm.MethodName) prog_1_method_81_code (5 : Nat) (Option.some Jvm.ClassFile.FieldType.int)) ∈ lw_all := lw_g (lw_at lw_m5 228 rfl) rfl
theorem q1341 : (Jvm.Cond.methodLink "TinFen" (407 : Nat) ({ cls := "TinFen", name := "wrongGame", desc := "(IIII)I" } : Jvm.MethodName)) ∈ lw_all := lw_g (lw_at lw_m5 229 rfl) rfl
theorem q1342 : (Jvm.Cond.privateMethod ({ cls := "TinFen", name := "wrongGame", desc := "(IIII)I" } : Jvm.MethodName)) ∈ lw_tbl := lw_at lw_m5 230 rfl
theorem q1343 : (Jvm.Cond.instanceMethod ({ cls := "TinFen", name := "wrongGame", desc := "(IIII)I" } : Jvm.MethodName)) ∈ lw_all := lw_g (lw_at lw_m5 231 rfl) rfl
theorem q1344 : (Jvm.Cond.code ({ cls := "TinFen", name := "wrongGame", desc := "(IIII)I" } : Jvm.MethodName) prog_1_method_80_code (5 : Nat) (Option.some Jvm.ClassFile.FieldType.int)) ∈ lw_all := lw_g (lw_at lw_m5 232 rfl) rfl
theorem q1345 : (Jvm.Cond.constantLong "TinFen" (405 : Nat) (3 : Int64)) ∈ lw_all := lw_g (lw_at lw_m5 233 rfl) rfl
theorem q1346 : (Jvm.Cond.methodLink "TinFen" (410 : Nat) ({ cls := "TinFen", name := "playing", desc := "(III)I" } : Jvm.MethodName)) ∈ lw_all := lw_g (lw_at lw_m5 234 rfl) rfl
theorem q1347 : (Jvm.Cond.privateMethod ({ cls := "TinFen", name := "playing", desc := "(III)I" } : Jvm.MethodName)) ∈ lw_tbl := lw_at lw_m5 235 rfl
theorem q1348 : (Jvm.Cond.instanceMethod ({ cls := "TinFen", name := "playing", desc := "(III)I" } : Jvm.MethodName)) ∈ lw_all := lw_g (lw_at lw_m5 236 rfl) rfl
theorem q1349 : (Jvm.Cond.code ({ cls := "TinFen", name := "playing", desc := "(III)I" } : Jvm.MethodName) prog_1_method_79_code (5 : Nat) (Option.some Jvm.ClassFile.FieldType.int)) ∈ lw_all := lw_g (lw_at lw_m5 237 rfl) rfl
theorem q1350 : (Jvm.Cond.methodLink "TinFen" (401 : Nat) ({ cls := "TinFen$Fen", name := "twin", desc := "()LTinFen$Fen;" } : Jvm.MethodName)) ∈ lw_all := lw_g (lw_at lw_m5 238 rfl) rfl
theorem q1383 : (Jvm.Cond.methodLink "TinFen" (398 : Nat) ({ cls := "TinFen", name := "plays", desc := "(IIII)I" } : Jvm.MethodName)) ∈ lw_all := lw_g (lw_at lw_m6 31 rfl) rfl
theorem q1384 : (Jvm.Cond.privateMethod ({ cls := "TinFen", name := "plays", desc := "(IIII)I" } : Jvm.MethodName)) ∈ lw_tbl := lw_at lw_m6 32 rfl
theorem q1385 : (Jvm.Cond.instanceMethod ({ cls := "TinFen", name := "plays", desc := "(IIII)I" } : Jvm.MethodName)) ∈ lw_all := lw_g (lw_at lw_m6 33 rfl) rfl
theorem q1386 : (Jvm.Cond.code ({ cls := "TinFen", name := "plays", desc := "(IIII)I" } : Jvm.MethodName) prog_1_method_78_code (13 : Nat) (Option.some Jvm.ClassFile.FieldType.int)) ∈ lw_all := lw_g (lw_at lw_m6 34 rfl) rfl
theorem q1387 : (Jvm.Cond.methodLink "TinFen" (391 : Nat) ({ cls := "TinFen$Fen", name := "canPass", desc := "(II)Z" } : Jvm.MethodName)) ∈ lw_all := lw_g (lw_at lw_m6 35 rfl) rfl
theorem q1388 : (Jvm.Cond.methodLink "TinFen" (394 : Nat) ({ cls := "TinFen$Fen", name := "takes", desc := "(LTinFen$Fen;)LTinFen$Fen;" } : Jvm.MethodName)) ∈ lw_all := lw_g (lw_at lw_m6 36 rfl) rfl
theorem q1390 : (Jvm.Cond.instanceMethod ({ cls := "TinFen", name := "moveOf", desc := "(IIII)I" } : Jvm.MethodName)) ∈ lw_all := lw_g (lw_at lw_m6 38 rfl) rfl
theorem q1391 : (Jvm.Cond.selects "TinFen" ({ cls := "TinFen", name := "moveOf", desc := "(IIII)I" } : Jvm.MethodName) ({ cls := "TinFen", name := "moveOf", desc := "(IIII)I" } : Jvm.MethodName)) ∈ lw_all := lw_g (lw_at lw_m6 39 rfl) rfl
theorem q1392 : (Jvm.Cond.code ({ cls := "TinFen", name := "moveOf", desc := "(IIII)I" } : Jvm.MethodName) prog_1_method_82_code (6 : Nat) (Option.some Jvm.ClassFile.FieldType.int)) ∈ lw_all := lw_g (lw_at lw_m6 40 rfl) rfl
theorem q1394 : (Jvm.Cond.instanceMethod ({ cls := "TinFen", name := "bites", desc := "(II)Z" } : Jvm.MethodName)) ∈ lw_all := lw_g (lw_at lw_m6 42 rfl) rfl
theorem q1395 : (Jvm.Cond.selects "TinFen" ({ cls := "TinFen", name := "bites", desc := "(II)Z" } : Jvm.MethodName) ({ cls := "TinFen", name := "bites", desc := "(II)Z" } : Jvm.MethodName)) ∈ lw_all := lw_g (lw_at lw_m6 43 rfl) rfl
theorem q1396 : (Jvm.Cond.code ({ cls := "TinFen", name := "bites", desc := "(II)Z" } : Jvm.MethodName) prog_1_method_83_code (9 : Nat) (Option.some Jvm.ClassFile.FieldType.boolean)) ∈ lw_all := lw_g (lw_at lw_m6 44 rfl) rfl
theorem q1397 : (Jvm.Cond.constantLong "TinFen" (413 : Nat) (9 : Int64)) ∈ lw_all := lw_g (lw_at lw_m6 45 rfl) rfl
theorem q1398 : (Jvm.Cond.methodLink "TinFen" (415 : Nat) ({ cls := "TinFen", name := "tell", desc := "(JJ)Z" } : Jvm.MethodName)) ∈ lw_all := lw_g (lw_at lw_m6 46 rfl) rfl
theorem q1399 : (Jvm.Cond.privateMethod ({ cls := "TinFen", name := "tell", desc := "(JJ)Z" } : Jvm.MethodName)) ∈ lw_tbl := lw_at lw_m6 47 rfl
theorem q1400 : (Jvm.Cond.instanceMethod ({ cls := "TinFen", name := "tell", desc := "(JJ)Z" } : Jvm.MethodName)) ∈ lw_all := lw_g (lw_at lw_m6 48 rfl) rfl
theorem q1401 : (Jvm.Cond.code ({ cls := "TinFen", name := "tell", desc := "(JJ)Z" } : Jvm.MethodName) prog_1_method_12_code (11 : Nat) (Option.some Jvm.ClassFile.FieldType.boolean)) ∈ lw_all := lw_g (lw_at lw_m6 49 rfl) rfl
theorem q1403 : (Jvm.Cond.instanceMethod ({ cls := "TinFen", name := "share", desc := "(I)Z" } : Jvm.MethodName)) ∈ lw_all := lw_g (lw_at lw_m6 51 rfl) rfl
theorem q1404 : (Jvm.Cond.selects "TinFen" ({ cls := "TinFen", name := "share", desc := "(I)Z" } : Jvm.MethodName) ({ cls := "TinFen", name := "share", desc := "(I)Z" } : Jvm.MethodName)) ∈ lw_all := lw_g (lw_at lw_m6 52 rfl) rfl
theorem q1405 : (Jvm.Cond.code ({ cls := "TinFen", name := "share", desc := "(I)Z" } : Jvm.MethodName) prog_1_method_84_code (3 : Nat) (Option.some Jvm.ClassFile.FieldType.boolean)) ∈ lw_all := lw_g (lw_at lw_m6 53 rfl) rfl
theorem q1407 : (Jvm.Cond.instanceMethod ({ cls := "TinFen", name := "live", desc := "(I)I" } : Jvm.MethodName)) ∈ lw_all := lw_g (lw_at lw_m6 55 rfl) rfl
theorem q1408 : (Jvm.Cond.selects "TinFen" ({ cls := "TinFen", name := "live", desc := "(I)I" } : Jvm.MethodName) ({ cls := "TinFen", name := "live", desc := "(I)I" } : Jvm.MethodName)) ∈ lw_all := lw_g (lw_at lw_m6 56 rfl) rfl
theorem q1409 : (Jvm.Cond.code ({ cls := "TinFen", name := "live", desc := "(I)I" } : Jvm.MethodName) prog_1_method_93_code (2 : Nat) (Option.some Jvm.ClassFile.FieldType.int)) ∈ lw_all := lw_g (lw_at lw_m6 57 rfl) rfl
theorem q1410 : (Jvm.Cond.constantLong "TinFen" (473 : Nat) (9999 : Int64)) ∈ lw_all := lw_g (lw_at lw_m6 58 rfl) rfl
theorem q1411 : (Jvm.Cond.methodLink "TinFen" (475 : Nat) ({ cls := "TinFen", name := "livesBy", desc := "(I)V" } : Jvm.MethodName)) ∈ lw_all := lw_g (lw_at lw_m6 59 rfl) rfl
theorem q1412 : (Jvm.Cond.privateMethod ({ cls := "TinFen", name := "livesBy", desc := "(I)V" } : Jvm.MethodName)) ∈ lw_tbl := lw_at lw_m6 60 rfl
theorem q1413 : (Jvm.Cond.instanceMethod ({ cls := "TinFen", name := "livesBy", desc := "(I)V" } : Jvm.MethodName)) ∈ lw_all := lw_g (lw_at lw_m6 61 rfl) rfl
theorem q1414 : (Jvm.Cond.code ({ cls := "TinFen", name := "livesBy", desc := "(I)V" } : Jvm.MethodName) prog_1_method_92_code (5 : Nat) (Option.none : Option Jvm.ClassFile.FieldType)) ∈ lw_all := lw_g (lw_at lw_m6 62 rfl) rfl
theorem q1415 : (Jvm.Cond.methodLink "TinFen" (460 : Nat) ({ cls := "TinFen$Fen", name := "allGot", desc := "()I" } : Jvm.MethodName)) ∈ lw_all := lw_g (lw_at lw_m6 63 rfl) rfl
theorem q1419 : (Jvm.Cond.methodLink "TinFen" (463 : Nat) ({ cls := "TinFen", name := "does", desc := "(LTinFen$Step;)Z" } : Jvm.MethodName)) ∈ lw_all := lw_g (lw_at lw_m6 67 rfl) rfl
theorem q1420 : (Jvm.Cond.privateMethod ({ cls := "TinFen", name := "does", desc := "(LTinFen$Step;)Z" } : Jvm.MethodName)) ∈ lw_tbl := lw_at lw_m6 68 rfl
theorem q1421 : (Jvm.Cond.instanceMethod ({ cls := "TinFen", name := "does", desc := "(LTinFen$Step;)Z" } : Jvm.MethodName)) ∈ lw_all := lw_g (lw_at lw_m6 69 rfl) rfl
theorem q1422 : (Jvm.Cond.code ({ cls := "TinFen", name := "does", desc := "(LTinFen$Step;)Z" } : Jvm.MethodName) prog_1_method_89_code (2 : Nat) (Option.some Jvm.ClassFile.FieldType.boolean)) ∈ lw_all := lw_g (lw_at lw_m6 70 rfl) rfl
theorem q1423 : (Jvm.Cond.methodLink "TinFen" (426 : Nat) ({ cls := "TinFen", name := "passesOn", desc := "(II)Z" } : Jvm.MethodName)) ∈ lw_all := lw_g (lw_at lw_m6 71 rfl) rfl
theorem q1424 : (Jvm.Cond.privateMethod ({ cls := "TinFen", name := "passesOn", desc := "(II)Z" } : Jvm.MethodName)) ∈ lw_tbl := lw_at lw_m6 72 rfl
theorem q1425 : (Jvm.Cond.instanceMethod ({ cls := "TinFen", name := "passesOn", desc := "(II)Z" } : Jvm.MethodName)) ∈ lw_all := lw_g (lw_at lw_m6 73 rfl) rfl
theorem q1426 : (Jvm.Cond.code ({ cls := "TinFen", name := "passesOn", desc := "(II)Z" } : Jvm.MethodName) prog_1_method_86_code (3 : Nat) (Option.some Jvm.ClassFile.FieldType.boolean)) ∈ lw_all := lw_g (lw_at lw_m6 74 rfl) rfl
theorem q1427 : (Jvm.Cond.methodLink "TinFen" (438 : Nat) ({ cls := "TinFen", name := "bitesOn", desc := "(I)Z" } : Jvm.MethodName)) ∈ lw_all := lw_g (lw_at lw_m6 75 rfl) rfl
theorem q1428 : (Jvm.Cond.privateMethod ({ cls := "TinFen", name := "bitesOn", desc := "(I)Z" } : Jvm.MethodName)) ∈ lw_tbl := lw_at lw_m6 76 rfl
theorem q1429 : (Jvm.Cond.instanceMethod ({ cls := "TinFen", name := "bitesOn", desc := "(I)Z" } : Jvm.MethodName)) ∈ lw_all := lw_g (lw_at lw_m6 77 rfl) rfl
theorem q1430 : (Jvm.Cond.code ({ cls := "TinFen", name := "bitesOn", desc := "(I)Z" } : Jvm.MethodName) prog_1_method_87_code (3 : Nat) (Option.some Jvm.ClassFile.FieldType.boolean)) ∈ lw_all := lw_g (lw_at lw_m6 78 rfl) rfl
theorem q1431 : (Jvm.Cond.methodLink "TinFen" (423 : Nat) ({ cls := "TinFen", name := "draw", desc := "(I)I" } : Jvm.MethodName)) ∈ lw_all := lw_g (lw_at lw_m6 79 rfl) rfl
theorem q1432 : (Jvm.Cond.privateMethod ({ cls := "TinFen", name := "draw", desc := "(I)I" } : Jvm.MethodName)) ∈ lw_tbl := lw_at lw_m6 80 rfl
theorem q1433 : (Jvm.Cond.instanceMethod ({ cls := "TinFen", name := "draw", desc := "(I)I" } : Jvm.MethodName)) ∈ lw_all := lw_g (lw_at lw_m6 81 rfl) rfl
theorem q1434 : (Jvm.Cond.code ({ cls := "TinFen", name := "draw", desc := "(I)I" } : Jvm.MethodName) prog_1_method_85_code (2 : Nat) (Option.some Jvm.ClassFile.FieldType.int)) ∈ lw_all := lw_g (lw_at lw_m6 82 rfl) rfl
theorem q1435 : (Jvm.Cond.constant "TinFen" (422 : Nat) (65536 : Int32)) ∈ lw_all := lw_g (lw_at lw_m6 83 rfl) rfl
theorem q1436 : (Jvm.Cond.methodLink "TinFen" (441 : Nat) ({ cls := "TinFen", name := "passesAny", desc := "()Z" } : Jvm.MethodName)) ∈ lw_all := lw_g (lw_at lw_m6 84 rfl) rfl
theorem q1437 : (Jvm.Cond.privateMethod ({ cls := "TinFen", name := "passesAny", desc := "()Z" } : Jvm.MethodName)) ∈ lw_tbl := lw_at lw_m6 85 rfl
theorem q1438 : (Jvm.Cond.instanceMethod ({ cls := "TinFen", name := "passesAny", desc := "()Z" } : Jvm.MethodName)) ∈ lw_all := lw_g (lw_at lw_m6 86 rfl) rfl
theorem q1439 : (Jvm.Cond.code ({ cls := "TinFen", name := "passesAny", desc := "()Z" } : Jvm.MethodName) prog_1_method_88_code (2 : Nat) (Option.some Jvm.ClassFile.FieldType.boolean)) ∈ lw_all := lw_g (lw_at lw_m6 87 rfl) rfl
theorem q1440 : (Jvm.Cond.methodLink "TinFen" (467 : Nat) ({ cls := "TinFen", name := "holds", desc := "(LTinFen$Step;)Z" } : Jvm.MethodName)) ∈ lw_all := lw_g (lw_at lw_m6 88 rfl) rfl
theorem q1441 : (Jvm.Cond.privateMethod ({ cls := "TinFen", name := "holds", desc := "(LTinFen$Step;)Z" } : Jvm.MethodName)) ∈ lw_tbl := lw_at lw_m6 89 rfl
theorem q1442 : (Jvm.Cond.instanceMethod ({ cls := "TinFen", name := "holds", desc := "(LTinFen$Step;)Z" } : Jvm.MethodName)) ∈ lw_all := lw_g (lw_at lw_m6 90 rfl) rfl
theorem q1443 : (Jvm.Cond.code ({ cls := "TinFen", name := "holds", desc := "(LTinFen$Step;)Z" } : Jvm.MethodName) prog_1_method_90_code (3 : Nat) (Option.some Jvm.ClassFile.FieldType.boolean)) ∈ lw_all := lw_g (lw_at lw_m6 91 rfl) rfl
theorem q1444 : (Jvm.Cond.methodLink "TinFen" (470 : Nat) ({ cls := "TinFen", name := "behindEnds", desc := "(I)I" } : Jvm.MethodName)) ∈ lw_all := lw_g (lw_at lw_m6 92 rfl) rfl
theorem q1445 : (Jvm.Cond.privateMethod ({ cls := "TinFen", name := "behindEnds", desc := "(I)I" } : Jvm.MethodName)) ∈ lw_tbl := lw_at lw_m6 93 rfl
theorem q1446 : (Jvm.Cond.instanceMethod ({ cls := "TinFen", name := "behindEnds", desc := "(I)I" } : Jvm.MethodName)) ∈ lw_all := lw_g (lw_at lw_m6 94 rfl) rfl
theorem q1447 : (Jvm.Cond.code ({ cls := "TinFen", name := "behindEnds", desc := "(I)I" } : Jvm.MethodName) prog_1_method_91_code (5 : Nat) (Option.some Jvm.ClassFile.FieldType.int)) ∈ lw_all := lw_g (lw_at lw_m6 95 rfl) rfl
theorem q1449 : (Jvm.Cond.instanceMethod ({ cls := "TinFen", name := "lived", desc := "(I)I" } : Jvm.MethodName)) ∈ lw_all := lw_g (lw_at lw_m6 97 rfl) rfl
theorem q1450 : (Jvm.Cond.selects "TinFen" ({ cls := "TinFen", name := "lived", desc := "(I)I" } : Jvm.MethodName) ({ cls := "TinFen", name := "lived", desc := "(I)I" } : Jvm.MethodName)) ∈ lw_all := lw_g (lw_at lw_m6 98 rfl) rfl
theorem q1451 : (Jvm.Cond.code ({ cls := "TinFen", name := "lived", desc := "(I)I" } : Jvm.MethodName) prog_1_method_94_code (2 : Nat) (Option.some Jvm.ClassFile.FieldType.int)) ∈ lw_all := lw_g (lw_at lw_m6 99 rfl) rfl
theorem q1453 : (Jvm.Cond.instanceMethod ({ cls := "TinFen", name := "mean", desc := "(II)Z" } : Jvm.MethodName)) ∈ lw_all := lw_g (lw_at lw_m6 101 rfl) rfl
theorem q1454 : (Jvm.Cond.selects "TinFen" ({ cls := "TinFen", name := "mean", desc := "(II)Z" } : Jvm.MethodName) ({ cls := "TinFen", name := "mean", desc := "(II)Z" } : Jvm.MethodName)) ∈ lw_all := lw_g (lw_at lw_m6 102 rfl) rfl
theorem q1455 : (Jvm.Cond.code ({ cls := "TinFen", name := "mean", desc := "(II)Z" } : Jvm.MethodName) prog_1_method_95_code (7 : Nat) (Option.some Jvm.ClassFile.FieldType.boolean)) ∈ lw_all := lw_g (lw_at lw_m6 103 rfl) rfl
theorem q1456 : (Jvm.Cond.constantLong "TinFen" (481 : Nat) (20 : Int64)) ∈ lw_all := lw_g (lw_at lw_m6 104 rfl) rfl
theorem q1458 : (Jvm.Cond.instanceMethod ({ cls := "TinFen", name := "mark", desc := "()I" } : Jvm.MethodName)) ∈ lw_all := lw_g (lw_at lw_m6 106 rfl) rfl
theorem q1459 : (Jvm.Cond.selects "TinFen" ({ cls := "TinFen", name := "mark", desc := "()I" } : Jvm.MethodName) ({ cls := "TinFen", name := "mark", desc := "()I" } : Jvm.MethodName)) ∈ lw_all := lw_g (lw_at lw_m6 107 rfl) rfl
theorem q1460 : (Jvm.Cond.code ({ cls := "TinFen", name := "mark", desc := "()I" } : Jvm.MethodName) prog_1_method_96_code (1 : Nat) (Option.some Jvm.ClassFile.FieldType.int)) ∈ lw_all := lw_g (lw_at lw_m6 108 rfl) rfl
theorem q1462 : (Jvm.Cond.methodLink "TinFen" (486 : Nat) ({ cls := "TinFen$Kept", name := "<init>", desc := "(LTinFen$Fen;[LTinFen$Step;I)V" } : Jvm.MethodName)) ∈ lw_all := lw_g (lw_at lw_m6 110 rfl) rfl
theorem q1467 : (Jvm.Cond.fieldLink "TinFen" (489 : Nat) "TinFen$Kept" "fen" "LTinFen$Fen;") ∈ lw_all := lw_g (lw_at lw_m6 115 rfl) rfl
theorem q1469 : (Jvm.Cond.fieldLink "TinFen" (490 : Nat) "TinFen$Kept" "steps" "[LTinFen$Step;") ∈ lw_all := lw_g (lw_at lw_m6 117 rfl) rfl
theorem q1471 : (Jvm.Cond.fieldLink "TinFen" (491 : Nat) "TinFen$Kept" "stepMany" "I") ∈ lw_all := lw_g (lw_at lw_m6 119 rfl) rfl
theorem q1480 : (Jvm.Cond.instanceMethod ({ cls := "TinFen", name := "back", desc := "()I" } : Jvm.MethodName)) ∈ lw_all := lw_g (lw_at lw_m6 128 rfl) rfl
theorem q1481 : (Jvm.Cond.selects "TinFen" ({ cls := "TinFen", name := "back", desc := "()I" } : Jvm.MethodName) ({ cls := "TinFen", name := "back", desc := "()I" } : Jvm.MethodName)) ∈ lw_all := lw_g (lw_at lw_m6 129 rfl) rfl
theorem q1482 : (Jvm.Cond.code ({ cls := "TinFen", name := "back", desc := "()I" } : Jvm.MethodName) prog_1_method_97_code (2 : Nat) (Option.some Jvm.ClassFile.FieldType.int)) ∈ lw_all := lw_g (lw_at lw_m6 130 rfl) rfl
theorem in_X0 : ∀ w ∈ wsX00, w ∈ lw_all := lw_in wsX00 [477, 479, 481, 483, 485, 487, 489, 491, 493, 495, 497, 499, 501, 503, 505, 507, 509, 511, 513, 515, 517, 519, 521, 523, 525] (by decide +kernel) (by decide +kernel)
