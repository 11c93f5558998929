/-! TinFen$Reader -/
set_option maxRecDepth 100000
def RX2 : String := "TinFen$Reader"
def TX2 : u_T := fun k => match k with
  | 0 => ("TinFen$Scan", "tape", "[B", true)
  | 1 => ("TinFen$Scan", "size", "I", false)
  | 2 => ("TinFen$Scan", "sort", "I", false)
  | 3 => ("TinFen$Scan", "from", "I", false)
  | 4 => ("TinFen$Scan", "end", "I", false)
  | 5 => ("TinFen$Scan", "value", "I", false)
  | 6 => ("TinFen$Scan", "keys", "Ljava/lang/String;", true)
  | 7 => ("TinFen$Scan", "signs", "Ljava/lang/String;", true)
  | 8 => ("TinFen$Scan", "wrong", "LTinFen$Wrong;", true)
  | 9 => ("TinFen$Reader", "taped", "I", false)
  | 10 => ("TinFen$Reader", "stepMany", "I", false)
  | 11 => ("TinFen$Reader", "counted", "I", false)
  | 12 => ("TinFen$Reader", "open", "I", false)
  | 13 => ("TinFen$Reader", "told", "I", false)
  | 14 => ("TinFen$Reader", "sound", "LTinFen$Metal;", true)
  | 15 => ("TinFen$Reader", "lead", "LTinFen$Metal;", true)
  | 16 => ("TinFen$Reader", "fen", "LTinFen$Fen;", false)
  | 17 => ("TinFen$Reader", "steps", "[LTinFen$Step;", false)
  | _ => ("TinFen$Reader", "opened", "[I", true)
def tyX2 : Nat → FieldType := fun k => match k with
  | 0 => .array .byte
  | 1 => .int
  | 2 => .int
  | 3 => .int
  | 4 => .int
  | 5 => .int
  | 6 => .object "java/lang/String"
  | 7 => .object "java/lang/String"
  | 8 => .object "TinFen$Wrong"
  | 9 => .int
  | 10 => .int
  | 11 => .int
  | 12 => .int
  | 13 => .int
  | 14 => .object "TinFen$Metal"
  | 15 => .object "TinFen$Metal"
  | 16 => .object "TinFen$Fen"
  | 17 => .array (.object "TinFen$Step")
  | _ => .array .int
abbrev wsX20 : List Cond := u_ws RX2 TX2 19
set_option maxRecDepth 100000 in
theorem nmX2 : ∀ a, a < 19 → ∀ b, b < 19 → a ≠ b → (TX2 a).2.1 ≠ (TX2 b).2.1 := by decide +kernel
set_option maxRecDepth 100000 in
theorem tyX2_ok : ∀ k, k < 19 → parseFieldDescriptor (TX2 k).2.2.1 = some (tyX2 k) := by decide +kernel
abbrev cX2_init : ByteArray := prog_7_method_1_code
def yX2_init : MethodName := ⟨RX2, "<init>", "(LTinFen$Wrong;)V"⟩
def dkwX2_init_1 : List UInt8 := [181, 0, 18, 42, 187, 0, 24, 89, 183, 0, 26, 181, 0, 27, 42, 6, 188, 10, 181, 0, 30, 177]
abbrev dktX2_init_1 : List UInt8 := dkwX2_init_1 ++ []
def dkwX2_init_0 : List UInt8 := [42, 17, 3, 132, 188, 8, 18, 3, 18, 5, 43, 183, 0, 7, 42, 187, 0, 13, 89, 183, 0, 15]
abbrev dktX2_init_0 : List UInt8 := dkwX2_init_0 ++ dktX2_init_1
theorem dksX2_init_0 : cX2_init.data.toList.drop 0 = dktX2_init_0 := by decide +kernel
theorem dksX2_init_1 : cX2_init.data.toList.drop 22 = dktX2_init_1 := dk_seg dksX2_init_0 22 rfl rfl
theorem dX2_init_0 : decode cX2_init 0 = .ok (.aload_n 0, 1) := dk_42 (dk_at dksX2_init_0 0 rfl rfl)
theorem dX2_init_1 : decode cX2_init 1 = .ok (.sipush 900, 3) := dk_17 3 132 (dk_at dksX2_init_0 1 rfl rfl)
theorem dX2_init_4 : decode cX2_init 4 = .ok (.newarray .byte, 2) := dk_188_8 (dk_at dksX2_init_0 4 rfl rfl)
theorem dX2_init_6 : decode cX2_init 6 = .ok (.ldc 3, 2) := dk_18 3 (dk_at dksX2_init_0 6 rfl rfl)
theorem dX2_init_8 : decode cX2_init 8 = .ok (.ldc 5, 2) := dk_18 5 (dk_at dksX2_init_0 8 rfl rfl)
theorem dX2_init_10 : decode cX2_init 10 = .ok (.aload_n 1, 1) := dk_43 (dk_at dksX2_init_0 10 rfl rfl)
theorem dX2_init_11 : decode cX2_init 11 = .ok (.invokespecial 7, 3) := dk_183 0 7 (dk_at dksX2_init_0 11 rfl rfl)
theorem dX2_init_14 : decode cX2_init 14 = .ok (.aload_n 0, 1) := dk_42 (dk_at dksX2_init_0 14 rfl rfl)
theorem dX2_init_15 : decode cX2_init 15 = .ok (.new 13, 3) := dk_187 0 13 (dk_at dksX2_init_0 15 rfl rfl)
theorem dX2_init_18 : decode cX2_init 18 = .ok (.dup, 1) := dk_89 (dk_at dksX2_init_0 18 rfl rfl)
theorem dX2_init_19 : decode cX2_init 19 = .ok (.invokespecial 15, 3) := dk_183 0 15 (dk_at dksX2_init_0 19 rfl rfl)
theorem dX2_init_22 : decode cX2_init 22 = .ok (.putfield 18, 3) := dk_181 0 18 (dk_at dksX2_init_1 0 rfl rfl)
theorem dX2_init_25 : decode cX2_init 25 = .ok (.aload_n 0, 1) := dk_42 (dk_at dksX2_init_1 3 rfl rfl)
theorem dX2_init_26 : decode cX2_init 26 = .ok (.new 24, 3) := dk_187 0 24 (dk_at dksX2_init_1 4 rfl rfl)
theorem dX2_init_29 : decode cX2_init 29 = .ok (.dup, 1) := dk_89 (dk_at dksX2_init_1 7 rfl rfl)
theorem dX2_init_30 : decode cX2_init 30 = .ok (.invokespecial 26, 3) := dk_183 0 26 (dk_at dksX2_init_1 8 rfl rfl)
theorem dX2_init_33 : decode cX2_init 33 = .ok (.putfield 27, 3) := dk_181 0 27 (dk_at dksX2_init_1 11 rfl rfl)
theorem dX2_init_36 : decode cX2_init 36 = .ok (.aload_n 0, 1) := dk_42 (dk_at dksX2_init_1 14 rfl rfl)
theorem dX2_init_37 : decode cX2_init 37 = .ok (.iconst 3, 1) := dk_6 (dk_at dksX2_init_1 15 rfl rfl)
theorem dX2_init_38 : decode cX2_init 38 = .ok (.newarray .int, 2) := dk_188_10 (dk_at dksX2_init_1 16 rfl rfl)
theorem dX2_init_40 : decode cX2_init 40 = .ok (.putfield 30, 3) := dk_181 0 30 (dk_at dksX2_init_1 18 rfl rfl)
theorem dX2_init_43 : decode cX2_init 43 = .ok (.return_, 1) := dk_177 (dk_at dksX2_init_1 21 rfl rfl)
abbrev cX2_fen : ByteArray := prog_7_method_9_code
def yX2_fen : MethodName := ⟨RX2, "fen", "(I)LTinFen$Fen;"⟩
def dkwX2_fen_1 : List UInt8 := [180, 0, 49, 153, 0, 14, 42, 182, 0, 91, 42, 182, 0, 94, 167, 255, 241, 42, 180, 0, 59, 176]
abbrev dktX2_fen_1 : List UInt8 := dkwX2_fen_1 ++ []
def dkwX2_fen_0 : List UInt8 := [42, 187, 0, 68, 89, 183, 0, 83, 181, 0, 59, 42, 3, 181, 0, 84, 42, 27, 182, 0, 87, 42]
abbrev dktX2_fen_0 : List UInt8 := dkwX2_fen_0 ++ dktX2_fen_1
theorem dksX2_fen_0 : cX2_fen.data.toList.drop 0 = dktX2_fen_0 := by decide +kernel
theorem dksX2_fen_1 : cX2_fen.data.toList.drop 22 = dktX2_fen_1 := dk_seg dksX2_fen_0 22 rfl rfl
theorem dX2_fen_0 : decode cX2_fen 0 = .ok (.aload_n 0, 1) := dk_42 (dk_at dksX2_fen_0 0 rfl rfl)
theorem dX2_fen_1 : decode cX2_fen 1 = .ok (.new 68, 3) := dk_187 0 68 (dk_at dksX2_fen_0 1 rfl rfl)
theorem dX2_fen_4 : decode cX2_fen 4 = .ok (.dup, 1) := dk_89 (dk_at dksX2_fen_0 4 rfl rfl)
theorem dX2_fen_5 : decode cX2_fen 5 = .ok (.invokespecial 83, 3) := dk_183 0 83 (dk_at dksX2_fen_0 5 rfl rfl)
theorem dX2_fen_8 : decode cX2_fen 8 = .ok (.putfield 59, 3) := dk_181 0 59 (dk_at dksX2_fen_0 8 rfl rfl)
theorem dX2_fen_11 : decode cX2_fen 11 = .ok (.aload_n 0, 1) := dk_42 (dk_at dksX2_fen_0 11 rfl rfl)
theorem dX2_fen_12 : decode cX2_fen 12 = .ok (.iconst 0, 1) := dk_3 (dk_at dksX2_fen_0 12 rfl rfl)
theorem dX2_fen_13 : decode cX2_fen 13 = .ok (.putfield 84, 3) := dk_181 0 84 (dk_at dksX2_fen_0 13 rfl rfl)
theorem dX2_fen_16 : decode cX2_fen 16 = .ok (.aload_n 0, 1) := dk_42 (dk_at dksX2_fen_0 16 rfl rfl)
theorem dX2_fen_17 : decode cX2_fen 17 = .ok (.iload_n 1, 1) := dk_27 (dk_at dksX2_fen_0 17 rfl rfl)
theorem dX2_fen_18 : decode cX2_fen 18 = .ok (.invokevirtual 87, 3) := dk_182 0 87 (dk_at dksX2_fen_0 18 rfl rfl)
theorem dX2_fen_21 : decode cX2_fen 21 = .ok (.aload_n 0, 1) := dk_42 (dk_at dksX2_fen_0 21 rfl rfl)
theorem dX2_fen_22 : decode cX2_fen 22 = .ok (.getfield 49, 3) := dk_180 0 49 (dk_at dksX2_fen_1 0 rfl rfl)
theorem dX2_fen_25 : decode cX2_fen 25 = .ok (.ifCond .eq 14, 3) := dk_153 0 14 (dk_at dksX2_fen_1 3 rfl rfl)
theorem dX2_fen_28 : decode cX2_fen 28 = .ok (.aload_n 0, 1) := dk_42 (dk_at dksX2_fen_1 6 rfl rfl)
theorem dX2_fen_29 : decode cX2_fen 29 = .ok (.invokevirtual 91, 3) := dk_182 0 91 (dk_at dksX2_fen_1 7 rfl rfl)
theorem dX2_fen_32 : decode cX2_fen 32 = .ok (.aload_n 0, 1) := dk_42 (dk_at dksX2_fen_1 10 rfl rfl)
theorem dX2_fen_33 : decode cX2_fen 33 = .ok (.invokevirtual 94, 3) := dk_182 0 94 (dk_at dksX2_fen_1 11 rfl rfl)
theorem dX2_fen_36 : decode cX2_fen 36 = .ok (.goto (-15), 3) := dk_167 255 241 (dk_at dksX2_fen_1 14 rfl rfl)
theorem dX2_fen_39 : decode cX2_fen 39 = .ok (.aload_n 0, 1) := dk_42 (dk_at dksX2_fen_1 17 rfl rfl)
theorem dX2_fen_40 : decode cX2_fen 40 = .ok (.getfield 59, 3) := dk_180 0 59 (dk_at dksX2_fen_1 18 rfl rfl)
theorem dX2_fen_43 : decode cX2_fen 43 = .ok (.areturn, 1) := dk_176 (dk_at dksX2_fen_1 21 rfl rfl)
abbrev cX2_part : ByteArray := prog_7_method_11_code
def yX2_part : MethodName := ⟨RX2, "part", "()V"⟩
def dkwX2_part_6 : List UInt8 := [42, 182, 0, 135, 167, 0, 11, 42, 42, 182, 0, 120, 182, 0, 138, 177]
abbrev dktX2_part_6 : List UInt8 := dkwX2_part_6 ++ []
def dkwX2_part_5 : List UInt8 := [182, 0, 123, 167, 0, 36, 42, 187, 0, 127, 89, 42, 182, 0, 120, 183, 0, 129, 182, 0, 131, 167, 0, 18]
abbrev dktX2_part_5 : List UInt8 := dkwX2_part_5 ++ dktX2_part_6
def dkwX2_part_4 : List UInt8 := [42, 180, 0, 59, 42, 3, 16, 16, 182, 0, 113, 181, 0, 117, 167, 0, 47, 42, 42, 182, 0, 120]
abbrev dktX2_part_4 : List UInt8 := dkwX2_part_4 ++ dktX2_part_5
def dkwX2_part_3 : List UInt8 := [170, 0, 0, 0, 0, 83, 0, 0, 0, 0, 0, 0, 0, 3, 0, 0, 0, 30, 0, 0, 0, 47, 0, 0, 0, 58, 0, 0, 0, 76]
abbrev dktX2_part_3 : List UInt8 := dkwX2_part_3 ++ dktX2_part_4
def dkwX2_part_2 : List UInt8 := [181, 0, 84, 42, 27, 182, 0, 109, 153, 0, 10, 42, 16, 6, 182, 0, 45, 191, 42, 182, 0, 42, 27]
abbrev dktX2_part_2 : List UInt8 := dkwX2_part_2 ++ dktX2_part_3
def dkwX2_part_1 : List UInt8 := [154, 0, 17, 42, 180, 0, 84, 4, 160, 0, 9, 42, 8, 182, 0, 45, 191, 27, 154, 0, 8, 42, 4]
abbrev dktX2_part_1 : List UInt8 := dkwX2_part_1 ++ dktX2_part_2
def dkwX2_part_0 : List UInt8 := [42, 182, 0, 34, 60, 42, 27, 155, 0, 12, 27, 7, 163, 0, 7, 4, 167, 0, 4, 3, 182, 0, 38, 27]
abbrev dktX2_part_0 : List UInt8 := dkwX2_part_0 ++ dktX2_part_1
theorem dksX2_part_0 : cX2_part.data.toList.drop 0 = dktX2_part_0 := by decide +kernel
theorem dksX2_part_1 : cX2_part.data.toList.drop 24 = dktX2_part_1 := dk_seg dksX2_part_0 24 rfl rfl
theorem dksX2_part_2 : cX2_part.data.toList.drop 47 = dktX2_part_2 := dk_seg dksX2_part_1 23 rfl rfl
theorem dksX2_part_3 : cX2_part.data.toList.drop 70 = dktX2_part_3 := dk_seg dksX2_part_2 23 rfl rfl
theorem dksX2_part_4 : cX2_part.data.toList.drop 100 = dktX2_part_4 := dk_seg dksX2_part_3 30 rfl rfl
theorem dksX2_part_5 : cX2_part.data.toList.drop 122 = dktX2_part_5 := dk_seg dksX2_part_4 22 rfl rfl
theorem dksX2_part_6 : cX2_part.data.toList.drop 146 = dktX2_part_6 := dk_seg dksX2_part_5 24 rfl rfl
theorem dX2_part_0 : decode cX2_part 0 = .ok (.aload_n 0, 1) := dk_42 (dk_at dksX2_part_0 0 rfl rfl)
theorem dX2_part_1 : decode cX2_part 1 = .ok (.invokevirtual 34, 3) := dk_182 0 34 (dk_at dksX2_part_0 1 rfl rfl)
theorem dX2_part_4 : decode cX2_part 4 = .ok (.istore_n 1, 1) := dk_60 (dk_at dksX2_part_0 4 rfl rfl)
theorem dX2_part_5 : decode cX2_part 5 = .ok (.aload_n 0, 1) := dk_42 (dk_at dksX2_part_0 5 rfl rfl)
theorem dX2_part_6 : decode cX2_part 6 = .ok (.iload_n 1, 1) := dk_27 (dk_at dksX2_part_0 6 rfl rfl)
theorem dX2_part_7 : decode cX2_part 7 = .ok (.ifCond .lt 12, 3) := dk_155 0 12 (dk_at dksX2_part_0 7 rfl rfl)
theorem dX2_part_10 : decode cX2_part 10 = .ok (.iload_n 1, 1) := dk_27 (dk_at dksX2_part_0 10 rfl rfl)
theorem dX2_part_11 : decode cX2_part 11 = .ok (.iconst 4, 1) := dk_7 (dk_at dksX2_part_0 11 rfl rfl)
theorem dX2_part_12 : decode cX2_part 12 = .ok (.if_icmp .gt 7, 3) := dk_163 0 7 (dk_at dksX2_part_0 12 rfl rfl)
theorem dX2_part_15 : decode cX2_part 15 = .ok (.iconst 1, 1) := dk_4 (dk_at dksX2_part_0 15 rfl rfl)
theorem dX2_part_16 : decode cX2_part 16 = .ok (.goto 4, 3) := dk_167 0 4 (dk_at dksX2_part_0 16 rfl rfl)
theorem dX2_part_19 : decode cX2_part 19 = .ok (.iconst 0, 1) := dk_3 (dk_at dksX2_part_0 19 rfl rfl)
theorem dX2_part_20 : decode cX2_part 20 = .ok (.invokevirtual 38, 3) := dk_182 0 38 (dk_at dksX2_part_0 20 rfl rfl)
theorem dX2_part_23 : decode cX2_part 23 = .ok (.iload_n 1, 1) := dk_27 (dk_at dksX2_part_0 23 rfl rfl)
theorem dX2_part_24 : decode cX2_part 24 = .ok (.ifCond .ne 17, 3) := dk_154 0 17 (dk_at dksX2_part_1 0 rfl rfl)
theorem dX2_part_27 : decode cX2_part 27 = .ok (.aload_n 0, 1) := dk_42 (dk_at dksX2_part_1 3 rfl rfl)
theorem dX2_part_28 : decode cX2_part 28 = .ok (.getfield 84, 3) := dk_180 0 84 (dk_at dksX2_part_1 4 rfl rfl)
theorem dX2_part_31 : decode cX2_part 31 = .ok (.iconst 1, 1) := dk_4 (dk_at dksX2_part_1 7 rfl rfl)
theorem dX2_part_32 : decode cX2_part 32 = .ok (.if_icmp .ne 9, 3) := dk_160 0 9 (dk_at dksX2_part_1 8 rfl rfl)
theorem dX2_part_35 : decode cX2_part 35 = .ok (.aload_n 0, 1) := dk_42 (dk_at dksX2_part_1 11 rfl rfl)
theorem dX2_part_36 : decode cX2_part 36 = .ok (.iconst 5, 1) := dk_8 (dk_at dksX2_part_1 12 rfl rfl)
theorem dX2_part_37 : decode cX2_part 37 = .ok (.invokevirtual 45, 3) := dk_182 0 45 (dk_at dksX2_part_1 13 rfl rfl)
theorem dX2_part_40 : decode cX2_part 40 = .ok (.athrow, 1) := dk_191 (dk_at dksX2_part_1 16 rfl rfl)
theorem dX2_part_41 : decode cX2_part 41 = .ok (.iload_n 1, 1) := dk_27 (dk_at dksX2_part_1 17 rfl rfl)
theorem dX2_part_42 : decode cX2_part 42 = .ok (.ifCond .ne 8, 3) := dk_154 0 8 (dk_at dksX2_part_1 18 rfl rfl)
theorem dX2_part_45 : decode cX2_part 45 = .ok (.aload_n 0, 1) := dk_42 (dk_at dksX2_part_1 21 rfl rfl)
theorem dX2_part_46 : decode cX2_part 46 = .ok (.iconst 1, 1) := dk_4 (dk_at dksX2_part_1 22 rfl rfl)
theorem dX2_part_47 : decode cX2_part 47 = .ok (.putfield 84, 3) := dk_181 0 84 (dk_at dksX2_part_2 0 rfl rfl)
theorem dX2_part_50 : decode cX2_part 50 = .ok (.aload_n 0, 1) := dk_42 (dk_at dksX2_part_2 3 rfl rfl)
theorem dX2_part_51 : decode cX2_part 51 = .ok (.iload_n 1, 1) := dk_27 (dk_at dksX2_part_2 4 rfl rfl)
theorem dX2_part_52 : decode cX2_part 52 = .ok (.invokevirtual 109, 3) := dk_182 0 109 (dk_at dksX2_part_2 5 rfl rfl)
theorem dX2_part_55 : decode cX2_part 55 = .ok (.ifCond .eq 10, 3) := dk_153 0 10 (dk_at dksX2_part_2 8 rfl rfl)
theorem dX2_part_58 : decode cX2_part 58 = .ok (.aload_n 0, 1) := dk_42 (dk_at dksX2_part_2 11 rfl rfl)
theorem dX2_part_59 : decode cX2_part 59 = .ok (.bipush 6, 2) := dk_16 6 (dk_at dksX2_part_2 12 rfl rfl)
theorem dX2_part_61 : decode cX2_part 61 = .ok (.invokevirtual 45, 3) := dk_182 0 45 (dk_at dksX2_part_2 14 rfl rfl)
theorem dX2_part_64 : decode cX2_part 64 = .ok (.athrow, 1) := dk_191 (dk_at dksX2_part_2 17 rfl rfl)
theorem dX2_part_65 : decode cX2_part 65 = .ok (.aload_n 0, 1) := dk_42 (dk_at dksX2_part_2 18 rfl rfl)
theorem dX2_part_66 : decode cX2_part 66 = .ok (.invokevirtual 42, 3) := dk_182 0 42 (dk_at dksX2_part_2 19 rfl rfl)
theorem dX2_part_69 : decode cX2_part 69 = .ok (.iload_n 1, 1) := dk_27 (dk_at dksX2_part_2 22 rfl rfl)
theorem dX2_part_70 : decode cX2_part 70 = .ok (.tableswitch 83 0 3 #[30, 47, 58, 76], 30) := by decide +kernel
theorem dX2_part_100 : decode cX2_part 100 = .ok (.aload_n 0, 1) := dk_42 (dk_at dksX2_part_4 0 rfl rfl)
theorem dX2_part_101 : decode cX2_part 101 = .ok (.getfield 59, 3) := dk_180 0 59 (dk_at dksX2_part_4 1 rfl rfl)
theorem dX2_part_104 : decode cX2_part 104 = .ok (.aload_n 0, 1) := dk_42 (dk_at dksX2_part_4 4 rfl rfl)
theorem dX2_part_105 : decode cX2_part 105 = .ok (.iconst 0, 1) := dk_3 (dk_at dksX2_part_4 5 rfl rfl)
theorem dX2_part_106 : decode cX2_part 106 = .ok (.bipush 16, 2) := dk_16 16 (dk_at dksX2_part_4 6 rfl rfl)
theorem dX2_part_108 : decode cX2_part 108 = .ok (.invokevirtual 113, 3) := dk_182 0 113 (dk_at dksX2_part_4 8 rfl rfl)
theorem dX2_part_111 : decode cX2_part 111 = .ok (.putfield 117, 3) := dk_181 0 117 (dk_at dksX2_part_4 11 rfl rfl)
theorem dX2_part_114 : decode cX2_part 114 = .ok (.goto 47, 3) := dk_167 0 47 (dk_at dksX2_part_4 14 rfl rfl)
theorem dX2_part_117 : decode cX2_part 117 = .ok (.aload_n 0, 1) := dk_42 (dk_at dksX2_part_4 17 rfl rfl)
theorem dX2_part_118 : decode cX2_part 118 = .ok (.aload_n 0, 1) := dk_42 (dk_at dksX2_part_4 18 rfl rfl)
theorem dX2_part_119 : decode cX2_part 119 = .ok (.invokevirtual 120, 3) := dk_182 0 120 (dk_at dksX2_part_4 19 rfl rfl)
theorem dX2_part_122 : decode cX2_part 122 = .ok (.invokevirtual 123, 3) := dk_182 0 123 (dk_at dksX2_part_5 0 rfl rfl)
theorem dX2_part_125 : decode cX2_part 125 = .ok (.goto 36, 3) := dk_167 0 36 (dk_at dksX2_part_5 3 rfl rfl)
theorem dX2_part_128 : decode cX2_part 128 = .ok (.aload_n 0, 1) := dk_42 (dk_at dksX2_part_5 6 rfl rfl)
theorem dX2_part_129 : decode cX2_part 129 = .ok (.new 127, 3) := dk_187 0 127 (dk_at dksX2_part_5 7 rfl rfl)
theorem dX2_part_132 : decode cX2_part 132 = .ok (.dup, 1) := dk_89 (dk_at dksX2_part_5 10 rfl rfl)
theorem dX2_part_133 : decode cX2_part 133 = .ok (.aload_n 0, 1) := dk_42 (dk_at dksX2_part_5 11 rfl rfl)
theorem dX2_part_134 : decode cX2_part 134 = .ok (.invokevirtual 120, 3) := dk_182 0 120 (dk_at dksX2_part_5 12 rfl rfl)
theorem dX2_part_137 : decode cX2_part 137 = .ok (.invokespecial 129, 3) := dk_183 0 129 (dk_at dksX2_part_5 15 rfl rfl)
theorem dX2_part_140 : decode cX2_part 140 = .ok (.invokevirtual 131, 3) := dk_182 0 131 (dk_at dksX2_part_5 18 rfl rfl)
theorem dX2_part_143 : decode cX2_part 143 = .ok (.goto 18, 3) := dk_167 0 18 (dk_at dksX2_part_5 21 rfl rfl)
theorem dX2_part_146 : decode cX2_part 146 = .ok (.aload_n 0, 1) := dk_42 (dk_at dksX2_part_6 0 rfl rfl)
theorem dX2_part_147 : decode cX2_part 147 = .ok (.invokevirtual 135, 3) := dk_182 0 135 (dk_at dksX2_part_6 1 rfl rfl)
theorem dX2_part_150 : decode cX2_part 150 = .ok (.goto 11, 3) := dk_167 0 11 (dk_at dksX2_part_6 4 rfl rfl)
theorem dX2_part_153 : decode cX2_part 153 = .ok (.aload_n 0, 1) := dk_42 (dk_at dksX2_part_6 7 rfl rfl)
theorem dX2_part_154 : decode cX2_part 154 = .ok (.aload_n 0, 1) := dk_42 (dk_at dksX2_part_6 8 rfl rfl)
theorem dX2_part_155 : decode cX2_part 155 = .ok (.invokevirtual 120, 3) := dk_182 0 120 (dk_at dksX2_part_6 9 rfl rfl)
theorem dX2_part_158 : decode cX2_part 158 = .ok (.invokevirtual 138, 3) := dk_182 0 138 (dk_at dksX2_part_6 12 rfl rfl)
theorem dX2_part_161 : decode cX2_part 161 = .ok (.return_, 1) := dk_177 (dk_at dksX2_part_6 15 rfl rfl)
abbrev cX2_isFullOf : ByteArray := prog_7_method_10_code
def yX2_isFullOf : MethodName := ⟨RX2, "isFullOf", "(I)Z"⟩
def dkwX2_isFullOf_5 : List UInt8 := [167, 0, 4, 3, 172, 3, 172]
abbrev dktX2_isFullOf_5 : List UInt8 := dkwX2_isFullOf_5 ++ []
def dkwX2_isFullOf_4 : List UInt8 := [160, 0, 7, 4, 167, 0, 4, 3, 172, 42, 180, 0, 59, 180, 0, 106, 16, 9, 160, 0, 7, 4]
abbrev dktX2_isFullOf_4 : List UInt8 := dkwX2_isFullOf_4 ++ dktX2_isFullOf_5
def dkwX2_isFullOf_3 : List UInt8 := [180, 0, 100, 16, 7, 160, 0, 7, 4, 167, 0, 4, 3, 172, 42, 180, 0, 59, 180, 0, 103, 16, 12]
abbrev dktX2_isFullOf_3 : List UInt8 := dkwX2_isFullOf_3 ++ dktX2_isFullOf_4
def dkwX2_isFullOf_2 : List UInt8 := [42, 180, 0, 59, 180, 0, 97, 16, 6, 160, 0, 7, 4, 167, 0, 4, 3, 172, 42, 180, 0, 59]
abbrev dktX2_isFullOf_2 : List UInt8 := dkwX2_isFullOf_2 ++ dktX2_isFullOf_3
def dkwX2_isFullOf_1 : List UInt8 := [170, 0, 0, 0, 0, 0, 103, 0, 0, 0, 1, 0, 0, 0, 4, 0, 0, 0, 31, 0, 0, 0, 49, 0, 0, 0, 67, 0, 0, 0, 85]
abbrev dktX2_isFullOf_1 : List UInt8 := dkwX2_isFullOf_1 ++ dktX2_isFullOf_2
def dkwX2_isFullOf_0 : List UInt8 := [27]
abbrev dktX2_isFullOf_0 : List UInt8 := dkwX2_isFullOf_0 ++ dktX2_isFullOf_1
theorem dksX2_isFullOf_0 : cX2_isFullOf.data.toList.drop 0 = dktX2_isFullOf_0 := by decide +kernel
theorem dksX2_isFullOf_1 : cX2_isFullOf.data.toList.drop 1 = dktX2_isFullOf_1 := dk_seg dksX2_isFullOf_0 1 rfl rfl
theorem dksX2_isFullOf_2 : cX2_isFullOf.data.toList.drop 32 = dktX2_isFullOf_2 := dk_seg dksX2_isFullOf_1 31 rfl rfl
theorem dksX2_isFullOf_3 : cX2_isFullOf.data.toList.drop 54 = dktX2_isFullOf_3 := dk_seg dksX2_isFullOf_2 22 rfl rfl
theorem dksX2_isFullOf_4 : cX2_isFullOf.data.toList.drop 77 = dktX2_isFullOf_4 := dk_seg dksX2_isFullOf_3 23 rfl rfl
theorem dksX2_isFullOf_5 : cX2_isFullOf.data.toList.drop 99 = dktX2_isFullOf_5 := dk_seg dksX2_isFullOf_4 22 rfl rfl
theorem dX2_isFullOf_0 : decode cX2_isFullOf 0 = .ok (.iload_n 1, 1) := dk_27 (dk_at dksX2_isFullOf_0 0 rfl rfl)
theorem dX2_isFullOf_1 : decode cX2_isFullOf 1 = .ok (.tableswitch 103 1 4 #[31, 49, 67, 85], 31) := by decide +kernel
theorem dX2_isFullOf_32 : decode cX2_isFullOf 32 = .ok (.aload_n 0, 1) := dk_42 (dk_at dksX2_isFullOf_2 0 rfl rfl)
theorem dX2_isFullOf_33 : decode cX2_isFullOf 33 = .ok (.getfield 59, 3) := dk_180 0 59 (dk_at dksX2_isFullOf_2 1 rfl rfl)
theorem dX2_isFullOf_36 : decode cX2_isFullOf 36 = .ok (.getfield 97, 3) := dk_180 0 97 (dk_at dksX2_isFullOf_2 4 rfl rfl)
theorem dX2_isFullOf_39 : decode cX2_isFullOf 39 = .ok (.bipush 6, 2) := dk_16 6 (dk_at dksX2_isFullOf_2 7 rfl rfl)
theorem dX2_isFullOf_41 : decode cX2_isFullOf 41 = .ok (.if_icmp .ne 7, 3) := dk_160 0 7 (dk_at dksX2_isFullOf_2 9 rfl rfl)
theorem dX2_isFullOf_44 : decode cX2_isFullOf 44 = .ok (.iconst 1, 1) := dk_4 (dk_at dksX2_isFullOf_2 12 rfl rfl)
theorem dX2_isFullOf_45 : decode cX2_isFullOf 45 = .ok (.goto 4, 3) := dk_167 0 4 (dk_at dksX2_isFullOf_2 13 rfl rfl)
theorem dX2_isFullOf_48 : decode cX2_isFullOf 48 = .ok (.iconst 0, 1) := dk_3 (dk_at dksX2_isFullOf_2 16 rfl rfl)
theorem dX2_isFullOf_49 : decode cX2_isFullOf 49 = .ok (.ireturn, 1) := dk_172 (dk_at dksX2_isFullOf_2 17 rfl rfl)
theorem dX2_isFullOf_50 : decode cX2_isFullOf 50 = .ok (.aload_n 0, 1) := dk_42 (dk_at dksX2_isFullOf_2 18 rfl rfl)
theorem dX2_isFullOf_51 : decode cX2_isFullOf 51 = .ok (.getfield 59, 3) := dk_180 0 59 (dk_at dksX2_isFullOf_2 19 rfl rfl)
theorem dX2_isFullOf_54 : decode cX2_isFullOf 54 = .ok (.getfield 100, 3) := dk_180 0 100 (dk_at dksX2_isFullOf_3 0 rfl rfl)
theorem dX2_isFullOf_57 : decode cX2_isFullOf 57 = .ok (.bipush 7, 2) := dk_16 7 (dk_at dksX2_isFullOf_3 3 rfl rfl)
theorem dX2_isFullOf_59 : decode cX2_isFullOf 59 = .ok (.if_icmp .ne 7, 3) := dk_160 0 7 (dk_at dksX2_isFullOf_3 5 rfl rfl)
theorem dX2_isFullOf_62 : decode cX2_isFullOf 62 = .ok (.iconst 1, 1) := dk_4 (dk_at dksX2_isFullOf_3 8 rfl rfl)
theorem dX2_isFullOf_63 : decode cX2_isFullOf 63 = .ok (.goto 4, 3) := dk_167 0 4 (dk_at dksX2_isFullOf_3 9 rfl rfl)
theorem dX2_isFullOf_66 : decode cX2_isFullOf 66 = .ok (.iconst 0, 1) := dk_3 (dk_at dksX2_isFullOf_3 12 rfl rfl)
theorem dX2_isFullOf_67 : decode cX2_isFullOf 67 = .ok (.ireturn, 1) := dk_172 (dk_at dksX2_isFullOf_3 13 rfl rfl)
theorem dX2_isFullOf_68 : decode cX2_isFullOf 68 = .ok (.aload_n 0, 1) := dk_42 (dk_at dksX2_isFullOf_3 14 rfl rfl)
theorem dX2_isFullOf_69 : decode cX2_isFullOf 69 = .ok (.getfield 59, 3) := dk_180 0 59 (dk_at dksX2_isFullOf_3 15 rfl rfl)
theorem dX2_isFullOf_72 : decode cX2_isFullOf 72 = .ok (.getfield 103, 3) := dk_180 0 103 (dk_at dksX2_isFullOf_3 18 rfl rfl)
theorem dX2_isFullOf_75 : decode cX2_isFullOf 75 = .ok (.bipush 12, 2) := dk_16 12 (dk_at dksX2_isFullOf_3 21 rfl rfl)
theorem dX2_isFullOf_77 : decode cX2_isFullOf 77 = .ok (.if_icmp .ne 7, 3) := dk_160 0 7 (dk_at dksX2_isFullOf_4 0 rfl rfl)
theorem dX2_isFullOf_80 : decode cX2_isFullOf 80 = .ok (.iconst 1, 1) := dk_4 (dk_at dksX2_isFullOf_4 3 rfl rfl)
theorem dX2_isFullOf_81 : decode cX2_isFullOf 81 = .ok (.goto 4, 3) := dk_167 0 4 (dk_at dksX2_isFullOf_4 4 rfl rfl)
theorem dX2_isFullOf_84 : decode cX2_isFullOf 84 = .ok (.iconst 0, 1) := dk_3 (dk_at dksX2_isFullOf_4 7 rfl rfl)
theorem dX2_isFullOf_85 : decode cX2_isFullOf 85 = .ok (.ireturn, 1) := dk_172 (dk_at dksX2_isFullOf_4 8 rfl rfl)
theorem dX2_isFullOf_86 : decode cX2_isFullOf 86 = .ok (.aload_n 0, 1) := dk_42 (dk_at dksX2_isFullOf_4 9 rfl rfl)
theorem dX2_isFullOf_87 : decode cX2_isFullOf 87 = .ok (.getfield 59, 3) := dk_180 0 59 (dk_at dksX2_isFullOf_4 10 rfl rfl)
theorem dX2_isFullOf_90 : decode cX2_isFullOf 90 = .ok (.getfield 106, 3) := dk_180 0 106 (dk_at dksX2_isFullOf_4 13 rfl rfl)
theorem dX2_isFullOf_93 : decode cX2_isFullOf 93 = .ok (.bipush 9, 2) := dk_16 9 (dk_at dksX2_isFullOf_4 16 rfl rfl)
theorem dX2_isFullOf_95 : decode cX2_isFullOf 95 = .ok (.if_icmp .ne 7, 3) := dk_160 0 7 (dk_at dksX2_isFullOf_4 18 rfl rfl)
theorem dX2_isFullOf_98 : decode cX2_isFullOf 98 = .ok (.iconst 1, 1) := dk_4 (dk_at dksX2_isFullOf_4 21 rfl rfl)
theorem dX2_isFullOf_99 : decode cX2_isFullOf 99 = .ok (.goto 4, 3) := dk_167 0 4 (dk_at dksX2_isFullOf_5 0 rfl rfl)
theorem dX2_isFullOf_102 : decode cX2_isFullOf 102 = .ok (.iconst 0, 1) := dk_3 (dk_at dksX2_isFullOf_5 3 rfl rfl)
theorem dX2_isFullOf_103 : decode cX2_isFullOf 103 = .ok (.ireturn, 1) := dk_172 (dk_at dksX2_isFullOf_5 4 rfl rfl)
theorem dX2_isFullOf_104 : decode cX2_isFullOf 104 = .ok (.iconst 0, 1) := dk_3 (dk_at dksX2_isFullOf_5 5 rfl rfl)
theorem dX2_isFullOf_105 : decode cX2_isFullOf 105 = .ok (.ireturn, 1) := dk_172 (dk_at dksX2_isFullOf_5 6 rfl rfl)
abbrev cX2_newName : ByteArray := prog_7_method_12_code
def yX2_newName : MethodName := ⟨RX2, "newName", "()J"⟩
def dkwX2_newName_1 : List UInt8 := [182, 0, 42, 31, 173]
abbrev dktX2_newName_1 : List UInt8 := dkwX2_newName_1 ++ []
def dkwX2_newName_0 : List UInt8 := [42, 182, 0, 63, 64, 42, 180, 0, 59, 31, 182, 0, 141, 153, 0, 9, 42, 6, 182, 0, 45, 191, 42]
abbrev dktX2_newName_0 : List UInt8 := dkwX2_newName_0 ++ dktX2_newName_1
theorem dksX2_newName_0 : cX2_newName.data.toList.drop 0 = dktX2_newName_0 := by decide +kernel
theorem dksX2_newName_1 : cX2_newName.data.toList.drop 23 = dktX2_newName_1 := dk_seg dksX2_newName_0 23 rfl rfl
theorem dX2_newName_0 : decode cX2_newName 0 = .ok (.aload_n 0, 1) := dk_42 (dk_at dksX2_newName_0 0 rfl rfl)
theorem dX2_newName_1 : decode cX2_newName 1 = .ok (.invokevirtual 63, 3) := dk_182 0 63 (dk_at dksX2_newName_0 1 rfl rfl)
theorem dX2_newName_4 : decode cX2_newName 4 = .ok (.lstore_n 1, 1) := dk_64 (dk_at dksX2_newName_0 4 rfl rfl)
theorem dX2_newName_5 : decode cX2_newName 5 = .ok (.aload_n 0, 1) := dk_42 (dk_at dksX2_newName_0 5 rfl rfl)
theorem dX2_newName_6 : decode cX2_newName 6 = .ok (.getfield 59, 3) := dk_180 0 59 (dk_at dksX2_newName_0 6 rfl rfl)
theorem dX2_newName_9 : decode cX2_newName 9 = .ok (.lload_n 1, 1) := dk_31 (dk_at dksX2_newName_0 9 rfl rfl)
theorem dX2_newName_10 : decode cX2_newName 10 = .ok (.invokevirtual 141, 3) := dk_182 0 141 (dk_at dksX2_newName_0 10 rfl rfl)
theorem dX2_newName_13 : decode cX2_newName 13 = .ok (.ifCond .eq 9, 3) := dk_153 0 9 (dk_at dksX2_newName_0 13 rfl rfl)
theorem dX2_newName_16 : decode cX2_newName 16 = .ok (.aload_n 0, 1) := dk_42 (dk_at dksX2_newName_0 16 rfl rfl)
theorem dX2_newName_17 : decode cX2_newName 17 = .ok (.iconst 3, 1) := dk_6 (dk_at dksX2_newName_0 17 rfl rfl)
theorem dX2_newName_18 : decode cX2_newName 18 = .ok (.invokevirtual 45, 3) := dk_182 0 45 (dk_at dksX2_newName_0 18 rfl rfl)
theorem dX2_newName_21 : decode cX2_newName 21 = .ok (.athrow, 1) := dk_191 (dk_at dksX2_newName_0 21 rfl rfl)
theorem dX2_newName_22 : decode cX2_newName 22 = .ok (.aload_n 0, 1) := dk_42 (dk_at dksX2_newName_0 22 rfl rfl)
theorem dX2_newName_23 : decode cX2_newName 23 = .ok (.invokevirtual 42, 3) := dk_182 0 42 (dk_at dksX2_newName_1 0 rfl rfl)
theorem dX2_newName_26 : decode cX2_newName 26 = .ok (.lload_n 1, 1) := dk_31 (dk_at dksX2_newName_1 3 rfl rfl)
theorem dX2_newName_27 : decode cX2_newName 27 = .ok (.lreturn, 1) := dk_173 (dk_at dksX2_newName_1 4 rfl rfl)
abbrev cX2_aTrait : ByteArray := prog_7_method_13_code
def yX2_aTrait : MethodName := ⟨RX2, "aTrait", "(J)V"⟩
def dkwX2_aTrait_2 : List UInt8 := [89, 180, 0, 97, 4, 96, 181, 0, 97, 177]
abbrev dktX2_aTrait_2 : List UInt8 := dkwX2_aTrait_2 ++ []
def dkwX2_aTrait_1 : List UInt8 := [182, 0, 113, 79, 42, 180, 0, 59, 180, 0, 151, 42, 180, 0, 59, 180, 0, 97, 31, 80, 42, 180, 0, 59]
abbrev dktX2_aTrait_1 : List UInt8 := dkwX2_aTrait_1 ++ dktX2_aTrait_2
def dkwX2_aTrait_0 : List UInt8 := [42, 8, 182, 0, 145, 42, 180, 0, 59, 180, 0, 148, 42, 180, 0, 59, 180, 0, 97, 42, 3, 16, 99]
abbrev dktX2_aTrait_0 : List UInt8 := dkwX2_aTrait_0 ++ dktX2_aTrait_1
theorem dksX2_aTrait_0 : cX2_aTrait.data.toList.drop 0 = dktX2_aTrait_0 := by decide +kernel
theorem dksX2_aTrait_1 : cX2_aTrait.data.toList.drop 23 = dktX2_aTrait_1 := dk_seg dksX2_aTrait_0 23 rfl rfl
theorem dksX2_aTrait_2 : cX2_aTrait.data.toList.drop 47 = dktX2_aTrait_2 := dk_seg dksX2_aTrait_1 24 rfl rfl
theorem dX2_aTrait_0 : decode cX2_aTrait 0 = .ok (.aload_n 0, 1) := dk_42 (dk_at dksX2_aTrait_0 0 rfl rfl)
theorem dX2_aTrait_1 : decode cX2_aTrait 1 = .ok (.iconst 5, 1) := dk_8 (dk_at dksX2_aTrait_0 1 rfl rfl)
theorem dX2_aTrait_2 : decode cX2_aTrait 2 = .ok (.invokevirtual 145, 3) := dk_182 0 145 (dk_at dksX2_aTrait_0 2 rfl rfl)
theorem dX2_aTrait_5 : decode cX2_aTrait 5 = .ok (.aload_n 0, 1) := dk_42 (dk_at dksX2_aTrait_0 5 rfl rfl)
theorem dX2_aTrait_6 : decode cX2_aTrait 6 = .ok (.getfield 59, 3) := dk_180 0 59 (dk_at dksX2_aTrait_0 6 rfl rfl)
theorem dX2_aTrait_9 : decode cX2_aTrait 9 = .ok (.getfield 148, 3) := dk_180 0 148 (dk_at dksX2_aTrait_0 9 rfl rfl)
theorem dX2_aTrait_12 : decode cX2_aTrait 12 = .ok (.aload_n 0, 1) := dk_42 (dk_at dksX2_aTrait_0 12 rfl rfl)
theorem dX2_aTrait_13 : decode cX2_aTrait 13 = .ok (.getfield 59, 3) := dk_180 0 59 (dk_at dksX2_aTrait_0 13 rfl rfl)
theorem dX2_aTrait_16 : decode cX2_aTrait 16 = .ok (.getfield 97, 3) := dk_180 0 97 (dk_at dksX2_aTrait_0 16 rfl rfl)
theorem dX2_aTrait_19 : decode cX2_aTrait 19 = .ok (.aload_n 0, 1) := dk_42 (dk_at dksX2_aTrait_0 19 rfl rfl)
theorem dX2_aTrait_20 : decode cX2_aTrait 20 = .ok (.iconst 0, 1) := dk_3 (dk_at dksX2_aTrait_0 20 rfl rfl)
theorem dX2_aTrait_21 : decode cX2_aTrait 21 = .ok (.bipush 99, 2) := dk_16 99 (dk_at dksX2_aTrait_0 21 rfl rfl)
theorem dX2_aTrait_23 : decode cX2_aTrait 23 = .ok (.invokevirtual 113, 3) := dk_182 0 113 (dk_at dksX2_aTrait_1 0 rfl rfl)
theorem dX2_aTrait_26 : decode cX2_aTrait 26 = .ok (.iastore, 1) := dk_79 (dk_at dksX2_aTrait_1 3 rfl rfl)
theorem dX2_aTrait_27 : decode cX2_aTrait 27 = .ok (.aload_n 0, 1) := dk_42 (dk_at dksX2_aTrait_1 4 rfl rfl)
theorem dX2_aTrait_28 : decode cX2_aTrait 28 = .ok (.getfield 59, 3) := dk_180 0 59 (dk_at dksX2_aTrait_1 5 rfl rfl)
theorem dX2_aTrait_31 : decode cX2_aTrait 31 = .ok (.getfield 151, 3) := dk_180 0 151 (dk_at dksX2_aTrait_1 8 rfl rfl)
theorem dX2_aTrait_34 : decode cX2_aTrait 34 = .ok (.aload_n 0, 1) := dk_42 (dk_at dksX2_aTrait_1 11 rfl rfl)
theorem dX2_aTrait_35 : decode cX2_aTrait 35 = .ok (.getfield 59, 3) := dk_180 0 59 (dk_at dksX2_aTrait_1 12 rfl rfl)
theorem dX2_aTrait_38 : decode cX2_aTrait 38 = .ok (.getfield 97, 3) := dk_180 0 97 (dk_at dksX2_aTrait_1 15 rfl rfl)
theorem dX2_aTrait_41 : decode cX2_aTrait 41 = .ok (.lload_n 1, 1) := dk_31 (dk_at dksX2_aTrait_1 18 rfl rfl)
theorem dX2_aTrait_42 : decode cX2_aTrait 42 = .ok (.lastore, 1) := dk_80 (dk_at dksX2_aTrait_1 19 rfl rfl)
theorem dX2_aTrait_43 : decode cX2_aTrait 43 = .ok (.aload_n 0, 1) := dk_42 (dk_at dksX2_aTrait_1 20 rfl rfl)
theorem dX2_aTrait_44 : decode cX2_aTrait 44 = .ok (.getfield 59, 3) := dk_180 0 59 (dk_at dksX2_aTrait_1 21 rfl rfl)
theorem dX2_aTrait_47 : decode cX2_aTrait 47 = .ok (.dup, 1) := dk_89 (dk_at dksX2_aTrait_2 0 rfl rfl)
theorem dX2_aTrait_48 : decode cX2_aTrait 48 = .ok (.getfield 97, 3) := dk_180 0 97 (dk_at dksX2_aTrait_2 1 rfl rfl)
theorem dX2_aTrait_51 : decode cX2_aTrait 51 = .ok (.iconst 1, 1) := dk_4 (dk_at dksX2_aTrait_2 4 rfl rfl)
theorem dX2_aTrait_52 : decode cX2_aTrait 52 = .ok (.iadd, 1) := dk_96 (dk_at dksX2_aTrait_2 5 rfl rfl)
theorem dX2_aTrait_53 : decode cX2_aTrait 53 = .ok (.putfield 97, 3) := dk_181 0 97 (dk_at dksX2_aTrait_2 6 rfl rfl)
theorem dX2_aTrait_56 : decode cX2_aTrait 56 = .ok (.return_, 1) := dk_177 (dk_at dksX2_aTrait_2 9 rfl rfl)
abbrev cX2_word : ByteArray := prog_7_method_2_code
def yX2_word : MethodName := ⟨RX2, "word", "(I)V"⟩
def dkwX2_word_0 : List UInt8 := [42, 42, 182, 0, 34, 27, 160, 0, 7, 4, 167, 0, 4, 3, 182, 0, 38, 42, 182, 0, 42, 177]
abbrev dktX2_word_0 : List UInt8 := dkwX2_word_0 ++ []
theorem dksX2_word_0 : cX2_word.data.toList.drop 0 = dktX2_word_0 := by decide +kernel
theorem dX2_word_0 : decode cX2_word 0 = .ok (.aload_n 0, 1) := dk_42 (dk_at dksX2_word_0 0 rfl rfl)
theorem dX2_word_1 : decode cX2_word 1 = .ok (.aload_n 0, 1) := dk_42 (dk_at dksX2_word_0 1 rfl rfl)
theorem dX2_word_2 : decode cX2_word 2 = .ok (.invokevirtual 34, 3) := dk_182 0 34 (dk_at dksX2_word_0 2 rfl rfl)
theorem dX2_word_5 : decode cX2_word 5 = .ok (.iload_n 1, 1) := dk_27 (dk_at dksX2_word_0 5 rfl rfl)
theorem dX2_word_6 : decode cX2_word 6 = .ok (.if_icmp .ne 7, 3) := dk_160 0 7 (dk_at dksX2_word_0 6 rfl rfl)
theorem dX2_word_9 : decode cX2_word 9 = .ok (.iconst 1, 1) := dk_4 (dk_at dksX2_word_0 9 rfl rfl)
theorem dX2_word_10 : decode cX2_word 10 = .ok (.goto 4, 3) := dk_167 0 4 (dk_at dksX2_word_0 10 rfl rfl)
theorem dX2_word_13 : decode cX2_word 13 = .ok (.iconst 0, 1) := dk_3 (dk_at dksX2_word_0 13 rfl rfl)
theorem dX2_word_14 : decode cX2_word 14 = .ok (.invokevirtual 38, 3) := dk_182 0 38 (dk_at dksX2_word_0 14 rfl rfl)
theorem dX2_word_17 : decode cX2_word 17 = .ok (.aload_n 0, 1) := dk_42 (dk_at dksX2_word_0 17 rfl rfl)
theorem dX2_word_18 : decode cX2_word 18 = .ok (.invokevirtual 42, 3) := dk_182 0 42 (dk_at dksX2_word_0 18 rfl rfl)
theorem dX2_word_21 : decode cX2_word 21 = .ok (.return_, 1) := dk_177 (dk_at dksX2_word_0 21 rfl rfl)
abbrev cX2_aPerson : ByteArray := prog_7_method_14_code
def yX2_aPerson : MethodName := ⟨RX2, "aPerson", "(LTinFen$Person;)V"⟩
def dkwX2_aPerson_4 : List UInt8 := [96, 181, 0, 100, 177]
abbrev dktX2_aPerson_4 : List UInt8 := dkwX2_aPerson_4 ++ []
def dkwX2_aPerson_3 : List UInt8 := [180, 0, 59, 180, 0, 171, 42, 180, 0, 59, 180, 0, 100, 43, 83, 42, 180, 0, 59, 89, 180, 0, 100, 4]
abbrev dktX2_aPerson_3 : List UInt8 := dkwX2_aPerson_3 ++ dktX2_aPerson_4
def dkwX2_aPerson_2 : List UInt8 := [182, 0, 45, 191, 43, 89, 180, 0, 162, 4, 42, 182, 0, 169, 120, 128, 181, 0, 162, 167, 255, 200, 42]
abbrev dktX2_aPerson_2 : List UInt8 := dkwX2_aPerson_2 ++ dktX2_aPerson_3
def dkwX2_aPerson_1 : List UInt8 := [182, 0, 67, 61, 28, 2, 159, 0, 20, 43, 180, 0, 162, 28, 184, 0, 165, 153, 0, 9, 42, 8]
abbrev dktX2_aPerson_1 : List UInt8 := dkwX2_aPerson_1 ++ dktX2_aPerson_2
def dkwX2_aPerson_0 : List UInt8 := [42, 16, 6, 182, 0, 155, 153, 0, 62, 42, 182, 0, 158, 153, 0, 55, 42, 180, 0, 59, 42, 182, 0, 63]
abbrev dktX2_aPerson_0 : List UInt8 := dkwX2_aPerson_0 ++ dktX2_aPerson_1
theorem dksX2_aPerson_0 : cX2_aPerson.data.toList.drop 0 = dktX2_aPerson_0 := by decide +kernel
theorem dksX2_aPerson_1 : cX2_aPerson.data.toList.drop 24 = dktX2_aPerson_1 := dk_seg dksX2_aPerson_0 24 rfl rfl
theorem dksX2_aPerson_2 : cX2_aPerson.data.toList.drop 46 = dktX2_aPerson_2 := dk_seg dksX2_aPerson_1 22 rfl rfl
theorem dksX2_aPerson_3 : cX2_aPerson.data.toList.drop 69 = dktX2_aPerson_3 := dk_seg dksX2_aPerson_2 23 rfl rfl
theorem dksX2_aPerson_4 : cX2_aPerson.data.toList.drop 93 = dktX2_aPerson_4 := dk_seg dksX2_aPerson_3 24 rfl rfl
theorem dX2_aPerson_0 : decode cX2_aPerson 0 = .ok (.aload_n 0, 1) := dk_42 (dk_at dksX2_aPerson_0 0 rfl rfl)
theorem dX2_aPerson_1 : decode cX2_aPerson 1 = .ok (.bipush 6, 2) := dk_16 6 (dk_at dksX2_aPerson_0 1 rfl rfl)
theorem dX2_aPerson_3 : decode cX2_aPerson 3 = .ok (.invokevirtual 155, 3) := dk_182 0 155 (dk_at dksX2_aPerson_0 3 rfl rfl)
theorem dX2_aPerson_6 : decode cX2_aPerson 6 = .ok (.ifCond .eq 62, 3) := dk_153 0 62 (dk_at dksX2_aPerson_0 6 rfl rfl)
theorem dX2_aPerson_9 : decode cX2_aPerson 9 = .ok (.aload_n 0, 1) := dk_42 (dk_at dksX2_aPerson_0 9 rfl rfl)
theorem dX2_aPerson_10 : decode cX2_aPerson 10 = .ok (.invokevirtual 158, 3) := dk_182 0 158 (dk_at dksX2_aPerson_0 10 rfl rfl)
theorem dX2_aPerson_13 : decode cX2_aPerson 13 = .ok (.ifCond .eq 55, 3) := dk_153 0 55 (dk_at dksX2_aPerson_0 13 rfl rfl)
theorem dX2_aPerson_16 : decode cX2_aPerson 16 = .ok (.aload_n 0, 1) := dk_42 (dk_at dksX2_aPerson_0 16 rfl rfl)
theorem dX2_aPerson_17 : decode cX2_aPerson 17 = .ok (.getfield 59, 3) := dk_180 0 59 (dk_at dksX2_aPerson_0 17 rfl rfl)
theorem dX2_aPerson_20 : decode cX2_aPerson 20 = .ok (.aload_n 0, 1) := dk_42 (dk_at dksX2_aPerson_0 20 rfl rfl)
theorem dX2_aPerson_21 : decode cX2_aPerson 21 = .ok (.invokevirtual 63, 3) := dk_182 0 63 (dk_at dksX2_aPerson_0 21 rfl rfl)
theorem dX2_aPerson_24 : decode cX2_aPerson 24 = .ok (.invokevirtual 67, 3) := dk_182 0 67 (dk_at dksX2_aPerson_1 0 rfl rfl)
theorem dX2_aPerson_27 : decode cX2_aPerson 27 = .ok (.istore_n 2, 1) := dk_61 (dk_at dksX2_aPerson_1 3 rfl rfl)
theorem dX2_aPerson_28 : decode cX2_aPerson 28 = .ok (.iload_n 2, 1) := dk_28 (dk_at dksX2_aPerson_1 4 rfl rfl)
theorem dX2_aPerson_29 : decode cX2_aPerson 29 = .ok (.iconst (-1), 1) := dk_2 (dk_at dksX2_aPerson_1 5 rfl rfl)
theorem dX2_aPerson_30 : decode cX2_aPerson 30 = .ok (.if_icmp .eq 20, 3) := dk_159 0 20 (dk_at dksX2_aPerson_1 6 rfl rfl)
theorem dX2_aPerson_33 : decode cX2_aPerson 33 = .ok (.aload_n 1, 1) := dk_43 (dk_at dksX2_aPerson_1 9 rfl rfl)
theorem dX2_aPerson_34 : decode cX2_aPerson 34 = .ok (.getfield 162, 3) := dk_180 0 162 (dk_at dksX2_aPerson_1 10 rfl rfl)
theorem dX2_aPerson_37 : decode cX2_aPerson 37 = .ok (.iload_n 2, 1) := dk_28 (dk_at dksX2_aPerson_1 13 rfl rfl)
theorem dX2_aPerson_38 : decode cX2_aPerson 38 = .ok (.invokestatic 165, 3) := dk_184 0 165 (dk_at dksX2_aPerson_1 14 rfl rfl)
theorem dX2_aPerson_41 : decode cX2_aPerson 41 = .ok (.ifCond .eq 9, 3) := dk_153 0 9 (dk_at dksX2_aPerson_1 17 rfl rfl)
theorem dX2_aPerson_44 : decode cX2_aPerson 44 = .ok (.aload_n 0, 1) := dk_42 (dk_at dksX2_aPerson_1 20 rfl rfl)
theorem dX2_aPerson_45 : decode cX2_aPerson 45 = .ok (.iconst 5, 1) := dk_8 (dk_at dksX2_aPerson_1 21 rfl rfl)
theorem dX2_aPerson_46 : decode cX2_aPerson 46 = .ok (.invokevirtual 45, 3) := dk_182 0 45 (dk_at dksX2_aPerson_2 0 rfl rfl)
theorem dX2_aPerson_49 : decode cX2_aPerson 49 = .ok (.athrow, 1) := dk_191 (dk_at dksX2_aPerson_2 3 rfl rfl)
theorem dX2_aPerson_50 : decode cX2_aPerson 50 = .ok (.aload_n 1, 1) := dk_43 (dk_at dksX2_aPerson_2 4 rfl rfl)
theorem dX2_aPerson_51 : decode cX2_aPerson 51 = .ok (.dup, 1) := dk_89 (dk_at dksX2_aPerson_2 5 rfl rfl)
theorem dX2_aPerson_52 : decode cX2_aPerson 52 = .ok (.getfield 162, 3) := dk_180 0 162 (dk_at dksX2_aPerson_2 6 rfl rfl)
theorem dX2_aPerson_55 : decode cX2_aPerson 55 = .ok (.iconst 1, 1) := dk_4 (dk_at dksX2_aPerson_2 9 rfl rfl)
theorem dX2_aPerson_56 : decode cX2_aPerson 56 = .ok (.aload_n 0, 1) := dk_42 (dk_at dksX2_aPerson_2 10 rfl rfl)
theorem dX2_aPerson_57 : decode cX2_aPerson 57 = .ok (.invokevirtual 169, 3) := dk_182 0 169 (dk_at dksX2_aPerson_2 11 rfl rfl)
theorem dX2_aPerson_60 : decode cX2_aPerson 60 = .ok (.ishl, 1) := dk_120 (dk_at dksX2_aPerson_2 14 rfl rfl)
theorem dX2_aPerson_61 : decode cX2_aPerson 61 = .ok (.ior, 1) := dk_128 (dk_at dksX2_aPerson_2 15 rfl rfl)
theorem dX2_aPerson_62 : decode cX2_aPerson 62 = .ok (.putfield 162, 3) := dk_181 0 162 (dk_at dksX2_aPerson_2 16 rfl rfl)
theorem dX2_aPerson_65 : decode cX2_aPerson 65 = .ok (.goto (-56), 3) := dk_167 255 200 (dk_at dksX2_aPerson_2 19 rfl rfl)
theorem dX2_aPerson_68 : decode cX2_aPerson 68 = .ok (.aload_n 0, 1) := dk_42 (dk_at dksX2_aPerson_2 22 rfl rfl)
theorem dX2_aPerson_69 : decode cX2_aPerson 69 = .ok (.getfield 59, 3) := dk_180 0 59 (dk_at dksX2_aPerson_3 0 rfl rfl)
theorem dX2_aPerson_72 : decode cX2_aPerson 72 = .ok (.getfield 171, 3) := dk_180 0 171 (dk_at dksX2_aPerson_3 3 rfl rfl)
theorem dX2_aPerson_75 : decode cX2_aPerson 75 = .ok (.aload_n 0, 1) := dk_42 (dk_at dksX2_aPerson_3 6 rfl rfl)
theorem dX2_aPerson_76 : decode cX2_aPerson 76 = .ok (.getfield 59, 3) := dk_180 0 59 (dk_at dksX2_aPerson_3 7 rfl rfl)
theorem dX2_aPerson_79 : decode cX2_aPerson 79 = .ok (.getfield 100, 3) := dk_180 0 100 (dk_at dksX2_aPerson_3 10 rfl rfl)
theorem dX2_aPerson_82 : decode cX2_aPerson 82 = .ok (.aload_n 1, 1) := dk_43 (dk_at dksX2_aPerson_3 13 rfl rfl)
theorem dX2_aPerson_83 : decode cX2_aPerson 83 = .ok (.aastore, 1) := dk_83 (dk_at dksX2_aPerson_3 14 rfl rfl)
theorem dX2_aPerson_84 : decode cX2_aPerson 84 = .ok (.aload_n 0, 1) := dk_42 (dk_at dksX2_aPerson_3 15 rfl rfl)
theorem dX2_aPerson_85 : decode cX2_aPerson 85 = .ok (.getfield 59, 3) := dk_180 0 59 (dk_at dksX2_aPerson_3 16 rfl rfl)
theorem dX2_aPerson_88 : decode cX2_aPerson 88 = .ok (.dup, 1) := dk_89 (dk_at dksX2_aPerson_3 19 rfl rfl)
theorem dX2_aPerson_89 : decode cX2_aPerson 89 = .ok (.getfield 100, 3) := dk_180 0 100 (dk_at dksX2_aPerson_3 20 rfl rfl)
theorem dX2_aPerson_92 : decode cX2_aPerson 92 = .ok (.iconst 1, 1) := dk_4 (dk_at dksX2_aPerson_3 23 rfl rfl)
theorem dX2_aPerson_93 : decode cX2_aPerson 93 = .ok (.iadd, 1) := dk_96 (dk_at dksX2_aPerson_4 0 rfl rfl)
theorem dX2_aPerson_94 : decode cX2_aPerson 94 = .ok (.putfield 100, 3) := dk_181 0 100 (dk_at dksX2_aPerson_4 1 rfl rfl)
theorem dX2_aPerson_97 : decode cX2_aPerson 97 = .ok (.return_, 1) := dk_177 (dk_at dksX2_aPerson_4 4 rfl rfl)
abbrev cX2_isNext : ByteArray := prog_7_method_4_code
def yX2_isNext : MethodName := ⟨RX2, "isNext", "(I)Z"⟩
def dkwX2_isNext_0 : List UInt8 := [42, 182, 0, 34, 27, 159, 0, 5, 3, 172, 42, 182, 0, 42, 4, 172]
abbrev dktX2_isNext_0 : List UInt8 := dkwX2_isNext_0 ++ []
theorem dksX2_isNext_0 : cX2_isNext.data.toList.drop 0 = dktX2_isNext_0 := by decide +kernel
theorem dX2_isNext_0 : decode cX2_isNext 0 = .ok (.aload_n 0, 1) := dk_42 (dk_at dksX2_isNext_0 0 rfl rfl)
theorem dX2_isNext_1 : decode cX2_isNext 1 = .ok (.invokevirtual 34, 3) := dk_182 0 34 (dk_at dksX2_isNext_0 1 rfl rfl)
theorem dX2_isNext_4 : decode cX2_isNext 4 = .ok (.iload_n 1, 1) := dk_27 (dk_at dksX2_isNext_0 4 rfl rfl)
theorem dX2_isNext_5 : decode cX2_isNext 5 = .ok (.if_icmp .eq 5, 3) := dk_159 0 5 (dk_at dksX2_isNext_0 5 rfl rfl)
theorem dX2_isNext_8 : decode cX2_isNext 8 = .ok (.iconst 0, 1) := dk_3 (dk_at dksX2_isNext_0 8 rfl rfl)
theorem dX2_isNext_9 : decode cX2_isNext 9 = .ok (.ireturn, 1) := dk_172 (dk_at dksX2_isNext_0 9 rfl rfl)
theorem dX2_isNext_10 : decode cX2_isNext 10 = .ok (.aload_n 0, 1) := dk_42 (dk_at dksX2_isNext_0 10 rfl rfl)
theorem dX2_isNext_11 : decode cX2_isNext 11 = .ok (.invokevirtual 42, 3) := dk_182 0 42 (dk_at dksX2_isNext_0 11 rfl rfl)
theorem dX2_isNext_14 : decode cX2_isNext 14 = .ok (.iconst 1, 1) := dk_4 (dk_at dksX2_isNext_0 14 rfl rfl)
theorem dX2_isNext_15 : decode cX2_isNext 15 = .ok (.ireturn, 1) := dk_172 (dk_at dksX2_isNext_0 15 rfl rfl)
abbrev cX2_isName : ByteArray := prog_7_method_5_code
def yX2_isName : MethodName := ⟨RX2, "isName", "()Z"⟩
def dkwX2_isName_1 : List UInt8 := [182, 0, 34, 2, 160, 0, 7, 4, 167, 0, 4, 3, 172]
abbrev dktX2_isName_1 : List UInt8 := dkwX2_isName_1 ++ []
def dkwX2_isName_0 : List UInt8 := [42, 180, 0, 49, 5, 160, 0, 29, 42, 180, 0, 53, 42, 180, 0, 56, 100, 16, 8, 163, 0, 15, 42]
abbrev dktX2_isName_0 : List UInt8 := dkwX2_isName_0 ++ dktX2_isName_1
theorem dksX2_isName_0 : cX2_isName.data.toList.drop 0 = dktX2_isName_0 := by decide +kernel
theorem dksX2_isName_1 : cX2_isName.data.toList.drop 23 = dktX2_isName_1 := dk_seg dksX2_isName_0 23 rfl rfl
theorem dX2_isName_0 : decode cX2_isName 0 = .ok (.aload_n 0, 1) := dk_42 (dk_at dksX2_isName_0 0 rfl rfl)
theorem dX2_isName_1 : decode cX2_isName 1 = .ok (.getfield 49, 3) := dk_180 0 49 (dk_at dksX2_isName_0 1 rfl rfl)
theorem dX2_isName_4 : decode cX2_isName 4 = .ok (.iconst 2, 1) := dk_5 (dk_at dksX2_isName_0 4 rfl rfl)
theorem dX2_isName_5 : decode cX2_isName 5 = .ok (.if_icmp .ne 29, 3) := dk_160 0 29 (dk_at dksX2_isName_0 5 rfl rfl)
theorem dX2_isName_8 : decode cX2_isName 8 = .ok (.aload_n 0, 1) := dk_42 (dk_at dksX2_isName_0 8 rfl rfl)
theorem dX2_isName_9 : decode cX2_isName 9 = .ok (.getfield 53, 3) := dk_180 0 53 (dk_at dksX2_isName_0 9 rfl rfl)
theorem dX2_isName_12 : decode cX2_isName 12 = .ok (.aload_n 0, 1) := dk_42 (dk_at dksX2_isName_0 12 rfl rfl)
theorem dX2_isName_13 : decode cX2_isName 13 = .ok (.getfield 56, 3) := dk_180 0 56 (dk_at dksX2_isName_0 13 rfl rfl)
theorem dX2_isName_16 : decode cX2_isName 16 = .ok (.isub, 1) := dk_100 (dk_at dksX2_isName_0 16 rfl rfl)
theorem dX2_isName_17 : decode cX2_isName 17 = .ok (.bipush 8, 2) := dk_16 8 (dk_at dksX2_isName_0 17 rfl rfl)
theorem dX2_isName_19 : decode cX2_isName 19 = .ok (.if_icmp .gt 15, 3) := dk_163 0 15 (dk_at dksX2_isName_0 19 rfl rfl)
theorem dX2_isName_22 : decode cX2_isName 22 = .ok (.aload_n 0, 1) := dk_42 (dk_at dksX2_isName_0 22 rfl rfl)
theorem dX2_isName_23 : decode cX2_isName 23 = .ok (.invokevirtual 34, 3) := dk_182 0 34 (dk_at dksX2_isName_1 0 rfl rfl)
theorem dX2_isName_26 : decode cX2_isName 26 = .ok (.iconst (-1), 1) := dk_2 (dk_at dksX2_isName_1 3 rfl rfl)
theorem dX2_isName_27 : decode cX2_isName 27 = .ok (.if_icmp .ne 7, 3) := dk_160 0 7 (dk_at dksX2_isName_1 4 rfl rfl)
theorem dX2_isName_30 : decode cX2_isName 30 = .ok (.iconst 1, 1) := dk_4 (dk_at dksX2_isName_1 7 rfl rfl)
theorem dX2_isName_31 : decode cX2_isName 31 = .ok (.goto 4, 3) := dk_167 0 4 (dk_at dksX2_isName_1 8 rfl rfl)
theorem dX2_isName_34 : decode cX2_isName 34 = .ok (.iconst 0, 1) := dk_3 (dk_at dksX2_isName_1 11 rfl rfl)
theorem dX2_isName_35 : decode cX2_isName 35 = .ok (.ireturn, 1) := dk_172 (dk_at dksX2_isName_1 12 rfl rfl)
abbrev cX2_trait : ByteArray := prog_7_method_6_code
def yX2_trait : MethodName := ⟨RX2, "trait", "()I"⟩
def dkwX2_trait_0 : List UInt8 := [42, 42, 180, 0, 59, 42, 182, 0, 63, 182, 0, 67, 182, 0, 73, 172]
abbrev dktX2_trait_0 : List UInt8 := dkwX2_trait_0 ++ []
theorem dksX2_trait_0 : cX2_trait.data.toList.drop 0 = dktX2_trait_0 := by decide +kernel
theorem dX2_trait_0 : decode cX2_trait 0 = .ok (.aload_n 0, 1) := dk_42 (dk_at dksX2_trait_0 0 rfl rfl)
theorem dX2_trait_1 : decode cX2_trait 1 = .ok (.aload_n 0, 1) := dk_42 (dk_at dksX2_trait_0 1 rfl rfl)
theorem dX2_trait_2 : decode cX2_trait 2 = .ok (.getfield 59, 3) := dk_180 0 59 (dk_at dksX2_trait_0 2 rfl rfl)
theorem dX2_trait_5 : decode cX2_trait 5 = .ok (.aload_n 0, 1) := dk_42 (dk_at dksX2_trait_0 5 rfl rfl)
theorem dX2_trait_6 : decode cX2_trait 6 = .ok (.invokevirtual 63, 3) := dk_182 0 63 (dk_at dksX2_trait_0 6 rfl rfl)
theorem dX2_trait_9 : decode cX2_trait 9 = .ok (.invokevirtual 67, 3) := dk_182 0 67 (dk_at dksX2_trait_0 9 rfl rfl)
theorem dX2_trait_12 : decode cX2_trait 12 = .ok (.invokevirtual 73, 3) := dk_182 0 73 (dk_at dksX2_trait_0 12 rfl rfl)
theorem dX2_trait_15 : decode cX2_trait 15 = .ok (.ireturn, 1) := dk_172 (dk_at dksX2_trait_0 15 rfl rfl)
abbrev cX2_known : ByteArray := prog_7_method_3_code
def yX2_known : MethodName := ⟨RX2, "known", "(I)I"⟩
def dkwX2_known_0 : List UInt8 := [27, 2, 160, 0, 9, 42, 6, 182, 0, 45, 191, 42, 182, 0, 42, 27, 172]
abbrev dktX2_known_0 : List UInt8 := dkwX2_known_0 ++ []
theorem dksX2_known_0 : cX2_known.data.toList.drop 0 = dktX2_known_0 := by decide +kernel
theorem dX2_known_0 : decode cX2_known 0 = .ok (.iload_n 1, 1) := dk_27 (dk_at dksX2_known_0 0 rfl rfl)
theorem dX2_known_1 : decode cX2_known 1 = .ok (.iconst (-1), 1) := dk_2 (dk_at dksX2_known_0 1 rfl rfl)
theorem dX2_known_2 : decode cX2_known 2 = .ok (.if_icmp .ne 9, 3) := dk_160 0 9 (dk_at dksX2_known_0 2 rfl rfl)
theorem dX2_known_5 : decode cX2_known 5 = .ok (.aload_n 0, 1) := dk_42 (dk_at dksX2_known_0 5 rfl rfl)
theorem dX2_known_6 : decode cX2_known 6 = .ok (.iconst 3, 1) := dk_6 (dk_at dksX2_known_0 6 rfl rfl)
theorem dX2_known_7 : decode cX2_known 7 = .ok (.invokevirtual 45, 3) := dk_182 0 45 (dk_at dksX2_known_0 7 rfl rfl)
theorem dX2_known_10 : decode cX2_known 10 = .ok (.athrow, 1) := dk_191 (dk_at dksX2_known_0 10 rfl rfl)
theorem dX2_known_11 : decode cX2_known 11 = .ok (.aload_n 0, 1) := dk_42 (dk_at dksX2_known_0 11 rfl rfl)
theorem dX2_known_12 : decode cX2_known 12 = .ok (.invokevirtual 42, 3) := dk_182 0 42 (dk_at dksX2_known_0 12 rfl rfl)
theorem dX2_known_15 : decode cX2_known 15 = .ok (.iload_n 1, 1) := dk_27 (dk_at dksX2_known_0 15 rfl rfl)
theorem dX2_known_16 : decode cX2_known 16 = .ok (.ireturn, 1) := dk_172 (dk_at dksX2_known_0 16 rfl rfl)
abbrev cX2_aLane : ByteArray := prog_7_method_15_code
def yX2_aLane : MethodName := ⟨RX2, "aLane", "()V"⟩
def dkwX2_aLane_1 : List UInt8 := [182, 0, 45, 191, 42, 180, 0, 59, 27, 42, 182, 0, 175, 182, 0, 177, 177]
abbrev dktX2_aLane_1 : List UInt8 := dkwX2_aLane_1 ++ []
def dkwX2_aLane_0 : List UInt8 := [42, 182, 0, 175, 60, 42, 180, 0, 59, 42, 182, 0, 63, 182, 0, 77, 27, 160, 0, 9, 42, 8]
abbrev dktX2_aLane_0 : List UInt8 := dkwX2_aLane_0 ++ dktX2_aLane_1
theorem dksX2_aLane_0 : cX2_aLane.data.toList.drop 0 = dktX2_aLane_0 := by decide +kernel
theorem dksX2_aLane_1 : cX2_aLane.data.toList.drop 22 = dktX2_aLane_1 := dk_seg dksX2_aLane_0 22 rfl rfl
theorem dX2_aLane_0 : decode cX2_aLane 0 = .ok (.aload_n 0, 1) := dk_42 (dk_at dksX2_aLane_0 0 rfl rfl)
theorem dX2_aLane_1 : decode cX2_aLane 1 = .ok (.invokevirtual 175, 3) := dk_182 0 175 (dk_at dksX2_aLane_0 1 rfl rfl)
theorem dX2_aLane_4 : decode cX2_aLane 4 = .ok (.istore_n 1, 1) := dk_60 (dk_at dksX2_aLane_0 4 rfl rfl)
theorem dX2_aLane_5 : decode cX2_aLane 5 = .ok (.aload_n 0, 1) := dk_42 (dk_at dksX2_aLane_0 5 rfl rfl)
theorem dX2_aLane_6 : decode cX2_aLane 6 = .ok (.getfield 59, 3) := dk_180 0 59 (dk_at dksX2_aLane_0 6 rfl rfl)
theorem dX2_aLane_9 : decode cX2_aLane 9 = .ok (.aload_n 0, 1) := dk_42 (dk_at dksX2_aLane_0 9 rfl rfl)
theorem dX2_aLane_10 : decode cX2_aLane 10 = .ok (.invokevirtual 63, 3) := dk_182 0 63 (dk_at dksX2_aLane_0 10 rfl rfl)
theorem dX2_aLane_13 : decode cX2_aLane 13 = .ok (.invokevirtual 77, 3) := dk_182 0 77 (dk_at dksX2_aLane_0 13 rfl rfl)
theorem dX2_aLane_16 : decode cX2_aLane 16 = .ok (.iload_n 1, 1) := dk_27 (dk_at dksX2_aLane_0 16 rfl rfl)
theorem dX2_aLane_17 : decode cX2_aLane 17 = .ok (.if_icmp .ne 9, 3) := dk_160 0 9 (dk_at dksX2_aLane_0 17 rfl rfl)
theorem dX2_aLane_20 : decode cX2_aLane 20 = .ok (.aload_n 0, 1) := dk_42 (dk_at dksX2_aLane_0 20 rfl rfl)
theorem dX2_aLane_21 : decode cX2_aLane 21 = .ok (.iconst 5, 1) := dk_8 (dk_at dksX2_aLane_0 21 rfl rfl)
theorem dX2_aLane_22 : decode cX2_aLane 22 = .ok (.invokevirtual 45, 3) := dk_182 0 45 (dk_at dksX2_aLane_1 0 rfl rfl)
theorem dX2_aLane_25 : decode cX2_aLane 25 = .ok (.athrow, 1) := dk_191 (dk_at dksX2_aLane_1 3 rfl rfl)
theorem dX2_aLane_26 : decode cX2_aLane 26 = .ok (.aload_n 0, 1) := dk_42 (dk_at dksX2_aLane_1 4 rfl rfl)
theorem dX2_aLane_27 : decode cX2_aLane 27 = .ok (.getfield 59, 3) := dk_180 0 59 (dk_at dksX2_aLane_1 5 rfl rfl)
theorem dX2_aLane_30 : decode cX2_aLane 30 = .ok (.iload_n 1, 1) := dk_27 (dk_at dksX2_aLane_1 8 rfl rfl)
theorem dX2_aLane_31 : decode cX2_aLane 31 = .ok (.aload_n 0, 1) := dk_42 (dk_at dksX2_aLane_1 9 rfl rfl)
theorem dX2_aLane_32 : decode cX2_aLane 32 = .ok (.invokevirtual 175, 3) := dk_182 0 175 (dk_at dksX2_aLane_1 10 rfl rfl)
theorem dX2_aLane_35 : decode cX2_aLane 35 = .ok (.invokevirtual 177, 3) := dk_182 0 177 (dk_at dksX2_aLane_1 13 rfl rfl)
theorem dX2_aLane_38 : decode cX2_aLane 38 = .ok (.return_, 1) := dk_177 (dk_at dksX2_aLane_1 16 rfl rfl)
abbrev cX2_person : ByteArray := prog_7_method_7_code
def yX2_person : MethodName := ⟨RX2, "person", "()I"⟩
def dkwX2_person_0 : List UInt8 := [42, 42, 180, 0, 59, 42, 182, 0, 63, 182, 0, 77, 182, 0, 73, 172]
abbrev dktX2_person_0 : List UInt8 := dkwX2_person_0 ++ []
theorem dksX2_person_0 : cX2_person.data.toList.drop 0 = dktX2_person_0 := by decide +kernel
theorem dX2_person_0 : decode cX2_person 0 = .ok (.aload_n 0, 1) := dk_42 (dk_at dksX2_person_0 0 rfl rfl)
theorem dX2_person_1 : decode cX2_person 1 = .ok (.aload_n 0, 1) := dk_42 (dk_at dksX2_person_0 1 rfl rfl)
theorem dX2_person_2 : decode cX2_person 2 = .ok (.getfield 59, 3) := dk_180 0 59 (dk_at dksX2_person_0 2 rfl rfl)
theorem dX2_person_5 : decode cX2_person 5 = .ok (.aload_n 0, 1) := dk_42 (dk_at dksX2_person_0 5 rfl rfl)
theorem dX2_person_6 : decode cX2_person 6 = .ok (.invokevirtual 63, 3) := dk_182 0 63 (dk_at dksX2_person_0 6 rfl rfl)
theorem dX2_person_9 : decode cX2_person 9 = .ok (.invokevirtual 77, 3) := dk_182 0 77 (dk_at dksX2_person_0 9 rfl rfl)
theorem dX2_person_12 : decode cX2_person 12 = .ok (.invokevirtual 73, 3) := dk_182 0 73 (dk_at dksX2_person_0 12 rfl rfl)
theorem dX2_person_15 : decode cX2_person 15 = .ok (.ireturn, 1) := dk_172 (dk_at dksX2_person_0 15 rfl rfl)
abbrev cX2_aTin : ByteArray := prog_7_method_16_code
def yX2_aTin : MethodName := ⟨RX2, "aTin", "(J)V"⟩
def dkwX2_aTin_2 : List UInt8 := [42, 180, 0, 18, 183, 0, 183, 29, 21, 4, 182, 0, 186, 87, 177]
abbrev dktX2_aTin_2 : List UInt8 := dkwX2_aTin_2 ++ []
def dkwX2_aTin_1 : List UInt8 := [180, 0, 59, 187, 0, 181, 89, 31, 42, 16, 9, 182, 0, 155, 153, 0, 10, 42, 180, 0, 27, 167, 0, 7]
abbrev dktX2_aTin_1 : List UInt8 := dkwX2_aTin_1 ++ dktX2_aTin_2
def dkwX2_aTin_0 : List UInt8 := [42, 16, 7, 182, 0, 145, 42, 182, 0, 169, 62, 42, 16, 8, 182, 0, 145, 42, 182, 0, 175, 54, 4, 42]
abbrev dktX2_aTin_0 : List UInt8 := dkwX2_aTin_0 ++ dktX2_aTin_1
theorem dksX2_aTin_0 : cX2_aTin.data.toList.drop 0 = dktX2_aTin_0 := by decide +kernel
theorem dksX2_aTin_1 : cX2_aTin.data.toList.drop 24 = dktX2_aTin_1 := dk_seg dksX2_aTin_0 24 rfl rfl
theorem dksX2_aTin_2 : cX2_aTin.data.toList.drop 48 = dktX2_aTin_2 := dk_seg dksX2_aTin_1 24 rfl rfl
theorem dX2_aTin_0 : decode cX2_aTin 0 = .ok (.aload_n 0, 1) := dk_42 (dk_at dksX2_aTin_0 0 rfl rfl)
theorem dX2_aTin_1 : decode cX2_aTin 1 = .ok (.bipush 7, 2) := dk_16 7 (dk_at dksX2_aTin_0 1 rfl rfl)
theorem dX2_aTin_3 : decode cX2_aTin 3 = .ok (.invokevirtual 145, 3) := dk_182 0 145 (dk_at dksX2_aTin_0 3 rfl rfl)
theorem dX2_aTin_6 : decode cX2_aTin 6 = .ok (.aload_n 0, 1) := dk_42 (dk_at dksX2_aTin_0 6 rfl rfl)
theorem dX2_aTin_7 : decode cX2_aTin 7 = .ok (.invokevirtual 169, 3) := dk_182 0 169 (dk_at dksX2_aTin_0 7 rfl rfl)
theorem dX2_aTin_10 : decode cX2_aTin 10 = .ok (.istore_n 3, 1) := dk_62 (dk_at dksX2_aTin_0 10 rfl rfl)
theorem dX2_aTin_11 : decode cX2_aTin 11 = .ok (.aload_n 0, 1) := dk_42 (dk_at dksX2_aTin_0 11 rfl rfl)
theorem dX2_aTin_12 : decode cX2_aTin 12 = .ok (.bipush 8, 2) := dk_16 8 (dk_at dksX2_aTin_0 12 rfl rfl)
theorem dX2_aTin_14 : decode cX2_aTin 14 = .ok (.invokevirtual 145, 3) := dk_182 0 145 (dk_at dksX2_aTin_0 14 rfl rfl)
theorem dX2_aTin_17 : decode cX2_aTin 17 = .ok (.aload_n 0, 1) := dk_42 (dk_at dksX2_aTin_0 17 rfl rfl)
theorem dX2_aTin_18 : decode cX2_aTin 18 = .ok (.invokevirtual 175, 3) := dk_182 0 175 (dk_at dksX2_aTin_0 18 rfl rfl)
theorem dX2_aTin_21 : decode cX2_aTin 21 = .ok (.istore 4, 2) := dk_54 4 (dk_at dksX2_aTin_0 21 rfl rfl)
theorem dX2_aTin_23 : decode cX2_aTin 23 = .ok (.aload_n 0, 1) := dk_42 (dk_at dksX2_aTin_0 23 rfl rfl)
theorem dX2_aTin_24 : decode cX2_aTin 24 = .ok (.getfield 59, 3) := dk_180 0 59 (dk_at dksX2_aTin_1 0 rfl rfl)
theorem dX2_aTin_27 : decode cX2_aTin 27 = .ok (.new 181, 3) := dk_187 0 181 (dk_at dksX2_aTin_1 3 rfl rfl)
theorem dX2_aTin_30 : decode cX2_aTin 30 = .ok (.dup, 1) := dk_89 (dk_at dksX2_aTin_1 6 rfl rfl)
theorem dX2_aTin_31 : decode cX2_aTin 31 = .ok (.lload_n 1, 1) := dk_31 (dk_at dksX2_aTin_1 7 rfl rfl)
theorem dX2_aTin_32 : decode cX2_aTin 32 = .ok (.aload_n 0, 1) := dk_42 (dk_at dksX2_aTin_1 8 rfl rfl)
theorem dX2_aTin_33 : decode cX2_aTin 33 = .ok (.bipush 9, 2) := dk_16 9 (dk_at dksX2_aTin_1 9 rfl rfl)
theorem dX2_aTin_35 : decode cX2_aTin 35 = .ok (.invokevirtual 155, 3) := dk_182 0 155 (dk_at dksX2_aTin_1 11 rfl rfl)
theorem dX2_aTin_38 : decode cX2_aTin 38 = .ok (.ifCond .eq 10, 3) := dk_153 0 10 (dk_at dksX2_aTin_1 14 rfl rfl)
theorem dX2_aTin_41 : decode cX2_aTin 41 = .ok (.aload_n 0, 1) := dk_42 (dk_at dksX2_aTin_1 17 rfl rfl)
theorem dX2_aTin_42 : decode cX2_aTin 42 = .ok (.getfield 27, 3) := dk_180 0 27 (dk_at dksX2_aTin_1 18 rfl rfl)
theorem dX2_aTin_45 : decode cX2_aTin 45 = .ok (.goto 7, 3) := dk_167 0 7 (dk_at dksX2_aTin_1 21 rfl rfl)
theorem dX2_aTin_48 : decode cX2_aTin 48 = .ok (.aload_n 0, 1) := dk_42 (dk_at dksX2_aTin_2 0 rfl rfl)
theorem dX2_aTin_49 : decode cX2_aTin 49 = .ok (.getfield 18, 3) := dk_180 0 18 (dk_at dksX2_aTin_2 1 rfl rfl)
theorem dX2_aTin_52 : decode cX2_aTin 52 = .ok (.invokespecial 183, 3) := dk_183 0 183 (dk_at dksX2_aTin_2 4 rfl rfl)
theorem dX2_aTin_55 : decode cX2_aTin 55 = .ok (.iload_n 3, 1) := dk_29 (dk_at dksX2_aTin_2 7 rfl rfl)
theorem dX2_aTin_56 : decode cX2_aTin 56 = .ok (.iload 4, 2) := dk_21 4 (dk_at dksX2_aTin_2 8 rfl rfl)
theorem dX2_aTin_58 : decode cX2_aTin 58 = .ok (.invokevirtual 186, 3) := dk_182 0 186 (dk_at dksX2_aTin_2 10 rfl rfl)
theorem dX2_aTin_61 : decode cX2_aTin 61 = .ok (.pop, 1) := dk_87 (dk_at dksX2_aTin_2 13 rfl rfl)
theorem dX2_aTin_62 : decode cX2_aTin 62 = .ok (.return_, 1) := dk_177 (dk_at dksX2_aTin_2 14 rfl rfl)
abbrev cX2_years : ByteArray := prog_7_method_17_code
def yX2_years : MethodName := ⟨RX2, "years", "(ILTinFen$Fen;)[LTinFen$Step;"⟩
def dkwX2_years_2 : List UInt8 := [42, 42, 180, 0, 202, 154, 0, 7, 4, 167, 0, 4, 3, 182, 0, 38, 42, 180, 0, 192, 176]
abbrev dktX2_years_2 : List UInt8 := dkwX2_years_2 ++ []
def dkwX2_years_1 : List UInt8 := [42, 3, 181, 0, 202, 42, 27, 182, 0, 87, 42, 180, 0, 49, 153, 0, 10, 42, 182, 0, 205, 167, 255, 245]
abbrev dktX2_years_1 : List UInt8 := dkwX2_years_1 ++ dktX2_years_2
def dkwX2_years_0 : List UInt8 := [42, 44, 181, 0, 59, 42, 16, 60, 189, 0, 190, 181, 0, 192, 42, 3, 181, 0, 196, 42, 3, 181, 0, 199]
abbrev dktX2_years_0 : List UInt8 := dkwX2_years_0 ++ dktX2_years_1
theorem dksX2_years_0 : cX2_years.data.toList.drop 0 = dktX2_years_0 := by decide +kernel
theorem dksX2_years_1 : cX2_years.data.toList.drop 24 = dktX2_years_1 := dk_seg dksX2_years_0 24 rfl rfl
theorem dksX2_years_2 : cX2_years.data.toList.drop 48 = dktX2_years_2 := dk_seg dksX2_years_1 24 rfl rfl
theorem dX2_years_0 : decode cX2_years 0 = .ok (.aload_n 0, 1) := dk_42 (dk_at dksX2_years_0 0 rfl rfl)
theorem dX2_years_1 : decode cX2_years 1 = .ok (.aload_n 2, 1) := dk_44 (dk_at dksX2_years_0 1 rfl rfl)
theorem dX2_years_2 : decode cX2_years 2 = .ok (.putfield 59, 3) := dk_181 0 59 (dk_at dksX2_years_0 2 rfl rfl)
theorem dX2_years_5 : decode cX2_years 5 = .ok (.aload_n 0, 1) := dk_42 (dk_at dksX2_years_0 5 rfl rfl)
theorem dX2_years_6 : decode cX2_years 6 = .ok (.bipush 60, 2) := dk_16 60 (dk_at dksX2_years_0 6 rfl rfl)
theorem dX2_years_8 : decode cX2_years 8 = .ok (.anewarray 190, 3) := dk_189 0 190 (dk_at dksX2_years_0 8 rfl rfl)
theorem dX2_years_11 : decode cX2_years 11 = .ok (.putfield 192, 3) := dk_181 0 192 (dk_at dksX2_years_0 11 rfl rfl)
theorem dX2_years_14 : decode cX2_years 14 = .ok (.aload_n 0, 1) := dk_42 (dk_at dksX2_years_0 14 rfl rfl)
theorem dX2_years_15 : decode cX2_years 15 = .ok (.iconst 0, 1) := dk_3 (dk_at dksX2_years_0 15 rfl rfl)
theorem dX2_years_16 : decode cX2_years 16 = .ok (.putfield 196, 3) := dk_181 0 196 (dk_at dksX2_years_0 16 rfl rfl)
theorem dX2_years_19 : decode cX2_years 19 = .ok (.aload_n 0, 1) := dk_42 (dk_at dksX2_years_0 19 rfl rfl)
theorem dX2_years_20 : decode cX2_years 20 = .ok (.iconst 0, 1) := dk_3 (dk_at dksX2_years_0 20 rfl rfl)
theorem dX2_years_21 : decode cX2_years 21 = .ok (.putfield 199, 3) := dk_181 0 199 (dk_at dksX2_years_0 21 rfl rfl)
theorem dX2_years_24 : decode cX2_years 24 = .ok (.aload_n 0, 1) := dk_42 (dk_at dksX2_years_1 0 rfl rfl)
theorem dX2_years_25 : decode cX2_years 25 = .ok (.iconst 0, 1) := dk_3 (dk_at dksX2_years_1 1 rfl rfl)
theorem dX2_years_26 : decode cX2_years 26 = .ok (.putfield 202, 3) := dk_181 0 202 (dk_at dksX2_years_1 2 rfl rfl)
theorem dX2_years_29 : decode cX2_years 29 = .ok (.aload_n 0, 1) := dk_42 (dk_at dksX2_years_1 5 rfl rfl)
theorem dX2_years_30 : decode cX2_years 30 = .ok (.iload_n 1, 1) := dk_27 (dk_at dksX2_years_1 6 rfl rfl)
theorem dX2_years_31 : decode cX2_years 31 = .ok (.invokevirtual 87, 3) := dk_182 0 87 (dk_at dksX2_years_1 7 rfl rfl)
theorem dX2_years_34 : decode cX2_years 34 = .ok (.aload_n 0, 1) := dk_42 (dk_at dksX2_years_1 10 rfl rfl)
theorem dX2_years_35 : decode cX2_years 35 = .ok (.getfield 49, 3) := dk_180 0 49 (dk_at dksX2_years_1 11 rfl rfl)
theorem dX2_years_38 : decode cX2_years 38 = .ok (.ifCond .eq 10, 3) := dk_153 0 10 (dk_at dksX2_years_1 14 rfl rfl)
theorem dX2_years_41 : decode cX2_years 41 = .ok (.aload_n 0, 1) := dk_42 (dk_at dksX2_years_1 17 rfl rfl)
theorem dX2_years_42 : decode cX2_years 42 = .ok (.invokevirtual 205, 3) := dk_182 0 205 (dk_at dksX2_years_1 18 rfl rfl)
theorem dX2_years_45 : decode cX2_years 45 = .ok (.goto (-11), 3) := dk_167 255 245 (dk_at dksX2_years_1 21 rfl rfl)
theorem dX2_years_48 : decode cX2_years 48 = .ok (.aload_n 0, 1) := dk_42 (dk_at dksX2_years_2 0 rfl rfl)
theorem dX2_years_49 : decode cX2_years 49 = .ok (.aload_n 0, 1) := dk_42 (dk_at dksX2_years_2 1 rfl rfl)
theorem dX2_years_50 : decode cX2_years 50 = .ok (.getfield 202, 3) := dk_180 0 202 (dk_at dksX2_years_2 2 rfl rfl)
theorem dX2_years_53 : decode cX2_years 53 = .ok (.ifCond .ne 7, 3) := dk_154 0 7 (dk_at dksX2_years_2 5 rfl rfl)
theorem dX2_years_56 : decode cX2_years 56 = .ok (.iconst 1, 1) := dk_4 (dk_at dksX2_years_2 8 rfl rfl)
theorem dX2_years_57 : decode cX2_years 57 = .ok (.goto 4, 3) := dk_167 0 4 (dk_at dksX2_years_2 9 rfl rfl)
theorem dX2_years_60 : decode cX2_years 60 = .ok (.iconst 0, 1) := dk_3 (dk_at dksX2_years_2 12 rfl rfl)
theorem dX2_years_61 : decode cX2_years 61 = .ok (.invokevirtual 38, 3) := dk_182 0 38 (dk_at dksX2_years_2 13 rfl rfl)
theorem dX2_years_64 : decode cX2_years 64 = .ok (.aload_n 0, 1) := dk_42 (dk_at dksX2_years_2 16 rfl rfl)
theorem dX2_years_65 : decode cX2_years 65 = .ok (.getfield 192, 3) := dk_180 0 192 (dk_at dksX2_years_2 17 rfl rfl)
theorem dX2_years_68 : decode cX2_years 68 = .ok (.areturn, 1) := dk_176 (dk_at dksX2_years_2 20 rfl rfl)
abbrev cX2_step : ByteArray := prog_7_method_20_code
def yX2_step : MethodName := ⟨RX2, "step", "()V"⟩
def dkwX2_step_10 : List UInt8 := [177]
abbrev dktX2_step_10 : List UInt8 := dkwX2_step_10 ++ []
def dkwX2_step_9 : List UInt8 := [96, 181, 0, 199, 42, 180, 0, 192, 42, 180, 0, 196, 45, 83, 42, 89, 180, 0, 196, 4, 96, 181, 0, 196]
abbrev dktX2_step_9 : List UInt8 := dkwX2_step_9 ++ dktX2_step_10
def dkwX2_step_8 : List UInt8 := [180, 0, 202, 4, 96, 181, 0, 202, 42, 89, 180, 0, 199, 27, 16, 18, 160, 0, 7, 3, 167, 0, 4, 4]
abbrev dktX2_step_8 : List UInt8 := dkwX2_step_8 ++ dktX2_step_9
def dkwX2_step_7 : List UInt8 := [182, 0, 94, 28, 153, 0, 26, 42, 180, 0, 30, 42, 180, 0, 202, 42, 180, 0, 196, 79, 42, 89]
abbrev dktX2_step_7 : List UInt8 := dkwX2_step_7 ++ dktX2_step_8
def dkwX2_step_6 : List UInt8 := [180, 0, 202, 46, 181, 0, 239, 42, 180, 0, 192, 45, 180, 0, 239, 50, 42, 180, 0, 196, 181, 0, 239, 42]
abbrev dktX2_step_6 : List UInt8 := dkwX2_step_6 ++ dktX2_step_7
def dkwX2_step_5 : List UInt8 := [27, 16, 18, 160, 0, 42, 42, 89, 180, 0, 202, 4, 100, 181, 0, 202, 45, 42, 180, 0, 30, 42]
abbrev dktX2_step_5 : List UInt8 := dkwX2_step_5 ++ dktX2_step_6
def dkwX2_step_4 : List UInt8 := [16, 7, 182, 0, 45, 191, 187, 0, 190, 89, 27, 183, 0, 234, 78, 42, 182, 0, 42, 42, 45, 182, 0, 236]
abbrev dktX2_step_4 : List UInt8 := dkwX2_step_4 ++ dktX2_step_5
def dkwX2_step_3 : List UInt8 := [160, 0, 10, 42, 16, 6, 182, 0, 45, 191, 28, 153, 0, 18, 42, 180, 0, 202, 6, 160, 0, 10, 42]
abbrev dktX2_step_3 : List UInt8 := dkwX2_step_3 ++ dktX2_step_4
def dkwX2_step_2 : List UInt8 := [158, 0, 7, 4, 167, 0, 4, 3, 182, 0, 38, 27, 16, 18, 159, 0, 19, 42, 180, 0, 199, 16, 30]
abbrev dktX2_step_2 : List UInt8 := dkwX2_step_2 ++ dktX2_step_3
def dkwX2_step_1 : List UInt8 := [27, 16, 10, 161, 0, 9, 27, 16, 17, 164, 0, 16, 27, 16, 18, 160, 0, 14, 42, 180, 0, 202]
abbrev dktX2_step_1 : List UInt8 := dkwX2_step_1 ++ dktX2_step_2
def dkwX2_step_0 : List UInt8 := [42, 182, 0, 34, 60, 27, 16, 15, 159, 0, 9, 27, 16, 16, 160, 0, 7, 4, 167, 0, 4, 3, 61, 42]
abbrev dktX2_step_0 : List UInt8 := dkwX2_step_0 ++ dktX2_step_1
theorem dksX2_step_0 : cX2_step.data.toList.drop 0 = dktX2_step_0 := by decide +kernel
theorem dksX2_step_1 : cX2_step.data.toList.drop 24 = dktX2_step_1 := dk_seg dksX2_step_0 24 rfl rfl
theorem dksX2_step_2 : cX2_step.data.toList.drop 46 = dktX2_step_2 := dk_seg dksX2_step_1 22 rfl rfl
theorem dksX2_step_3 : cX2_step.data.toList.drop 69 = dktX2_step_3 := dk_seg dksX2_step_2 23 rfl rfl
theorem dksX2_step_4 : cX2_step.data.toList.drop 92 = dktX2_step_4 := dk_seg dksX2_step_3 23 rfl rfl
theorem dksX2_step_5 : cX2_step.data.toList.drop 116 = dktX2_step_5 := dk_seg dksX2_step_4 24 rfl rfl
theorem dksX2_step_6 : cX2_step.data.toList.drop 138 = dktX2_step_6 := dk_seg dksX2_step_5 22 rfl rfl
theorem dksX2_step_7 : cX2_step.data.toList.drop 162 = dktX2_step_7 := dk_seg dksX2_step_6 24 rfl rfl
theorem dksX2_step_8 : cX2_step.data.toList.drop 184 = dktX2_step_8 := dk_seg dksX2_step_7 22 rfl rfl
theorem dksX2_step_9 : cX2_step.data.toList.drop 208 = dktX2_step_9 := dk_seg dksX2_step_8 24 rfl rfl
theorem dksX2_step_10 : cX2_step.data.toList.drop 232 = dktX2_step_10 := dk_seg dksX2_step_9 24 rfl rfl
theorem dX2_step_0 : decode cX2_step 0 = .ok (.aload_n 0, 1) := dk_42 (dk_at dksX2_step_0 0 rfl rfl)
theorem dX2_step_1 : decode cX2_step 1 = .ok (.invokevirtual 34, 3) := dk_182 0 34 (dk_at dksX2_step_0 1 rfl rfl)
theorem dX2_step_4 : decode cX2_step 4 = .ok (.istore_n 1, 1) := dk_60 (dk_at dksX2_step_0 4 rfl rfl)
theorem dX2_step_5 : decode cX2_step 5 = .ok (.iload_n 1, 1) := dk_27 (dk_at dksX2_step_0 5 rfl rfl)
theorem dX2_step_6 : decode cX2_step 6 = .ok (.bipush 15, 2) := dk_16 15 (dk_at dksX2_step_0 6 rfl rfl)
theorem dX2_step_8 : decode cX2_step 8 = .ok (.if_icmp .eq 9, 3) := dk_159 0 9 (dk_at dksX2_step_0 8 rfl rfl)
theorem dX2_step_11 : decode cX2_step 11 = .ok (.iload_n 1, 1) := dk_27 (dk_at dksX2_step_0 11 rfl rfl)
theorem dX2_step_12 : decode cX2_step 12 = .ok (.bipush 16, 2) := dk_16 16 (dk_at dksX2_step_0 12 rfl rfl)
theorem dX2_step_14 : decode cX2_step 14 = .ok (.if_icmp .ne 7, 3) := dk_160 0 7 (dk_at dksX2_step_0 14 rfl rfl)
theorem dX2_step_17 : decode cX2_step 17 = .ok (.iconst 1, 1) := dk_4 (dk_at dksX2_step_0 17 rfl rfl)
theorem dX2_step_18 : decode cX2_step 18 = .ok (.goto 4, 3) := dk_167 0 4 (dk_at dksX2_step_0 18 rfl rfl)
theorem dX2_step_21 : decode cX2_step 21 = .ok (.iconst 0, 1) := dk_3 (dk_at dksX2_step_0 21 rfl rfl)
theorem dX2_step_22 : decode cX2_step 22 = .ok (.istore_n 2, 1) := dk_61 (dk_at dksX2_step_0 22 rfl rfl)
theorem dX2_step_23 : decode cX2_step 23 = .ok (.aload_n 0, 1) := dk_42 (dk_at dksX2_step_0 23 rfl rfl)
theorem dX2_step_24 : decode cX2_step 24 = .ok (.iload_n 1, 1) := dk_27 (dk_at dksX2_step_1 0 rfl rfl)
theorem dX2_step_25 : decode cX2_step 25 = .ok (.bipush 10, 2) := dk_16 10 (dk_at dksX2_step_1 1 rfl rfl)
theorem dX2_step_27 : decode cX2_step 27 = .ok (.if_icmp .lt 9, 3) := dk_161 0 9 (dk_at dksX2_step_1 3 rfl rfl)
theorem dX2_step_30 : decode cX2_step 30 = .ok (.iload_n 1, 1) := dk_27 (dk_at dksX2_step_1 6 rfl rfl)
theorem dX2_step_31 : decode cX2_step 31 = .ok (.bipush 17, 2) := dk_16 17 (dk_at dksX2_step_1 7 rfl rfl)
theorem dX2_step_33 : decode cX2_step 33 = .ok (.if_icmp .le 16, 3) := dk_164 0 16 (dk_at dksX2_step_1 9 rfl rfl)
theorem dX2_step_36 : decode cX2_step 36 = .ok (.iload_n 1, 1) := dk_27 (dk_at dksX2_step_1 12 rfl rfl)
theorem dX2_step_37 : decode cX2_step 37 = .ok (.bipush 18, 2) := dk_16 18 (dk_at dksX2_step_1 13 rfl rfl)
theorem dX2_step_39 : decode cX2_step 39 = .ok (.if_icmp .ne 14, 3) := dk_160 0 14 (dk_at dksX2_step_1 15 rfl rfl)
theorem dX2_step_42 : decode cX2_step 42 = .ok (.aload_n 0, 1) := dk_42 (dk_at dksX2_step_1 18 rfl rfl)
theorem dX2_step_43 : decode cX2_step 43 = .ok (.getfield 202, 3) := dk_180 0 202 (dk_at dksX2_step_1 19 rfl rfl)
theorem dX2_step_46 : decode cX2_step 46 = .ok (.ifCond .le 7, 3) := dk_158 0 7 (dk_at dksX2_step_2 0 rfl rfl)
theorem dX2_step_49 : decode cX2_step 49 = .ok (.iconst 1, 1) := dk_4 (dk_at dksX2_step_2 3 rfl rfl)
theorem dX2_step_50 : decode cX2_step 50 = .ok (.goto 4, 3) := dk_167 0 4 (dk_at dksX2_step_2 4 rfl rfl)
theorem dX2_step_53 : decode cX2_step 53 = .ok (.iconst 0, 1) := dk_3 (dk_at dksX2_step_2 7 rfl rfl)
theorem dX2_step_54 : decode cX2_step 54 = .ok (.invokevirtual 38, 3) := dk_182 0 38 (dk_at dksX2_step_2 8 rfl rfl)
theorem dX2_step_57 : decode cX2_step 57 = .ok (.iload_n 1, 1) := dk_27 (dk_at dksX2_step_2 11 rfl rfl)
theorem dX2_step_58 : decode cX2_step 58 = .ok (.bipush 18, 2) := dk_16 18 (dk_at dksX2_step_2 12 rfl rfl)
theorem dX2_step_60 : decode cX2_step 60 = .ok (.if_icmp .eq 19, 3) := dk_159 0 19 (dk_at dksX2_step_2 14 rfl rfl)
theorem dX2_step_63 : decode cX2_step 63 = .ok (.aload_n 0, 1) := dk_42 (dk_at dksX2_step_2 17 rfl rfl)
theorem dX2_step_64 : decode cX2_step 64 = .ok (.getfield 199, 3) := dk_180 0 199 (dk_at dksX2_step_2 18 rfl rfl)
theorem dX2_step_67 : decode cX2_step 67 = .ok (.bipush 30, 2) := dk_16 30 (dk_at dksX2_step_2 21 rfl rfl)
theorem dX2_step_69 : decode cX2_step 69 = .ok (.if_icmp .ne 10, 3) := dk_160 0 10 (dk_at dksX2_step_3 0 rfl rfl)
theorem dX2_step_72 : decode cX2_step 72 = .ok (.aload_n 0, 1) := dk_42 (dk_at dksX2_step_3 3 rfl rfl)
theorem dX2_step_73 : decode cX2_step 73 = .ok (.bipush 6, 2) := dk_16 6 (dk_at dksX2_step_3 4 rfl rfl)
theorem dX2_step_75 : decode cX2_step 75 = .ok (.invokevirtual 45, 3) := dk_182 0 45 (dk_at dksX2_step_3 6 rfl rfl)
theorem dX2_step_78 : decode cX2_step 78 = .ok (.athrow, 1) := dk_191 (dk_at dksX2_step_3 9 rfl rfl)
theorem dX2_step_79 : decode cX2_step 79 = .ok (.iload_n 2, 1) := dk_28 (dk_at dksX2_step_3 10 rfl rfl)
theorem dX2_step_80 : decode cX2_step 80 = .ok (.ifCond .eq 18, 3) := dk_153 0 18 (dk_at dksX2_step_3 11 rfl rfl)
theorem dX2_step_83 : decode cX2_step 83 = .ok (.aload_n 0, 1) := dk_42 (dk_at dksX2_step_3 14 rfl rfl)
theorem dX2_step_84 : decode cX2_step 84 = .ok (.getfield 202, 3) := dk_180 0 202 (dk_at dksX2_step_3 15 rfl rfl)
theorem dX2_step_87 : decode cX2_step 87 = .ok (.iconst 3, 1) := dk_6 (dk_at dksX2_step_3 18 rfl rfl)
theorem dX2_step_88 : decode cX2_step 88 = .ok (.if_icmp .ne 10, 3) := dk_160 0 10 (dk_at dksX2_step_3 19 rfl rfl)
theorem dX2_step_91 : decode cX2_step 91 = .ok (.aload_n 0, 1) := dk_42 (dk_at dksX2_step_3 22 rfl rfl)
theorem dX2_step_92 : decode cX2_step 92 = .ok (.bipush 7, 2) := dk_16 7 (dk_at dksX2_step_4 0 rfl rfl)
theorem dX2_step_94 : decode cX2_step 94 = .ok (.invokevirtual 45, 3) := dk_182 0 45 (dk_at dksX2_step_4 2 rfl rfl)
theorem dX2_step_97 : decode cX2_step 97 = .ok (.athrow, 1) := dk_191 (dk_at dksX2_step_4 5 rfl rfl)
theorem dX2_step_98 : decode cX2_step 98 = .ok (.new 190, 3) := dk_187 0 190 (dk_at dksX2_step_4 6 rfl rfl)
theorem dX2_step_101 : decode cX2_step 101 = .ok (.dup, 1) := dk_89 (dk_at dksX2_step_4 9 rfl rfl)
theorem dX2_step_102 : decode cX2_step 102 = .ok (.iload_n 1, 1) := dk_27 (dk_at dksX2_step_4 10 rfl rfl)
theorem dX2_step_103 : decode cX2_step 103 = .ok (.invokespecial 234, 3) := dk_183 0 234 (dk_at dksX2_step_4 11 rfl rfl)
theorem dX2_step_106 : decode cX2_step 106 = .ok (.astore_n 3, 1) := dk_78 (dk_at dksX2_step_4 14 rfl rfl)
theorem dX2_step_107 : decode cX2_step 107 = .ok (.aload_n 0, 1) := dk_42 (dk_at dksX2_step_4 15 rfl rfl)
theorem dX2_step_108 : decode cX2_step 108 = .ok (.invokevirtual 42, 3) := dk_182 0 42 (dk_at dksX2_step_4 16 rfl rfl)
theorem dX2_step_111 : decode cX2_step 111 = .ok (.aload_n 0, 1) := dk_42 (dk_at dksX2_step_4 19 rfl rfl)
theorem dX2_step_112 : decode cX2_step 112 = .ok (.aload_n 3, 1) := dk_45 (dk_at dksX2_step_4 20 rfl rfl)
theorem dX2_step_113 : decode cX2_step 113 = .ok (.invokevirtual 236, 3) := dk_182 0 236 (dk_at dksX2_step_4 21 rfl rfl)
theorem dX2_step_116 : decode cX2_step 116 = .ok (.iload_n 1, 1) := dk_27 (dk_at dksX2_step_5 0 rfl rfl)
theorem dX2_step_117 : decode cX2_step 117 = .ok (.bipush 18, 2) := dk_16 18 (dk_at dksX2_step_5 1 rfl rfl)
theorem dX2_step_119 : decode cX2_step 119 = .ok (.if_icmp .ne 42, 3) := dk_160 0 42 (dk_at dksX2_step_5 3 rfl rfl)
theorem dX2_step_122 : decode cX2_step 122 = .ok (.aload_n 0, 1) := dk_42 (dk_at dksX2_step_5 6 rfl rfl)
theorem dX2_step_123 : decode cX2_step 123 = .ok (.dup, 1) := dk_89 (dk_at dksX2_step_5 7 rfl rfl)
theorem dX2_step_124 : decode cX2_step 124 = .ok (.getfield 202, 3) := dk_180 0 202 (dk_at dksX2_step_5 8 rfl rfl)
theorem dX2_step_127 : decode cX2_step 127 = .ok (.iconst 1, 1) := dk_4 (dk_at dksX2_step_5 11 rfl rfl)
theorem dX2_step_128 : decode cX2_step 128 = .ok (.isub, 1) := dk_100 (dk_at dksX2_step_5 12 rfl rfl)
theorem dX2_step_129 : decode cX2_step 129 = .ok (.putfield 202, 3) := dk_181 0 202 (dk_at dksX2_step_5 13 rfl rfl)
theorem dX2_step_132 : decode cX2_step 132 = .ok (.aload_n 3, 1) := dk_45 (dk_at dksX2_step_5 16 rfl rfl)
theorem dX2_step_133 : decode cX2_step 133 = .ok (.aload_n 0, 1) := dk_42 (dk_at dksX2_step_5 17 rfl rfl)
theorem dX2_step_134 : decode cX2_step 134 = .ok (.getfield 30, 3) := dk_180 0 30 (dk_at dksX2_step_5 18 rfl rfl)
theorem dX2_step_137 : decode cX2_step 137 = .ok (.aload_n 0, 1) := dk_42 (dk_at dksX2_step_5 21 rfl rfl)
theorem dX2_step_138 : decode cX2_step 138 = .ok (.getfield 202, 3) := dk_180 0 202 (dk_at dksX2_step_6 0 rfl rfl)
theorem dX2_step_141 : decode cX2_step 141 = .ok (.iaload, 1) := dk_46 (dk_at dksX2_step_6 3 rfl rfl)
theorem dX2_step_142 : decode cX2_step 142 = .ok (.putfield 239, 3) := dk_181 0 239 (dk_at dksX2_step_6 4 rfl rfl)
theorem dX2_step_145 : decode cX2_step 145 = .ok (.aload_n 0, 1) := dk_42 (dk_at dksX2_step_6 7 rfl rfl)
theorem dX2_step_146 : decode cX2_step 146 = .ok (.getfield 192, 3) := dk_180 0 192 (dk_at dksX2_step_6 8 rfl rfl)
theorem dX2_step_149 : decode cX2_step 149 = .ok (.aload_n 3, 1) := dk_45 (dk_at dksX2_step_6 11 rfl rfl)
theorem dX2_step_150 : decode cX2_step 150 = .ok (.getfield 239, 3) := dk_180 0 239 (dk_at dksX2_step_6 12 rfl rfl)
theorem dX2_step_153 : decode cX2_step 153 = .ok (.aaload, 1) := dk_50 (dk_at dksX2_step_6 15 rfl rfl)
theorem dX2_step_154 : decode cX2_step 154 = .ok (.aload_n 0, 1) := dk_42 (dk_at dksX2_step_6 16 rfl rfl)
theorem dX2_step_155 : decode cX2_step 155 = .ok (.getfield 196, 3) := dk_180 0 196 (dk_at dksX2_step_6 17 rfl rfl)
theorem dX2_step_158 : decode cX2_step 158 = .ok (.putfield 239, 3) := dk_181 0 239 (dk_at dksX2_step_6 20 rfl rfl)
theorem dX2_step_161 : decode cX2_step 161 = .ok (.aload_n 0, 1) := dk_42 (dk_at dksX2_step_6 23 rfl rfl)
theorem dX2_step_162 : decode cX2_step 162 = .ok (.invokevirtual 94, 3) := dk_182 0 94 (dk_at dksX2_step_7 0 rfl rfl)
theorem dX2_step_165 : decode cX2_step 165 = .ok (.iload_n 2, 1) := dk_28 (dk_at dksX2_step_7 3 rfl rfl)
theorem dX2_step_166 : decode cX2_step 166 = .ok (.ifCond .eq 26, 3) := dk_153 0 26 (dk_at dksX2_step_7 4 rfl rfl)
theorem dX2_step_169 : decode cX2_step 169 = .ok (.aload_n 0, 1) := dk_42 (dk_at dksX2_step_7 7 rfl rfl)
theorem dX2_step_170 : decode cX2_step 170 = .ok (.getfield 30, 3) := dk_180 0 30 (dk_at dksX2_step_7 8 rfl rfl)
theorem dX2_step_173 : decode cX2_step 173 = .ok (.aload_n 0, 1) := dk_42 (dk_at dksX2_step_7 11 rfl rfl)
theorem dX2_step_174 : decode cX2_step 174 = .ok (.getfield 202, 3) := dk_180 0 202 (dk_at dksX2_step_7 12 rfl rfl)
theorem dX2_step_177 : decode cX2_step 177 = .ok (.aload_n 0, 1) := dk_42 (dk_at dksX2_step_7 15 rfl rfl)
theorem dX2_step_178 : decode cX2_step 178 = .ok (.getfield 196, 3) := dk_180 0 196 (dk_at dksX2_step_7 16 rfl rfl)
theorem dX2_step_181 : decode cX2_step 181 = .ok (.iastore, 1) := dk_79 (dk_at dksX2_step_7 19 rfl rfl)
theorem dX2_step_182 : decode cX2_step 182 = .ok (.aload_n 0, 1) := dk_42 (dk_at dksX2_step_7 20 rfl rfl)
theorem dX2_step_183 : decode cX2_step 183 = .ok (.dup, 1) := dk_89 (dk_at dksX2_step_7 21 rfl rfl)
theorem dX2_step_184 : decode cX2_step 184 = .ok (.getfield 202, 3) := dk_180 0 202 (dk_at dksX2_step_8 0 rfl rfl)
theorem dX2_step_187 : decode cX2_step 187 = .ok (.iconst 1, 1) := dk_4 (dk_at dksX2_step_8 3 rfl rfl)
theorem dX2_step_188 : decode cX2_step 188 = .ok (.iadd, 1) := dk_96 (dk_at dksX2_step_8 4 rfl rfl)
theorem dX2_step_189 : decode cX2_step 189 = .ok (.putfield 202, 3) := dk_181 0 202 (dk_at dksX2_step_8 5 rfl rfl)
theorem dX2_step_192 : decode cX2_step 192 = .ok (.aload_n 0, 1) := dk_42 (dk_at dksX2_step_8 8 rfl rfl)
theorem dX2_step_193 : decode cX2_step 193 = .ok (.dup, 1) := dk_89 (dk_at dksX2_step_8 9 rfl rfl)
theorem dX2_step_194 : decode cX2_step 194 = .ok (.getfield 199, 3) := dk_180 0 199 (dk_at dksX2_step_8 10 rfl rfl)
theorem dX2_step_197 : decode cX2_step 197 = .ok (.iload_n 1, 1) := dk_27 (dk_at dksX2_step_8 13 rfl rfl)
theorem dX2_step_198 : decode cX2_step 198 = .ok (.bipush 18, 2) := dk_16 18 (dk_at dksX2_step_8 14 rfl rfl)
theorem dX2_step_200 : decode cX2_step 200 = .ok (.if_icmp .ne 7, 3) := dk_160 0 7 (dk_at dksX2_step_8 16 rfl rfl)
theorem dX2_step_203 : decode cX2_step 203 = .ok (.iconst 0, 1) := dk_3 (dk_at dksX2_step_8 19 rfl rfl)
theorem dX2_step_204 : decode cX2_step 204 = .ok (.goto 4, 3) := dk_167 0 4 (dk_at dksX2_step_8 20 rfl rfl)
theorem dX2_step_207 : decode cX2_step 207 = .ok (.iconst 1, 1) := dk_4 (dk_at dksX2_step_8 23 rfl rfl)
theorem dX2_step_208 : decode cX2_step 208 = .ok (.iadd, 1) := dk_96 (dk_at dksX2_step_9 0 rfl rfl)
theorem dX2_step_209 : decode cX2_step 209 = .ok (.putfield 199, 3) := dk_181 0 199 (dk_at dksX2_step_9 1 rfl rfl)
theorem dX2_step_212 : decode cX2_step 212 = .ok (.aload_n 0, 1) := dk_42 (dk_at dksX2_step_9 4 rfl rfl)
theorem dX2_step_213 : decode cX2_step 213 = .ok (.getfield 192, 3) := dk_180 0 192 (dk_at dksX2_step_9 5 rfl rfl)
theorem dX2_step_216 : decode cX2_step 216 = .ok (.aload_n 0, 1) := dk_42 (dk_at dksX2_step_9 8 rfl rfl)
theorem dX2_step_217 : decode cX2_step 217 = .ok (.getfield 196, 3) := dk_180 0 196 (dk_at dksX2_step_9 9 rfl rfl)
theorem dX2_step_220 : decode cX2_step 220 = .ok (.aload_n 3, 1) := dk_45 (dk_at dksX2_step_9 12 rfl rfl)
theorem dX2_step_221 : decode cX2_step 221 = .ok (.aastore, 1) := dk_83 (dk_at dksX2_step_9 13 rfl rfl)
theorem dX2_step_222 : decode cX2_step 222 = .ok (.aload_n 0, 1) := dk_42 (dk_at dksX2_step_9 14 rfl rfl)
theorem dX2_step_223 : decode cX2_step 223 = .ok (.dup, 1) := dk_89 (dk_at dksX2_step_9 15 rfl rfl)
theorem dX2_step_224 : decode cX2_step 224 = .ok (.getfield 196, 3) := dk_180 0 196 (dk_at dksX2_step_9 16 rfl rfl)
theorem dX2_step_227 : decode cX2_step 227 = .ok (.iconst 1, 1) := dk_4 (dk_at dksX2_step_9 19 rfl rfl)
theorem dX2_step_228 : decode cX2_step 228 = .ok (.iadd, 1) := dk_96 (dk_at dksX2_step_9 20 rfl rfl)
theorem dX2_step_229 : decode cX2_step 229 = .ok (.putfield 196, 3) := dk_181 0 196 (dk_at dksX2_step_9 21 rfl rfl)
theorem dX2_step_232 : decode cX2_step 232 = .ok (.return_, 1) := dk_177 (dk_at dksX2_step_10 0 rfl rfl)
abbrev cX2_order : ByteArray := prog_7_method_19_code
def yX2_order : MethodName := ⟨RX2, "order", "(LTinFen$Step;)V"⟩
def dkwX2_order_5 : List UInt8 := [167, 0, 3, 177]
abbrev dktX2_order_5 : List UInt8 := dkwX2_order_5 ++ []
def dkwX2_order_4 : List UInt8 := [167, 0, 25, 43, 42, 4, 16, 99, 182, 0, 113, 181, 0, 213, 167, 0, 11, 42, 43, 182, 0, 231]
abbrev dktX2_order_4 : List UInt8 := dkwX2_order_4 ++ dktX2_order_5
def dkwX2_order_3 : List UInt8 := [181, 0, 213, 167, 0, 44, 43, 42, 182, 0, 175, 181, 0, 213, 43, 42, 182, 0, 169, 181, 0, 216]
abbrev dktX2_order_3 : List UInt8 := dkwX2_order_3 ++ dktX2_order_4
def dkwX2_order_2 : List UInt8 := [43, 42, 182, 0, 211, 181, 0, 213, 43, 42, 182, 0, 175, 181, 0, 216, 167, 0, 55, 43, 42, 182, 0, 211]
abbrev dktX2_order_2 : List UInt8 := dkwX2_order_2 ++ dktX2_order_3
def dkwX2_order_1 : List UInt8 := [170, 0, 0, 0, 0, 0, 0, 115, 0, 0, 0, 10, 0, 0, 0, 16, 0, 0, 0, 44, 0, 0, 0, 63, 0, 0, 0, 74, 0, 0, 0, 74, 0, 0, 0, 115, 0, 0, 0, 107, 0, 0, 0, 93]
abbrev dktX2_order_1 : List UInt8 := dkwX2_order_1 ++ dktX2_order_2
def dkwX2_order_0 : List UInt8 := [43, 180, 0, 228]
abbrev dktX2_order_0 : List UInt8 := dkwX2_order_0 ++ dktX2_order_1
theorem dksX2_order_0 : cX2_order.data.toList.drop 0 = dktX2_order_0 := by decide +kernel
theorem dksX2_order_1 : cX2_order.data.toList.drop 4 = dktX2_order_1 := dk_seg dksX2_order_0 4 rfl rfl
theorem dksX2_order_2 : cX2_order.data.toList.drop 48 = dktX2_order_2 := dk_seg dksX2_order_1 44 rfl rfl
theorem dksX2_order_3 : cX2_order.data.toList.drop 72 = dktX2_order_3 := dk_seg dksX2_order_2 24 rfl rfl
theorem dksX2_order_4 : cX2_order.data.toList.drop 94 = dktX2_order_4 := dk_seg dksX2_order_3 22 rfl rfl
theorem dksX2_order_5 : cX2_order.data.toList.drop 116 = dktX2_order_5 := dk_seg dksX2_order_4 22 rfl rfl
theorem dX2_order_0 : decode cX2_order 0 = .ok (.aload_n 1, 1) := dk_43 (dk_at dksX2_order_0 0 rfl rfl)
theorem dX2_order_1 : decode cX2_order 1 = .ok (.getfield 228, 3) := dk_180 0 228 (dk_at dksX2_order_0 1 rfl rfl)
theorem dX2_order_4 : decode cX2_order 4 = .ok (.tableswitch 115 10 16 #[44, 63, 74, 74, 115, 107, 93], 44) := by decide +kernel
theorem dX2_order_48 : decode cX2_order 48 = .ok (.aload_n 1, 1) := dk_43 (dk_at dksX2_order_2 0 rfl rfl)
theorem dX2_order_49 : decode cX2_order 49 = .ok (.aload_n 0, 1) := dk_42 (dk_at dksX2_order_2 1 rfl rfl)
theorem dX2_order_50 : decode cX2_order 50 = .ok (.invokevirtual 211, 3) := dk_182 0 211 (dk_at dksX2_order_2 2 rfl rfl)
theorem dX2_order_53 : decode cX2_order 53 = .ok (.putfield 213, 3) := dk_181 0 213 (dk_at dksX2_order_2 5 rfl rfl)
theorem dX2_order_56 : decode cX2_order 56 = .ok (.aload_n 1, 1) := dk_43 (dk_at dksX2_order_2 8 rfl rfl)
theorem dX2_order_57 : decode cX2_order 57 = .ok (.aload_n 0, 1) := dk_42 (dk_at dksX2_order_2 9 rfl rfl)
theorem dX2_order_58 : decode cX2_order 58 = .ok (.invokevirtual 175, 3) := dk_182 0 175 (dk_at dksX2_order_2 10 rfl rfl)
theorem dX2_order_61 : decode cX2_order 61 = .ok (.putfield 216, 3) := dk_181 0 216 (dk_at dksX2_order_2 13 rfl rfl)
theorem dX2_order_64 : decode cX2_order 64 = .ok (.goto 55, 3) := dk_167 0 55 (dk_at dksX2_order_2 16 rfl rfl)
theorem dX2_order_67 : decode cX2_order 67 = .ok (.aload_n 1, 1) := dk_43 (dk_at dksX2_order_2 19 rfl rfl)
theorem dX2_order_68 : decode cX2_order 68 = .ok (.aload_n 0, 1) := dk_42 (dk_at dksX2_order_2 20 rfl rfl)
theorem dX2_order_69 : decode cX2_order 69 = .ok (.invokevirtual 211, 3) := dk_182 0 211 (dk_at dksX2_order_2 21 rfl rfl)
theorem dX2_order_72 : decode cX2_order 72 = .ok (.putfield 213, 3) := dk_181 0 213 (dk_at dksX2_order_3 0 rfl rfl)
theorem dX2_order_75 : decode cX2_order 75 = .ok (.goto 44, 3) := dk_167 0 44 (dk_at dksX2_order_3 3 rfl rfl)
theorem dX2_order_78 : decode cX2_order 78 = .ok (.aload_n 1, 1) := dk_43 (dk_at dksX2_order_3 6 rfl rfl)
theorem dX2_order_79 : decode cX2_order 79 = .ok (.aload_n 0, 1) := dk_42 (dk_at dksX2_order_3 7 rfl rfl)
theorem dX2_order_80 : decode cX2_order 80 = .ok (.invokevirtual 175, 3) := dk_182 0 175 (dk_at dksX2_order_3 8 rfl rfl)
theorem dX2_order_83 : decode cX2_order 83 = .ok (.putfield 213, 3) := dk_181 0 213 (dk_at dksX2_order_3 11 rfl rfl)
theorem dX2_order_86 : decode cX2_order 86 = .ok (.aload_n 1, 1) := dk_43 (dk_at dksX2_order_3 14 rfl rfl)
theorem dX2_order_87 : decode cX2_order 87 = .ok (.aload_n 0, 1) := dk_42 (dk_at dksX2_order_3 15 rfl rfl)
theorem dX2_order_88 : decode cX2_order 88 = .ok (.invokevirtual 169, 3) := dk_182 0 169 (dk_at dksX2_order_3 16 rfl rfl)
theorem dX2_order_91 : decode cX2_order 91 = .ok (.putfield 216, 3) := dk_181 0 216 (dk_at dksX2_order_3 19 rfl rfl)
theorem dX2_order_94 : decode cX2_order 94 = .ok (.goto 25, 3) := dk_167 0 25 (dk_at dksX2_order_4 0 rfl rfl)
theorem dX2_order_97 : decode cX2_order 97 = .ok (.aload_n 1, 1) := dk_43 (dk_at dksX2_order_4 3 rfl rfl)
theorem dX2_order_98 : decode cX2_order 98 = .ok (.aload_n 0, 1) := dk_42 (dk_at dksX2_order_4 4 rfl rfl)
theorem dX2_order_99 : decode cX2_order 99 = .ok (.iconst 1, 1) := dk_4 (dk_at dksX2_order_4 5 rfl rfl)
theorem dX2_order_100 : decode cX2_order 100 = .ok (.bipush 99, 2) := dk_16 99 (dk_at dksX2_order_4 6 rfl rfl)
theorem dX2_order_102 : decode cX2_order 102 = .ok (.invokevirtual 113, 3) := dk_182 0 113 (dk_at dksX2_order_4 8 rfl rfl)
theorem dX2_order_105 : decode cX2_order 105 = .ok (.putfield 213, 3) := dk_181 0 213 (dk_at dksX2_order_4 11 rfl rfl)
theorem dX2_order_108 : decode cX2_order 108 = .ok (.goto 11, 3) := dk_167 0 11 (dk_at dksX2_order_4 14 rfl rfl)
theorem dX2_order_111 : decode cX2_order 111 = .ok (.aload_n 0, 1) := dk_42 (dk_at dksX2_order_4 17 rfl rfl)
theorem dX2_order_112 : decode cX2_order 112 = .ok (.aload_n 1, 1) := dk_43 (dk_at dksX2_order_4 18 rfl rfl)
theorem dX2_order_113 : decode cX2_order 113 = .ok (.invokevirtual 231, 3) := dk_182 0 231 (dk_at dksX2_order_4 19 rfl rfl)
theorem dX2_order_116 : decode cX2_order 116 = .ok (.goto 3, 3) := dk_167 0 3 (dk_at dksX2_order_5 0 rfl rfl)
theorem dX2_order_119 : decode cX2_order 119 = .ok (.return_, 1) := dk_177 (dk_at dksX2_order_5 3 rfl rfl)
abbrev cX2_tin : ByteArray := prog_7_method_8_code
def yX2_tin : MethodName := ⟨RX2, "tin", "()I"⟩
def dkwX2_tin_0 : List UInt8 := [42, 42, 180, 0, 59, 42, 182, 0, 63, 182, 0, 80, 182, 0, 73, 172]
abbrev dktX2_tin_0 : List UInt8 := dkwX2_tin_0 ++ []
theorem dksX2_tin_0 : cX2_tin.data.toList.drop 0 = dktX2_tin_0 := by decide +kernel
theorem dX2_tin_0 : decode cX2_tin 0 = .ok (.aload_n 0, 1) := dk_42 (dk_at dksX2_tin_0 0 rfl rfl)
theorem dX2_tin_1 : decode cX2_tin 1 = .ok (.aload_n 0, 1) := dk_42 (dk_at dksX2_tin_0 1 rfl rfl)
theorem dX2_tin_2 : decode cX2_tin 2 = .ok (.getfield 59, 3) := dk_180 0 59 (dk_at dksX2_tin_0 2 rfl rfl)
theorem dX2_tin_5 : decode cX2_tin 5 = .ok (.aload_n 0, 1) := dk_42 (dk_at dksX2_tin_0 5 rfl rfl)
theorem dX2_tin_6 : decode cX2_tin 6 = .ok (.invokevirtual 63, 3) := dk_182 0 63 (dk_at dksX2_tin_0 6 rfl rfl)
theorem dX2_tin_9 : decode cX2_tin 9 = .ok (.invokevirtual 80, 3) := dk_182 0 80 (dk_at dksX2_tin_0 9 rfl rfl)
theorem dX2_tin_12 : decode cX2_tin 12 = .ok (.invokevirtual 73, 3) := dk_182 0 73 (dk_at dksX2_tin_0 12 rfl rfl)
theorem dX2_tin_15 : decode cX2_tin 15 = .ok (.ireturn, 1) := dk_172 (dk_at dksX2_tin_0 15 rfl rfl)
abbrev cX2_test : ByteArray := prog_7_method_18_code
def yX2_test : MethodName := ⟨RX2, "test", "(LTinFen$Step;)V"⟩
def dkwX2_test_6 : List UInt8 := [42, 182, 0, 42, 43, 42, 3, 17, 39, 15, 182, 0, 113, 181, 0, 216, 177]
abbrev dktX2_test_6 : List UInt8 := dkwX2_test_6 ++ []
def dkwX2_test_5 : List UInt8 := [16, 61, 182, 0, 219, 153, 0, 7, 4, 167, 0, 4, 3, 182, 0, 38, 43, 42, 180, 0, 222, 181, 0, 225]
abbrev dktX2_test_5 : List UInt8 := dkwX2_test_5 ++ dktX2_test_6
def dkwX2_test_4 : List UInt8 := [159, 0, 4, 177, 42, 42, 16, 60, 182, 0, 219, 154, 0, 21, 42, 16, 62, 182, 0, 219, 154, 0, 12, 42]
abbrev dktX2_test_4 : List UInt8 := dkwX2_test_4 ++ dktX2_test_5
def dkwX2_test_3 : List UInt8 := [43, 180, 0, 208, 16, 8, 160, 0, 11, 43, 42, 182, 0, 175, 181, 0, 216, 43, 180, 0, 208, 16, 19]
abbrev dktX2_test_3 : List UInt8 := dkwX2_test_3 ++ dktX2_test_4
def dkwX2_test_2 : List UInt8 := [43, 43, 180, 0, 208, 16, 19, 160, 0, 10, 42, 182, 0, 175, 167, 0, 7, 42, 182, 0, 211, 181, 0, 213]
abbrev dktX2_test_2 : List UInt8 := dkwX2_test_2 ++ dktX2_test_3
def dkwX2_test_1 : List UInt8 := [159, 0, 12, 43, 180, 0, 208, 16, 20, 160, 0, 7, 4, 167, 0, 4, 3, 182, 0, 38, 42, 182, 0, 42]
abbrev dktX2_test_1 : List UInt8 := dkwX2_test_1 ++ dktX2_test_2
def dkwX2_test_0 : List UInt8 := [43, 42, 182, 0, 34, 181, 0, 208, 42, 43, 180, 0, 208, 16, 8, 159, 0, 21, 43, 180, 0, 208, 16, 19]
abbrev dktX2_test_0 : List UInt8 := dkwX2_test_0 ++ dktX2_test_1
theorem dksX2_test_0 : cX2_test.data.toList.drop 0 = dktX2_test_0 := by decide +kernel
theorem dksX2_test_1 : cX2_test.data.toList.drop 24 = dktX2_test_1 := dk_seg dksX2_test_0 24 rfl rfl
theorem dksX2_test_2 : cX2_test.data.toList.drop 48 = dktX2_test_2 := dk_seg dksX2_test_1 24 rfl rfl
theorem dksX2_test_3 : cX2_test.data.toList.drop 72 = dktX2_test_3 := dk_seg dksX2_test_2 24 rfl rfl
theorem dksX2_test_4 : cX2_test.data.toList.drop 95 = dktX2_test_4 := dk_seg dksX2_test_3 23 rfl rfl
theorem dksX2_test_5 : cX2_test.data.toList.drop 119 = dktX2_test_5 := dk_seg dksX2_test_4 24 rfl rfl
theorem dksX2_test_6 : cX2_test.data.toList.drop 143 = dktX2_test_6 := dk_seg dksX2_test_5 24 rfl rfl
theorem dX2_test_0 : decode cX2_test 0 = .ok (.aload_n 1, 1) := dk_43 (dk_at dksX2_test_0 0 rfl rfl)
theorem dX2_test_1 : decode cX2_test 1 = .ok (.aload_n 0, 1) := dk_42 (dk_at dksX2_test_0 1 rfl rfl)
theorem dX2_test_2 : decode cX2_test 2 = .ok (.invokevirtual 34, 3) := dk_182 0 34 (dk_at dksX2_test_0 2 rfl rfl)
theorem dX2_test_5 : decode cX2_test 5 = .ok (.putfield 208, 3) := dk_181 0 208 (dk_at dksX2_test_0 5 rfl rfl)
theorem dX2_test_8 : decode cX2_test 8 = .ok (.aload_n 0, 1) := dk_42 (dk_at dksX2_test_0 8 rfl rfl)
theorem dX2_test_9 : decode cX2_test 9 = .ok (.aload_n 1, 1) := dk_43 (dk_at dksX2_test_0 9 rfl rfl)
theorem dX2_test_10 : decode cX2_test 10 = .ok (.getfield 208, 3) := dk_180 0 208 (dk_at dksX2_test_0 10 rfl rfl)
theorem dX2_test_13 : decode cX2_test 13 = .ok (.bipush 8, 2) := dk_16 8 (dk_at dksX2_test_0 13 rfl rfl)
theorem dX2_test_15 : decode cX2_test 15 = .ok (.if_icmp .eq 21, 3) := dk_159 0 21 (dk_at dksX2_test_0 15 rfl rfl)
theorem dX2_test_18 : decode cX2_test 18 = .ok (.aload_n 1, 1) := dk_43 (dk_at dksX2_test_0 18 rfl rfl)
theorem dX2_test_19 : decode cX2_test 19 = .ok (.getfield 208, 3) := dk_180 0 208 (dk_at dksX2_test_0 19 rfl rfl)
theorem dX2_test_22 : decode cX2_test 22 = .ok (.bipush 19, 2) := dk_16 19 (dk_at dksX2_test_0 22 rfl rfl)
theorem dX2_test_24 : decode cX2_test 24 = .ok (.if_icmp .eq 12, 3) := dk_159 0 12 (dk_at dksX2_test_1 0 rfl rfl)
theorem dX2_test_27 : decode cX2_test 27 = .ok (.aload_n 1, 1) := dk_43 (dk_at dksX2_test_1 3 rfl rfl)
theorem dX2_test_28 : decode cX2_test 28 = .ok (.getfield 208, 3) := dk_180 0 208 (dk_at dksX2_test_1 4 rfl rfl)
theorem dX2_test_31 : decode cX2_test 31 = .ok (.bipush 20, 2) := dk_16 20 (dk_at dksX2_test_1 7 rfl rfl)
theorem dX2_test_33 : decode cX2_test 33 = .ok (.if_icmp .ne 7, 3) := dk_160 0 7 (dk_at dksX2_test_1 9 rfl rfl)
theorem dX2_test_36 : decode cX2_test 36 = .ok (.iconst 1, 1) := dk_4 (dk_at dksX2_test_1 12 rfl rfl)
theorem dX2_test_37 : decode cX2_test 37 = .ok (.goto 4, 3) := dk_167 0 4 (dk_at dksX2_test_1 13 rfl rfl)
theorem dX2_test_40 : decode cX2_test 40 = .ok (.iconst 0, 1) := dk_3 (dk_at dksX2_test_1 16 rfl rfl)
theorem dX2_test_41 : decode cX2_test 41 = .ok (.invokevirtual 38, 3) := dk_182 0 38 (dk_at dksX2_test_1 17 rfl rfl)
theorem dX2_test_44 : decode cX2_test 44 = .ok (.aload_n 0, 1) := dk_42 (dk_at dksX2_test_1 20 rfl rfl)
theorem dX2_test_45 : decode cX2_test 45 = .ok (.invokevirtual 42, 3) := dk_182 0 42 (dk_at dksX2_test_1 21 rfl rfl)
theorem dX2_test_48 : decode cX2_test 48 = .ok (.aload_n 1, 1) := dk_43 (dk_at dksX2_test_2 0 rfl rfl)
theorem dX2_test_49 : decode cX2_test 49 = .ok (.aload_n 1, 1) := dk_43 (dk_at dksX2_test_2 1 rfl rfl)
theorem dX2_test_50 : decode cX2_test 50 = .ok (.getfield 208, 3) := dk_180 0 208 (dk_at dksX2_test_2 2 rfl rfl)
theorem dX2_test_53 : decode cX2_test 53 = .ok (.bipush 19, 2) := dk_16 19 (dk_at dksX2_test_2 5 rfl rfl)
theorem dX2_test_55 : decode cX2_test 55 = .ok (.if_icmp .ne 10, 3) := dk_160 0 10 (dk_at dksX2_test_2 7 rfl rfl)
theorem dX2_test_58 : decode cX2_test 58 = .ok (.aload_n 0, 1) := dk_42 (dk_at dksX2_test_2 10 rfl rfl)
theorem dX2_test_59 : decode cX2_test 59 = .ok (.invokevirtual 175, 3) := dk_182 0 175 (dk_at dksX2_test_2 11 rfl rfl)
theorem dX2_test_62 : decode cX2_test 62 = .ok (.goto 7, 3) := dk_167 0 7 (dk_at dksX2_test_2 14 rfl rfl)
theorem dX2_test_65 : decode cX2_test 65 = .ok (.aload_n 0, 1) := dk_42 (dk_at dksX2_test_2 17 rfl rfl)
theorem dX2_test_66 : decode cX2_test 66 = .ok (.invokevirtual 211, 3) := dk_182 0 211 (dk_at dksX2_test_2 18 rfl rfl)
theorem dX2_test_69 : decode cX2_test 69 = .ok (.putfield 213, 3) := dk_181 0 213 (dk_at dksX2_test_2 21 rfl rfl)
theorem dX2_test_72 : decode cX2_test 72 = .ok (.aload_n 1, 1) := dk_43 (dk_at dksX2_test_3 0 rfl rfl)
theorem dX2_test_73 : decode cX2_test 73 = .ok (.getfield 208, 3) := dk_180 0 208 (dk_at dksX2_test_3 1 rfl rfl)
theorem dX2_test_76 : decode cX2_test 76 = .ok (.bipush 8, 2) := dk_16 8 (dk_at dksX2_test_3 4 rfl rfl)
theorem dX2_test_78 : decode cX2_test 78 = .ok (.if_icmp .ne 11, 3) := dk_160 0 11 (dk_at dksX2_test_3 6 rfl rfl)
theorem dX2_test_81 : decode cX2_test 81 = .ok (.aload_n 1, 1) := dk_43 (dk_at dksX2_test_3 9 rfl rfl)
theorem dX2_test_82 : decode cX2_test 82 = .ok (.aload_n 0, 1) := dk_42 (dk_at dksX2_test_3 10 rfl rfl)
theorem dX2_test_83 : decode cX2_test 83 = .ok (.invokevirtual 175, 3) := dk_182 0 175 (dk_at dksX2_test_3 11 rfl rfl)
theorem dX2_test_86 : decode cX2_test 86 = .ok (.putfield 216, 3) := dk_181 0 216 (dk_at dksX2_test_3 14 rfl rfl)
theorem dX2_test_89 : decode cX2_test 89 = .ok (.aload_n 1, 1) := dk_43 (dk_at dksX2_test_3 17 rfl rfl)
theorem dX2_test_90 : decode cX2_test 90 = .ok (.getfield 208, 3) := dk_180 0 208 (dk_at dksX2_test_3 18 rfl rfl)
theorem dX2_test_93 : decode cX2_test 93 = .ok (.bipush 19, 2) := dk_16 19 (dk_at dksX2_test_3 21 rfl rfl)
theorem dX2_test_95 : decode cX2_test 95 = .ok (.if_icmp .eq 4, 3) := dk_159 0 4 (dk_at dksX2_test_4 0 rfl rfl)
theorem dX2_test_98 : decode cX2_test 98 = .ok (.return_, 1) := dk_177 (dk_at dksX2_test_4 3 rfl rfl)
theorem dX2_test_99 : decode cX2_test 99 = .ok (.aload_n 0, 1) := dk_42 (dk_at dksX2_test_4 4 rfl rfl)
theorem dX2_test_100 : decode cX2_test 100 = .ok (.aload_n 0, 1) := dk_42 (dk_at dksX2_test_4 5 rfl rfl)
theorem dX2_test_101 : decode cX2_test 101 = .ok (.bipush 60, 2) := dk_16 60 (dk_at dksX2_test_4 6 rfl rfl)
theorem dX2_test_103 : decode cX2_test 103 = .ok (.invokevirtual 219, 3) := dk_182 0 219 (dk_at dksX2_test_4 8 rfl rfl)
theorem dX2_test_106 : decode cX2_test 106 = .ok (.ifCond .ne 21, 3) := dk_154 0 21 (dk_at dksX2_test_4 11 rfl rfl)
theorem dX2_test_109 : decode cX2_test 109 = .ok (.aload_n 0, 1) := dk_42 (dk_at dksX2_test_4 14 rfl rfl)
theorem dX2_test_110 : decode cX2_test 110 = .ok (.bipush 62, 2) := dk_16 62 (dk_at dksX2_test_4 15 rfl rfl)
theorem dX2_test_112 : decode cX2_test 112 = .ok (.invokevirtual 219, 3) := dk_182 0 219 (dk_at dksX2_test_4 17 rfl rfl)
theorem dX2_test_115 : decode cX2_test 115 = .ok (.ifCond .ne 12, 3) := dk_154 0 12 (dk_at dksX2_test_4 20 rfl rfl)
theorem dX2_test_118 : decode cX2_test 118 = .ok (.aload_n 0, 1) := dk_42 (dk_at dksX2_test_4 23 rfl rfl)
theorem dX2_test_119 : decode cX2_test 119 = .ok (.bipush 61, 2) := dk_16 61 (dk_at dksX2_test_5 0 rfl rfl)
theorem dX2_test_121 : decode cX2_test 121 = .ok (.invokevirtual 219, 3) := dk_182 0 219 (dk_at dksX2_test_5 2 rfl rfl)
theorem dX2_test_124 : decode cX2_test 124 = .ok (.ifCond .eq 7, 3) := dk_153 0 7 (dk_at dksX2_test_5 5 rfl rfl)
theorem dX2_test_127 : decode cX2_test 127 = .ok (.iconst 1, 1) := dk_4 (dk_at dksX2_test_5 8 rfl rfl)
theorem dX2_test_128 : decode cX2_test 128 = .ok (.goto 4, 3) := dk_167 0 4 (dk_at dksX2_test_5 9 rfl rfl)
theorem dX2_test_131 : decode cX2_test 131 = .ok (.iconst 0, 1) := dk_3 (dk_at dksX2_test_5 12 rfl rfl)
theorem dX2_test_132 : decode cX2_test 132 = .ok (.invokevirtual 38, 3) := dk_182 0 38 (dk_at dksX2_test_5 13 rfl rfl)
theorem dX2_test_135 : decode cX2_test 135 = .ok (.aload_n 1, 1) := dk_43 (dk_at dksX2_test_5 16 rfl rfl)
theorem dX2_test_136 : decode cX2_test 136 = .ok (.aload_n 0, 1) := dk_42 (dk_at dksX2_test_5 17 rfl rfl)
theorem dX2_test_137 : decode cX2_test 137 = .ok (.getfield 222, 3) := dk_180 0 222 (dk_at dksX2_test_5 18 rfl rfl)
theorem dX2_test_140 : decode cX2_test 140 = .ok (.putfield 225, 3) := dk_181 0 225 (dk_at dksX2_test_5 21 rfl rfl)
theorem dX2_test_143 : decode cX2_test 143 = .ok (.aload_n 0, 1) := dk_42 (dk_at dksX2_test_6 0 rfl rfl)
theorem dX2_test_144 : decode cX2_test 144 = .ok (.invokevirtual 42, 3) := dk_182 0 42 (dk_at dksX2_test_6 1 rfl rfl)
theorem dX2_test_147 : decode cX2_test 147 = .ok (.aload_n 1, 1) := dk_43 (dk_at dksX2_test_6 4 rfl rfl)
theorem dX2_test_148 : decode cX2_test 148 = .ok (.aload_n 0, 1) := dk_42 (dk_at dksX2_test_6 5 rfl rfl)
theorem dX2_test_149 : decode cX2_test 149 = .ok (.iconst 0, 1) := dk_3 (dk_at dksX2_test_6 6 rfl rfl)
theorem dX2_test_150 : decode cX2_test 150 = .ok (.sipush 9999, 3) := dk_17 39 15 (dk_at dksX2_test_6 7 rfl rfl)
theorem dX2_test_153 : decode cX2_test 153 = .ok (.invokevirtual 113, 3) := dk_182 0 113 (dk_at dksX2_test_6 10 rfl rfl)
theorem dX2_test_156 : decode cX2_test 156 = .ok (.putfield 216, 3) := dk_181 0 216 (dk_at dksX2_test_6 13 rfl rfl)
theorem dX2_test_159 : decode cX2_test 159 = .ok (.return_, 1) := dk_177 (dk_at dksX2_test_6 16 rfl rfl)
theorem q155 : (Jvm.Cond.initialized "TinFen$Reader") ∈ lw_all := lw_g (lw_at lw_m1 3 rfl) rfl
theorem q190 : (Jvm.Cond.instantiable "TinFen$Reader" (19 : Nat)) ∈ lw_all := lw_g (lw_at lw_m1 38 rfl) rfl
theorem q280 : (Jvm.Cond.instanceMethod ({ cls := "TinFen$Reader", name := "<init>", desc := "(LTinFen$Wrong;)V" } : Jvm.MethodName)) ∈ lw_all := lw_g (lw_at lw_m1 128 rfl) rfl
theorem q281 : (Jvm.Cond.code ({ cls := "TinFen$Reader", name := "<init>", desc := "(LTinFen$Wrong;)V" } : Jvm.MethodName) prog_7_method_1_code (2 : Nat) (Option.none : Option Jvm.ClassFile.FieldType)) ∈ lw_all := lw_g (lw_at lw_m1 129 rfl) rfl
theorem q282 : (Jvm.Cond.stringRef "TinFen$Reader" (3 : Nat) " odds trait person lane tin worth is of on lead pass bite learn lose any when loop stop end got gone ") ∈ lw_tbl := lw_at lw_m1 130 rfl
theorem q283 : (Jvm.Cond.stringRef "TinFen$Reader" (5 : Nat) ";<>=") ∈ lw_tbl := lw_at lw_m1 131 rfl
theorem q284 : (Jvm.Cond.methodLink "TinFen$Reader" (7 : Nat) ({ cls := "TinFen$Scan", name := "<init>", desc := "([BLjava/lang/String;Ljava/lang/String;LTinFen$Wrong;)V" } : Jvm.MethodName)) ∈ lw_all := lw_g (lw_at lw_m1 132 rfl) rfl
theorem q288 : (Jvm.Cond.classLink "TinFen$Reader" (13 : Nat) "TinFen$Metal") ∈ lw_all := lw_g (lw_at lw_m1 136 rfl) rfl
theorem q290 : (Jvm.Cond.methodLinkNest "TinFen$Reader" (15 : Nat) ({ cls := "TinFen$Metal", name := "<init>", desc := "()V" } : Jvm.MethodName) "TinFen") ∈ lw_tbl := lw_at lw_m1 138 rfl
theorem q296 : (Jvm.Cond.classLink "TinFen$Reader" (24 : Nat) "TinFen$Lead") ∈ lw_all := lw_g (lw_at lw_m1 144 rfl) rfl
theorem q298 : (Jvm.Cond.methodLinkNest "TinFen$Reader" (26 : Nat) ({ cls := "TinFen$Lead", name := "<init>", desc := "()V" } : Jvm.MethodName) "TinFen") ∈ lw_tbl := lw_at lw_m1 146 rfl
theorem q304 : (Jvm.Cond.fieldLink "TinFen$Reader" (196 : Nat) "TinFen$Reader" "stepMany" "I") ∈ lw_all := lw_g (lw_at lw_m1 152 rfl) rfl
theorem q306 : (Jvm.Cond.fieldLink "TinFen$Reader" (199 : Nat) "TinFen$Reader" "counted" "I") ∈ lw_all := lw_g (lw_at lw_m1 154 rfl) rfl
theorem q308 : (Jvm.Cond.fieldLink "TinFen$Reader" (202 : Nat) "TinFen$Reader" "open" "I") ∈ lw_all := lw_g (lw_at lw_m1 156 rfl) rfl
theorem q309 : (Jvm.Cond.fieldLink "TinFen$Reader" (84 : Nat) "TinFen$Reader" "told" "I") ∈ lw_all := lw_g (lw_at lw_m1 157 rfl) rfl
theorem q310 : (Jvm.Cond.fieldLink "TinFen$Reader" (18 : Nat) "TinFen$Reader" "sound" "LTinFen$Metal;") ∈ lw_all := lw_g (lw_at lw_m1 158 rfl) rfl
theorem q312 : (Jvm.Cond.fieldLink "TinFen$Reader" (27 : Nat) "TinFen$Reader" "lead" "LTinFen$Metal;") ∈ lw_all := lw_g (lw_at lw_m1 160 rfl) rfl
theorem q314 : (Jvm.Cond.fieldLink "TinFen$Reader" (59 : Nat) "TinFen$Reader" "fen" "LTinFen$Fen;") ∈ lw_all := lw_g (lw_at lw_m1 162 rfl) rfl
theorem q315 : (Jvm.Cond.fieldLink "TinFen$Reader" (192 : Nat) "TinFen$Reader" "steps" "[LTinFen$Step;") ∈ lw_all := lw_g (lw_at lw_m1 163 rfl) rfl
theorem q316 : (Jvm.Cond.fieldLink "TinFen$Reader" (30 : Nat) "TinFen$Reader" "opened" "[I") ∈ lw_all := lw_g (lw_at lw_m1 164 rfl) rfl
theorem q319 : (Jvm.Cond.sameField "TinFen$Reader" "TinFen$Scan" "tape" "[B") ∈ lw_all := lw_g (lw_at lw_m1 167 rfl) rfl
theorem q321 : (Jvm.Cond.fieldLink "TinFen$Reader" (49 : Nat) "TinFen$Reader" "sort" "I") ∈ lw_all := lw_g (lw_at lw_m1 169 rfl) rfl
theorem q322 : (Jvm.Cond.sameField "TinFen$Reader" "TinFen$Scan" "sort" "I") ∈ lw_all := lw_g (lw_at lw_m1 170 rfl) rfl
theorem q324 : (Jvm.Cond.fieldLink "TinFen$Reader" (56 : Nat) "TinFen$Reader" "from" "I") ∈ lw_all := lw_g (lw_at lw_m1 172 rfl) rfl
theorem q325 : (Jvm.Cond.sameField "TinFen$Reader" "TinFen$Scan" "from" "I") ∈ lw_all := lw_g (lw_at lw_m1 173 rfl) rfl
theorem q328 : (Jvm.Cond.fieldLink "TinFen$Reader" (53 : Nat) "TinFen$Reader" "end" "I") ∈ lw_all := lw_g (lw_at lw_m1 176 rfl) rfl
theorem q329 : (Jvm.Cond.sameField "TinFen$Reader" "TinFen$Scan" "end" "I") ∈ lw_all := lw_g (lw_at lw_m1 177 rfl) rfl
theorem q331 : (Jvm.Cond.fieldLink "TinFen$Reader" (222 : Nat) "TinFen$Reader" "value" "I") ∈ lw_all := lw_g (lw_at lw_m1 179 rfl) rfl
theorem q332 : (Jvm.Cond.sameField "TinFen$Reader" "TinFen$Scan" "value" "I") ∈ lw_all := lw_g (lw_at lw_m1 180 rfl) rfl
theorem q336 : (Jvm.Cond.lays "TinFen$Reader" "TinFen$Reader" "taped" "I") ∈ lw_all := lw_g (lw_at lw_m1 184 rfl) rfl
theorem q337 : (Jvm.Cond.soleField "TinFen$Reader" "taped") ∈ lw_all := lw_g (lw_at lw_m1 185 rfl) rfl
theorem q338 : (Jvm.Cond.lays "TinFen$Reader" "TinFen$Reader" "stepMany" "I") ∈ lw_all := lw_g (lw_at lw_m1 186 rfl) rfl
theorem q339 : (Jvm.Cond.soleField "TinFen$Reader" "stepMany") ∈ lw_all := lw_g (lw_at lw_m1 187 rfl) rfl
theorem q340 : (Jvm.Cond.lays "TinFen$Reader" "TinFen$Reader" "counted" "I") ∈ lw_all := lw_g (lw_at lw_m1 188 rfl) rfl
theorem q341 : (Jvm.Cond.soleField "TinFen$Reader" "counted") ∈ lw_all := lw_g (lw_at lw_m1 189 rfl) rfl
theorem q342 : (Jvm.Cond.lays "TinFen$Reader" "TinFen$Reader" "open" "I") ∈ lw_all := lw_g (lw_at lw_m1 190 rfl) rfl
theorem q343 : (Jvm.Cond.soleField "TinFen$Reader" "open") ∈ lw_all := lw_g (lw_at lw_m1 191 rfl) rfl
theorem q344 : (Jvm.Cond.lays "TinFen$Reader" "TinFen$Reader" "told" "I") ∈ lw_all := lw_g (lw_at lw_m1 192 rfl) rfl
theorem q345 : (Jvm.Cond.soleField "TinFen$Reader" "told") ∈ lw_all := lw_g (lw_at lw_m1 193 rfl) rfl
theorem q346 : (Jvm.Cond.laysFinal "TinFen$Reader" "TinFen$Reader" "sound" "LTinFen$Metal;") ∈ lw_all := lw_g (lw_at lw_m1 194 rfl) rfl
theorem q347 : (Jvm.Cond.soleField "TinFen$Reader" "sound") ∈ lw_all := lw_g (lw_at lw_m1 195 rfl) rfl
theorem q348 : (Jvm.Cond.laysFinal "TinFen$Reader" "TinFen$Reader" "lead" "LTinFen$Metal;") ∈ lw_all := lw_g (lw_at lw_m1 196 rfl) rfl
theorem q349 : (Jvm.Cond.soleField "TinFen$Reader" "lead") ∈ lw_all := lw_g (lw_at lw_m1 197 rfl) rfl
theorem q350 : (Jvm.Cond.lays "TinFen$Reader" "TinFen$Reader" "fen" "LTinFen$Fen;") ∈ lw_all := lw_g (lw_at lw_m1 198 rfl) rfl
theorem q351 : (Jvm.Cond.soleField "TinFen$Reader" "fen") ∈ lw_all := lw_g (lw_at lw_m1 199 rfl) rfl
theorem q352 : (Jvm.Cond.lays "TinFen$Reader" "TinFen$Reader" "steps" "[LTinFen$Step;") ∈ lw_all := lw_g (lw_at lw_m1 200 rfl) rfl
theorem q353 : (Jvm.Cond.soleField "TinFen$Reader" "steps") ∈ lw_all := lw_g (lw_at lw_m1 201 rfl) rfl
theorem q354 : (Jvm.Cond.laysFinal "TinFen$Reader" "TinFen$Reader" "opened" "[I") ∈ lw_all := lw_g (lw_at lw_m1 202 rfl) rfl
theorem q355 : (Jvm.Cond.soleField "TinFen$Reader" "opened") ∈ lw_all := lw_g (lw_at lw_m1 203 rfl) rfl
theorem q356 : (Jvm.Cond.laysFinal "TinFen$Reader" "TinFen$Scan" "tape" "[B") ∈ lw_all := lw_g (lw_at lw_m1 204 rfl) rfl
theorem q358 : (Jvm.Cond.lays "TinFen$Reader" "TinFen$Scan" "size" "I") ∈ lw_all := lw_g (lw_at lw_m1 206 rfl) rfl
theorem q360 : (Jvm.Cond.lays "TinFen$Reader" "TinFen$Scan" "sort" "I") ∈ lw_all := lw_g (lw_at lw_m1 208 rfl) rfl
theorem q362 : (Jvm.Cond.lays "TinFen$Reader" "TinFen$Scan" "from" "I") ∈ lw_all := lw_g (lw_at lw_m1 210 rfl) rfl
theorem q364 : (Jvm.Cond.lays "TinFen$Reader" "TinFen$Scan" "end" "I") ∈ lw_all := lw_g (lw_at lw_m1 212 rfl) rfl
theorem q366 : (Jvm.Cond.lays "TinFen$Reader" "TinFen$Scan" "value" "I") ∈ lw_all := lw_g (lw_at lw_m1 214 rfl) rfl
theorem q368 : (Jvm.Cond.laysFinal "TinFen$Reader" "TinFen$Scan" "keys" "Ljava/lang/String;") ∈ lw_all := lw_g (lw_at lw_m1 216 rfl) rfl
theorem q370 : (Jvm.Cond.laysFinal "TinFen$Reader" "TinFen$Scan" "signs" "Ljava/lang/String;") ∈ lw_all := lw_g (lw_at lw_m1 218 rfl) rfl
theorem q372 : (Jvm.Cond.laysFinal "TinFen$Reader" "TinFen$Scan" "wrong" "LTinFen$Wrong;") ∈ lw_all := lw_g (lw_at lw_m1 220 rfl) rfl
theorem q374 : (Jvm.Cond.superclass "TinFen$Reader" "TinFen$Scan") ∈ lw_all := lw_g (lw_at lw_m1 222 rfl) rfl
theorem q387 : (Jvm.Cond.fieldLink "TinFen$Reader" (151 : Nat) "TinFen$Fen" "traits" "[J") ∈ lw_all := lw_g (lw_at lw_m1 235 rfl) rfl
theorem q389 : (Jvm.Cond.fieldLink "TinFen$Reader" (148 : Nat) "TinFen$Fen" "worth" "[I") ∈ lw_all := lw_g (lw_at lw_m1 237 rfl) rfl
theorem q392 : (Jvm.Cond.fieldLink "TinFen$Reader" (171 : Nat) "TinFen$Fen" "people" "[LTinFen$Person;") ∈ lw_all := lw_g (lw_at lw_m2 0 rfl) rfl
theorem q397 : (Jvm.Cond.fieldLinkNest "TinFen$Reader" (97 : Nat) "TinFen$Fen" "traitMany" "I" "TinFen") ∈ lw_tbl := lw_at lw_m2 5 rfl
theorem q400 : (Jvm.Cond.fieldLinkNest "TinFen$Reader" (100 : Nat) "TinFen$Fen" "personMany" "I" "TinFen") ∈ lw_tbl := lw_at lw_m2 8 rfl
theorem q403 : (Jvm.Cond.fieldLinkNest "TinFen$Reader" (103 : Nat) "TinFen$Fen" "laneMany" "I" "TinFen") ∈ lw_tbl := lw_at lw_m2 11 rfl
theorem q406 : (Jvm.Cond.fieldLinkNest "TinFen$Reader" (106 : Nat) "TinFen$Fen" "tinMany" "I" "TinFen") ∈ lw_tbl := lw_at lw_m2 14 rfl
theorem q409 : (Jvm.Cond.fieldLinkNest "TinFen$Reader" (117 : Nat) "TinFen$Fen" "odds" "I" "TinFen") ∈ lw_tbl := lw_at lw_m2 17 rfl
theorem q677 : (Jvm.Cond.instanceMethod ({ cls := "TinFen$Reader", name := "fen", desc := "(I)LTinFen$Fen;" } : Jvm.MethodName)) ∈ lw_all := lw_g (lw_at lw_m3 45 rfl) rfl
theorem q678 : (Jvm.Cond.selects "TinFen$Reader" ({ cls := "TinFen$Reader", name := "fen", desc := "(I)LTinFen$Fen;" } : Jvm.MethodName) ({ cls := "TinFen$Reader", name := "fen", desc := "(I)LTinFen$Fen;" } : Jvm.MethodName)) ∈ lw_all := lw_g (lw_at lw_m3 46 rfl) rfl
theorem q679 : (Jvm.Cond.code ({ cls := "TinFen$Reader", name := "fen", desc := "(I)LTinFen$Fen;" } : Jvm.MethodName) prog_7_method_9_code (2 : Nat) (Option.some (Jvm.ClassFile.FieldType.object "TinFen$Fen"))) ∈ lw_all := lw_g (lw_at lw_m3 47 rfl) rfl
theorem q680 : (Jvm.Cond.classLink "TinFen$Reader" (68 : Nat) "TinFen$Fen") ∈ lw_all := lw_g (lw_at lw_m3 48 rfl) rfl
theorem q681 : (Jvm.Cond.methodLinkNest "TinFen$Reader" (83 : Nat) ({ cls := "TinFen$Fen", name := "<init>", desc := "()V" } : Jvm.MethodName) "TinFen") ∈ lw_tbl := lw_at lw_m3 49 rfl
theorem q682 : (Jvm.Cond.methodLink "TinFen$Reader" (87 : Nat) ({ cls := "TinFen$Reader", name := "begin", desc := "(I)V" } : Jvm.MethodName)) ∈ lw_all := lw_g (lw_at lw_m3 50 rfl) rfl
theorem q683 : (Jvm.Cond.sameMethod "TinFen$Reader" "TinFen$Scan" "begin" "(I)V") ∈ lw_all := lw_g (lw_at lw_m3 51 rfl) rfl
theorem q685 : (Jvm.Cond.selects "TinFen$Reader" ({ cls := "TinFen$Reader", name := "begin", desc := "(I)V" } : Jvm.MethodName) ({ cls := "TinFen$Scan", name := "begin", desc := "(I)V" } : Jvm.MethodName)) ∈ lw_all := lw_g (lw_at lw_m3 53 rfl) rfl
theorem q691 : (Jvm.Cond.selects "TinFen$Reader" ({ cls := "TinFen$Scan", name := "next", desc := "()V" } : Jvm.MethodName) ({ cls := "TinFen$Scan", name := "next", desc := "()V" } : Jvm.MethodName)) ∈ lw_all := lw_g (lw_at lw_m3 59 rfl) rfl
theorem q759 : (Jvm.Cond.methodLink "TinFen$Reader" (91 : Nat) ({ cls := "TinFen$Reader", name := "part", desc := "()V" } : Jvm.MethodName)) ∈ lw_all := lw_g (lw_at lw_m3 127 rfl) rfl
theorem q760 : (Jvm.Cond.privateMethod ({ cls := "TinFen$Reader", name := "part", desc := "()V" } : Jvm.MethodName)) ∈ lw_tbl := lw_at lw_m3 128 rfl
theorem q761 : (Jvm.Cond.instanceMethod ({ cls := "TinFen$Reader", name := "part", desc := "()V" } : Jvm.MethodName)) ∈ lw_all := lw_g (lw_at lw_m3 129 rfl) rfl
theorem q762 : (Jvm.Cond.code ({ cls := "TinFen$Reader", name := "part", desc := "()V" } : Jvm.MethodName) prog_7_method_11_code (2 : Nat) (Option.none : Option Jvm.ClassFile.FieldType)) ∈ lw_all := lw_g (lw_at lw_m3 130 rfl) rfl
theorem q763 : (Jvm.Cond.methodLink "TinFen$Reader" (34 : Nat) ({ cls := "TinFen$Reader", name := "key", desc := "()I" } : Jvm.MethodName)) ∈ lw_all := lw_g (lw_at lw_m3 131 rfl) rfl
theorem q764 : (Jvm.Cond.sameMethod "TinFen$Reader" "TinFen$Scan" "key" "()I") ∈ lw_all := lw_g (lw_at lw_m3 132 rfl) rfl
theorem q766 : (Jvm.Cond.selects "TinFen$Reader" ({ cls := "TinFen$Reader", name := "key", desc := "()I" } : Jvm.MethodName) ({ cls := "TinFen$Scan", name := "key", desc := "()I" } : Jvm.MethodName)) ∈ lw_all := lw_g (lw_at lw_m3 134 rfl) rfl
theorem q772 : (Jvm.Cond.selects "TinFen$Reader" ({ cls := "TinFen$Scan", name := "in", desc := "(Ljava/lang/String;)I" } : Jvm.MethodName) ({ cls := "TinFen$Scan", name := "in", desc := "(Ljava/lang/String;)I" } : Jvm.MethodName)) ∈ lw_all := lw_g (lw_at lw_m3 140 rfl) rfl
theorem q778 : (Jvm.Cond.methodLink "TinFen$Reader" (38 : Nat) ({ cls := "TinFen$Reader", name := "need", desc := "(Z)V" } : Jvm.MethodName)) ∈ lw_all := lw_g (lw_at lw_m3 146 rfl) rfl
theorem q779 : (Jvm.Cond.sameMethod "TinFen$Reader" "TinFen$Scan" "need" "(Z)V") ∈ lw_all := lw_g (lw_at lw_m3 147 rfl) rfl
theorem q781 : (Jvm.Cond.selects "TinFen$Reader" ({ cls := "TinFen$Reader", name := "need", desc := "(Z)V" } : Jvm.MethodName) ({ cls := "TinFen$Scan", name := "need", desc := "(Z)V" } : Jvm.MethodName)) ∈ lw_all := lw_g (lw_at lw_m3 149 rfl) rfl
theorem q787 : (Jvm.Cond.selects "TinFen$Reader" ({ cls := "TinFen$Scan", name := "fail", desc := "(I)LTinFen$Wrong;" } : Jvm.MethodName) ({ cls := "TinFen$Scan", name := "fail", desc := "(I)LTinFen$Wrong;" } : Jvm.MethodName)) ∈ lw_all := lw_g (lw_at lw_m3 155 rfl) rfl
theorem q793 : (Jvm.Cond.methodLink "TinFen$Reader" (45 : Nat) ({ cls := "TinFen$Reader", name := "fail", desc := "(I)LTinFen$Wrong;" } : Jvm.MethodName)) ∈ lw_all := lw_g (lw_at lw_m3 161 rfl) rfl
theorem q794 : (Jvm.Cond.sameMethod "TinFen$Reader" "TinFen$Scan" "fail" "(I)LTinFen$Wrong;") ∈ lw_all := lw_g (lw_at lw_m3 162 rfl) rfl
theorem q796 : (Jvm.Cond.selects "TinFen$Reader" ({ cls := "TinFen$Reader", name := "fail", desc := "(I)LTinFen$Wrong;" } : Jvm.MethodName) ({ cls := "TinFen$Scan", name := "fail", desc := "(I)LTinFen$Wrong;" } : Jvm.MethodName)) ∈ lw_all := lw_g (lw_at lw_m3 164 rfl) rfl
theorem q797 : (Jvm.Cond.methodLink "TinFen$Reader" (109 : Nat) ({ cls := "TinFen$Reader", name := "isFullOf", desc := "(I)Z" } : Jvm.MethodName)) ∈ lw_all := lw_g (lw_at lw_m3 165 rfl) rfl
theorem q798 : (Jvm.Cond.privateMethod ({ cls := "TinFen$Reader", name := "isFullOf", desc := "(I)Z" } : Jvm.MethodName)) ∈ lw_tbl := lw_at lw_m3 166 rfl
theorem q799 : (Jvm.Cond.instanceMethod ({ cls := "TinFen$Reader", name := "isFullOf", desc := "(I)Z" } : Jvm.MethodName)) ∈ lw_all := lw_g (lw_at lw_m3 167 rfl) rfl
theorem q800 : (Jvm.Cond.code ({ cls := "TinFen$Reader", name := "isFullOf", desc := "(I)Z" } : Jvm.MethodName) prog_7_method_10_code (2 : Nat) (Option.some Jvm.ClassFile.FieldType.boolean)) ∈ lw_all := lw_g (lw_at lw_m3 168 rfl) rfl
theorem q801 : (Jvm.Cond.methodLink "TinFen$Reader" (42 : Nat) ({ cls := "TinFen$Reader", name := "next", desc := "()V" } : Jvm.MethodName)) ∈ lw_all := lw_g (lw_at lw_m3 169 rfl) rfl
theorem q802 : (Jvm.Cond.sameMethod "TinFen$Reader" "TinFen$Scan" "next" "()V") ∈ lw_all := lw_g (lw_at lw_m3 170 rfl) rfl
theorem q804 : (Jvm.Cond.selects "TinFen$Reader" ({ cls := "TinFen$Reader", name := "next", desc := "()V" } : Jvm.MethodName) ({ cls := "TinFen$Scan", name := "next", desc := "()V" } : Jvm.MethodName)) ∈ lw_all := lw_g (lw_at lw_m3 172 rfl) rfl
theorem q805 : (Jvm.Cond.methodLink "TinFen$Reader" (113 : Nat) ({ cls := "TinFen$Reader", name := "passed", desc := "(II)I" } : Jvm.MethodName)) ∈ lw_all := lw_g (lw_at lw_m3 173 rfl) rfl
theorem q806 : (Jvm.Cond.sameMethod "TinFen$Reader" "TinFen$Scan" "passed" "(II)I") ∈ lw_all := lw_g (lw_at lw_m3 174 rfl) rfl
theorem q808 : (Jvm.Cond.selects "TinFen$Reader" ({ cls := "TinFen$Reader", name := "passed", desc := "(II)I" } : Jvm.MethodName) ({ cls := "TinFen$Scan", name := "passed", desc := "(II)I" } : Jvm.MethodName)) ∈ lw_all := lw_g (lw_at lw_m3 176 rfl) rfl
theorem q814 : (Jvm.Cond.selects "TinFen$Reader" ({ cls := "TinFen$Scan", name := "number", desc := "(II)I" } : Jvm.MethodName) ({ cls := "TinFen$Scan", name := "number", desc := "(II)I" } : Jvm.MethodName)) ∈ lw_all := lw_g (lw_at lw_m3 182 rfl) rfl
theorem q817 : (Jvm.Cond.methodLink "TinFen$Reader" (120 : Nat) ({ cls := "TinFen$Reader", name := "newName", desc := "()J" } : Jvm.MethodName)) ∈ lw_all := lw_g (lw_at lw_m3 185 rfl) rfl
theorem q818 : (Jvm.Cond.privateMethod ({ cls := "TinFen$Reader", name := "newName", desc := "()J" } : Jvm.MethodName)) ∈ lw_tbl := lw_at lw_m3 186 rfl
theorem q819 : (Jvm.Cond.instanceMethod ({ cls := "TinFen$Reader", name := "newName", desc := "()J" } : Jvm.MethodName)) ∈ lw_all := lw_g (lw_at lw_m3 187 rfl) rfl
theorem q820 : (Jvm.Cond.code ({ cls := "TinFen$Reader", name := "newName", desc := "()J" } : Jvm.MethodName) prog_7_method_12_code (3 : Nat) (Option.some Jvm.ClassFile.FieldType.long)) ∈ lw_all := lw_g (lw_at lw_m3 188 rfl) rfl
theorem q821 : (Jvm.Cond.methodLink "TinFen$Reader" (63 : Nat) ({ cls := "TinFen$Reader", name := "name", desc := "()J" } : Jvm.MethodName)) ∈ lw_all := lw_g (lw_at lw_m3 189 rfl) rfl
theorem q822 : (Jvm.Cond.sameMethod "TinFen$Reader" "TinFen$Scan" "name" "()J") ∈ lw_all := lw_g (lw_at lw_m3 190 rfl) rfl
theorem q824 : (Jvm.Cond.selects "TinFen$Reader" ({ cls := "TinFen$Reader", name := "name", desc := "()J" } : Jvm.MethodName) ({ cls := "TinFen$Scan", name := "name", desc := "()J" } : Jvm.MethodName)) ∈ lw_all := lw_g (lw_at lw_m3 192 rfl) rfl
theorem q828 : (Jvm.Cond.methodLink "TinFen$Reader" (141 : Nat) ({ cls := "TinFen$Fen", name := "isTaken", desc := "(J)Z" } : Jvm.MethodName)) ∈ lw_all := lw_g (lw_at lw_m3 196 rfl) rfl
theorem q844 : (Jvm.Cond.methodLink "TinFen$Reader" (123 : Nat) ({ cls := "TinFen$Reader", name := "aTrait", desc := "(J)V" } : Jvm.MethodName)) ∈ lw_all := lw_g (lw_at lw_m3 212 rfl) rfl
theorem q845 : (Jvm.Cond.privateMethod ({ cls := "TinFen$Reader", name := "aTrait", desc := "(J)V" } : Jvm.MethodName)) ∈ lw_tbl := lw_at lw_m3 213 rfl
theorem q846 : (Jvm.Cond.instanceMethod ({ cls := "TinFen$Reader", name := "aTrait", desc := "(J)V" } : Jvm.MethodName)) ∈ lw_all := lw_g (lw_at lw_m3 214 rfl) rfl
theorem q847 : (Jvm.Cond.code ({ cls := "TinFen$Reader", name := "aTrait", desc := "(J)V" } : Jvm.MethodName) prog_7_method_13_code (3 : Nat) (Option.none : Option Jvm.ClassFile.FieldType)) ∈ lw_all := lw_g (lw_at lw_m3 215 rfl) rfl
theorem q848 : (Jvm.Cond.methodLink "TinFen$Reader" (145 : Nat) ({ cls := "TinFen$Reader", name := "word", desc := "(I)V" } : Jvm.MethodName)) ∈ lw_all := lw_g (lw_at lw_m3 216 rfl) rfl
theorem q849 : (Jvm.Cond.privateMethod ({ cls := "TinFen$Reader", name := "word", desc := "(I)V" } : Jvm.MethodName)) ∈ lw_tbl := lw_at lw_m3 217 rfl
theorem q850 : (Jvm.Cond.instanceMethod ({ cls := "TinFen$Reader", name := "word", desc := "(I)V" } : Jvm.MethodName)) ∈ lw_all := lw_g (lw_at lw_m3 218 rfl) rfl
theorem q851 : (Jvm.Cond.code ({ cls := "TinFen$Reader", name := "word", desc := "(I)V" } : Jvm.MethodName) prog_7_method_2_code (2 : Nat) (Option.none : Option Jvm.ClassFile.FieldType)) ∈ lw_all := lw_g (lw_at lw_m3 219 rfl) rfl
theorem q852 : (Jvm.Cond.classLink "TinFen$Reader" (127 : Nat) "TinFen$Person") ∈ lw_all := lw_g (lw_at lw_m3 220 rfl) rfl
theorem q854 : (Jvm.Cond.methodLink "TinFen$Reader" (129 : Nat) ({ cls := "TinFen$Person", name := "<init>", desc := "(J)V" } : Jvm.MethodName)) ∈ lw_all := lw_g (lw_at lw_m3 222 rfl) rfl
theorem q862 : (Jvm.Cond.fieldLinkNest "TinFen$Reader" (162 : Nat) "TinFen$Person" "isTrue" "I" "TinFen") ∈ lw_tbl := lw_at lw_m3 230 rfl
theorem q879 : (Jvm.Cond.methodLink "TinFen$Reader" (131 : Nat) ({ cls := "TinFen$Reader", name := "aPerson", desc := "(LTinFen$Person;)V" } : Jvm.MethodName)) ∈ lw_all := lw_g (lw_at lw_m4 7 rfl) rfl
theorem q880 : (Jvm.Cond.privateMethod ({ cls := "TinFen$Reader", name := "aPerson", desc := "(LTinFen$Person;)V" } : Jvm.MethodName)) ∈ lw_tbl := lw_at lw_m4 8 rfl
theorem q881 : (Jvm.Cond.instanceMethod ({ cls := "TinFen$Reader", name := "aPerson", desc := "(LTinFen$Person;)V" } : Jvm.MethodName)) ∈ lw_all := lw_g (lw_at lw_m4 9 rfl) rfl
theorem q882 : (Jvm.Cond.code ({ cls := "TinFen$Reader", name := "aPerson", desc := "(LTinFen$Person;)V" } : Jvm.MethodName) prog_7_method_14_code (3 : Nat) (Option.none : Option Jvm.ClassFile.FieldType)) ∈ lw_all := lw_g (lw_at lw_m4 10 rfl) rfl
theorem q883 : (Jvm.Cond.methodLink "TinFen$Reader" (155 : Nat) ({ cls := "TinFen$Reader", name := "isNext", desc := "(I)Z" } : Jvm.MethodName)) ∈ lw_all := lw_g (lw_at lw_m4 11 rfl) rfl
theorem q884 : (Jvm.Cond.privateMethod ({ cls := "TinFen$Reader", name := "isNext", desc := "(I)Z" } : Jvm.MethodName)) ∈ lw_tbl := lw_at lw_m4 12 rfl
theorem q885 : (Jvm.Cond.instanceMethod ({ cls := "TinFen$Reader", name := "isNext", desc := "(I)Z" } : Jvm.MethodName)) ∈ lw_all := lw_g (lw_at lw_m4 13 rfl) rfl
theorem q886 : (Jvm.Cond.code ({ cls := "TinFen$Reader", name := "isNext", desc := "(I)Z" } : Jvm.MethodName) prog_7_method_4_code (2 : Nat) (Option.some Jvm.ClassFile.FieldType.boolean)) ∈ lw_all := lw_g (lw_at lw_m4 14 rfl) rfl
theorem q887 : (Jvm.Cond.methodLink "TinFen$Reader" (158 : Nat) ({ cls := "TinFen$Reader", name := "isName", desc := "()Z" } : Jvm.MethodName)) ∈ lw_all := lw_g (lw_at lw_m4 15 rfl) rfl
theorem q888 : (Jvm.Cond.privateMethod ({ cls := "TinFen$Reader", name := "isName", desc := "()Z" } : Jvm.MethodName)) ∈ lw_tbl := lw_at lw_m4 16 rfl
theorem q889 : (Jvm.Cond.instanceMethod ({ cls := "TinFen$Reader", name := "isName", desc := "()Z" } : Jvm.MethodName)) ∈ lw_all := lw_g (lw_at lw_m4 17 rfl) rfl
theorem q890 : (Jvm.Cond.code ({ cls := "TinFen$Reader", name := "isName", desc := "()Z" } : Jvm.MethodName) prog_7_method_5_code (1 : Nat) (Option.some Jvm.ClassFile.FieldType.boolean)) ∈ lw_all := lw_g (lw_at lw_m4 18 rfl) rfl
theorem q891 : (Jvm.Cond.methodLink "TinFen$Reader" (67 : Nat) ({ cls := "TinFen$Fen", name := "trait", desc := "(J)I" } : Jvm.MethodName)) ∈ lw_all := lw_g (lw_at lw_m4 19 rfl) rfl
theorem q892 : (Jvm.Cond.methodLinkNest "TinFen$Reader" (165 : Nat) ({ cls := "TinFen", name := "isIn", desc := "(II)Z" } : Jvm.MethodName) "TinFen") ∈ lw_tbl := lw_at lw_m4 20 rfl
theorem q895 : (Jvm.Cond.methodLink "TinFen$Reader" (169 : Nat) ({ cls := "TinFen$Reader", name := "trait", desc := "()I" } : Jvm.MethodName)) ∈ lw_all := lw_g (lw_at lw_m4 23 rfl) rfl
theorem q896 : (Jvm.Cond.privateMethod ({ cls := "TinFen$Reader", name := "trait", desc := "()I" } : Jvm.MethodName)) ∈ lw_tbl := lw_at lw_m4 24 rfl
theorem q897 : (Jvm.Cond.instanceMethod ({ cls := "TinFen$Reader", name := "trait", desc := "()I" } : Jvm.MethodName)) ∈ lw_all := lw_g (lw_at lw_m4 25 rfl) rfl
theorem q898 : (Jvm.Cond.code ({ cls := "TinFen$Reader", name := "trait", desc := "()I" } : Jvm.MethodName) prog_7_method_6_code (1 : Nat) (Option.some Jvm.ClassFile.FieldType.int)) ∈ lw_all := lw_g (lw_at lw_m4 26 rfl) rfl
theorem q899 : (Jvm.Cond.methodLink "TinFen$Reader" (73 : Nat) ({ cls := "TinFen$Reader", name := "known", desc := "(I)I" } : Jvm.MethodName)) ∈ lw_all := lw_g (lw_at lw_m4 27 rfl) rfl
theorem q900 : (Jvm.Cond.privateMethod ({ cls := "TinFen$Reader", name := "known", desc := "(I)I" } : Jvm.MethodName)) ∈ lw_tbl := lw_at lw_m4 28 rfl
theorem q901 : (Jvm.Cond.instanceMethod ({ cls := "TinFen$Reader", name := "known", desc := "(I)I" } : Jvm.MethodName)) ∈ lw_all := lw_g (lw_at lw_m4 29 rfl) rfl
theorem q902 : (Jvm.Cond.code ({ cls := "TinFen$Reader", name := "known", desc := "(I)I" } : Jvm.MethodName) prog_7_method_3_code (2 : Nat) (Option.some Jvm.ClassFile.FieldType.int)) ∈ lw_all := lw_g (lw_at lw_m4 30 rfl) rfl
theorem q903 : (Jvm.Cond.methodLink "TinFen$Reader" (135 : Nat) ({ cls := "TinFen$Reader", name := "aLane", desc := "()V" } : Jvm.MethodName)) ∈ lw_all := lw_g (lw_at lw_m4 31 rfl) rfl
theorem q904 : (Jvm.Cond.privateMethod ({ cls := "TinFen$Reader", name := "aLane", desc := "()V" } : Jvm.MethodName)) ∈ lw_tbl := lw_at lw_m4 32 rfl
theorem q905 : (Jvm.Cond.instanceMethod ({ cls := "TinFen$Reader", name := "aLane", desc := "()V" } : Jvm.MethodName)) ∈ lw_all := lw_g (lw_at lw_m4 33 rfl) rfl
theorem q906 : (Jvm.Cond.code ({ cls := "TinFen$Reader", name := "aLane", desc := "()V" } : Jvm.MethodName) prog_7_method_15_code (2 : Nat) (Option.none : Option Jvm.ClassFile.FieldType)) ∈ lw_all := lw_g (lw_at lw_m4 34 rfl) rfl
theorem q907 : (Jvm.Cond.methodLink "TinFen$Reader" (175 : Nat) ({ cls := "TinFen$Reader", name := "person", desc := "()I" } : Jvm.MethodName)) ∈ lw_all := lw_g (lw_at lw_m4 35 rfl) rfl
theorem q908 : (Jvm.Cond.privateMethod ({ cls := "TinFen$Reader", name := "person", desc := "()I" } : Jvm.MethodName)) ∈ lw_tbl := lw_at lw_m4 36 rfl
theorem q909 : (Jvm.Cond.instanceMethod ({ cls := "TinFen$Reader", name := "person", desc := "()I" } : Jvm.MethodName)) ∈ lw_all := lw_g (lw_at lw_m4 37 rfl) rfl
theorem q910 : (Jvm.Cond.code ({ cls := "TinFen$Reader", name := "person", desc := "()I" } : Jvm.MethodName) prog_7_method_7_code (1 : Nat) (Option.some Jvm.ClassFile.FieldType.int)) ∈ lw_all := lw_g (lw_at lw_m4 38 rfl) rfl
theorem q911 : (Jvm.Cond.methodLink "TinFen$Reader" (77 : Nat) ({ cls := "TinFen$Fen", name := "person", desc := "(J)I" } : Jvm.MethodName)) ∈ lw_all := lw_g (lw_at lw_m4 39 rfl) rfl
theorem q912 : (Jvm.Cond.methodLink "TinFen$Reader" (177 : Nat) ({ cls := "TinFen$Fen", name := "meets", desc := "(II)V" } : Jvm.MethodName)) ∈ lw_all := lw_g (lw_at lw_m4 40 rfl) rfl
theorem q916 : (Jvm.Cond.methodLink "TinFen$Reader" (138 : Nat) ({ cls := "TinFen$Reader", name := "aTin", desc := "(J)V" } : Jvm.MethodName)) ∈ lw_all := lw_g (lw_at lw_m4 44 rfl) rfl
theorem q917 : (Jvm.Cond.privateMethod ({ cls := "TinFen$Reader", name := "aTin", desc := "(J)V" } : Jvm.MethodName)) ∈ lw_tbl := lw_at lw_m4 45 rfl
theorem q918 : (Jvm.Cond.instanceMethod ({ cls := "TinFen$Reader", name := "aTin", desc := "(J)V" } : Jvm.MethodName)) ∈ lw_all := lw_g (lw_at lw_m4 46 rfl) rfl
theorem q919 : (Jvm.Cond.code ({ cls := "TinFen$Reader", name := "aTin", desc := "(J)V" } : Jvm.MethodName) prog_7_method_16_code (5 : Nat) (Option.none : Option Jvm.ClassFile.FieldType)) ∈ lw_all := lw_g (lw_at lw_m4 47 rfl) rfl
theorem q920 : (Jvm.Cond.classLink "TinFen$Reader" (181 : Nat) "TinFen$Tin") ∈ lw_all := lw_g (lw_at lw_m4 48 rfl) rfl
theorem q922 : (Jvm.Cond.methodLink "TinFen$Reader" (183 : Nat) ({ cls := "TinFen$Tin", name := "<init>", desc := "(JLTinFen$Metal;)V" } : Jvm.MethodName)) ∈ lw_all := lw_g (lw_at lw_m4 50 rfl) rfl
theorem q963 : (Jvm.Cond.methodLink "TinFen$Reader" (186 : Nat) ({ cls := "TinFen$Fen", name := "strikes", desc := "(LTinFen$Tin;II)LTinFen$Tin;" } : Jvm.MethodName)) ∈ lw_all := lw_g (lw_at lw_m4 91 rfl) rfl
theorem q967 : (Jvm.Cond.methodLink "TinFen$Reader" (94 : Nat) ({ cls := "TinFen$Reader", name := "closes", desc := "()V" } : Jvm.MethodName)) ∈ lw_all := lw_g (lw_at lw_m4 95 rfl) rfl
theorem q968 : (Jvm.Cond.sameMethod "TinFen$Reader" "TinFen$Scan" "closes" "()V") ∈ lw_all := lw_g (lw_at lw_m4 96 rfl) rfl
theorem q970 : (Jvm.Cond.selects "TinFen$Reader" ({ cls := "TinFen$Reader", name := "closes", desc := "()V" } : Jvm.MethodName) ({ cls := "TinFen$Scan", name := "closes", desc := "()V" } : Jvm.MethodName)) ∈ lw_all := lw_g (lw_at lw_m4 98 rfl) rfl
theorem q976 : (Jvm.Cond.selects "TinFen$Reader" ({ cls := "TinFen$Scan", name := "is", desc := "(I)Z" } : Jvm.MethodName) ({ cls := "TinFen$Scan", name := "is", desc := "(I)Z" } : Jvm.MethodName)) ∈ lw_all := lw_g (lw_at lw_m4 104 rfl) rfl
theorem q991 : (Jvm.Cond.instanceMethod ({ cls := "TinFen$Reader", name := "years", desc := "(ILTinFen$Fen;)[LTinFen$Step;" } : Jvm.MethodName)) ∈ lw_all := lw_g (lw_at lw_m4 119 rfl) rfl
theorem q992 : (Jvm.Cond.selects "TinFen$Reader" ({ cls := "TinFen$Reader", name := "years", desc := "(ILTinFen$Fen;)[LTinFen$Step;" } : Jvm.MethodName) ({ cls := "TinFen$Reader", name := "years", desc := "(ILTinFen$Fen;)[LTinFen$Step;" } : Jvm.MethodName)) ∈ lw_all := lw_g (lw_at lw_m4 120 rfl) rfl
theorem q993 : (Jvm.Cond.code ({ cls := "TinFen$Reader", name := "years", desc := "(ILTinFen$Fen;)[LTinFen$Step;" } : Jvm.MethodName) prog_7_method_17_code (3 : Nat) (Option.some (Jvm.ClassFile.FieldType.array (Jvm.ClassFile.FieldType.object "TinFen$Step")))) ∈ lw_all := lw_g (lw_at lw_m4 121 rfl) rfl
theorem q994 : (Jvm.Cond.classLink "TinFen$Reader" (190 : Nat) "TinFen$Step") ∈ lw_all := lw_g (lw_at lw_m4 122 rfl) rfl
theorem q996 : (Jvm.Cond.methodLink "TinFen$Reader" (205 : Nat) ({ cls := "TinFen$Reader", name := "step", desc := "()V" } : Jvm.MethodName)) ∈ lw_all := lw_g (lw_at lw_m4 124 rfl) rfl
theorem q997 : (Jvm.Cond.privateMethod ({ cls := "TinFen$Reader", name := "step", desc := "()V" } : Jvm.MethodName)) ∈ lw_tbl := lw_at lw_m4 125 rfl
theorem q998 : (Jvm.Cond.instanceMethod ({ cls := "TinFen$Reader", name := "step", desc := "()V" } : Jvm.MethodName)) ∈ lw_all := lw_g (lw_at lw_m4 126 rfl) rfl
theorem q999 : (Jvm.Cond.code ({ cls := "TinFen$Reader", name := "step", desc := "()V" } : Jvm.MethodName) prog_7_method_20_code (4 : Nat) (Option.none : Option Jvm.ClassFile.FieldType)) ∈ lw_all := lw_g (lw_at lw_m4 127 rfl) rfl
theorem q1001 : (Jvm.Cond.methodLink "TinFen$Reader" (234 : Nat) ({ cls := "TinFen$Step", name := "<init>", desc := "(I)V" } : Jvm.MethodName)) ∈ lw_all := lw_g (lw_at lw_m4 129 rfl) rfl
theorem q1006 : (Jvm.Cond.fieldLink "TinFen$Reader" (228 : Nat) "TinFen$Step" "kind" "I") ∈ lw_all := lw_g (lw_at lw_m4 134 rfl) rfl
theorem q1008 : (Jvm.Cond.fieldLinkNest "TinFen$Reader" (213 : Nat) "TinFen$Step" "one" "I" "TinFen") ∈ lw_tbl := lw_at lw_m4 136 rfl
theorem q1010 : (Jvm.Cond.fieldLinkNest "TinFen$Reader" (216 : Nat) "TinFen$Step" "two" "I" "TinFen") ∈ lw_tbl := lw_at lw_m4 138 rfl
theorem q1012 : (Jvm.Cond.fieldLinkNest "TinFen$Reader" (208 : Nat) "TinFen$Step" "test" "I" "TinFen") ∈ lw_tbl := lw_at lw_m4 140 rfl
theorem q1014 : (Jvm.Cond.fieldLinkNest "TinFen$Reader" (225 : Nat) "TinFen$Step" "compares" "I" "TinFen") ∈ lw_tbl := lw_at lw_m4 142 rfl
theorem q1016 : (Jvm.Cond.fieldLinkNest "TinFen$Reader" (239 : Nat) "TinFen$Step" "to" "I" "TinFen") ∈ lw_tbl := lw_at lw_m4 144 rfl
theorem q1034 : (Jvm.Cond.methodLink "TinFen$Reader" (236 : Nat) ({ cls := "TinFen$Reader", name := "order", desc := "(LTinFen$Step;)V" } : Jvm.MethodName)) ∈ lw_all := lw_g (lw_at lw_m4 162 rfl) rfl
theorem q1035 : (Jvm.Cond.privateMethod ({ cls := "TinFen$Reader", name := "order", desc := "(LTinFen$Step;)V" } : Jvm.MethodName)) ∈ lw_tbl := lw_at lw_m4 163 rfl
theorem q1036 : (Jvm.Cond.instanceMethod ({ cls := "TinFen$Reader", name := "order", desc := "(LTinFen$Step;)V" } : Jvm.MethodName)) ∈ lw_all := lw_g (lw_at lw_m4 164 rfl) rfl
theorem q1037 : (Jvm.Cond.code ({ cls := "TinFen$Reader", name := "order", desc := "(LTinFen$Step;)V" } : Jvm.MethodName) prog_7_method_19_code (2 : Nat) (Option.none : Option Jvm.ClassFile.FieldType)) ∈ lw_all := lw_g (lw_at lw_m4 165 rfl) rfl
theorem q1038 : (Jvm.Cond.methodLink "TinFen$Reader" (211 : Nat) ({ cls := "TinFen$Reader", name := "tin", desc := "()I" } : Jvm.MethodName)) ∈ lw_all := lw_g (lw_at lw_m4 166 rfl) rfl
theorem q1039 : (Jvm.Cond.privateMethod ({ cls := "TinFen$Reader", name := "tin", desc := "()I" } : Jvm.MethodName)) ∈ lw_tbl := lw_at lw_m4 167 rfl
theorem q1040 : (Jvm.Cond.instanceMethod ({ cls := "TinFen$Reader", name := "tin", desc := "()I" } : Jvm.MethodName)) ∈ lw_all := lw_g (lw_at lw_m4 168 rfl) rfl
theorem q1041 : (Jvm.Cond.code ({ cls := "TinFen$Reader", name := "tin", desc := "()I" } : Jvm.MethodName) prog_7_method_8_code (1 : Nat) (Option.some Jvm.ClassFile.FieldType.int)) ∈ lw_all := lw_g (lw_at lw_m4 169 rfl) rfl
theorem q1042 : (Jvm.Cond.methodLink "TinFen$Reader" (80 : Nat) ({ cls := "TinFen$Fen", name := "tin", desc := "(J)I" } : Jvm.MethodName)) ∈ lw_all := lw_g (lw_at lw_m4 170 rfl) rfl
theorem q1043 : (Jvm.Cond.methodLink "TinFen$Reader" (231 : Nat) ({ cls := "TinFen$Reader", name := "test", desc := "(LTinFen$Step;)V" } : Jvm.MethodName)) ∈ lw_all := lw_g (lw_at lw_m4 171 rfl) rfl
theorem q1044 : (Jvm.Cond.privateMethod ({ cls := "TinFen$Reader", name := "test", desc := "(LTinFen$Step;)V" } : Jvm.MethodName)) ∈ lw_tbl := lw_at lw_m4 172 rfl
theorem q1045 : (Jvm.Cond.instanceMethod ({ cls := "TinFen$Reader", name := "test", desc := "(LTinFen$Step;)V" } : Jvm.MethodName)) ∈ lw_all := lw_g (lw_at lw_m4 173 rfl) rfl
theorem q1046 : (Jvm.Cond.code ({ cls := "TinFen$Reader", name := "test", desc := "(LTinFen$Step;)V" } : Jvm.MethodName) prog_7_method_18_code (2 : Nat) (Option.none : Option Jvm.ClassFile.FieldType)) ∈ lw_all := lw_g (lw_at lw_m4 174 rfl) rfl
theorem q1047 : (Jvm.Cond.methodLink "TinFen$Reader" (219 : Nat) ({ cls := "TinFen$Reader", name := "is", desc := "(I)Z" } : Jvm.MethodName)) ∈ lw_all := lw_g (lw_at lw_m4 175 rfl) rfl
theorem q1048 : (Jvm.Cond.sameMethod "TinFen$Reader" "TinFen$Scan" "is" "(I)Z") ∈ lw_all := lw_g (lw_at lw_m4 176 rfl) rfl
theorem q1050 : (Jvm.Cond.selects "TinFen$Reader" ({ cls := "TinFen$Reader", name := "is", desc := "(I)Z" } : Jvm.MethodName) ({ cls := "TinFen$Scan", name := "is", desc := "(I)Z" } : Jvm.MethodName)) ∈ lw_all := lw_g (lw_at lw_m4 178 rfl) rfl
theorem q2257 : (Jvm.Cond.selects "TinFen$Reader" ({ cls := "TinFen$Scan", name := "need", desc := "(Z)V" } : Jvm.MethodName) ({ cls := "TinFen$Scan", name := "need", desc := "(Z)V" } : Jvm.MethodName)) ∈ lw_all := lw_g (lw_at lw_m9 185 rfl) rfl
theorem in_X2 : ∀ w ∈ wsX20, w ∈ lw_all := lw_in wsX20 [356, 358, 360, 362, 364, 366, 368, 370, 372, 336, 338, 340, 342, 344, 346, 348, 350, 352, 354] (by decide +kernel) (by decide +kernel)
