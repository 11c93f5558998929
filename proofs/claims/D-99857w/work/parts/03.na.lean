/-! TinFen$Scan -/
set_option maxRecDepth 100000
def RX1 : String := "TinFen$Scan"
abbrev cX1_init : ByteArray := prog_8_method_1_code
def yX1_init : MethodName := ⟨RX1, "<init>", "([BLjava/lang/String;Ljava/lang/String;LTinFen$Wrong;)V"⟩
def dkwX1_init_1 : List UInt8 := [181, 0, 22, 177]
abbrev dktX1_init_1 : List UInt8 := dkwX1_init_1 ++ []
def dkwX1_init_0 : List UInt8 := [42, 183, 0, 3, 42, 43, 181, 0, 9, 42, 44, 181, 0, 15, 42, 45, 181, 0, 19, 42, 25, 4]
abbrev dktX1_init_0 : List UInt8 := dkwX1_init_0 ++ dktX1_init_1
theorem dksX1_init_0 : cX1_init.data.toList.drop 0 = dktX1_init_0 := by decide +kernel
theorem dksX1_init_1 : cX1_init.data.toList.drop 22 = dktX1_init_1 := dk_seg dksX1_init_0 22 rfl rfl
theorem dX1_init_0 : decode cX1_init 0 = .ok (.aload_n 0, 1) := dk_42 (dk_at dksX1_init_0 0 rfl rfl)
theorem dX1_init_1 : decode cX1_init 1 = .ok (.invokespecial 3, 3) := dk_183 0 3 (dk_at dksX1_init_0 1 rfl rfl)
theorem dX1_init_4 : decode cX1_init 4 = .ok (.aload_n 0, 1) := dk_42 (dk_at dksX1_init_0 4 rfl rfl)
theorem dX1_init_5 : decode cX1_init 5 = .ok (.aload_n 1, 1) := dk_43 (dk_at dksX1_init_0 5 rfl rfl)
theorem dX1_init_6 : decode cX1_init 6 = .ok (.putfield 9, 3) := dk_181 0 9 (dk_at dksX1_init_0 6 rfl rfl)
theorem dX1_init_9 : decode cX1_init 9 = .ok (.aload_n 0, 1) := dk_42 (dk_at dksX1_init_0 9 rfl rfl)
theorem dX1_init_10 : decode cX1_init 10 = .ok (.aload_n 2, 1) := dk_44 (dk_at dksX1_init_0 10 rfl rfl)
theorem dX1_init_11 : decode cX1_init 11 = .ok (.putfield 15, 3) := dk_181 0 15 (dk_at dksX1_init_0 11 rfl rfl)
theorem dX1_init_14 : decode cX1_init 14 = .ok (.aload_n 0, 1) := dk_42 (dk_at dksX1_init_0 14 rfl rfl)
theorem dX1_init_15 : decode cX1_init 15 = .ok (.aload_n 3, 1) := dk_45 (dk_at dksX1_init_0 15 rfl rfl)
theorem dX1_init_16 : decode cX1_init 16 = .ok (.putfield 19, 3) := dk_181 0 19 (dk_at dksX1_init_0 16 rfl rfl)
theorem dX1_init_19 : decode cX1_init 19 = .ok (.aload_n 0, 1) := dk_42 (dk_at dksX1_init_0 19 rfl rfl)
theorem dX1_init_20 : decode cX1_init 20 = .ok (.aload 4, 2) := dk_25 4 (dk_at dksX1_init_0 20 rfl rfl)
theorem dX1_init_22 : decode cX1_init 22 = .ok (.putfield 22, 3) := dk_181 0 22 (dk_at dksX1_init_1 0 rfl rfl)
theorem dX1_init_25 : decode cX1_init 25 = .ok (.return_, 1) := dk_177 (dk_at dksX1_init_1 3 rfl rfl)
abbrev cX1_begin : ByteArray := prog_8_method_2_code
def yX1_begin : MethodName := ⟨RX1, "begin", "(I)V"⟩
def dkwX1_begin_0 : List UInt8 := [42, 27, 181, 0, 26, 42, 3, 181, 0, 30, 42, 182, 0, 33, 177]
abbrev dktX1_begin_0 : List UInt8 := dkwX1_begin_0 ++ []
theorem dksX1_begin_0 : cX1_begin.data.toList.drop 0 = dktX1_begin_0 := by decide +kernel
theorem dX1_begin_0 : decode cX1_begin 0 = .ok (.aload_n 0, 1) := dk_42 (dk_at dksX1_begin_0 0 rfl rfl)
theorem dX1_begin_1 : decode cX1_begin 1 = .ok (.iload_n 1, 1) := dk_27 (dk_at dksX1_begin_0 1 rfl rfl)
theorem dX1_begin_2 : decode cX1_begin 2 = .ok (.putfield 26, 3) := dk_181 0 26 (dk_at dksX1_begin_0 2 rfl rfl)
theorem dX1_begin_5 : decode cX1_begin 5 = .ok (.aload_n 0, 1) := dk_42 (dk_at dksX1_begin_0 5 rfl rfl)
theorem dX1_begin_6 : decode cX1_begin 6 = .ok (.iconst 0, 1) := dk_3 (dk_at dksX1_begin_0 6 rfl rfl)
theorem dX1_begin_7 : decode cX1_begin 7 = .ok (.putfield 30, 3) := dk_181 0 30 (dk_at dksX1_begin_0 7 rfl rfl)
theorem dX1_begin_10 : decode cX1_begin 10 = .ok (.aload_n 0, 1) := dk_42 (dk_at dksX1_begin_0 10 rfl rfl)
theorem dX1_begin_11 : decode cX1_begin 11 = .ok (.invokevirtual 33, 3) := dk_182 0 33 (dk_at dksX1_begin_0 11 rfl rfl)
theorem dX1_begin_14 : decode cX1_begin 14 = .ok (.return_, 1) := dk_177 (dk_at dksX1_begin_0 14 rfl rfl)
abbrev cX1_next : ByteArray := prog_8_method_7_code
def yX1_next : MethodName := ⟨RX1, "next", "()V"⟩
def dkwX1_next_10 : List UInt8 := [181, 0, 56, 177]
abbrev dktX1_next_10 : List UInt8 := dkwX1_next_10 ++ []
def dkwX1_next_9 : List UInt8 := [89, 180, 0, 30, 4, 96, 181, 0, 30, 42, 42, 27, 182, 0, 73, 153, 0, 7, 7, 167, 0, 4, 4]
abbrev dktX1_next_9 : List UInt8 := dkwX1_next_9 ++ dktX1_next_10
def dkwX1_next_8 : List UInt8 := [180, 0, 30, 42, 180, 0, 50, 100, 7, 164, 0, 7, 4, 167, 0, 4, 6, 181, 0, 56, 167, 0, 30, 42]
abbrev dktX1_next_8 : List UInt8 := dkwX1_next_8 ++ dktX1_next_9
def dkwX1_next_7 : List UInt8 := [100, 184, 0, 67, 181, 0, 53, 42, 89, 180, 0, 30, 4, 96, 181, 0, 30, 167, 255, 204, 42, 42]
abbrev dktX1_next_7 : List UInt8 := dkwX1_next_7 ++ dktX1_next_8
def dkwX1_next_6 : List UInt8 := [153, 0, 44, 42, 18, 66, 16, 10, 42, 180, 0, 53, 104, 42, 42, 180, 0, 30, 182, 0, 46, 96, 16, 48]
abbrev dktX1_next_6 : List UInt8 := dkwX1_next_6 ++ dktX1_next_7
def dkwX1_next_5 : List UInt8 := [184, 0, 63, 153, 0, 88, 42, 3, 181, 0, 53, 42, 42, 180, 0, 30, 182, 0, 46, 184, 0, 63]
abbrev dktX1_next_5 : List UInt8 := dkwX1_next_5 ++ dktX1_next_6
def dkwX1_next_4 : List UInt8 := [42, 89, 180, 0, 30, 4, 96, 181, 0, 30, 167, 255, 232, 42, 5, 181, 0, 56, 167, 0, 122, 27]
abbrev dktX1_next_4 : List UInt8 := dkwX1_next_4 ++ dktX1_next_5
def dkwX1_next_3 : List UInt8 := [167, 0, 164, 27, 184, 0, 59, 153, 0, 38, 42, 42, 180, 0, 30, 182, 0, 46, 184, 0, 59, 153, 0, 16]
abbrev dktX1_next_3 : List UInt8 := dkwX1_next_3 ++ dktX1_next_4
def dkwX1_next_2 : List UInt8 := [42, 42, 180, 0, 30, 182, 0, 46, 60, 42, 27, 181, 0, 53, 27, 2, 160, 0, 11, 42, 3, 181, 0, 56]
abbrev dktX1_next_2 : List UInt8 := dkwX1_next_2 ++ dktX1_next_3
def dkwX1_next_1 : List UInt8 := [160, 0, 16, 42, 89, 180, 0, 30, 4, 96, 181, 0, 30, 167, 255, 220, 42, 42, 180, 0, 30, 181, 0, 50]
abbrev dktX1_next_1 : List UInt8 := dkwX1_next_1 ++ dktX1_next_2
def dkwX1_next_0 : List UInt8 := [42, 42, 180, 0, 30, 182, 0, 46, 16, 32, 159, 0, 16, 42, 42, 180, 0, 30, 182, 0, 46, 16, 10]
abbrev dktX1_next_0 : List UInt8 := dkwX1_next_0 ++ dktX1_next_1
theorem dksX1_next_0 : cX1_next.data.toList.drop 0 = dktX1_next_0 := by decide +kernel
theorem dksX1_next_1 : cX1_next.data.toList.drop 23 = dktX1_next_1 := dk_seg dksX1_next_0 23 rfl rfl
theorem dksX1_next_2 : cX1_next.data.toList.drop 47 = dktX1_next_2 := dk_seg dksX1_next_1 24 rfl rfl
theorem dksX1_next_3 : cX1_next.data.toList.drop 71 = dktX1_next_3 := dk_seg dksX1_next_2 24 rfl rfl
theorem dksX1_next_4 : cX1_next.data.toList.drop 95 = dktX1_next_4 := dk_seg dksX1_next_3 24 rfl rfl
theorem dksX1_next_5 : cX1_next.data.toList.drop 117 = dktX1_next_5 := dk_seg dksX1_next_4 22 rfl rfl
theorem dksX1_next_6 : cX1_next.data.toList.drop 139 = dktX1_next_6 := dk_seg dksX1_next_5 22 rfl rfl
theorem dksX1_next_7 : cX1_next.data.toList.drop 163 = dktX1_next_7 := dk_seg dksX1_next_6 24 rfl rfl
theorem dksX1_next_8 : cX1_next.data.toList.drop 185 = dktX1_next_8 := dk_seg dksX1_next_7 22 rfl rfl
theorem dksX1_next_9 : cX1_next.data.toList.drop 209 = dktX1_next_9 := dk_seg dksX1_next_8 24 rfl rfl
theorem dksX1_next_10 : cX1_next.data.toList.drop 232 = dktX1_next_10 := dk_seg dksX1_next_9 23 rfl rfl
theorem dX1_next_0 : decode cX1_next 0 = .ok (.aload_n 0, 1) := dk_42 (dk_at dksX1_next_0 0 rfl rfl)
theorem dX1_next_1 : decode cX1_next 1 = .ok (.aload_n 0, 1) := dk_42 (dk_at dksX1_next_0 1 rfl rfl)
theorem dX1_next_2 : decode cX1_next 2 = .ok (.getfield 30, 3) := dk_180 0 30 (dk_at dksX1_next_0 2 rfl rfl)
theorem dX1_next_5 : decode cX1_next 5 = .ok (.invokevirtual 46, 3) := dk_182 0 46 (dk_at dksX1_next_0 5 rfl rfl)
theorem dX1_next_8 : decode cX1_next 8 = .ok (.bipush 32, 2) := dk_16 32 (dk_at dksX1_next_0 8 rfl rfl)
theorem dX1_next_10 : decode cX1_next 10 = .ok (.if_icmp .eq 16, 3) := dk_159 0 16 (dk_at dksX1_next_0 10 rfl rfl)
theorem dX1_next_13 : decode cX1_next 13 = .ok (.aload_n 0, 1) := dk_42 (dk_at dksX1_next_0 13 rfl rfl)
theorem dX1_next_14 : decode cX1_next 14 = .ok (.aload_n 0, 1) := dk_42 (dk_at dksX1_next_0 14 rfl rfl)
theorem dX1_next_15 : decode cX1_next 15 = .ok (.getfield 30, 3) := dk_180 0 30 (dk_at dksX1_next_0 15 rfl rfl)
theorem dX1_next_18 : decode cX1_next 18 = .ok (.invokevirtual 46, 3) := dk_182 0 46 (dk_at dksX1_next_0 18 rfl rfl)
theorem dX1_next_21 : decode cX1_next 21 = .ok (.bipush 10, 2) := dk_16 10 (dk_at dksX1_next_0 21 rfl rfl)
theorem dX1_next_23 : decode cX1_next 23 = .ok (.if_icmp .ne 16, 3) := dk_160 0 16 (dk_at dksX1_next_1 0 rfl rfl)
theorem dX1_next_26 : decode cX1_next 26 = .ok (.aload_n 0, 1) := dk_42 (dk_at dksX1_next_1 3 rfl rfl)
theorem dX1_next_27 : decode cX1_next 27 = .ok (.dup, 1) := dk_89 (dk_at dksX1_next_1 4 rfl rfl)
theorem dX1_next_28 : decode cX1_next 28 = .ok (.getfield 30, 3) := dk_180 0 30 (dk_at dksX1_next_1 5 rfl rfl)
theorem dX1_next_31 : decode cX1_next 31 = .ok (.iconst 1, 1) := dk_4 (dk_at dksX1_next_1 8 rfl rfl)
theorem dX1_next_32 : decode cX1_next 32 = .ok (.iadd, 1) := dk_96 (dk_at dksX1_next_1 9 rfl rfl)
theorem dX1_next_33 : decode cX1_next 33 = .ok (.putfield 30, 3) := dk_181 0 30 (dk_at dksX1_next_1 10 rfl rfl)
theorem dX1_next_36 : decode cX1_next 36 = .ok (.goto (-36), 3) := dk_167 255 220 (dk_at dksX1_next_1 13 rfl rfl)
theorem dX1_next_39 : decode cX1_next 39 = .ok (.aload_n 0, 1) := dk_42 (dk_at dksX1_next_1 16 rfl rfl)
theorem dX1_next_40 : decode cX1_next 40 = .ok (.aload_n 0, 1) := dk_42 (dk_at dksX1_next_1 17 rfl rfl)
theorem dX1_next_41 : decode cX1_next 41 = .ok (.getfield 30, 3) := dk_180 0 30 (dk_at dksX1_next_1 18 rfl rfl)
theorem dX1_next_44 : decode cX1_next 44 = .ok (.putfield 50, 3) := dk_181 0 50 (dk_at dksX1_next_1 21 rfl rfl)
theorem dX1_next_47 : decode cX1_next 47 = .ok (.aload_n 0, 1) := dk_42 (dk_at dksX1_next_2 0 rfl rfl)
theorem dX1_next_48 : decode cX1_next 48 = .ok (.aload_n 0, 1) := dk_42 (dk_at dksX1_next_2 1 rfl rfl)
theorem dX1_next_49 : decode cX1_next 49 = .ok (.getfield 30, 3) := dk_180 0 30 (dk_at dksX1_next_2 2 rfl rfl)
theorem dX1_next_52 : decode cX1_next 52 = .ok (.invokevirtual 46, 3) := dk_182 0 46 (dk_at dksX1_next_2 5 rfl rfl)
theorem dX1_next_55 : decode cX1_next 55 = .ok (.istore_n 1, 1) := dk_60 (dk_at dksX1_next_2 8 rfl rfl)
theorem dX1_next_56 : decode cX1_next 56 = .ok (.aload_n 0, 1) := dk_42 (dk_at dksX1_next_2 9 rfl rfl)
theorem dX1_next_57 : decode cX1_next 57 = .ok (.iload_n 1, 1) := dk_27 (dk_at dksX1_next_2 10 rfl rfl)
theorem dX1_next_58 : decode cX1_next 58 = .ok (.putfield 53, 3) := dk_181 0 53 (dk_at dksX1_next_2 11 rfl rfl)
theorem dX1_next_61 : decode cX1_next 61 = .ok (.iload_n 1, 1) := dk_27 (dk_at dksX1_next_2 14 rfl rfl)
theorem dX1_next_62 : decode cX1_next 62 = .ok (.iconst (-1), 1) := dk_2 (dk_at dksX1_next_2 15 rfl rfl)
theorem dX1_next_63 : decode cX1_next 63 = .ok (.if_icmp .ne 11, 3) := dk_160 0 11 (dk_at dksX1_next_2 16 rfl rfl)
theorem dX1_next_66 : decode cX1_next 66 = .ok (.aload_n 0, 1) := dk_42 (dk_at dksX1_next_2 19 rfl rfl)
theorem dX1_next_67 : decode cX1_next 67 = .ok (.iconst 0, 1) := dk_3 (dk_at dksX1_next_2 20 rfl rfl)
theorem dX1_next_68 : decode cX1_next 68 = .ok (.putfield 56, 3) := dk_181 0 56 (dk_at dksX1_next_2 21 rfl rfl)
theorem dX1_next_71 : decode cX1_next 71 = .ok (.goto 164, 3) := dk_167 0 164 (dk_at dksX1_next_3 0 rfl rfl)
theorem dX1_next_74 : decode cX1_next 74 = .ok (.iload_n 1, 1) := dk_27 (dk_at dksX1_next_3 3 rfl rfl)
theorem dX1_next_75 : decode cX1_next 75 = .ok (.invokestatic 59, 3) := dk_184 0 59 (dk_at dksX1_next_3 4 rfl rfl)
theorem dX1_next_78 : decode cX1_next 78 = .ok (.ifCond .eq 38, 3) := dk_153 0 38 (dk_at dksX1_next_3 7 rfl rfl)
theorem dX1_next_81 : decode cX1_next 81 = .ok (.aload_n 0, 1) := dk_42 (dk_at dksX1_next_3 10 rfl rfl)
theorem dX1_next_82 : decode cX1_next 82 = .ok (.aload_n 0, 1) := dk_42 (dk_at dksX1_next_3 11 rfl rfl)
theorem dX1_next_83 : decode cX1_next 83 = .ok (.getfield 30, 3) := dk_180 0 30 (dk_at dksX1_next_3 12 rfl rfl)
theorem dX1_next_86 : decode cX1_next 86 = .ok (.invokevirtual 46, 3) := dk_182 0 46 (dk_at dksX1_next_3 15 rfl rfl)
theorem dX1_next_89 : decode cX1_next 89 = .ok (.invokestatic 59, 3) := dk_184 0 59 (dk_at dksX1_next_3 18 rfl rfl)
theorem dX1_next_92 : decode cX1_next 92 = .ok (.ifCond .eq 16, 3) := dk_153 0 16 (dk_at dksX1_next_3 21 rfl rfl)
theorem dX1_next_95 : decode cX1_next 95 = .ok (.aload_n 0, 1) := dk_42 (dk_at dksX1_next_4 0 rfl rfl)
theorem dX1_next_96 : decode cX1_next 96 = .ok (.dup, 1) := dk_89 (dk_at dksX1_next_4 1 rfl rfl)
theorem dX1_next_97 : decode cX1_next 97 = .ok (.getfield 30, 3) := dk_180 0 30 (dk_at dksX1_next_4 2 rfl rfl)
theorem dX1_next_100 : decode cX1_next 100 = .ok (.iconst 1, 1) := dk_4 (dk_at dksX1_next_4 5 rfl rfl)
theorem dX1_next_101 : decode cX1_next 101 = .ok (.iadd, 1) := dk_96 (dk_at dksX1_next_4 6 rfl rfl)
theorem dX1_next_102 : decode cX1_next 102 = .ok (.putfield 30, 3) := dk_181 0 30 (dk_at dksX1_next_4 7 rfl rfl)
theorem dX1_next_105 : decode cX1_next 105 = .ok (.goto (-24), 3) := dk_167 255 232 (dk_at dksX1_next_4 10 rfl rfl)
theorem dX1_next_108 : decode cX1_next 108 = .ok (.aload_n 0, 1) := dk_42 (dk_at dksX1_next_4 13 rfl rfl)
theorem dX1_next_109 : decode cX1_next 109 = .ok (.iconst 2, 1) := dk_5 (dk_at dksX1_next_4 14 rfl rfl)
theorem dX1_next_110 : decode cX1_next 110 = .ok (.putfield 56, 3) := dk_181 0 56 (dk_at dksX1_next_4 15 rfl rfl)
theorem dX1_next_113 : decode cX1_next 113 = .ok (.goto 122, 3) := dk_167 0 122 (dk_at dksX1_next_4 18 rfl rfl)
theorem dX1_next_116 : decode cX1_next 116 = .ok (.iload_n 1, 1) := dk_27 (dk_at dksX1_next_4 21 rfl rfl)
theorem dX1_next_117 : decode cX1_next 117 = .ok (.invokestatic 63, 3) := dk_184 0 63 (dk_at dksX1_next_5 0 rfl rfl)
theorem dX1_next_120 : decode cX1_next 120 = .ok (.ifCond .eq 88, 3) := dk_153 0 88 (dk_at dksX1_next_5 3 rfl rfl)
theorem dX1_next_123 : decode cX1_next 123 = .ok (.aload_n 0, 1) := dk_42 (dk_at dksX1_next_5 6 rfl rfl)
theorem dX1_next_124 : decode cX1_next 124 = .ok (.iconst 0, 1) := dk_3 (dk_at dksX1_next_5 7 rfl rfl)
theorem dX1_next_125 : decode cX1_next 125 = .ok (.putfield 53, 3) := dk_181 0 53 (dk_at dksX1_next_5 8 rfl rfl)
theorem dX1_next_128 : decode cX1_next 128 = .ok (.aload_n 0, 1) := dk_42 (dk_at dksX1_next_5 11 rfl rfl)
theorem dX1_next_129 : decode cX1_next 129 = .ok (.aload_n 0, 1) := dk_42 (dk_at dksX1_next_5 12 rfl rfl)
theorem dX1_next_130 : decode cX1_next 130 = .ok (.getfield 30, 3) := dk_180 0 30 (dk_at dksX1_next_5 13 rfl rfl)
theorem dX1_next_133 : decode cX1_next 133 = .ok (.invokevirtual 46, 3) := dk_182 0 46 (dk_at dksX1_next_5 16 rfl rfl)
theorem dX1_next_136 : decode cX1_next 136 = .ok (.invokestatic 63, 3) := dk_184 0 63 (dk_at dksX1_next_5 19 rfl rfl)
theorem dX1_next_139 : decode cX1_next 139 = .ok (.ifCond .eq 44, 3) := dk_153 0 44 (dk_at dksX1_next_6 0 rfl rfl)
theorem dX1_next_142 : decode cX1_next 142 = .ok (.aload_n 0, 1) := dk_42 (dk_at dksX1_next_6 3 rfl rfl)
theorem dX1_next_143 : decode cX1_next 143 = .ok (.ldc 66, 2) := dk_18 66 (dk_at dksX1_next_6 4 rfl rfl)
theorem dX1_next_145 : decode cX1_next 145 = .ok (.bipush 10, 2) := dk_16 10 (dk_at dksX1_next_6 6 rfl rfl)
theorem dX1_next_147 : decode cX1_next 147 = .ok (.aload_n 0, 1) := dk_42 (dk_at dksX1_next_6 8 rfl rfl)
theorem dX1_next_148 : decode cX1_next 148 = .ok (.getfield 53, 3) := dk_180 0 53 (dk_at dksX1_next_6 9 rfl rfl)
theorem dX1_next_151 : decode cX1_next 151 = .ok (.imul, 1) := dk_104 (dk_at dksX1_next_6 12 rfl rfl)
theorem dX1_next_152 : decode cX1_next 152 = .ok (.aload_n 0, 1) := dk_42 (dk_at dksX1_next_6 13 rfl rfl)
theorem dX1_next_153 : decode cX1_next 153 = .ok (.aload_n 0, 1) := dk_42 (dk_at dksX1_next_6 14 rfl rfl)
theorem dX1_next_154 : decode cX1_next 154 = .ok (.getfield 30, 3) := dk_180 0 30 (dk_at dksX1_next_6 15 rfl rfl)
theorem dX1_next_157 : decode cX1_next 157 = .ok (.invokevirtual 46, 3) := dk_182 0 46 (dk_at dksX1_next_6 18 rfl rfl)
theorem dX1_next_160 : decode cX1_next 160 = .ok (.iadd, 1) := dk_96 (dk_at dksX1_next_6 21 rfl rfl)
theorem dX1_next_161 : decode cX1_next 161 = .ok (.bipush 48, 2) := dk_16 48 (dk_at dksX1_next_6 22 rfl rfl)
theorem dX1_next_163 : decode cX1_next 163 = .ok (.isub, 1) := dk_100 (dk_at dksX1_next_7 0 rfl rfl)
theorem dX1_next_164 : decode cX1_next 164 = .ok (.invokestatic 67, 3) := dk_184 0 67 (dk_at dksX1_next_7 1 rfl rfl)
theorem dX1_next_167 : decode cX1_next 167 = .ok (.putfield 53, 3) := dk_181 0 53 (dk_at dksX1_next_7 4 rfl rfl)
theorem dX1_next_170 : decode cX1_next 170 = .ok (.aload_n 0, 1) := dk_42 (dk_at dksX1_next_7 7 rfl rfl)
theorem dX1_next_171 : decode cX1_next 171 = .ok (.dup, 1) := dk_89 (dk_at dksX1_next_7 8 rfl rfl)
theorem dX1_next_172 : decode cX1_next 172 = .ok (.getfield 30, 3) := dk_180 0 30 (dk_at dksX1_next_7 9 rfl rfl)
theorem dX1_next_175 : decode cX1_next 175 = .ok (.iconst 1, 1) := dk_4 (dk_at dksX1_next_7 12 rfl rfl)
theorem dX1_next_176 : decode cX1_next 176 = .ok (.iadd, 1) := dk_96 (dk_at dksX1_next_7 13 rfl rfl)
theorem dX1_next_177 : decode cX1_next 177 = .ok (.putfield 30, 3) := dk_181 0 30 (dk_at dksX1_next_7 14 rfl rfl)
theorem dX1_next_180 : decode cX1_next 180 = .ok (.goto (-52), 3) := dk_167 255 204 (dk_at dksX1_next_7 17 rfl rfl)
theorem dX1_next_183 : decode cX1_next 183 = .ok (.aload_n 0, 1) := dk_42 (dk_at dksX1_next_7 20 rfl rfl)
theorem dX1_next_184 : decode cX1_next 184 = .ok (.aload_n 0, 1) := dk_42 (dk_at dksX1_next_7 21 rfl rfl)
theorem dX1_next_185 : decode cX1_next 185 = .ok (.getfield 30, 3) := dk_180 0 30 (dk_at dksX1_next_8 0 rfl rfl)
theorem dX1_next_188 : decode cX1_next 188 = .ok (.aload_n 0, 1) := dk_42 (dk_at dksX1_next_8 3 rfl rfl)
theorem dX1_next_189 : decode cX1_next 189 = .ok (.getfield 50, 3) := dk_180 0 50 (dk_at dksX1_next_8 4 rfl rfl)
theorem dX1_next_192 : decode cX1_next 192 = .ok (.isub, 1) := dk_100 (dk_at dksX1_next_8 7 rfl rfl)
theorem dX1_next_193 : decode cX1_next 193 = .ok (.iconst 4, 1) := dk_7 (dk_at dksX1_next_8 8 rfl rfl)
theorem dX1_next_194 : decode cX1_next 194 = .ok (.if_icmp .le 7, 3) := dk_164 0 7 (dk_at dksX1_next_8 9 rfl rfl)
theorem dX1_next_197 : decode cX1_next 197 = .ok (.iconst 1, 1) := dk_4 (dk_at dksX1_next_8 12 rfl rfl)
theorem dX1_next_198 : decode cX1_next 198 = .ok (.goto 4, 3) := dk_167 0 4 (dk_at dksX1_next_8 13 rfl rfl)
theorem dX1_next_201 : decode cX1_next 201 = .ok (.iconst 3, 1) := dk_6 (dk_at dksX1_next_8 16 rfl rfl)
theorem dX1_next_202 : decode cX1_next 202 = .ok (.putfield 56, 3) := dk_181 0 56 (dk_at dksX1_next_8 17 rfl rfl)
theorem dX1_next_205 : decode cX1_next 205 = .ok (.goto 30, 3) := dk_167 0 30 (dk_at dksX1_next_8 20 rfl rfl)
theorem dX1_next_208 : decode cX1_next 208 = .ok (.aload_n 0, 1) := dk_42 (dk_at dksX1_next_8 23 rfl rfl)
theorem dX1_next_209 : decode cX1_next 209 = .ok (.dup, 1) := dk_89 (dk_at dksX1_next_9 0 rfl rfl)
theorem dX1_next_210 : decode cX1_next 210 = .ok (.getfield 30, 3) := dk_180 0 30 (dk_at dksX1_next_9 1 rfl rfl)
theorem dX1_next_213 : decode cX1_next 213 = .ok (.iconst 1, 1) := dk_4 (dk_at dksX1_next_9 4 rfl rfl)
theorem dX1_next_214 : decode cX1_next 214 = .ok (.iadd, 1) := dk_96 (dk_at dksX1_next_9 5 rfl rfl)
theorem dX1_next_215 : decode cX1_next 215 = .ok (.putfield 30, 3) := dk_181 0 30 (dk_at dksX1_next_9 6 rfl rfl)
theorem dX1_next_218 : decode cX1_next 218 = .ok (.aload_n 0, 1) := dk_42 (dk_at dksX1_next_9 9 rfl rfl)
theorem dX1_next_219 : decode cX1_next 219 = .ok (.aload_n 0, 1) := dk_42 (dk_at dksX1_next_9 10 rfl rfl)
theorem dX1_next_220 : decode cX1_next 220 = .ok (.iload_n 1, 1) := dk_27 (dk_at dksX1_next_9 11 rfl rfl)
theorem dX1_next_221 : decode cX1_next 221 = .ok (.invokevirtual 73, 3) := dk_182 0 73 (dk_at dksX1_next_9 12 rfl rfl)
theorem dX1_next_224 : decode cX1_next 224 = .ok (.ifCond .eq 7, 3) := dk_153 0 7 (dk_at dksX1_next_9 15 rfl rfl)
theorem dX1_next_227 : decode cX1_next 227 = .ok (.iconst 4, 1) := dk_7 (dk_at dksX1_next_9 18 rfl rfl)
theorem dX1_next_228 : decode cX1_next 228 = .ok (.goto 4, 3) := dk_167 0 4 (dk_at dksX1_next_9 19 rfl rfl)
theorem dX1_next_231 : decode cX1_next 231 = .ok (.iconst 1, 1) := dk_4 (dk_at dksX1_next_9 22 rfl rfl)
theorem dX1_next_232 : decode cX1_next 232 = .ok (.putfield 56, 3) := dk_181 0 56 (dk_at dksX1_next_10 0 rfl rfl)
theorem dX1_next_235 : decode cX1_next 235 = .ok (.return_, 1) := dk_177 (dk_at dksX1_next_10 3 rfl rfl)
abbrev cX1_at : ByteArray := prog_8_method_3_code
def yX1_at : MethodName := ⟨RX1, "at", "(I)I"⟩
def dkwX1_at_0 : List UInt8 := [27, 42, 180, 0, 26, 162, 0, 16, 42, 180, 0, 9, 27, 51, 17, 0, 255, 126, 167, 0, 4, 2, 172]
abbrev dktX1_at_0 : List UInt8 := dkwX1_at_0 ++ []
theorem dksX1_at_0 : cX1_at.data.toList.drop 0 = dktX1_at_0 := by decide +kernel
theorem dX1_at_0 : decode cX1_at 0 = .ok (.iload_n 1, 1) := dk_27 (dk_at dksX1_at_0 0 rfl rfl)
theorem dX1_at_1 : decode cX1_at 1 = .ok (.aload_n 0, 1) := dk_42 (dk_at dksX1_at_0 1 rfl rfl)
theorem dX1_at_2 : decode cX1_at 2 = .ok (.getfield 26, 3) := dk_180 0 26 (dk_at dksX1_at_0 2 rfl rfl)
theorem dX1_at_5 : decode cX1_at 5 = .ok (.if_icmp .ge 16, 3) := dk_162 0 16 (dk_at dksX1_at_0 5 rfl rfl)
theorem dX1_at_8 : decode cX1_at 8 = .ok (.aload_n 0, 1) := dk_42 (dk_at dksX1_at_0 8 rfl rfl)
theorem dX1_at_9 : decode cX1_at 9 = .ok (.getfield 9, 3) := dk_180 0 9 (dk_at dksX1_at_0 9 rfl rfl)
theorem dX1_at_12 : decode cX1_at 12 = .ok (.iload_n 1, 1) := dk_27 (dk_at dksX1_at_0 12 rfl rfl)
theorem dX1_at_13 : decode cX1_at 13 = .ok (.baload, 1) := dk_51 (dk_at dksX1_at_0 13 rfl rfl)
theorem dX1_at_14 : decode cX1_at 14 = .ok (.sipush 255, 3) := dk_17 0 255 (dk_at dksX1_at_0 14 rfl rfl)
theorem dX1_at_17 : decode cX1_at 17 = .ok (.iand, 1) := dk_126 (dk_at dksX1_at_0 17 rfl rfl)
theorem dX1_at_18 : decode cX1_at 18 = .ok (.goto 4, 3) := dk_167 0 4 (dk_at dksX1_at_0 18 rfl rfl)
theorem dX1_at_21 : decode cX1_at 21 = .ok (.iconst (-1), 1) := dk_2 (dk_at dksX1_at_0 21 rfl rfl)
theorem dX1_at_22 : decode cX1_at 22 = .ok (.ireturn, 1) := dk_172 (dk_at dksX1_at_0 22 rfl rfl)
abbrev cX1_isSmall : ByteArray := prog_8_method_5_code
def yX1_isSmall : MethodName := ⟨RX1, "isSmall", "(I)Z"⟩
def dkwX1_isSmall_0 : List UInt8 := [26, 16, 97, 161, 0, 13, 26, 16, 122, 163, 0, 7, 4, 167, 0, 4, 3, 172]
abbrev dktX1_isSmall_0 : List UInt8 := dkwX1_isSmall_0 ++ []
theorem dksX1_isSmall_0 : cX1_isSmall.data.toList.drop 0 = dktX1_isSmall_0 := by decide +kernel
theorem dX1_isSmall_0 : decode cX1_isSmall 0 = .ok (.iload_n 0, 1) := dk_26 (dk_at dksX1_isSmall_0 0 rfl rfl)
theorem dX1_isSmall_1 : decode cX1_isSmall 1 = .ok (.bipush 97, 2) := dk_16 97 (dk_at dksX1_isSmall_0 1 rfl rfl)
theorem dX1_isSmall_3 : decode cX1_isSmall 3 = .ok (.if_icmp .lt 13, 3) := dk_161 0 13 (dk_at dksX1_isSmall_0 3 rfl rfl)
theorem dX1_isSmall_6 : decode cX1_isSmall 6 = .ok (.iload_n 0, 1) := dk_26 (dk_at dksX1_isSmall_0 6 rfl rfl)
theorem dX1_isSmall_7 : decode cX1_isSmall 7 = .ok (.bipush 122, 2) := dk_16 122 (dk_at dksX1_isSmall_0 7 rfl rfl)
theorem dX1_isSmall_9 : decode cX1_isSmall 9 = .ok (.if_icmp .gt 7, 3) := dk_163 0 7 (dk_at dksX1_isSmall_0 9 rfl rfl)
theorem dX1_isSmall_12 : decode cX1_isSmall 12 = .ok (.iconst 1, 1) := dk_4 (dk_at dksX1_isSmall_0 12 rfl rfl)
theorem dX1_isSmall_13 : decode cX1_isSmall 13 = .ok (.goto 4, 3) := dk_167 0 4 (dk_at dksX1_isSmall_0 13 rfl rfl)
theorem dX1_isSmall_16 : decode cX1_isSmall 16 = .ok (.iconst 0, 1) := dk_3 (dk_at dksX1_isSmall_0 16 rfl rfl)
theorem dX1_isSmall_17 : decode cX1_isSmall 17 = .ok (.ireturn, 1) := dk_172 (dk_at dksX1_isSmall_0 17 rfl rfl)
abbrev cX1_isDigit : ByteArray := prog_8_method_4_code
def yX1_isDigit : MethodName := ⟨RX1, "isDigit", "(I)Z"⟩
def dkwX1_isDigit_0 : List UInt8 := [26, 16, 48, 161, 0, 13, 26, 16, 57, 163, 0, 7, 4, 167, 0, 4, 3, 172]
abbrev dktX1_isDigit_0 : List UInt8 := dkwX1_isDigit_0 ++ []
theorem dksX1_isDigit_0 : cX1_isDigit.data.toList.drop 0 = dktX1_isDigit_0 := by decide +kernel
theorem dX1_isDigit_0 : decode cX1_isDigit 0 = .ok (.iload_n 0, 1) := dk_26 (dk_at dksX1_isDigit_0 0 rfl rfl)
theorem dX1_isDigit_1 : decode cX1_isDigit 1 = .ok (.bipush 48, 2) := dk_16 48 (dk_at dksX1_isDigit_0 1 rfl rfl)
theorem dX1_isDigit_3 : decode cX1_isDigit 3 = .ok (.if_icmp .lt 13, 3) := dk_161 0 13 (dk_at dksX1_isDigit_0 3 rfl rfl)
theorem dX1_isDigit_6 : decode cX1_isDigit 6 = .ok (.iload_n 0, 1) := dk_26 (dk_at dksX1_isDigit_0 6 rfl rfl)
theorem dX1_isDigit_7 : decode cX1_isDigit 7 = .ok (.bipush 57, 2) := dk_16 57 (dk_at dksX1_isDigit_0 7 rfl rfl)
theorem dX1_isDigit_9 : decode cX1_isDigit 9 = .ok (.if_icmp .gt 7, 3) := dk_163 0 7 (dk_at dksX1_isDigit_0 9 rfl rfl)
theorem dX1_isDigit_12 : decode cX1_isDigit 12 = .ok (.iconst 1, 1) := dk_4 (dk_at dksX1_isDigit_0 12 rfl rfl)
theorem dX1_isDigit_13 : decode cX1_isDigit 13 = .ok (.goto 4, 3) := dk_167 0 4 (dk_at dksX1_isDigit_0 13 rfl rfl)
theorem dX1_isDigit_16 : decode cX1_isDigit 16 = .ok (.iconst 0, 1) := dk_3 (dk_at dksX1_isDigit_0 16 rfl rfl)
theorem dX1_isDigit_17 : decode cX1_isDigit 17 = .ok (.ireturn, 1) := dk_172 (dk_at dksX1_isDigit_0 17 rfl rfl)
abbrev cX1_isSign : ByteArray := prog_8_method_6_code
def yX1_isSign : MethodName := ⟨RX1, "isSign", "(I)Z"⟩
def dkwX1_isSign_1 : List UInt8 := [160, 0, 5, 4, 172, 132, 2, 1, 167, 255, 228, 3, 172]
abbrev dktX1_isSign_1 : List UInt8 := dkwX1_isSign_1 ++ []
def dkwX1_isSign_0 : List UInt8 := [3, 61, 28, 42, 180, 0, 19, 182, 0, 36, 162, 0, 23, 42, 180, 0, 19, 28, 182, 0, 42, 27]
abbrev dktX1_isSign_0 : List UInt8 := dkwX1_isSign_0 ++ dktX1_isSign_1
theorem dksX1_isSign_0 : cX1_isSign.data.toList.drop 0 = dktX1_isSign_0 := by decide +kernel
theorem dksX1_isSign_1 : cX1_isSign.data.toList.drop 22 = dktX1_isSign_1 := dk_seg dksX1_isSign_0 22 rfl rfl
theorem dX1_isSign_0 : decode cX1_isSign 0 = .ok (.iconst 0, 1) := dk_3 (dk_at dksX1_isSign_0 0 rfl rfl)
theorem dX1_isSign_1 : decode cX1_isSign 1 = .ok (.istore_n 2, 1) := dk_61 (dk_at dksX1_isSign_0 1 rfl rfl)
theorem dX1_isSign_2 : decode cX1_isSign 2 = .ok (.iload_n 2, 1) := dk_28 (dk_at dksX1_isSign_0 2 rfl rfl)
theorem dX1_isSign_3 : decode cX1_isSign 3 = .ok (.aload_n 0, 1) := dk_42 (dk_at dksX1_isSign_0 3 rfl rfl)
theorem dX1_isSign_4 : decode cX1_isSign 4 = .ok (.getfield 19, 3) := dk_180 0 19 (dk_at dksX1_isSign_0 4 rfl rfl)
theorem dX1_isSign_7 : decode cX1_isSign 7 = .ok (.invokevirtual 36, 3) := dk_182 0 36 (dk_at dksX1_isSign_0 7 rfl rfl)
theorem dX1_isSign_10 : decode cX1_isSign 10 = .ok (.if_icmp .ge 23, 3) := dk_162 0 23 (dk_at dksX1_isSign_0 10 rfl rfl)
theorem dX1_isSign_13 : decode cX1_isSign 13 = .ok (.aload_n 0, 1) := dk_42 (dk_at dksX1_isSign_0 13 rfl rfl)
theorem dX1_isSign_14 : decode cX1_isSign 14 = .ok (.getfield 19, 3) := dk_180 0 19 (dk_at dksX1_isSign_0 14 rfl rfl)
theorem dX1_isSign_17 : decode cX1_isSign 17 = .ok (.iload_n 2, 1) := dk_28 (dk_at dksX1_isSign_0 17 rfl rfl)
theorem dX1_isSign_18 : decode cX1_isSign 18 = .ok (.invokevirtual 42, 3) := dk_182 0 42 (dk_at dksX1_isSign_0 18 rfl rfl)
theorem dX1_isSign_21 : decode cX1_isSign 21 = .ok (.iload_n 1, 1) := dk_27 (dk_at dksX1_isSign_0 21 rfl rfl)
theorem dX1_isSign_22 : decode cX1_isSign 22 = .ok (.if_icmp .ne 5, 3) := dk_160 0 5 (dk_at dksX1_isSign_1 0 rfl rfl)
theorem dX1_isSign_25 : decode cX1_isSign 25 = .ok (.iconst 1, 1) := dk_4 (dk_at dksX1_isSign_1 3 rfl rfl)
theorem dX1_isSign_26 : decode cX1_isSign 26 = .ok (.ireturn, 1) := dk_172 (dk_at dksX1_isSign_1 4 rfl rfl)
theorem dX1_isSign_27 : decode cX1_isSign 27 = .ok (.iinc 2 1, 3) := dk_132 2 1 (dk_at dksX1_isSign_1 5 rfl rfl)
theorem dX1_isSign_30 : decode cX1_isSign 30 = .ok (.goto (-28), 3) := dk_167 255 228 (dk_at dksX1_isSign_1 8 rfl rfl)
theorem dX1_isSign_33 : decode cX1_isSign 33 = .ok (.iconst 0, 1) := dk_3 (dk_at dksX1_isSign_1 11 rfl rfl)
theorem dX1_isSign_34 : decode cX1_isSign 34 = .ok (.ireturn, 1) := dk_172 (dk_at dksX1_isSign_1 12 rfl rfl)
abbrev cX1_key : ByteArray := prog_8_method_10_code
def yX1_key : MethodName := ⟨RX1, "key", "()I"⟩
def dkwX1_key_0 : List UInt8 := [42, 42, 180, 0, 15, 182, 0, 86, 172]
abbrev dktX1_key_0 : List UInt8 := dkwX1_key_0 ++ []
theorem dksX1_key_0 : cX1_key.data.toList.drop 0 = dktX1_key_0 := by decide +kernel
theorem dX1_key_0 : decode cX1_key 0 = .ok (.aload_n 0, 1) := dk_42 (dk_at dksX1_key_0 0 rfl rfl)
theorem dX1_key_1 : decode cX1_key 1 = .ok (.aload_n 0, 1) := dk_42 (dk_at dksX1_key_0 1 rfl rfl)
theorem dX1_key_2 : decode cX1_key 2 = .ok (.getfield 15, 3) := dk_180 0 15 (dk_at dksX1_key_0 2 rfl rfl)
theorem dX1_key_5 : decode cX1_key 5 = .ok (.invokevirtual 86, 3) := dk_182 0 86 (dk_at dksX1_key_0 5 rfl rfl)
theorem dX1_key_8 : decode cX1_key 8 = .ok (.ireturn, 1) := dk_172 (dk_at dksX1_key_0 8 rfl rfl)
abbrev cX1_in : ByteArray := prog_8_method_11_code
def yX1_in : MethodName := ⟨RX1, "in", "(Ljava/lang/String;)I"⟩
def dkwX1_in_2 : List UInt8 := [182, 0, 90, 153, 0, 5, 28, 172, 132, 2, 1, 21, 4, 4, 96, 62, 167, 255, 207, 2, 172]
abbrev dktX1_in_2 : List UInt8 := dkwX1_in_2 ++ []
def dkwX1_in_1 : List UInt8 := [54, 4, 43, 21, 4, 182, 0, 42, 16, 32, 159, 0, 9, 132, 4, 1, 167, 255, 242, 42, 43, 29, 21, 4]
abbrev dktX1_in_1 : List UInt8 := dkwX1_in_1 ++ dktX1_in_2
def dkwX1_in_0 : List UInt8 := [42, 180, 0, 56, 5, 159, 0, 5, 2, 172, 3, 61, 4, 62, 29, 43, 182, 0, 36, 162, 0, 47, 29]
abbrev dktX1_in_0 : List UInt8 := dkwX1_in_0 ++ dktX1_in_1
theorem dksX1_in_0 : cX1_in.data.toList.drop 0 = dktX1_in_0 := by decide +kernel
theorem dksX1_in_1 : cX1_in.data.toList.drop 23 = dktX1_in_1 := dk_seg dksX1_in_0 23 rfl rfl
theorem dksX1_in_2 : cX1_in.data.toList.drop 47 = dktX1_in_2 := dk_seg dksX1_in_1 24 rfl rfl
theorem dX1_in_0 : decode cX1_in 0 = .ok (.aload_n 0, 1) := dk_42 (dk_at dksX1_in_0 0 rfl rfl)
theorem dX1_in_1 : decode cX1_in 1 = .ok (.getfield 56, 3) := dk_180 0 56 (dk_at dksX1_in_0 1 rfl rfl)
theorem dX1_in_4 : decode cX1_in 4 = .ok (.iconst 2, 1) := dk_5 (dk_at dksX1_in_0 4 rfl rfl)
theorem dX1_in_5 : decode cX1_in 5 = .ok (.if_icmp .eq 5, 3) := dk_159 0 5 (dk_at dksX1_in_0 5 rfl rfl)
theorem dX1_in_8 : decode cX1_in 8 = .ok (.iconst (-1), 1) := dk_2 (dk_at dksX1_in_0 8 rfl rfl)
theorem dX1_in_9 : decode cX1_in 9 = .ok (.ireturn, 1) := dk_172 (dk_at dksX1_in_0 9 rfl rfl)
theorem dX1_in_10 : decode cX1_in 10 = .ok (.iconst 0, 1) := dk_3 (dk_at dksX1_in_0 10 rfl rfl)
theorem dX1_in_11 : decode cX1_in 11 = .ok (.istore_n 2, 1) := dk_61 (dk_at dksX1_in_0 11 rfl rfl)
theorem dX1_in_12 : decode cX1_in 12 = .ok (.iconst 1, 1) := dk_4 (dk_at dksX1_in_0 12 rfl rfl)
theorem dX1_in_13 : decode cX1_in 13 = .ok (.istore_n 3, 1) := dk_62 (dk_at dksX1_in_0 13 rfl rfl)
theorem dX1_in_14 : decode cX1_in 14 = .ok (.iload_n 3, 1) := dk_29 (dk_at dksX1_in_0 14 rfl rfl)
theorem dX1_in_15 : decode cX1_in 15 = .ok (.aload_n 1, 1) := dk_43 (dk_at dksX1_in_0 15 rfl rfl)
theorem dX1_in_16 : decode cX1_in 16 = .ok (.invokevirtual 36, 3) := dk_182 0 36 (dk_at dksX1_in_0 16 rfl rfl)
theorem dX1_in_19 : decode cX1_in 19 = .ok (.if_icmp .ge 47, 3) := dk_162 0 47 (dk_at dksX1_in_0 19 rfl rfl)
theorem dX1_in_22 : decode cX1_in 22 = .ok (.iload_n 3, 1) := dk_29 (dk_at dksX1_in_0 22 rfl rfl)
theorem dX1_in_23 : decode cX1_in 23 = .ok (.istore 4, 2) := dk_54 4 (dk_at dksX1_in_1 0 rfl rfl)
theorem dX1_in_25 : decode cX1_in 25 = .ok (.aload_n 1, 1) := dk_43 (dk_at dksX1_in_1 2 rfl rfl)
theorem dX1_in_26 : decode cX1_in 26 = .ok (.iload 4, 2) := dk_21 4 (dk_at dksX1_in_1 3 rfl rfl)
theorem dX1_in_28 : decode cX1_in 28 = .ok (.invokevirtual 42, 3) := dk_182 0 42 (dk_at dksX1_in_1 5 rfl rfl)
theorem dX1_in_31 : decode cX1_in 31 = .ok (.bipush 32, 2) := dk_16 32 (dk_at dksX1_in_1 8 rfl rfl)
theorem dX1_in_33 : decode cX1_in 33 = .ok (.if_icmp .eq 9, 3) := dk_159 0 9 (dk_at dksX1_in_1 10 rfl rfl)
theorem dX1_in_36 : decode cX1_in 36 = .ok (.iinc 4 1, 3) := dk_132 4 1 (dk_at dksX1_in_1 13 rfl rfl)
theorem dX1_in_39 : decode cX1_in 39 = .ok (.goto (-14), 3) := dk_167 255 242 (dk_at dksX1_in_1 16 rfl rfl)
theorem dX1_in_42 : decode cX1_in 42 = .ok (.aload_n 0, 1) := dk_42 (dk_at dksX1_in_1 19 rfl rfl)
theorem dX1_in_43 : decode cX1_in 43 = .ok (.aload_n 1, 1) := dk_43 (dk_at dksX1_in_1 20 rfl rfl)
theorem dX1_in_44 : decode cX1_in 44 = .ok (.iload_n 3, 1) := dk_29 (dk_at dksX1_in_1 21 rfl rfl)
theorem dX1_in_45 : decode cX1_in 45 = .ok (.iload 4, 2) := dk_21 4 (dk_at dksX1_in_1 22 rfl rfl)
theorem dX1_in_47 : decode cX1_in 47 = .ok (.invokevirtual 90, 3) := dk_182 0 90 (dk_at dksX1_in_2 0 rfl rfl)
theorem dX1_in_50 : decode cX1_in 50 = .ok (.ifCond .eq 5, 3) := dk_153 0 5 (dk_at dksX1_in_2 3 rfl rfl)
theorem dX1_in_53 : decode cX1_in 53 = .ok (.iload_n 2, 1) := dk_28 (dk_at dksX1_in_2 6 rfl rfl)
theorem dX1_in_54 : decode cX1_in 54 = .ok (.ireturn, 1) := dk_172 (dk_at dksX1_in_2 7 rfl rfl)
theorem dX1_in_55 : decode cX1_in 55 = .ok (.iinc 2 1, 3) := dk_132 2 1 (dk_at dksX1_in_2 8 rfl rfl)
theorem dX1_in_58 : decode cX1_in 58 = .ok (.iload 4, 2) := dk_21 4 (dk_at dksX1_in_2 11 rfl rfl)
theorem dX1_in_60 : decode cX1_in 60 = .ok (.iconst 1, 1) := dk_4 (dk_at dksX1_in_2 13 rfl rfl)
theorem dX1_in_61 : decode cX1_in 61 = .ok (.iadd, 1) := dk_96 (dk_at dksX1_in_2 14 rfl rfl)
theorem dX1_in_62 : decode cX1_in 62 = .ok (.istore_n 3, 1) := dk_62 (dk_at dksX1_in_2 15 rfl rfl)
theorem dX1_in_63 : decode cX1_in 63 = .ok (.goto (-49), 3) := dk_167 255 207 (dk_at dksX1_in_2 16 rfl rfl)
theorem dX1_in_66 : decode cX1_in 66 = .ok (.iconst (-1), 1) := dk_2 (dk_at dksX1_in_2 19 rfl rfl)
theorem dX1_in_67 : decode cX1_in 67 = .ok (.ireturn, 1) := dk_172 (dk_at dksX1_in_2 20 rfl rfl)
abbrev cX1_isWord : ByteArray := prog_8_method_12_code
def yX1_isWord : MethodName := ⟨RX1, "isWord", "(Ljava/lang/String;II)Z"⟩
def dkwX1_isWord_2 : List UInt8 := [159, 0, 5, 3, 172, 132, 4, 1, 167, 255, 223, 4, 172]
abbrev dktX1_isWord_2 : List UInt8 := dkwX1_isWord_2 ++ []
def dkwX1_isWord_1 : List UInt8 := [162, 0, 33, 43, 21, 4, 182, 0, 42, 42, 42, 180, 0, 50, 21, 4, 96, 28, 100, 182, 0, 46]
abbrev dktX1_isWord_1 : List UInt8 := dkwX1_isWord_1 ++ dktX1_isWord_2
def dkwX1_isWord_0 : List UInt8 := [29, 28, 100, 42, 180, 0, 30, 42, 180, 0, 50, 100, 159, 0, 5, 3, 172, 28, 54, 4, 21, 4, 29]
abbrev dktX1_isWord_0 : List UInt8 := dkwX1_isWord_0 ++ dktX1_isWord_1
theorem dksX1_isWord_0 : cX1_isWord.data.toList.drop 0 = dktX1_isWord_0 := by decide +kernel
theorem dksX1_isWord_1 : cX1_isWord.data.toList.drop 23 = dktX1_isWord_1 := dk_seg dksX1_isWord_0 23 rfl rfl
theorem dksX1_isWord_2 : cX1_isWord.data.toList.drop 45 = dktX1_isWord_2 := dk_seg dksX1_isWord_1 22 rfl rfl
theorem dX1_isWord_0 : decode cX1_isWord 0 = .ok (.iload_n 3, 1) := dk_29 (dk_at dksX1_isWord_0 0 rfl rfl)
theorem dX1_isWord_1 : decode cX1_isWord 1 = .ok (.iload_n 2, 1) := dk_28 (dk_at dksX1_isWord_0 1 rfl rfl)
theorem dX1_isWord_2 : decode cX1_isWord 2 = .ok (.isub, 1) := dk_100 (dk_at dksX1_isWord_0 2 rfl rfl)
theorem dX1_isWord_3 : decode cX1_isWord 3 = .ok (.aload_n 0, 1) := dk_42 (dk_at dksX1_isWord_0 3 rfl rfl)
theorem dX1_isWord_4 : decode cX1_isWord 4 = .ok (.getfield 30, 3) := dk_180 0 30 (dk_at dksX1_isWord_0 4 rfl rfl)
theorem dX1_isWord_7 : decode cX1_isWord 7 = .ok (.aload_n 0, 1) := dk_42 (dk_at dksX1_isWord_0 7 rfl rfl)
theorem dX1_isWord_8 : decode cX1_isWord 8 = .ok (.getfield 50, 3) := dk_180 0 50 (dk_at dksX1_isWord_0 8 rfl rfl)
theorem dX1_isWord_11 : decode cX1_isWord 11 = .ok (.isub, 1) := dk_100 (dk_at dksX1_isWord_0 11 rfl rfl)
theorem dX1_isWord_12 : decode cX1_isWord 12 = .ok (.if_icmp .eq 5, 3) := dk_159 0 5 (dk_at dksX1_isWord_0 12 rfl rfl)
theorem dX1_isWord_15 : decode cX1_isWord 15 = .ok (.iconst 0, 1) := dk_3 (dk_at dksX1_isWord_0 15 rfl rfl)
theorem dX1_isWord_16 : decode cX1_isWord 16 = .ok (.ireturn, 1) := dk_172 (dk_at dksX1_isWord_0 16 rfl rfl)
theorem dX1_isWord_17 : decode cX1_isWord 17 = .ok (.iload_n 2, 1) := dk_28 (dk_at dksX1_isWord_0 17 rfl rfl)
theorem dX1_isWord_18 : decode cX1_isWord 18 = .ok (.istore 4, 2) := dk_54 4 (dk_at dksX1_isWord_0 18 rfl rfl)
theorem dX1_isWord_20 : decode cX1_isWord 20 = .ok (.iload 4, 2) := dk_21 4 (dk_at dksX1_isWord_0 20 rfl rfl)
theorem dX1_isWord_22 : decode cX1_isWord 22 = .ok (.iload_n 3, 1) := dk_29 (dk_at dksX1_isWord_0 22 rfl rfl)
theorem dX1_isWord_23 : decode cX1_isWord 23 = .ok (.if_icmp .ge 33, 3) := dk_162 0 33 (dk_at dksX1_isWord_1 0 rfl rfl)
theorem dX1_isWord_26 : decode cX1_isWord 26 = .ok (.aload_n 1, 1) := dk_43 (dk_at dksX1_isWord_1 3 rfl rfl)
theorem dX1_isWord_27 : decode cX1_isWord 27 = .ok (.iload 4, 2) := dk_21 4 (dk_at dksX1_isWord_1 4 rfl rfl)
theorem dX1_isWord_29 : decode cX1_isWord 29 = .ok (.invokevirtual 42, 3) := dk_182 0 42 (dk_at dksX1_isWord_1 6 rfl rfl)
theorem dX1_isWord_32 : decode cX1_isWord 32 = .ok (.aload_n 0, 1) := dk_42 (dk_at dksX1_isWord_1 9 rfl rfl)
theorem dX1_isWord_33 : decode cX1_isWord 33 = .ok (.aload_n 0, 1) := dk_42 (dk_at dksX1_isWord_1 10 rfl rfl)
theorem dX1_isWord_34 : decode cX1_isWord 34 = .ok (.getfield 50, 3) := dk_180 0 50 (dk_at dksX1_isWord_1 11 rfl rfl)
theorem dX1_isWord_37 : decode cX1_isWord 37 = .ok (.iload 4, 2) := dk_21 4 (dk_at dksX1_isWord_1 14 rfl rfl)
theorem dX1_isWord_39 : decode cX1_isWord 39 = .ok (.iadd, 1) := dk_96 (dk_at dksX1_isWord_1 16 rfl rfl)
theorem dX1_isWord_40 : decode cX1_isWord 40 = .ok (.iload_n 2, 1) := dk_28 (dk_at dksX1_isWord_1 17 rfl rfl)
theorem dX1_isWord_41 : decode cX1_isWord 41 = .ok (.isub, 1) := dk_100 (dk_at dksX1_isWord_1 18 rfl rfl)
theorem dX1_isWord_42 : decode cX1_isWord 42 = .ok (.invokevirtual 46, 3) := dk_182 0 46 (dk_at dksX1_isWord_1 19 rfl rfl)
theorem dX1_isWord_45 : decode cX1_isWord 45 = .ok (.if_icmp .eq 5, 3) := dk_159 0 5 (dk_at dksX1_isWord_2 0 rfl rfl)
theorem dX1_isWord_48 : decode cX1_isWord 48 = .ok (.iconst 0, 1) := dk_3 (dk_at dksX1_isWord_2 3 rfl rfl)
theorem dX1_isWord_49 : decode cX1_isWord 49 = .ok (.ireturn, 1) := dk_172 (dk_at dksX1_isWord_2 4 rfl rfl)
theorem dX1_isWord_50 : decode cX1_isWord 50 = .ok (.iinc 4 1, 3) := dk_132 4 1 (dk_at dksX1_isWord_2 5 rfl rfl)
theorem dX1_isWord_53 : decode cX1_isWord 53 = .ok (.goto (-33), 3) := dk_167 255 223 (dk_at dksX1_isWord_2 8 rfl rfl)
theorem dX1_isWord_56 : decode cX1_isWord 56 = .ok (.iconst 1, 1) := dk_4 (dk_at dksX1_isWord_2 11 rfl rfl)
theorem dX1_isWord_57 : decode cX1_isWord 57 = .ok (.ireturn, 1) := dk_172 (dk_at dksX1_isWord_2 12 rfl rfl)
abbrev cX1_need : ByteArray := prog_8_method_9_code
def yX1_need : MethodName := ⟨RX1, "need", "(Z)V"⟩
def dkwX1_need_0 : List UInt8 := [27, 154, 0, 9, 42, 5, 182, 0, 82, 191, 177]
abbrev dktX1_need_0 : List UInt8 := dkwX1_need_0 ++ []
theorem dksX1_need_0 : cX1_need.data.toList.drop 0 = dktX1_need_0 := by decide +kernel
theorem dX1_need_0 : decode cX1_need 0 = .ok (.iload_n 1, 1) := dk_27 (dk_at dksX1_need_0 0 rfl rfl)
theorem dX1_need_1 : decode cX1_need 1 = .ok (.ifCond .ne 9, 3) := dk_154 0 9 (dk_at dksX1_need_0 1 rfl rfl)
theorem dX1_need_4 : decode cX1_need 4 = .ok (.aload_n 0, 1) := dk_42 (dk_at dksX1_need_0 4 rfl rfl)
theorem dX1_need_5 : decode cX1_need 5 = .ok (.iconst 2, 1) := dk_5 (dk_at dksX1_need_0 5 rfl rfl)
theorem dX1_need_6 : decode cX1_need 6 = .ok (.invokevirtual 82, 3) := dk_182 0 82 (dk_at dksX1_need_0 6 rfl rfl)
theorem dX1_need_9 : decode cX1_need 9 = .ok (.athrow, 1) := dk_191 (dk_at dksX1_need_0 9 rfl rfl)
theorem dX1_need_10 : decode cX1_need 10 = .ok (.return_, 1) := dk_177 (dk_at dksX1_need_0 10 rfl rfl)
abbrev cX1_fail : ByteArray := prog_8_method_8_code
def yX1_fail : MethodName := ⟨RX1, "fail", "(I)LTinFen$Wrong;"⟩
def dkwX1_fail_1 : List UInt8 := [176]
abbrev dktX1_fail_1 : List UInt8 := dkwX1_fail_1 ++ []
def dkwX1_fail_0 : List UInt8 := [42, 180, 0, 22, 42, 180, 0, 56, 4, 160, 0, 7, 4, 167, 0, 4, 27, 42, 180, 0, 50, 182, 0, 76]
abbrev dktX1_fail_0 : List UInt8 := dkwX1_fail_0 ++ dktX1_fail_1
theorem dksX1_fail_0 : cX1_fail.data.toList.drop 0 = dktX1_fail_0 := by decide +kernel
theorem dksX1_fail_1 : cX1_fail.data.toList.drop 24 = dktX1_fail_1 := dk_seg dksX1_fail_0 24 rfl rfl
theorem dX1_fail_0 : decode cX1_fail 0 = .ok (.aload_n 0, 1) := dk_42 (dk_at dksX1_fail_0 0 rfl rfl)
theorem dX1_fail_1 : decode cX1_fail 1 = .ok (.getfield 22, 3) := dk_180 0 22 (dk_at dksX1_fail_0 1 rfl rfl)
theorem dX1_fail_4 : decode cX1_fail 4 = .ok (.aload_n 0, 1) := dk_42 (dk_at dksX1_fail_0 4 rfl rfl)
theorem dX1_fail_5 : decode cX1_fail 5 = .ok (.getfield 56, 3) := dk_180 0 56 (dk_at dksX1_fail_0 5 rfl rfl)
theorem dX1_fail_8 : decode cX1_fail 8 = .ok (.iconst 1, 1) := dk_4 (dk_at dksX1_fail_0 8 rfl rfl)
theorem dX1_fail_9 : decode cX1_fail 9 = .ok (.if_icmp .ne 7, 3) := dk_160 0 7 (dk_at dksX1_fail_0 9 rfl rfl)
theorem dX1_fail_12 : decode cX1_fail 12 = .ok (.iconst 1, 1) := dk_4 (dk_at dksX1_fail_0 12 rfl rfl)
theorem dX1_fail_13 : decode cX1_fail 13 = .ok (.goto 4, 3) := dk_167 0 4 (dk_at dksX1_fail_0 13 rfl rfl)
theorem dX1_fail_16 : decode cX1_fail 16 = .ok (.iload_n 1, 1) := dk_27 (dk_at dksX1_fail_0 16 rfl rfl)
theorem dX1_fail_17 : decode cX1_fail 17 = .ok (.aload_n 0, 1) := dk_42 (dk_at dksX1_fail_0 17 rfl rfl)
theorem dX1_fail_18 : decode cX1_fail 18 = .ok (.getfield 50, 3) := dk_180 0 50 (dk_at dksX1_fail_0 18 rfl rfl)
theorem dX1_fail_21 : decode cX1_fail 21 = .ok (.invokevirtual 76, 3) := dk_182 0 76 (dk_at dksX1_fail_0 21 rfl rfl)
theorem dX1_fail_24 : decode cX1_fail 24 = .ok (.areturn, 1) := dk_176 (dk_at dksX1_fail_1 0 rfl rfl)
abbrev cX1_passed : ByteArray := prog_8_method_16_code
def yX1_passed : MethodName := ⟨RX1, "passed", "(II)I"⟩
def dkwX1_passed_0 : List UInt8 := [42, 27, 28, 182, 0, 100, 62, 42, 182, 0, 33, 29, 172]
abbrev dktX1_passed_0 : List UInt8 := dkwX1_passed_0 ++ []
theorem dksX1_passed_0 : cX1_passed.data.toList.drop 0 = dktX1_passed_0 := by decide +kernel
theorem dX1_passed_0 : decode cX1_passed 0 = .ok (.aload_n 0, 1) := dk_42 (dk_at dksX1_passed_0 0 rfl rfl)
theorem dX1_passed_1 : decode cX1_passed 1 = .ok (.iload_n 1, 1) := dk_27 (dk_at dksX1_passed_0 1 rfl rfl)
theorem dX1_passed_2 : decode cX1_passed 2 = .ok (.iload_n 2, 1) := dk_28 (dk_at dksX1_passed_0 2 rfl rfl)
theorem dX1_passed_3 : decode cX1_passed 3 = .ok (.invokevirtual 100, 3) := dk_182 0 100 (dk_at dksX1_passed_0 3 rfl rfl)
theorem dX1_passed_6 : decode cX1_passed 6 = .ok (.istore_n 3, 1) := dk_62 (dk_at dksX1_passed_0 6 rfl rfl)
theorem dX1_passed_7 : decode cX1_passed 7 = .ok (.aload_n 0, 1) := dk_42 (dk_at dksX1_passed_0 7 rfl rfl)
theorem dX1_passed_8 : decode cX1_passed 8 = .ok (.invokevirtual 33, 3) := dk_182 0 33 (dk_at dksX1_passed_0 8 rfl rfl)
theorem dX1_passed_11 : decode cX1_passed 11 = .ok (.iload_n 3, 1) := dk_29 (dk_at dksX1_passed_0 11 rfl rfl)
theorem dX1_passed_12 : decode cX1_passed 12 = .ok (.ireturn, 1) := dk_172 (dk_at dksX1_passed_0 12 rfl rfl)
abbrev cX1_number : ByteArray := prog_8_method_15_code
def yX1_number : MethodName := ⟨RX1, "number", "(II)I"⟩
def dkwX1_number_1 : List UInt8 := [161, 0, 11, 42, 180, 0, 53, 28, 164, 0, 9, 42, 7, 182, 0, 82, 191, 42, 180, 0, 53, 172]
abbrev dktX1_number_1 : List UInt8 := dkwX1_number_1 ++ []
def dkwX1_number_0 : List UInt8 := [42, 42, 180, 0, 56, 6, 160, 0, 7, 4, 167, 0, 4, 3, 182, 0, 96, 42, 180, 0, 53, 27]
abbrev dktX1_number_0 : List UInt8 := dkwX1_number_0 ++ dktX1_number_1
theorem dksX1_number_0 : cX1_number.data.toList.drop 0 = dktX1_number_0 := by decide +kernel
theorem dksX1_number_1 : cX1_number.data.toList.drop 22 = dktX1_number_1 := dk_seg dksX1_number_0 22 rfl rfl
theorem dX1_number_0 : decode cX1_number 0 = .ok (.aload_n 0, 1) := dk_42 (dk_at dksX1_number_0 0 rfl rfl)
theorem dX1_number_1 : decode cX1_number 1 = .ok (.aload_n 0, 1) := dk_42 (dk_at dksX1_number_0 1 rfl rfl)
theorem dX1_number_2 : decode cX1_number 2 = .ok (.getfield 56, 3) := dk_180 0 56 (dk_at dksX1_number_0 2 rfl rfl)
theorem dX1_number_5 : decode cX1_number 5 = .ok (.iconst 3, 1) := dk_6 (dk_at dksX1_number_0 5 rfl rfl)
theorem dX1_number_6 : decode cX1_number 6 = .ok (.if_icmp .ne 7, 3) := dk_160 0 7 (dk_at dksX1_number_0 6 rfl rfl)
theorem dX1_number_9 : decode cX1_number 9 = .ok (.iconst 1, 1) := dk_4 (dk_at dksX1_number_0 9 rfl rfl)
theorem dX1_number_10 : decode cX1_number 10 = .ok (.goto 4, 3) := dk_167 0 4 (dk_at dksX1_number_0 10 rfl rfl)
theorem dX1_number_13 : decode cX1_number 13 = .ok (.iconst 0, 1) := dk_3 (dk_at dksX1_number_0 13 rfl rfl)
theorem dX1_number_14 : decode cX1_number 14 = .ok (.invokevirtual 96, 3) := dk_182 0 96 (dk_at dksX1_number_0 14 rfl rfl)
theorem dX1_number_17 : decode cX1_number 17 = .ok (.aload_n 0, 1) := dk_42 (dk_at dksX1_number_0 17 rfl rfl)
theorem dX1_number_18 : decode cX1_number 18 = .ok (.getfield 53, 3) := dk_180 0 53 (dk_at dksX1_number_0 18 rfl rfl)
theorem dX1_number_21 : decode cX1_number 21 = .ok (.iload_n 1, 1) := dk_27 (dk_at dksX1_number_0 21 rfl rfl)
theorem dX1_number_22 : decode cX1_number 22 = .ok (.if_icmp .lt 11, 3) := dk_161 0 11 (dk_at dksX1_number_1 0 rfl rfl)
theorem dX1_number_25 : decode cX1_number 25 = .ok (.aload_n 0, 1) := dk_42 (dk_at dksX1_number_1 3 rfl rfl)
theorem dX1_number_26 : decode cX1_number 26 = .ok (.getfield 53, 3) := dk_180 0 53 (dk_at dksX1_number_1 4 rfl rfl)
theorem dX1_number_29 : decode cX1_number 29 = .ok (.iload_n 2, 1) := dk_28 (dk_at dksX1_number_1 7 rfl rfl)
theorem dX1_number_30 : decode cX1_number 30 = .ok (.if_icmp .le 9, 3) := dk_164 0 9 (dk_at dksX1_number_1 8 rfl rfl)
theorem dX1_number_33 : decode cX1_number 33 = .ok (.aload_n 0, 1) := dk_42 (dk_at dksX1_number_1 11 rfl rfl)
theorem dX1_number_34 : decode cX1_number 34 = .ok (.iconst 4, 1) := dk_7 (dk_at dksX1_number_1 12 rfl rfl)
theorem dX1_number_35 : decode cX1_number 35 = .ok (.invokevirtual 82, 3) := dk_182 0 82 (dk_at dksX1_number_1 13 rfl rfl)
theorem dX1_number_38 : decode cX1_number 38 = .ok (.athrow, 1) := dk_191 (dk_at dksX1_number_1 16 rfl rfl)
theorem dX1_number_39 : decode cX1_number 39 = .ok (.aload_n 0, 1) := dk_42 (dk_at dksX1_number_1 17 rfl rfl)
theorem dX1_number_40 : decode cX1_number 40 = .ok (.getfield 53, 3) := dk_180 0 53 (dk_at dksX1_number_1 18 rfl rfl)
theorem dX1_number_43 : decode cX1_number 43 = .ok (.ireturn, 1) := dk_172 (dk_at dksX1_number_1 21 rfl rfl)
abbrev cX1_name : ByteArray := prog_8_method_14_code
def yX1_name : MethodName := ⟨RX1, "name", "()J"⟩
def dkwX1_name_3 : List UInt8 := [167, 255, 233, 31, 173]
abbrev dktX1_name_3 : List UInt8 := dkwX1_name_3 ++ []
def dkwX1_name_2 : List UInt8 := [29, 42, 180, 0, 30, 162, 0, 21, 31, 16, 8, 121, 42, 29, 182, 0, 46, 133, 129, 64, 132, 3, 1]
abbrev dktX1_name_2 : List UInt8 := dkwX1_name_2 ++ dktX1_name_3
def dkwX1_name_1 : List UInt8 := [18, 94, 182, 0, 86, 2, 160, 0, 7, 4, 167, 0, 4, 3, 182, 0, 96, 9, 64, 42, 180, 0, 50, 62]
abbrev dktX1_name_1 : List UInt8 := dkwX1_name_1 ++ dktX1_name_2
def dkwX1_name_0 : List UInt8 := [42, 42, 180, 0, 56, 5, 160, 0, 31, 42, 180, 0, 30, 42, 180, 0, 50, 100, 16, 8, 163, 0, 17, 42]
abbrev dktX1_name_0 : List UInt8 := dkwX1_name_0 ++ dktX1_name_1
theorem dksX1_name_0 : cX1_name.data.toList.drop 0 = dktX1_name_0 := by decide +kernel
theorem dksX1_name_1 : cX1_name.data.toList.drop 24 = dktX1_name_1 := dk_seg dksX1_name_0 24 rfl rfl
theorem dksX1_name_2 : cX1_name.data.toList.drop 48 = dktX1_name_2 := dk_seg dksX1_name_1 24 rfl rfl
theorem dksX1_name_3 : cX1_name.data.toList.drop 71 = dktX1_name_3 := dk_seg dksX1_name_2 23 rfl rfl
theorem dX1_name_0 : decode cX1_name 0 = .ok (.aload_n 0, 1) := dk_42 (dk_at dksX1_name_0 0 rfl rfl)
theorem dX1_name_1 : decode cX1_name 1 = .ok (.aload_n 0, 1) := dk_42 (dk_at dksX1_name_0 1 rfl rfl)
theorem dX1_name_2 : decode cX1_name 2 = .ok (.getfield 56, 3) := dk_180 0 56 (dk_at dksX1_name_0 2 rfl rfl)
theorem dX1_name_5 : decode cX1_name 5 = .ok (.iconst 2, 1) := dk_5 (dk_at dksX1_name_0 5 rfl rfl)
theorem dX1_name_6 : decode cX1_name 6 = .ok (.if_icmp .ne 31, 3) := dk_160 0 31 (dk_at dksX1_name_0 6 rfl rfl)
theorem dX1_name_9 : decode cX1_name 9 = .ok (.aload_n 0, 1) := dk_42 (dk_at dksX1_name_0 9 rfl rfl)
theorem dX1_name_10 : decode cX1_name 10 = .ok (.getfield 30, 3) := dk_180 0 30 (dk_at dksX1_name_0 10 rfl rfl)
theorem dX1_name_13 : decode cX1_name 13 = .ok (.aload_n 0, 1) := dk_42 (dk_at dksX1_name_0 13 rfl rfl)
theorem dX1_name_14 : decode cX1_name 14 = .ok (.getfield 50, 3) := dk_180 0 50 (dk_at dksX1_name_0 14 rfl rfl)
theorem dX1_name_17 : decode cX1_name 17 = .ok (.isub, 1) := dk_100 (dk_at dksX1_name_0 17 rfl rfl)
theorem dX1_name_18 : decode cX1_name 18 = .ok (.bipush 8, 2) := dk_16 8 (dk_at dksX1_name_0 18 rfl rfl)
theorem dX1_name_20 : decode cX1_name 20 = .ok (.if_icmp .gt 17, 3) := dk_163 0 17 (dk_at dksX1_name_0 20 rfl rfl)
theorem dX1_name_23 : decode cX1_name 23 = .ok (.aload_n 0, 1) := dk_42 (dk_at dksX1_name_0 23 rfl rfl)
theorem dX1_name_24 : decode cX1_name 24 = .ok (.ldc 94, 2) := dk_18 94 (dk_at dksX1_name_1 0 rfl rfl)
theorem dX1_name_26 : decode cX1_name 26 = .ok (.invokevirtual 86, 3) := dk_182 0 86 (dk_at dksX1_name_1 2 rfl rfl)
theorem dX1_name_29 : decode cX1_name 29 = .ok (.iconst (-1), 1) := dk_2 (dk_at dksX1_name_1 5 rfl rfl)
theorem dX1_name_30 : decode cX1_name 30 = .ok (.if_icmp .ne 7, 3) := dk_160 0 7 (dk_at dksX1_name_1 6 rfl rfl)
theorem dX1_name_33 : decode cX1_name 33 = .ok (.iconst 1, 1) := dk_4 (dk_at dksX1_name_1 9 rfl rfl)
theorem dX1_name_34 : decode cX1_name 34 = .ok (.goto 4, 3) := dk_167 0 4 (dk_at dksX1_name_1 10 rfl rfl)
theorem dX1_name_37 : decode cX1_name 37 = .ok (.iconst 0, 1) := dk_3 (dk_at dksX1_name_1 13 rfl rfl)
theorem dX1_name_38 : decode cX1_name 38 = .ok (.invokevirtual 96, 3) := dk_182 0 96 (dk_at dksX1_name_1 14 rfl rfl)
theorem dX1_name_41 : decode cX1_name 41 = .ok (.lconst 0, 1) := dk_9 (dk_at dksX1_name_1 17 rfl rfl)
theorem dX1_name_42 : decode cX1_name 42 = .ok (.lstore_n 1, 1) := dk_64 (dk_at dksX1_name_1 18 rfl rfl)
theorem dX1_name_43 : decode cX1_name 43 = .ok (.aload_n 0, 1) := dk_42 (dk_at dksX1_name_1 19 rfl rfl)
theorem dX1_name_44 : decode cX1_name 44 = .ok (.getfield 50, 3) := dk_180 0 50 (dk_at dksX1_name_1 20 rfl rfl)
theorem dX1_name_47 : decode cX1_name 47 = .ok (.istore_n 3, 1) := dk_62 (dk_at dksX1_name_1 23 rfl rfl)
theorem dX1_name_48 : decode cX1_name 48 = .ok (.iload_n 3, 1) := dk_29 (dk_at dksX1_name_2 0 rfl rfl)
theorem dX1_name_49 : decode cX1_name 49 = .ok (.aload_n 0, 1) := dk_42 (dk_at dksX1_name_2 1 rfl rfl)
theorem dX1_name_50 : decode cX1_name 50 = .ok (.getfield 30, 3) := dk_180 0 30 (dk_at dksX1_name_2 2 rfl rfl)
theorem dX1_name_53 : decode cX1_name 53 = .ok (.if_icmp .ge 21, 3) := dk_162 0 21 (dk_at dksX1_name_2 5 rfl rfl)
theorem dX1_name_56 : decode cX1_name 56 = .ok (.lload_n 1, 1) := dk_31 (dk_at dksX1_name_2 8 rfl rfl)
theorem dX1_name_57 : decode cX1_name 57 = .ok (.bipush 8, 2) := dk_16 8 (dk_at dksX1_name_2 9 rfl rfl)
theorem dX1_name_59 : decode cX1_name 59 = .ok (.lshl, 1) := dk_121 (dk_at dksX1_name_2 11 rfl rfl)
theorem dX1_name_60 : decode cX1_name 60 = .ok (.aload_n 0, 1) := dk_42 (dk_at dksX1_name_2 12 rfl rfl)
theorem dX1_name_61 : decode cX1_name 61 = .ok (.iload_n 3, 1) := dk_29 (dk_at dksX1_name_2 13 rfl rfl)
theorem dX1_name_62 : decode cX1_name 62 = .ok (.invokevirtual 46, 3) := dk_182 0 46 (dk_at dksX1_name_2 14 rfl rfl)
theorem dX1_name_65 : decode cX1_name 65 = .ok (.i2l, 1) := dk_133 (dk_at dksX1_name_2 17 rfl rfl)
theorem dX1_name_66 : decode cX1_name 66 = .ok (.lor, 1) := dk_129 (dk_at dksX1_name_2 18 rfl rfl)
theorem dX1_name_67 : decode cX1_name 67 = .ok (.lstore_n 1, 1) := dk_64 (dk_at dksX1_name_2 19 rfl rfl)
theorem dX1_name_68 : decode cX1_name 68 = .ok (.iinc 3 1, 3) := dk_132 3 1 (dk_at dksX1_name_2 20 rfl rfl)
theorem dX1_name_71 : decode cX1_name 71 = .ok (.goto (-23), 3) := dk_167 255 233 (dk_at dksX1_name_3 0 rfl rfl)
theorem dX1_name_74 : decode cX1_name 74 = .ok (.lload_n 1, 1) := dk_31 (dk_at dksX1_name_3 3 rfl rfl)
theorem dX1_name_75 : decode cX1_name 75 = .ok (.lreturn, 1) := dk_173 (dk_at dksX1_name_3 4 rfl rfl)
abbrev cX1_closes : ByteArray := prog_8_method_17_code
def yX1_closes : MethodName := ⟨RX1, "closes", "()V"⟩
def dkwX1_closes_0 : List UInt8 := [42, 42, 16, 59, 182, 0, 103, 182, 0, 96, 42, 182, 0, 33, 177]
abbrev dktX1_closes_0 : List UInt8 := dkwX1_closes_0 ++ []
theorem dksX1_closes_0 : cX1_closes.data.toList.drop 0 = dktX1_closes_0 := by decide +kernel
theorem dX1_closes_0 : decode cX1_closes 0 = .ok (.aload_n 0, 1) := dk_42 (dk_at dksX1_closes_0 0 rfl rfl)
theorem dX1_closes_1 : decode cX1_closes 1 = .ok (.aload_n 0, 1) := dk_42 (dk_at dksX1_closes_0 1 rfl rfl)
theorem dX1_closes_2 : decode cX1_closes 2 = .ok (.bipush 59, 2) := dk_16 59 (dk_at dksX1_closes_0 2 rfl rfl)
theorem dX1_closes_4 : decode cX1_closes 4 = .ok (.invokevirtual 103, 3) := dk_182 0 103 (dk_at dksX1_closes_0 4 rfl rfl)
theorem dX1_closes_7 : decode cX1_closes 7 = .ok (.invokevirtual 96, 3) := dk_182 0 96 (dk_at dksX1_closes_0 7 rfl rfl)
theorem dX1_closes_10 : decode cX1_closes 10 = .ok (.aload_n 0, 1) := dk_42 (dk_at dksX1_closes_0 10 rfl rfl)
theorem dX1_closes_11 : decode cX1_closes 11 = .ok (.invokevirtual 33, 3) := dk_182 0 33 (dk_at dksX1_closes_0 11 rfl rfl)
theorem dX1_closes_14 : decode cX1_closes 14 = .ok (.return_, 1) := dk_177 (dk_at dksX1_closes_0 14 rfl rfl)
abbrev cX1_is : ByteArray := prog_8_method_13_code
def yX1_is : MethodName := ⟨RX1, "is", "(I)Z"⟩
def dkwX1_is_0 : List UInt8 := [42, 180, 0, 56, 7, 160, 0, 15, 42, 180, 0, 53, 27, 160, 0, 7, 4, 167, 0, 4, 3, 172]
abbrev dktX1_is_0 : List UInt8 := dkwX1_is_0 ++ []
theorem dksX1_is_0 : cX1_is.data.toList.drop 0 = dktX1_is_0 := by decide +kernel
theorem dX1_is_0 : decode cX1_is 0 = .ok (.aload_n 0, 1) := dk_42 (dk_at dksX1_is_0 0 rfl rfl)
theorem dX1_is_1 : decode cX1_is 1 = .ok (.getfield 56, 3) := dk_180 0 56 (dk_at dksX1_is_0 1 rfl rfl)
theorem dX1_is_4 : decode cX1_is 4 = .ok (.iconst 4, 1) := dk_7 (dk_at dksX1_is_0 4 rfl rfl)
theorem dX1_is_5 : decode cX1_is 5 = .ok (.if_icmp .ne 15, 3) := dk_160 0 15 (dk_at dksX1_is_0 5 rfl rfl)
theorem dX1_is_8 : decode cX1_is 8 = .ok (.aload_n 0, 1) := dk_42 (dk_at dksX1_is_0 8 rfl rfl)
theorem dX1_is_9 : decode cX1_is 9 = .ok (.getfield 53, 3) := dk_180 0 53 (dk_at dksX1_is_0 9 rfl rfl)
theorem dX1_is_12 : decode cX1_is 12 = .ok (.iload_n 1, 1) := dk_27 (dk_at dksX1_is_0 12 rfl rfl)
theorem dX1_is_13 : decode cX1_is 13 = .ok (.if_icmp .ne 7, 3) := dk_160 0 7 (dk_at dksX1_is_0 13 rfl rfl)
theorem dX1_is_16 : decode cX1_is 16 = .ok (.iconst 1, 1) := dk_4 (dk_at dksX1_is_0 16 rfl rfl)
theorem dX1_is_17 : decode cX1_is 17 = .ok (.goto 4, 3) := dk_167 0 4 (dk_at dksX1_is_0 17 rfl rfl)
theorem dX1_is_20 : decode cX1_is 20 = .ok (.iconst 0, 1) := dk_3 (dk_at dksX1_is_0 20 rfl rfl)
theorem dX1_is_21 : decode cX1_is 21 = .ok (.ireturn, 1) := dk_172 (dk_at dksX1_is_0 21 rfl rfl)
theorem q154 : (Jvm.Cond.initialized "TinFen$Scan") ∈ lw_all := lw_g (lw_at lw_m1 2 rfl) rfl
theorem q285 : (Jvm.Cond.instanceMethod ({ cls := "TinFen$Scan", name := "<init>", desc := "([BLjava/lang/String;Ljava/lang/String;LTinFen$Wrong;)V" } : Jvm.MethodName)) ∈ lw_all := lw_g (lw_at lw_m1 133 rfl) rfl
theorem q286 : (Jvm.Cond.code ({ cls := "TinFen$Scan", name := "<init>", desc := "([BLjava/lang/String;Ljava/lang/String;LTinFen$Wrong;)V" } : Jvm.MethodName) prog_8_method_1_code (5 : Nat) (Option.none : Option Jvm.ClassFile.FieldType)) ∈ lw_all := lw_g (lw_at lw_m1 134 rfl) rfl
theorem q287 : (Jvm.Cond.methodLink "TinFen$Scan" (3 : Nat) ({ cls := "java/lang/Object", name := "<init>", desc := "()V" } : Jvm.MethodName)) ∈ lw_all := lw_g (lw_at lw_m1 135 rfl) rfl
theorem q317 : (Jvm.Cond.fieldLink "TinFen$Scan" (9 : Nat) "TinFen$Scan" "tape" "[B") ∈ lw_all := lw_g (lw_at lw_m1 165 rfl) rfl
theorem q320 : (Jvm.Cond.fieldLink "TinFen$Scan" (26 : Nat) "TinFen$Scan" "size" "I") ∈ lw_all := lw_g (lw_at lw_m1 168 rfl) rfl
theorem q323 : (Jvm.Cond.fieldLink "TinFen$Scan" (56 : Nat) "TinFen$Scan" "sort" "I") ∈ lw_all := lw_g (lw_at lw_m1 171 rfl) rfl
theorem q326 : (Jvm.Cond.fieldLink "TinFen$Scan" (50 : Nat) "TinFen$Scan" "from" "I") ∈ lw_all := lw_g (lw_at lw_m1 174 rfl) rfl
theorem q327 : (Jvm.Cond.fieldLink "TinFen$Scan" (30 : Nat) "TinFen$Scan" "end" "I") ∈ lw_all := lw_g (lw_at lw_m1 175 rfl) rfl
theorem q330 : (Jvm.Cond.fieldLink "TinFen$Scan" (53 : Nat) "TinFen$Scan" "value" "I") ∈ lw_all := lw_g (lw_at lw_m1 178 rfl) rfl
theorem q333 : (Jvm.Cond.fieldLink "TinFen$Scan" (15 : Nat) "TinFen$Scan" "keys" "Ljava/lang/String;") ∈ lw_all := lw_g (lw_at lw_m1 181 rfl) rfl
theorem q334 : (Jvm.Cond.fieldLink "TinFen$Scan" (19 : Nat) "TinFen$Scan" "signs" "Ljava/lang/String;") ∈ lw_all := lw_g (lw_at lw_m1 182 rfl) rfl
theorem q335 : (Jvm.Cond.fieldLink "TinFen$Scan" (22 : Nat) "TinFen$Scan" "wrong" "LTinFen$Wrong;") ∈ lw_all := lw_g (lw_at lw_m1 183 rfl) rfl
theorem q357 : (Jvm.Cond.soleField "TinFen$Scan" "tape") ∈ lw_all := lw_g (lw_at lw_m1 205 rfl) rfl
theorem q359 : (Jvm.Cond.soleField "TinFen$Scan" "size") ∈ lw_all := lw_g (lw_at lw_m1 207 rfl) rfl
theorem q361 : (Jvm.Cond.soleField "TinFen$Scan" "sort") ∈ lw_all := lw_g (lw_at lw_m1 209 rfl) rfl
theorem q363 : (Jvm.Cond.soleField "TinFen$Scan" "from") ∈ lw_all := lw_g (lw_at lw_m1 211 rfl) rfl
theorem q365 : (Jvm.Cond.soleField "TinFen$Scan" "end") ∈ lw_all := lw_g (lw_at lw_m1 213 rfl) rfl
theorem q367 : (Jvm.Cond.soleField "TinFen$Scan" "value") ∈ lw_all := lw_g (lw_at lw_m1 215 rfl) rfl
theorem q369 : (Jvm.Cond.soleField "TinFen$Scan" "keys") ∈ lw_all := lw_g (lw_at lw_m1 217 rfl) rfl
theorem q371 : (Jvm.Cond.soleField "TinFen$Scan" "signs") ∈ lw_all := lw_g (lw_at lw_m1 219 rfl) rfl
theorem q373 : (Jvm.Cond.soleField "TinFen$Scan" "wrong") ∈ lw_all := lw_g (lw_at lw_m1 221 rfl) rfl
theorem q684 : (Jvm.Cond.declares ({ cls := "TinFen$Scan", name := "begin", desc := "(I)V" } : Jvm.MethodName)) ∈ lw_tbl := lw_at lw_m3 52 rfl
theorem q686 : (Jvm.Cond.instanceMethod ({ cls := "TinFen$Scan", name := "begin", desc := "(I)V" } : Jvm.MethodName)) ∈ lw_all := lw_g (lw_at lw_m3 54 rfl) rfl
theorem q687 : (Jvm.Cond.code ({ cls := "TinFen$Scan", name := "begin", desc := "(I)V" } : Jvm.MethodName) prog_8_method_2_code (2 : Nat) (Option.none : Option Jvm.ClassFile.FieldType)) ∈ lw_all := lw_g (lw_at lw_m3 55 rfl) rfl
theorem q688 : (Jvm.Cond.methodLink "TinFen$Scan" (33 : Nat) ({ cls := "TinFen$Scan", name := "next", desc := "()V" } : Jvm.MethodName)) ∈ lw_all := lw_g (lw_at lw_m3 56 rfl) rfl
theorem q689 : (Jvm.Cond.instanceMethod ({ cls := "TinFen$Scan", name := "next", desc := "()V" } : Jvm.MethodName)) ∈ lw_all := lw_g (lw_at lw_m3 57 rfl) rfl
theorem q690 : (Jvm.Cond.sameMethod "TinFen$Scan" "TinFen$Scan" "next" "()V") ∈ lw_all := lw_g (lw_at lw_m3 58 rfl) rfl
theorem q692 : (Jvm.Cond.code ({ cls := "TinFen$Scan", name := "next", desc := "()V" } : Jvm.MethodName) prog_8_method_7_code (2 : Nat) (Option.none : Option Jvm.ClassFile.FieldType)) ∈ lw_all := lw_g (lw_at lw_m3 60 rfl) rfl
theorem q693 : (Jvm.Cond.methodLink "TinFen$Scan" (46 : Nat) ({ cls := "TinFen$Scan", name := "at", desc := "(I)I" } : Jvm.MethodName)) ∈ lw_all := lw_g (lw_at lw_m3 61 rfl) rfl
theorem q694 : (Jvm.Cond.privateMethod ({ cls := "TinFen$Scan", name := "at", desc := "(I)I" } : Jvm.MethodName)) ∈ lw_tbl := lw_at lw_m3 62 rfl
theorem q695 : (Jvm.Cond.instanceMethod ({ cls := "TinFen$Scan", name := "at", desc := "(I)I" } : Jvm.MethodName)) ∈ lw_all := lw_g (lw_at lw_m3 63 rfl) rfl
theorem q696 : (Jvm.Cond.code ({ cls := "TinFen$Scan", name := "at", desc := "(I)I" } : Jvm.MethodName) prog_8_method_3_code (2 : Nat) (Option.some Jvm.ClassFile.FieldType.int)) ∈ lw_all := lw_g (lw_at lw_m3 64 rfl) rfl
theorem q697 : (Jvm.Cond.methodLink "TinFen$Scan" (59 : Nat) ({ cls := "TinFen$Scan", name := "isSmall", desc := "(I)Z" } : Jvm.MethodName)) ∈ lw_all := lw_g (lw_at lw_m3 65 rfl) rfl
theorem q698 : (Jvm.Cond.static ({ cls := "TinFen$Scan", name := "isSmall", desc := "(I)Z" } : Jvm.MethodName)) ∈ lw_all := lw_g (lw_at lw_m3 66 rfl) rfl
theorem q699 : (Jvm.Cond.code ({ cls := "TinFen$Scan", name := "isSmall", desc := "(I)Z" } : Jvm.MethodName) prog_8_method_5_code (1 : Nat) (Option.some Jvm.ClassFile.FieldType.boolean)) ∈ lw_all := lw_g (lw_at lw_m3 67 rfl) rfl
theorem q700 : (Jvm.Cond.methodLink "TinFen$Scan" (63 : Nat) ({ cls := "TinFen$Scan", name := "isDigit", desc := "(I)Z" } : Jvm.MethodName)) ∈ lw_all := lw_g (lw_at lw_m3 68 rfl) rfl
theorem q701 : (Jvm.Cond.static ({ cls := "TinFen$Scan", name := "isDigit", desc := "(I)Z" } : Jvm.MethodName)) ∈ lw_all := lw_g (lw_at lw_m3 69 rfl) rfl
theorem q702 : (Jvm.Cond.code ({ cls := "TinFen$Scan", name := "isDigit", desc := "(I)Z" } : Jvm.MethodName) prog_8_method_4_code (1 : Nat) (Option.some Jvm.ClassFile.FieldType.boolean)) ∈ lw_all := lw_g (lw_at lw_m3 70 rfl) rfl
theorem q703 : (Jvm.Cond.constant "TinFen$Scan" (66 : Nat) (100000 : Int32)) ∈ lw_all := lw_g (lw_at lw_m3 71 rfl) rfl
theorem q704 : (Jvm.Cond.methodLink "TinFen$Scan" (67 : Nat) ({ cls := "java/lang/Math", name := "min", desc := "(II)I" } : Jvm.MethodName)) ∈ lw_all := lw_g (lw_at lw_m3 72 rfl) rfl
theorem q707 : (Jvm.Cond.methodLink "TinFen$Scan" (73 : Nat) ({ cls := "TinFen$Scan", name := "isSign", desc := "(I)Z" } : Jvm.MethodName)) ∈ lw_all := lw_g (lw_at lw_m3 75 rfl) rfl
theorem q708 : (Jvm.Cond.privateMethod ({ cls := "TinFen$Scan", name := "isSign", desc := "(I)Z" } : Jvm.MethodName)) ∈ lw_tbl := lw_at lw_m3 76 rfl
theorem q709 : (Jvm.Cond.instanceMethod ({ cls := "TinFen$Scan", name := "isSign", desc := "(I)Z" } : Jvm.MethodName)) ∈ lw_all := lw_g (lw_at lw_m3 77 rfl) rfl
theorem q710 : (Jvm.Cond.code ({ cls := "TinFen$Scan", name := "isSign", desc := "(I)Z" } : Jvm.MethodName) prog_8_method_6_code (3 : Nat) (Option.some Jvm.ClassFile.FieldType.boolean)) ∈ lw_all := lw_g (lw_at lw_m3 78 rfl) rfl
theorem q711 : (Jvm.Cond.methodLink "TinFen$Scan" (36 : Nat) ({ cls := "java/lang/String", name := "length", desc := "()I" } : Jvm.MethodName)) ∈ lw_all := lw_g (lw_at lw_m3 79 rfl) rfl
theorem q721 : (Jvm.Cond.methodLink "TinFen$Scan" (42 : Nat) ({ cls := "java/lang/String", name := "charAt", desc := "(I)C" } : Jvm.MethodName)) ∈ lw_all := lw_g (lw_at lw_m3 89 rfl) rfl
theorem q765 : (Jvm.Cond.declares ({ cls := "TinFen$Scan", name := "key", desc := "()I" } : Jvm.MethodName)) ∈ lw_tbl := lw_at lw_m3 133 rfl
theorem q767 : (Jvm.Cond.instanceMethod ({ cls := "TinFen$Scan", name := "key", desc := "()I" } : Jvm.MethodName)) ∈ lw_all := lw_g (lw_at lw_m3 135 rfl) rfl
theorem q768 : (Jvm.Cond.code ({ cls := "TinFen$Scan", name := "key", desc := "()I" } : Jvm.MethodName) prog_8_method_10_code (1 : Nat) (Option.some Jvm.ClassFile.FieldType.int)) ∈ lw_all := lw_g (lw_at lw_m3 136 rfl) rfl
theorem q769 : (Jvm.Cond.methodLink "TinFen$Scan" (86 : Nat) ({ cls := "TinFen$Scan", name := "in", desc := "(Ljava/lang/String;)I" } : Jvm.MethodName)) ∈ lw_all := lw_g (lw_at lw_m3 137 rfl) rfl
theorem q770 : (Jvm.Cond.instanceMethod ({ cls := "TinFen$Scan", name := "in", desc := "(Ljava/lang/String;)I" } : Jvm.MethodName)) ∈ lw_all := lw_g (lw_at lw_m3 138 rfl) rfl
theorem q771 : (Jvm.Cond.sameMethod "TinFen$Scan" "TinFen$Scan" "in" "(Ljava/lang/String;)I") ∈ lw_all := lw_g (lw_at lw_m3 139 rfl) rfl
theorem q773 : (Jvm.Cond.code ({ cls := "TinFen$Scan", name := "in", desc := "(Ljava/lang/String;)I" } : Jvm.MethodName) prog_8_method_11_code (5 : Nat) (Option.some Jvm.ClassFile.FieldType.int)) ∈ lw_all := lw_g (lw_at lw_m3 141 rfl) rfl
theorem q774 : (Jvm.Cond.methodLink "TinFen$Scan" (90 : Nat) ({ cls := "TinFen$Scan", name := "isWord", desc := "(Ljava/lang/String;II)Z" } : Jvm.MethodName)) ∈ lw_all := lw_g (lw_at lw_m3 142 rfl) rfl
theorem q775 : (Jvm.Cond.privateMethod ({ cls := "TinFen$Scan", name := "isWord", desc := "(Ljava/lang/String;II)Z" } : Jvm.MethodName)) ∈ lw_tbl := lw_at lw_m3 143 rfl
theorem q776 : (Jvm.Cond.instanceMethod ({ cls := "TinFen$Scan", name := "isWord", desc := "(Ljava/lang/String;II)Z" } : Jvm.MethodName)) ∈ lw_all := lw_g (lw_at lw_m3 144 rfl) rfl
theorem q777 : (Jvm.Cond.code ({ cls := "TinFen$Scan", name := "isWord", desc := "(Ljava/lang/String;II)Z" } : Jvm.MethodName) prog_8_method_12_code (5 : Nat) (Option.some Jvm.ClassFile.FieldType.boolean)) ∈ lw_all := lw_g (lw_at lw_m3 145 rfl) rfl
theorem q780 : (Jvm.Cond.declares ({ cls := "TinFen$Scan", name := "need", desc := "(Z)V" } : Jvm.MethodName)) ∈ lw_tbl := lw_at lw_m3 148 rfl
theorem q782 : (Jvm.Cond.instanceMethod ({ cls := "TinFen$Scan", name := "need", desc := "(Z)V" } : Jvm.MethodName)) ∈ lw_all := lw_g (lw_at lw_m3 150 rfl) rfl
theorem q783 : (Jvm.Cond.code ({ cls := "TinFen$Scan", name := "need", desc := "(Z)V" } : Jvm.MethodName) prog_8_method_9_code (2 : Nat) (Option.none : Option Jvm.ClassFile.FieldType)) ∈ lw_all := lw_g (lw_at lw_m3 151 rfl) rfl
theorem q784 : (Jvm.Cond.methodLink "TinFen$Scan" (82 : Nat) ({ cls := "TinFen$Scan", name := "fail", desc := "(I)LTinFen$Wrong;" } : Jvm.MethodName)) ∈ lw_all := lw_g (lw_at lw_m3 152 rfl) rfl
theorem q785 : (Jvm.Cond.instanceMethod ({ cls := "TinFen$Scan", name := "fail", desc := "(I)LTinFen$Wrong;" } : Jvm.MethodName)) ∈ lw_all := lw_g (lw_at lw_m3 153 rfl) rfl
theorem q786 : (Jvm.Cond.sameMethod "TinFen$Scan" "TinFen$Scan" "fail" "(I)LTinFen$Wrong;") ∈ lw_all := lw_g (lw_at lw_m3 154 rfl) rfl
theorem q788 : (Jvm.Cond.code ({ cls := "TinFen$Scan", name := "fail", desc := "(I)LTinFen$Wrong;" } : Jvm.MethodName) prog_8_method_8_code (2 : Nat) (Option.some (Jvm.ClassFile.FieldType.object "TinFen$Wrong"))) ∈ lw_all := lw_g (lw_at lw_m3 156 rfl) rfl
theorem q789 : (Jvm.Cond.methodLink "TinFen$Scan" (76 : Nat) ({ cls := "TinFen$Wrong", name := "of", desc := "(II)LTinFen$Wrong;" } : Jvm.MethodName)) ∈ lw_all := lw_g (lw_at lw_m3 157 rfl) rfl
theorem q795 : (Jvm.Cond.declares ({ cls := "TinFen$Scan", name := "fail", desc := "(I)LTinFen$Wrong;" } : Jvm.MethodName)) ∈ lw_tbl := lw_at lw_m3 163 rfl
theorem q803 : (Jvm.Cond.declares ({ cls := "TinFen$Scan", name := "next", desc := "()V" } : Jvm.MethodName)) ∈ lw_tbl := lw_at lw_m3 171 rfl
theorem q807 : (Jvm.Cond.declares ({ cls := "TinFen$Scan", name := "passed", desc := "(II)I" } : Jvm.MethodName)) ∈ lw_tbl := lw_at lw_m3 175 rfl
theorem q809 : (Jvm.Cond.instanceMethod ({ cls := "TinFen$Scan", name := "passed", desc := "(II)I" } : Jvm.MethodName)) ∈ lw_all := lw_g (lw_at lw_m3 177 rfl) rfl
theorem q810 : (Jvm.Cond.code ({ cls := "TinFen$Scan", name := "passed", desc := "(II)I" } : Jvm.MethodName) prog_8_method_16_code (4 : Nat) (Option.some Jvm.ClassFile.FieldType.int)) ∈ lw_all := lw_g (lw_at lw_m3 178 rfl) rfl
theorem q811 : (Jvm.Cond.methodLink "TinFen$Scan" (100 : Nat) ({ cls := "TinFen$Scan", name := "number", desc := "(II)I" } : Jvm.MethodName)) ∈ lw_all := lw_g (lw_at lw_m3 179 rfl) rfl
theorem q812 : (Jvm.Cond.instanceMethod ({ cls := "TinFen$Scan", name := "number", desc := "(II)I" } : Jvm.MethodName)) ∈ lw_all := lw_g (lw_at lw_m3 180 rfl) rfl
theorem q813 : (Jvm.Cond.sameMethod "TinFen$Scan" "TinFen$Scan" "number" "(II)I") ∈ lw_all := lw_g (lw_at lw_m3 181 rfl) rfl
theorem q815 : (Jvm.Cond.code ({ cls := "TinFen$Scan", name := "number", desc := "(II)I" } : Jvm.MethodName) prog_8_method_15_code (3 : Nat) (Option.some Jvm.ClassFile.FieldType.int)) ∈ lw_all := lw_g (lw_at lw_m3 183 rfl) rfl
theorem q816 : (Jvm.Cond.methodLink "TinFen$Scan" (96 : Nat) ({ cls := "TinFen$Scan", name := "need", desc := "(Z)V" } : Jvm.MethodName)) ∈ lw_all := lw_g (lw_at lw_m3 184 rfl) rfl
theorem q823 : (Jvm.Cond.declares ({ cls := "TinFen$Scan", name := "name", desc := "()J" } : Jvm.MethodName)) ∈ lw_tbl := lw_at lw_m3 191 rfl
theorem q825 : (Jvm.Cond.instanceMethod ({ cls := "TinFen$Scan", name := "name", desc := "()J" } : Jvm.MethodName)) ∈ lw_all := lw_g (lw_at lw_m3 193 rfl) rfl
theorem q826 : (Jvm.Cond.code ({ cls := "TinFen$Scan", name := "name", desc := "()J" } : Jvm.MethodName) prog_8_method_14_code (4 : Nat) (Option.some Jvm.ClassFile.FieldType.long)) ∈ lw_all := lw_g (lw_at lw_m3 194 rfl) rfl
theorem q827 : (Jvm.Cond.stringRef "TinFen$Scan" (94 : Nat) " odds trait person lane tin worth is of on lead pass bite learn lose any when loop stop end got gone ") ∈ lw_tbl := lw_at lw_m3 195 rfl
theorem q969 : (Jvm.Cond.declares ({ cls := "TinFen$Scan", name := "closes", desc := "()V" } : Jvm.MethodName)) ∈ lw_tbl := lw_at lw_m4 97 rfl
theorem q971 : (Jvm.Cond.instanceMethod ({ cls := "TinFen$Scan", name := "closes", desc := "()V" } : Jvm.MethodName)) ∈ lw_all := lw_g (lw_at lw_m4 99 rfl) rfl
theorem q972 : (Jvm.Cond.code ({ cls := "TinFen$Scan", name := "closes", desc := "()V" } : Jvm.MethodName) prog_8_method_17_code (1 : Nat) (Option.none : Option Jvm.ClassFile.FieldType)) ∈ lw_all := lw_g (lw_at lw_m4 100 rfl) rfl
theorem q973 : (Jvm.Cond.methodLink "TinFen$Scan" (103 : Nat) ({ cls := "TinFen$Scan", name := "is", desc := "(I)Z" } : Jvm.MethodName)) ∈ lw_all := lw_g (lw_at lw_m4 101 rfl) rfl
theorem q974 : (Jvm.Cond.instanceMethod ({ cls := "TinFen$Scan", name := "is", desc := "(I)Z" } : Jvm.MethodName)) ∈ lw_all := lw_g (lw_at lw_m4 102 rfl) rfl
theorem q975 : (Jvm.Cond.sameMethod "TinFen$Scan" "TinFen$Scan" "is" "(I)Z") ∈ lw_all := lw_g (lw_at lw_m4 103 rfl) rfl
theorem q977 : (Jvm.Cond.code ({ cls := "TinFen$Scan", name := "is", desc := "(I)Z" } : Jvm.MethodName) prog_8_method_13_code (2 : Nat) (Option.some Jvm.ClassFile.FieldType.boolean)) ∈ lw_all := lw_g (lw_at lw_m4 105 rfl) rfl
theorem q1049 : (Jvm.Cond.declares ({ cls := "TinFen$Scan", name := "is", desc := "(I)Z" } : Jvm.MethodName)) ∈ lw_tbl := lw_at lw_m4 177 rfl
theorem q2253 : (Jvm.Cond.sameMethod "TinFen$Scan" "TinFen$Scan" "at" "(I)I") ∈ lw_all := lw_g (lw_at lw_m9 181 rfl) rfl
theorem q2254 : (Jvm.Cond.sameMethod "TinFen$Scan" "TinFen$Scan" "isSign" "(I)Z") ∈ lw_all := lw_g (lw_at lw_m9 182 rfl) rfl
theorem q2255 : (Jvm.Cond.sameMethod "TinFen$Scan" "TinFen$Scan" "isWord" "(Ljava/lang/String;II)Z") ∈ lw_all := lw_g (lw_at lw_m9 183 rfl) rfl
theorem q2256 : (Jvm.Cond.sameMethod "TinFen$Scan" "TinFen$Scan" "need" "(Z)V") ∈ lw_all := lw_g (lw_at lw_m9 184 rfl) rfl

/-! TinFen$Wrong -/
set_option maxRecDepth 100000
def RX3 : String := "TinFen$Wrong"
def TX3 : u_T := fun k => match k with
  | 0 => ("java/lang/Throwable", "cause", "Ljava/lang/Throwable;", false)
  | 1 => ("java/lang/Throwable", "stackTrace", "[Ljava/lang/StackTraceElement;", false)
  | 2 => ("java/lang/Throwable", "suppressedExceptions", "Ljava/util/List;", false)
  | 3 => ("java/lang/Throwable", "detailMessage", "Ljava/lang/String;", false)
  | 4 => ("java/lang/Throwable", "backtrace", "Ljava/lang/Object;", false)
  | 5 => ("java/lang/Throwable", "depth", "I", false)
  | 6 => ("TinFen$Wrong", "kind", "I", false)
  | _ => ("TinFen$Wrong", "place", "I", false)
def tyX3 : Nat → FieldType := fun k => match k with
  | 0 => .object "java/lang/Throwable"
  | 1 => .array (.object "java/lang/StackTraceElement")
  | 2 => .object "java/util/List"
  | 3 => .object "java/lang/String"
  | 4 => .object "java/lang/Object"
  | 5 => .int
  | 6 => .int
  | _ => .int
abbrev wsX30 : List Cond := u_ws RX3 TX3 8
theorem nmX3 : ∀ a, a < 8 → ∀ b, b < 8 → a ≠ b → (TX3 a).2.1 ≠ (TX3 b).2.1 := by decide +kernel
theorem tyX3_ok : ∀ k, k < 8 → parseFieldDescriptor (TX3 k).2.2.1 = some (tyX3 k) := by decide +kernel
abbrev cX3_init : ByteArray := prog_12_method_1_code
def yX3_init : MethodName := ⟨RX3, "<init>", "()V"⟩
def dkwX3_init_0 : List UInt8 := [42, 1, 1, 3, 3, 183, 0, 1, 177]
abbrev dktX3_init_0 : List UInt8 := dkwX3_init_0 ++ []
theorem dksX3_init_0 : cX3_init.data.toList.drop 0 = dktX3_init_0 := by decide +kernel
theorem dX3_init_0 : decode cX3_init 0 = .ok (.aload_n 0, 1) := dk_42 (dk_at dksX3_init_0 0 rfl rfl)
theorem dX3_init_1 : decode cX3_init 1 = .ok (.aconst_null, 1) := dk_1 (dk_at dksX3_init_0 1 rfl rfl)
theorem dX3_init_2 : decode cX3_init 2 = .ok (.aconst_null, 1) := dk_1 (dk_at dksX3_init_0 2 rfl rfl)
theorem dX3_init_3 : decode cX3_init 3 = .ok (.iconst 0, 1) := dk_3 (dk_at dksX3_init_0 3 rfl rfl)
theorem dX3_init_4 : decode cX3_init 4 = .ok (.iconst 0, 1) := dk_3 (dk_at dksX3_init_0 4 rfl rfl)
theorem dX3_init_5 : decode cX3_init 5 = .ok (.invokespecial 1, 3) := dk_183 0 1 (dk_at dksX3_init_0 5 rfl rfl)
theorem dX3_init_8 : decode cX3_init 8 = .ok (.return_, 1) := dk_177 (dk_at dksX3_init_0 8 rfl rfl)
abbrev cX3_of : ByteArray := prog_12_method_2_code
def yX3_of : MethodName := ⟨RX3, "of", "(II)LTinFen$Wrong;"⟩
def dkwX3_of_0 : List UInt8 := [42, 27, 181, 0, 7, 42, 28, 181, 0, 13, 42, 176]
abbrev dktX3_of_0 : List UInt8 := dkwX3_of_0 ++ []
theorem dksX3_of_0 : cX3_of.data.toList.drop 0 = dktX3_of_0 := by decide +kernel
theorem dX3_of_0 : decode cX3_of 0 = .ok (.aload_n 0, 1) := dk_42 (dk_at dksX3_of_0 0 rfl rfl)
theorem dX3_of_1 : decode cX3_of 1 = .ok (.iload_n 1, 1) := dk_27 (dk_at dksX3_of_0 1 rfl rfl)
theorem dX3_of_2 : decode cX3_of 2 = .ok (.putfield 7, 3) := dk_181 0 7 (dk_at dksX3_of_0 2 rfl rfl)
theorem dX3_of_5 : decode cX3_of 5 = .ok (.aload_n 0, 1) := dk_42 (dk_at dksX3_of_0 5 rfl rfl)
theorem dX3_of_6 : decode cX3_of 6 = .ok (.iload_n 2, 1) := dk_28 (dk_at dksX3_of_0 6 rfl rfl)
theorem dX3_of_7 : decode cX3_of 7 = .ok (.putfield 13, 3) := dk_181 0 13 (dk_at dksX3_of_0 7 rfl rfl)
theorem dX3_of_10 : decode cX3_of 10 = .ok (.aload_n 0, 1) := dk_42 (dk_at dksX3_of_0 10 rfl rfl)
theorem dX3_of_11 : decode cX3_of 11 = .ok (.areturn, 1) := dk_176 (dk_at dksX3_of_0 11 rfl rfl)
theorem q159 : (Jvm.Cond.initialized "TinFen$Wrong") ∈ lw_all := lw_g (lw_at lw_m1 7 rfl) rfl
theorem q192 : (Jvm.Cond.instantiable "TinFen$Wrong" (8 : Nat)) ∈ lw_all := lw_g (lw_at lw_m1 40 rfl) rfl
theorem q193 : (Jvm.Cond.castable "TinFen$Wrong" "TinFen$Wrong") ∈ lw_tbl := lw_at lw_m1 41 rfl
theorem q200 : (Jvm.Cond.selects "TinFen$Wrong" ({ cls := "java/lang/Throwable", name := "fillInStackTrace", desc := "(I)Ljava/lang/Throwable;" } : Jvm.MethodName) ({ cls := "java/lang/Throwable", name := "fillInStackTrace", desc := "(I)Ljava/lang/Throwable;" } : Jvm.MethodName)) ∈ lw_all := lw_g (lw_at lw_m1 48 rfl) rfl
theorem q201 : (Jvm.Cond.selects "TinFen$Wrong" ({ cls := "java/lang/Throwable", name := "fillInStackTrace", desc := "()Ljava/lang/Throwable;" } : Jvm.MethodName) ({ cls := "java/lang/Throwable", name := "fillInStackTrace", desc := "()Ljava/lang/Throwable;" } : Jvm.MethodName)) ∈ lw_all := lw_g (lw_at lw_m1 49 rfl) rfl
theorem q202 : (Jvm.Cond.lays "TinFen$Wrong" "java/lang/Throwable" "cause" "Ljava/lang/Throwable;") ∈ lw_all := lw_g (lw_at lw_m1 50 rfl) rfl
theorem q204 : (Jvm.Cond.lays "TinFen$Wrong" "java/lang/Throwable" "stackTrace" "[Ljava/lang/StackTraceElement;") ∈ lw_all := lw_g (lw_at lw_m1 52 rfl) rfl
theorem q206 : (Jvm.Cond.lays "TinFen$Wrong" "java/lang/Throwable" "suppressedExceptions" "Ljava/util/List;") ∈ lw_all := lw_g (lw_at lw_m1 54 rfl) rfl
theorem q208 : (Jvm.Cond.lays "TinFen$Wrong" "java/lang/Throwable" "detailMessage" "Ljava/lang/String;") ∈ lw_all := lw_g (lw_at lw_m1 56 rfl) rfl
theorem q210 : (Jvm.Cond.lays "TinFen$Wrong" "java/lang/Throwable" "backtrace" "Ljava/lang/Object;") ∈ lw_all := lw_g (lw_at lw_m1 58 rfl) rfl
theorem q247 : (Jvm.Cond.instanceMethod ({ cls := "TinFen$Wrong", name := "<init>", desc := "()V" } : Jvm.MethodName)) ∈ lw_all := lw_g (lw_at lw_m1 95 rfl) rfl
theorem q248 : (Jvm.Cond.code ({ cls := "TinFen$Wrong", name := "<init>", desc := "()V" } : Jvm.MethodName) prog_12_method_1_code (1 : Nat) (Option.none : Option Jvm.ClassFile.FieldType)) ∈ lw_all := lw_g (lw_at lw_m1 96 rfl) rfl
theorem q249 : (Jvm.Cond.methodLink "TinFen$Wrong" (1 : Nat) ({ cls := "java/lang/RuntimeException", name := "<init>", desc := "(Ljava/lang/String;Ljava/lang/Throwable;ZZ)V" } : Jvm.MethodName)) ∈ lw_all := lw_g (lw_at lw_m1 97 rfl) rfl
theorem q258 : (Jvm.Cond.fieldLink "TinFen$Wrong" (7 : Nat) "TinFen$Wrong" "kind" "I") ∈ lw_all := lw_g (lw_at lw_m1 106 rfl) rfl
theorem q260 : (Jvm.Cond.fieldLink "TinFen$Wrong" (13 : Nat) "TinFen$Wrong" "place" "I") ∈ lw_all := lw_g (lw_at lw_m1 108 rfl) rfl
theorem q267 : (Jvm.Cond.lays "TinFen$Wrong" "TinFen$Wrong" "kind" "I") ∈ lw_all := lw_g (lw_at lw_m1 115 rfl) rfl
theorem q268 : (Jvm.Cond.soleField "TinFen$Wrong" "kind") ∈ lw_all := lw_g (lw_at lw_m1 116 rfl) rfl
theorem q269 : (Jvm.Cond.lays "TinFen$Wrong" "TinFen$Wrong" "place" "I") ∈ lw_all := lw_g (lw_at lw_m1 117 rfl) rfl
theorem q270 : (Jvm.Cond.soleField "TinFen$Wrong" "place") ∈ lw_all := lw_g (lw_at lw_m1 118 rfl) rfl
theorem q275 : (Jvm.Cond.lays "TinFen$Wrong" "java/lang/Throwable" "depth" "I") ∈ lw_all := lw_g (lw_at lw_m1 123 rfl) rfl
theorem q278 : (Jvm.Cond.superclass "TinFen$Wrong" "java/lang/RuntimeException") ∈ lw_all := lw_g (lw_at lw_m1 126 rfl) rfl
theorem q790 : (Jvm.Cond.instanceMethod ({ cls := "TinFen$Wrong", name := "of", desc := "(II)LTinFen$Wrong;" } : Jvm.MethodName)) ∈ lw_all := lw_g (lw_at lw_m3 158 rfl) rfl
theorem q791 : (Jvm.Cond.selects "TinFen$Wrong" ({ cls := "TinFen$Wrong", name := "of", desc := "(II)LTinFen$Wrong;" } : Jvm.MethodName) ({ cls := "TinFen$Wrong", name := "of", desc := "(II)LTinFen$Wrong;" } : Jvm.MethodName)) ∈ lw_all := lw_g (lw_at lw_m3 159 rfl) rfl
theorem q792 : (Jvm.Cond.code ({ cls := "TinFen$Wrong", name := "of", desc := "(II)LTinFen$Wrong;" } : Jvm.MethodName) prog_12_method_2_code (3 : Nat) (Option.some (Jvm.ClassFile.FieldType.object "TinFen$Wrong"))) ∈ lw_all := lw_g (lw_at lw_m3 160 rfl) rfl
theorem in_X3 : ∀ w ∈ wsX30, w ∈ lw_all := lw_in wsX30 [202, 204, 206, 208, 210, 275, 267, 269] (by decide +kernel) (by decide +kernel)

/-! TinFen$Metal -/
set_option maxRecDepth 100000
def RX4 : String := "TinFen$Metal"
abbrev cX4_init : ByteArray := prog_5_method_1_code
def yX4_init : MethodName := ⟨RX4, "<init>", "()V"⟩
theorem dX4_init_0 : decode cX4_init 0 = .ok (.aload_n 0, 1) := by decide +kernel
theorem dX4_init_1 : decode cX4_init 1 = .ok (.invokespecial 3, 3) := by decide +kernel
theorem dX4_init_4 : decode cX4_init 4 = .ok (.return_, 1) := by decide +kernel
abbrev cX4_yields : ByteArray := prog_5_method_2_code
def yX4_yields : MethodName := ⟨RX4, "yields", "(LTinFen$Tin;)Z"⟩
def dkwX4_yields_0 : List UInt8 := [43, 180, 0, 9, 2, 160, 0, 7, 4, 167, 0, 4, 3, 172]
abbrev dktX4_yields_0 : List UInt8 := dkwX4_yields_0 ++ []
theorem dksX4_yields_0 : cX4_yields.data.toList.drop 0 = dktX4_yields_0 := by decide +kernel
theorem dX4_yields_0 : decode cX4_yields 0 = .ok (.aload_n 1, 1) := dk_43 (dk_at dksX4_yields_0 0 rfl rfl)
theorem dX4_yields_1 : decode cX4_yields 1 = .ok (.getfield 9, 3) := dk_180 0 9 (dk_at dksX4_yields_0 1 rfl rfl)
theorem dX4_yields_4 : decode cX4_yields 4 = .ok (.iconst (-1), 1) := dk_2 (dk_at dksX4_yields_0 4 rfl rfl)
theorem dX4_yields_5 : decode cX4_yields 5 = .ok (.if_icmp .ne 7, 3) := dk_160 0 7 (dk_at dksX4_yields_0 5 rfl rfl)
theorem dX4_yields_8 : decode cX4_yields 8 = .ok (.iconst 1, 1) := dk_4 (dk_at dksX4_yields_0 8 rfl rfl)
theorem dX4_yields_9 : decode cX4_yields 9 = .ok (.goto 4, 3) := dk_167 0 4 (dk_at dksX4_yields_0 9 rfl rfl)
theorem dX4_yields_12 : decode cX4_yields 12 = .ok (.iconst 0, 1) := dk_3 (dk_at dksX4_yields_0 12 rfl rfl)
theorem dX4_yields_13 : decode cX4_yields 13 = .ok (.ireturn, 1) := dk_172 (dk_at dksX4_yields_0 13 rfl rfl)
theorem q160 : (Jvm.Cond.initialized "TinFen$Metal") ∈ lw_all := lw_g (lw_at lw_m1 8 rfl) rfl
theorem q289 : (Jvm.Cond.instantiable "TinFen$Metal" (0 : Nat)) ∈ lw_all := lw_g (lw_at lw_m1 137 rfl) rfl
theorem q291 : (Jvm.Cond.instanceMethod ({ cls := "TinFen$Metal", name := "<init>", desc := "()V" } : Jvm.MethodName)) ∈ lw_all := lw_g (lw_at lw_m1 139 rfl) rfl
theorem q292 : (Jvm.Cond.code ({ cls := "TinFen$Metal", name := "<init>", desc := "()V" } : Jvm.MethodName) prog_5_method_1_code (1 : Nat) (Option.none : Option Jvm.ClassFile.FieldType)) ∈ lw_all := lw_g (lw_at lw_m1 140 rfl) rfl
theorem q293 : (Jvm.Cond.methodLink "TinFen$Metal" (3 : Nat) ({ cls := "java/lang/Object", name := "<init>", desc := "()V" } : Jvm.MethodName)) ∈ lw_all := lw_g (lw_at lw_m1 141 rfl) rfl
theorem q294 : (Jvm.Cond.superclass "TinFen$Metal" "java/lang/Object") ∈ lw_all := lw_g (lw_at lw_m1 142 rfl) rfl
theorem q933 : (Jvm.Cond.fieldLinkNest "TinFen$Metal" (9 : Nat) "TinFen$Tin" "on" "I" "TinFen") ∈ lw_tbl := lw_at lw_m4 61 rfl
theorem q1141 : (Jvm.Cond.instanceMethod ({ cls := "TinFen$Metal", name := "yields", desc := "(LTinFen$Tin;)Z" } : Jvm.MethodName)) ∈ lw_all := lw_g (lw_at lw_m5 29 rfl) rfl
theorem q1142 : (Jvm.Cond.selects "TinFen$Metal" ({ cls := "TinFen$Metal", name := "yields", desc := "(LTinFen$Tin;)Z" } : Jvm.MethodName) ({ cls := "TinFen$Metal", name := "yields", desc := "(LTinFen$Tin;)Z" } : Jvm.MethodName)) ∈ lw_all := lw_g (lw_at lw_m5 30 rfl) rfl
theorem q1143 : (Jvm.Cond.sameMethod "TinFen$Metal" "TinFen$Metal" "yields" "(LTinFen$Tin;)Z") ∈ lw_all := lw_g (lw_at lw_m5 31 rfl) rfl
theorem q1148 : (Jvm.Cond.code ({ cls := "TinFen$Metal", name := "yields", desc := "(LTinFen$Tin;)Z" } : Jvm.MethodName) prog_5_method_2_code (2 : Nat) (Option.some Jvm.ClassFile.FieldType.boolean)) ∈ lw_all := lw_g (lw_at lw_m5 36 rfl) rfl

/-! TinFen$Lead -/
set_option maxRecDepth 100000
def RX5 : String := "TinFen$Lead"
abbrev cX5_init : ByteArray := prog_4_method_1_code
def yX5_init : MethodName := ⟨RX5, "<init>", "()V"⟩
theorem dX5_init_0 : decode cX5_init 0 = .ok (.aload_n 0, 1) := by decide +kernel
theorem dX5_init_1 : decode cX5_init 1 = .ok (.invokespecial 3, 3) := by decide +kernel
theorem dX5_init_4 : decode cX5_init 4 = .ok (.return_, 1) := by decide +kernel
abbrev cX5_yields : ByteArray := prog_4_method_2_code
def yX5_yields : MethodName := ⟨RX5, "yields", "(LTinFen$Tin;)Z"⟩
def dkwX5_yields_1 : List UInt8 := [43, 2, 181, 0, 19, 43, 180, 0, 13, 172]
abbrev dktX5_yields_1 : List UInt8 := dkwX5_yields_1 ++ []
def dkwX5_yields_0 : List UInt8 := [43, 42, 43, 183, 0, 9, 153, 0, 10, 43, 180, 0, 13, 153, 0, 7, 4, 167, 0, 4, 3, 181, 0, 13]
abbrev dktX5_yields_0 : List UInt8 := dkwX5_yields_0 ++ dktX5_yields_1
theorem dksX5_yields_0 : cX5_yields.data.toList.drop 0 = dktX5_yields_0 := by decide +kernel
theorem dksX5_yields_1 : cX5_yields.data.toList.drop 24 = dktX5_yields_1 := dk_seg dksX5_yields_0 24 rfl rfl
theorem dX5_yields_0 : decode cX5_yields 0 = .ok (.aload_n 1, 1) := dk_43 (dk_at dksX5_yields_0 0 rfl rfl)
theorem dX5_yields_1 : decode cX5_yields 1 = .ok (.aload_n 0, 1) := dk_42 (dk_at dksX5_yields_0 1 rfl rfl)
theorem dX5_yields_2 : decode cX5_yields 2 = .ok (.aload_n 1, 1) := dk_43 (dk_at dksX5_yields_0 2 rfl rfl)
theorem dX5_yields_3 : decode cX5_yields 3 = .ok (.invokespecial 9, 3) := dk_183 0 9 (dk_at dksX5_yields_0 3 rfl rfl)
theorem dX5_yields_6 : decode cX5_yields 6 = .ok (.ifCond .eq 10, 3) := dk_153 0 10 (dk_at dksX5_yields_0 6 rfl rfl)
theorem dX5_yields_9 : decode cX5_yields 9 = .ok (.aload_n 1, 1) := dk_43 (dk_at dksX5_yields_0 9 rfl rfl)
theorem dX5_yields_10 : decode cX5_yields 10 = .ok (.getfield 13, 3) := dk_180 0 13 (dk_at dksX5_yields_0 10 rfl rfl)
theorem dX5_yields_13 : decode cX5_yields 13 = .ok (.ifCond .eq 7, 3) := dk_153 0 7 (dk_at dksX5_yields_0 13 rfl rfl)
theorem dX5_yields_16 : decode cX5_yields 16 = .ok (.iconst 1, 1) := dk_4 (dk_at dksX5_yields_0 16 rfl rfl)
theorem dX5_yields_17 : decode cX5_yields 17 = .ok (.goto 4, 3) := dk_167 0 4 (dk_at dksX5_yields_0 17 rfl rfl)
theorem dX5_yields_20 : decode cX5_yields 20 = .ok (.iconst 0, 1) := dk_3 (dk_at dksX5_yields_0 20 rfl rfl)
theorem dX5_yields_21 : decode cX5_yields 21 = .ok (.putfield 13, 3) := dk_181 0 13 (dk_at dksX5_yields_0 21 rfl rfl)
theorem dX5_yields_24 : decode cX5_yields 24 = .ok (.aload_n 1, 1) := dk_43 (dk_at dksX5_yields_1 0 rfl rfl)
theorem dX5_yields_25 : decode cX5_yields 25 = .ok (.iconst (-1), 1) := dk_2 (dk_at dksX5_yields_1 1 rfl rfl)
theorem dX5_yields_26 : decode cX5_yields 26 = .ok (.putfield 19, 3) := dk_181 0 19 (dk_at dksX5_yields_1 2 rfl rfl)
theorem dX5_yields_29 : decode cX5_yields 29 = .ok (.aload_n 1, 1) := dk_43 (dk_at dksX5_yields_1 5 rfl rfl)
theorem dX5_yields_30 : decode cX5_yields 30 = .ok (.getfield 13, 3) := dk_180 0 13 (dk_at dksX5_yields_1 6 rfl rfl)
theorem dX5_yields_33 : decode cX5_yields 33 = .ok (.ireturn, 1) := dk_172 (dk_at dksX5_yields_1 9 rfl rfl)
theorem q161 : (Jvm.Cond.initialized "TinFen$Lead") ∈ lw_all := lw_g (lw_at lw_m1 9 rfl) rfl
theorem q297 : (Jvm.Cond.instantiable "TinFen$Lead" (0 : Nat)) ∈ lw_all := lw_g (lw_at lw_m1 145 rfl) rfl
theorem q299 : (Jvm.Cond.instanceMethod ({ cls := "TinFen$Lead", name := "<init>", desc := "()V" } : Jvm.MethodName)) ∈ lw_all := lw_g (lw_at lw_m1 147 rfl) rfl
theorem q300 : (Jvm.Cond.code ({ cls := "TinFen$Lead", name := "<init>", desc := "()V" } : Jvm.MethodName) prog_4_method_1_code (1 : Nat) (Option.none : Option Jvm.ClassFile.FieldType)) ∈ lw_all := lw_g (lw_at lw_m1 148 rfl) rfl
theorem q301 : (Jvm.Cond.methodLinkNest "TinFen$Lead" (3 : Nat) ({ cls := "TinFen$Metal", name := "<init>", desc := "()V" } : Jvm.MethodName) "TinFen") ∈ lw_tbl := lw_at lw_m1 149 rfl
theorem q302 : (Jvm.Cond.superclass "TinFen$Lead" "TinFen$Metal") ∈ lw_all := lw_g (lw_at lw_m1 150 rfl) rfl
theorem q934 : (Jvm.Cond.fieldLinkNest "TinFen$Lead" (19 : Nat) "TinFen$Tin" "on" "I" "TinFen") ∈ lw_tbl := lw_at lw_m4 62 rfl
theorem q944 : (Jvm.Cond.fieldLinkNest "TinFen$Lead" (13 : Nat) "TinFen$Tin" "isFound" "Z" "TinFen") ∈ lw_tbl := lw_at lw_m4 72 rfl
theorem q1144 : (Jvm.Cond.selects "TinFen$Lead" ({ cls := "TinFen$Metal", name := "yields", desc := "(LTinFen$Tin;)Z" } : Jvm.MethodName) ({ cls := "TinFen$Lead", name := "yields", desc := "(LTinFen$Tin;)Z" } : Jvm.MethodName)) ∈ lw_all := lw_g (lw_at lw_m5 32 rfl) rfl
theorem q1145 : (Jvm.Cond.instanceMethod ({ cls := "TinFen$Lead", name := "yields", desc := "(LTinFen$Tin;)Z" } : Jvm.MethodName)) ∈ lw_all := lw_g (lw_at lw_m5 33 rfl) rfl
theorem q1146 : (Jvm.Cond.code ({ cls := "TinFen$Lead", name := "yields", desc := "(LTinFen$Tin;)Z" } : Jvm.MethodName) prog_4_method_2_code (2 : Nat) (Option.some Jvm.ClassFile.FieldType.boolean)) ∈ lw_all := lw_g (lw_at lw_m5 34 rfl) rfl
theorem q1147 : (Jvm.Cond.methodLink "TinFen$Lead" (9 : Nat) ({ cls := "TinFen$Metal", name := "yields", desc := "(LTinFen$Tin;)Z" } : Jvm.MethodName)) ∈ lw_all := lw_g (lw_at lw_m5 35 rfl) rfl

/-! TinFen$Fen -/
set_option maxRecDepth 100000
def RX6 : String := "TinFen$Fen"
def TX6 : u_T := fun k => match k with
  | 0 => ("TinFen$Fen", "traits", "[J", true)
  | 1 => ("TinFen$Fen", "worth", "[I", true)
  | 2 => ("TinFen$Fen", "people", "[LTinFen$Person;", true)
  | 3 => ("TinFen$Fen", "tins", "[LTinFen$Tin;", true)
  | 4 => ("TinFen$Fen", "traitMany", "I", false)
  | 5 => ("TinFen$Fen", "personMany", "I", false)
  | 6 => ("TinFen$Fen", "laneMany", "I", false)
  | 7 => ("TinFen$Fen", "tinMany", "I", false)
  | 8 => ("TinFen$Fen", "odds", "I", false)
  | _ => ("TinFen$Fen", "passes", "I", false)
def tyX6 : Nat → FieldType := fun k => match k with
  | 0 => .array .long
  | 1 => .array .int
  | 2 => .array (.object "TinFen$Person")
  | 3 => .array (.object "TinFen$Tin")
  | 4 => .int
  | 5 => .int
  | 6 => .int
  | 7 => .int
  | 8 => .int
  | _ => .int
abbrev wsX60 : List Cond := u_ws RX6 TX6 10
theorem nmX6 : ∀ a, a < 10 → ∀ b, b < 10 → a ≠ b → (TX6 a).2.1 ≠ (TX6 b).2.1 := by decide +kernel
theorem tyX6_ok : ∀ k, k < 10 → parseFieldDescriptor (TX6 k).2.2.1 = some (tyX6 k) := by decide +kernel
abbrev cX6_init : ByteArray := prog_2_method_1_code
def yX6_init : MethodName := ⟨RX6, "<init>", "()V"⟩
def dkwX6_init_1 : List UInt8 := [189, 0, 19, 181, 0, 21, 42, 16, 9, 189, 0, 25, 181, 0, 27, 42, 16, 8, 181, 0, 31, 177]
abbrev dktX6_init_1 : List UInt8 := dkwX6_init_1 ++ []
def dkwX6_init_0 : List UInt8 := [42, 183, 0, 3, 42, 16, 6, 188, 11, 181, 0, 9, 42, 16, 6, 188, 10, 181, 0, 15, 42, 16, 7]
abbrev dktX6_init_0 : List UInt8 := dkwX6_init_0 ++ dktX6_init_1
theorem dksX6_init_0 : cX6_init.data.toList.drop 0 = dktX6_init_0 := by decide +kernel
theorem dksX6_init_1 : cX6_init.data.toList.drop 23 = dktX6_init_1 := dk_seg dksX6_init_0 23 rfl rfl
theorem dX6_init_0 : decode cX6_init 0 = .ok (.aload_n 0, 1) := dk_42 (dk_at dksX6_init_0 0 rfl rfl)
theorem dX6_init_1 : decode cX6_init 1 = .ok (.invokespecial 3, 3) := dk_183 0 3 (dk_at dksX6_init_0 1 rfl rfl)
theorem dX6_init_4 : decode cX6_init 4 = .ok (.aload_n 0, 1) := dk_42 (dk_at dksX6_init_0 4 rfl rfl)
theorem dX6_init_5 : decode cX6_init 5 = .ok (.bipush 6, 2) := dk_16 6 (dk_at dksX6_init_0 5 rfl rfl)
theorem dX6_init_7 : decode cX6_init 7 = .ok (.newarray .long, 2) := dk_188_11 (dk_at dksX6_init_0 7 rfl rfl)
theorem dX6_init_9 : decode cX6_init 9 = .ok (.putfield 9, 3) := dk_181 0 9 (dk_at dksX6_init_0 9 rfl rfl)
theorem dX6_init_12 : decode cX6_init 12 = .ok (.aload_n 0, 1) := dk_42 (dk_at dksX6_init_0 12 rfl rfl)
theorem dX6_init_13 : decode cX6_init 13 = .ok (.bipush 6, 2) := dk_16 6 (dk_at dksX6_init_0 13 rfl rfl)
theorem dX6_init_15 : decode cX6_init 15 = .ok (.newarray .int, 2) := dk_188_10 (dk_at dksX6_init_0 15 rfl rfl)
theorem dX6_init_17 : decode cX6_init 17 = .ok (.putfield 15, 3) := dk_181 0 15 (dk_at dksX6_init_0 17 rfl rfl)
theorem dX6_init_20 : decode cX6_init 20 = .ok (.aload_n 0, 1) := dk_42 (dk_at dksX6_init_0 20 rfl rfl)
theorem dX6_init_21 : decode cX6_init 21 = .ok (.bipush 7, 2) := dk_16 7 (dk_at dksX6_init_0 21 rfl rfl)
theorem dX6_init_23 : decode cX6_init 23 = .ok (.anewarray 19, 3) := dk_189 0 19 (dk_at dksX6_init_1 0 rfl rfl)
theorem dX6_init_26 : decode cX6_init 26 = .ok (.putfield 21, 3) := dk_181 0 21 (dk_at dksX6_init_1 3 rfl rfl)
theorem dX6_init_29 : decode cX6_init 29 = .ok (.aload_n 0, 1) := dk_42 (dk_at dksX6_init_1 6 rfl rfl)
theorem dX6_init_30 : decode cX6_init 30 = .ok (.bipush 9, 2) := dk_16 9 (dk_at dksX6_init_1 7 rfl rfl)
theorem dX6_init_32 : decode cX6_init 32 = .ok (.anewarray 25, 3) := dk_189 0 25 (dk_at dksX6_init_1 9 rfl rfl)
theorem dX6_init_35 : decode cX6_init 35 = .ok (.putfield 27, 3) := dk_181 0 27 (dk_at dksX6_init_1 12 rfl rfl)
theorem dX6_init_38 : decode cX6_init 38 = .ok (.aload_n 0, 1) := dk_42 (dk_at dksX6_init_1 15 rfl rfl)
theorem dX6_init_39 : decode cX6_init 39 = .ok (.bipush 8, 2) := dk_16 8 (dk_at dksX6_init_1 16 rfl rfl)
theorem dX6_init_41 : decode cX6_init 41 = .ok (.putfield 31, 3) := dk_181 0 31 (dk_at dksX6_init_1 18 rfl rfl)
theorem dX6_init_44 : decode cX6_init 44 = .ok (.return_, 1) := dk_177 (dk_at dksX6_init_1 21 rfl rfl)
abbrev cX6_isTaken : ByteArray := prog_2_method_7_code
def yX6_isTaken : MethodName := ⟨RX6, "isTaken", "(J)Z"⟩
def dkwX6_isTaken_1 : List UInt8 := [159, 0, 7, 4, 167, 0, 4, 3, 172]
abbrev dktX6_isTaken_1 : List UInt8 := dkwX6_isTaken_1 ++ []
def dkwX6_isTaken_0 : List UInt8 := [42, 31, 182, 0, 79, 2, 160, 0, 21, 42, 31, 182, 0, 83, 2, 160, 0, 12, 42, 31, 182, 0, 86, 2]
abbrev dktX6_isTaken_0 : List UInt8 := dkwX6_isTaken_0 ++ dktX6_isTaken_1
theorem dksX6_isTaken_0 : cX6_isTaken.data.toList.drop 0 = dktX6_isTaken_0 := by decide +kernel
theorem dksX6_isTaken_1 : cX6_isTaken.data.toList.drop 24 = dktX6_isTaken_1 := dk_seg dksX6_isTaken_0 24 rfl rfl
theorem dX6_isTaken_0 : decode cX6_isTaken 0 = .ok (.aload_n 0, 1) := dk_42 (dk_at dksX6_isTaken_0 0 rfl rfl)
theorem dX6_isTaken_1 : decode cX6_isTaken 1 = .ok (.lload_n 1, 1) := dk_31 (dk_at dksX6_isTaken_0 1 rfl rfl)
theorem dX6_isTaken_2 : decode cX6_isTaken 2 = .ok (.invokevirtual 79, 3) := dk_182 0 79 (dk_at dksX6_isTaken_0 2 rfl rfl)
theorem dX6_isTaken_5 : decode cX6_isTaken 5 = .ok (.iconst (-1), 1) := dk_2 (dk_at dksX6_isTaken_0 5 rfl rfl)
theorem dX6_isTaken_6 : decode cX6_isTaken 6 = .ok (.if_icmp .ne 21, 3) := dk_160 0 21 (dk_at dksX6_isTaken_0 6 rfl rfl)
theorem dX6_isTaken_9 : decode cX6_isTaken 9 = .ok (.aload_n 0, 1) := dk_42 (dk_at dksX6_isTaken_0 9 rfl rfl)
theorem dX6_isTaken_10 : decode cX6_isTaken 10 = .ok (.lload_n 1, 1) := dk_31 (dk_at dksX6_isTaken_0 10 rfl rfl)
theorem dX6_isTaken_11 : decode cX6_isTaken 11 = .ok (.invokevirtual 83, 3) := dk_182 0 83 (dk_at dksX6_isTaken_0 11 rfl rfl)
theorem dX6_isTaken_14 : decode cX6_isTaken 14 = .ok (.iconst (-1), 1) := dk_2 (dk_at dksX6_isTaken_0 14 rfl rfl)
theorem dX6_isTaken_15 : decode cX6_isTaken 15 = .ok (.if_icmp .ne 12, 3) := dk_160 0 12 (dk_at dksX6_isTaken_0 15 rfl rfl)
theorem dX6_isTaken_18 : decode cX6_isTaken 18 = .ok (.aload_n 0, 1) := dk_42 (dk_at dksX6_isTaken_0 18 rfl rfl)
theorem dX6_isTaken_19 : decode cX6_isTaken 19 = .ok (.lload_n 1, 1) := dk_31 (dk_at dksX6_isTaken_0 19 rfl rfl)
theorem dX6_isTaken_20 : decode cX6_isTaken 20 = .ok (.invokevirtual 86, 3) := dk_182 0 86 (dk_at dksX6_isTaken_0 20 rfl rfl)
theorem dX6_isTaken_23 : decode cX6_isTaken 23 = .ok (.iconst (-1), 1) := dk_2 (dk_at dksX6_isTaken_0 23 rfl rfl)
theorem dX6_isTaken_24 : decode cX6_isTaken 24 = .ok (.if_icmp .eq 7, 3) := dk_159 0 7 (dk_at dksX6_isTaken_1 0 rfl rfl)
theorem dX6_isTaken_27 : decode cX6_isTaken 27 = .ok (.iconst 1, 1) := dk_4 (dk_at dksX6_isTaken_1 3 rfl rfl)
theorem dX6_isTaken_28 : decode cX6_isTaken 28 = .ok (.goto 4, 3) := dk_167 0 4 (dk_at dksX6_isTaken_1 4 rfl rfl)
theorem dX6_isTaken_31 : decode cX6_isTaken 31 = .ok (.iconst 0, 1) := dk_3 (dk_at dksX6_isTaken_1 7 rfl rfl)
theorem dX6_isTaken_32 : decode cX6_isTaken 32 = .ok (.ireturn, 1) := dk_172 (dk_at dksX6_isTaken_1 8 rfl rfl)
abbrev cX6_trait : ByteArray := prog_2_method_4_code
def yX6_trait : MethodName := ⟨RX6, "trait", "(J)I"⟩
def dkwX6_trait_1 : List UInt8 := [132, 3, 1, 167, 255, 232, 2, 172]
abbrev dktX6_trait_1 : List UInt8 := dkwX6_trait_1 ++ []
def dkwX6_trait_0 : List UInt8 := [3, 62, 29, 42, 180, 0, 55, 162, 0, 22, 42, 180, 0, 9, 29, 47, 31, 148, 154, 0, 5, 29, 172]
abbrev dktX6_trait_0 : List UInt8 := dkwX6_trait_0 ++ dktX6_trait_1
theorem dksX6_trait_0 : cX6_trait.data.toList.drop 0 = dktX6_trait_0 := by decide +kernel
theorem dksX6_trait_1 : cX6_trait.data.toList.drop 23 = dktX6_trait_1 := dk_seg dksX6_trait_0 23 rfl rfl
theorem dX6_trait_0 : decode cX6_trait 0 = .ok (.iconst 0, 1) := dk_3 (dk_at dksX6_trait_0 0 rfl rfl)
theorem dX6_trait_1 : decode cX6_trait 1 = .ok (.istore_n 3, 1) := dk_62 (dk_at dksX6_trait_0 1 rfl rfl)
theorem dX6_trait_2 : decode cX6_trait 2 = .ok (.iload_n 3, 1) := dk_29 (dk_at dksX6_trait_0 2 rfl rfl)
theorem dX6_trait_3 : decode cX6_trait 3 = .ok (.aload_n 0, 1) := dk_42 (dk_at dksX6_trait_0 3 rfl rfl)
theorem dX6_trait_4 : decode cX6_trait 4 = .ok (.getfield 55, 3) := dk_180 0 55 (dk_at dksX6_trait_0 4 rfl rfl)
theorem dX6_trait_7 : decode cX6_trait 7 = .ok (.if_icmp .ge 22, 3) := dk_162 0 22 (dk_at dksX6_trait_0 7 rfl rfl)
theorem dX6_trait_10 : decode cX6_trait 10 = .ok (.aload_n 0, 1) := dk_42 (dk_at dksX6_trait_0 10 rfl rfl)
theorem dX6_trait_11 : decode cX6_trait 11 = .ok (.getfield 9, 3) := dk_180 0 9 (dk_at dksX6_trait_0 11 rfl rfl)
theorem dX6_trait_14 : decode cX6_trait 14 = .ok (.iload_n 3, 1) := dk_29 (dk_at dksX6_trait_0 14 rfl rfl)
theorem dX6_trait_15 : decode cX6_trait 15 = .ok (.laload, 1) := dk_47 (dk_at dksX6_trait_0 15 rfl rfl)
theorem dX6_trait_16 : decode cX6_trait 16 = .ok (.lload_n 1, 1) := dk_31 (dk_at dksX6_trait_0 16 rfl rfl)
theorem dX6_trait_17 : decode cX6_trait 17 = .ok (.lcmp, 1) := dk_148 (dk_at dksX6_trait_0 17 rfl rfl)
theorem dX6_trait_18 : decode cX6_trait 18 = .ok (.ifCond .ne 5, 3) := dk_154 0 5 (dk_at dksX6_trait_0 18 rfl rfl)
theorem dX6_trait_21 : decode cX6_trait 21 = .ok (.iload_n 3, 1) := dk_29 (dk_at dksX6_trait_0 21 rfl rfl)
theorem dX6_trait_22 : decode cX6_trait 22 = .ok (.ireturn, 1) := dk_172 (dk_at dksX6_trait_0 22 rfl rfl)
theorem dX6_trait_23 : decode cX6_trait 23 = .ok (.iinc 3 1, 3) := dk_132 3 1 (dk_at dksX6_trait_1 0 rfl rfl)
theorem dX6_trait_26 : decode cX6_trait 26 = .ok (.goto (-24), 3) := dk_167 255 232 (dk_at dksX6_trait_1 3 rfl rfl)
theorem dX6_trait_29 : decode cX6_trait 29 = .ok (.iconst (-1), 1) := dk_2 (dk_at dksX6_trait_1 6 rfl rfl)
theorem dX6_trait_30 : decode cX6_trait 30 = .ok (.ireturn, 1) := dk_172 (dk_at dksX6_trait_1 7 rfl rfl)
abbrev cX6_person : ByteArray := prog_2_method_5_code
def yX6_person : MethodName := ⟨RX6, "person", "(J)I"⟩
def dkwX6_person_1 : List UInt8 := [29, 172, 132, 3, 1, 167, 255, 229, 2, 172]
abbrev dktX6_person_1 : List UInt8 := dkwX6_person_1 ++ []
def dkwX6_person_0 : List UInt8 := [3, 62, 29, 42, 180, 0, 42, 162, 0, 25, 42, 180, 0, 21, 29, 50, 180, 0, 74, 31, 148, 154, 0, 5]
abbrev dktX6_person_0 : List UInt8 := dkwX6_person_0 ++ dktX6_person_1
theorem dksX6_person_0 : cX6_person.data.toList.drop 0 = dktX6_person_0 := by decide +kernel
theorem dksX6_person_1 : cX6_person.data.toList.drop 24 = dktX6_person_1 := dk_seg dksX6_person_0 24 rfl rfl
theorem dX6_person_0 : decode cX6_person 0 = .ok (.iconst 0, 1) := dk_3 (dk_at dksX6_person_0 0 rfl rfl)
theorem dX6_person_1 : decode cX6_person 1 = .ok (.istore_n 3, 1) := dk_62 (dk_at dksX6_person_0 1 rfl rfl)
theorem dX6_person_2 : decode cX6_person 2 = .ok (.iload_n 3, 1) := dk_29 (dk_at dksX6_person_0 2 rfl rfl)
theorem dX6_person_3 : decode cX6_person 3 = .ok (.aload_n 0, 1) := dk_42 (dk_at dksX6_person_0 3 rfl rfl)
theorem dX6_person_4 : decode cX6_person 4 = .ok (.getfield 42, 3) := dk_180 0 42 (dk_at dksX6_person_0 4 rfl rfl)
theorem dX6_person_7 : decode cX6_person 7 = .ok (.if_icmp .ge 25, 3) := dk_162 0 25 (dk_at dksX6_person_0 7 rfl rfl)
theorem dX6_person_10 : decode cX6_person 10 = .ok (.aload_n 0, 1) := dk_42 (dk_at dksX6_person_0 10 rfl rfl)
theorem dX6_person_11 : decode cX6_person 11 = .ok (.getfield 21, 3) := dk_180 0 21 (dk_at dksX6_person_0 11 rfl rfl)
theorem dX6_person_14 : decode cX6_person 14 = .ok (.iload_n 3, 1) := dk_29 (dk_at dksX6_person_0 14 rfl rfl)
theorem dX6_person_15 : decode cX6_person 15 = .ok (.aaload, 1) := dk_50 (dk_at dksX6_person_0 15 rfl rfl)
theorem dX6_person_16 : decode cX6_person 16 = .ok (.getfield 74, 3) := dk_180 0 74 (dk_at dksX6_person_0 16 rfl rfl)
theorem dX6_person_19 : decode cX6_person 19 = .ok (.lload_n 1, 1) := dk_31 (dk_at dksX6_person_0 19 rfl rfl)
theorem dX6_person_20 : decode cX6_person 20 = .ok (.lcmp, 1) := dk_148 (dk_at dksX6_person_0 20 rfl rfl)
theorem dX6_person_21 : decode cX6_person 21 = .ok (.ifCond .ne 5, 3) := dk_154 0 5 (dk_at dksX6_person_0 21 rfl rfl)
theorem dX6_person_24 : decode cX6_person 24 = .ok (.iload_n 3, 1) := dk_29 (dk_at dksX6_person_1 0 rfl rfl)
theorem dX6_person_25 : decode cX6_person 25 = .ok (.ireturn, 1) := dk_172 (dk_at dksX6_person_1 1 rfl rfl)
theorem dX6_person_26 : decode cX6_person 26 = .ok (.iinc 3 1, 3) := dk_132 3 1 (dk_at dksX6_person_1 2 rfl rfl)
theorem dX6_person_29 : decode cX6_person 29 = .ok (.goto (-27), 3) := dk_167 255 229 (dk_at dksX6_person_1 5 rfl rfl)
theorem dX6_person_32 : decode cX6_person 32 = .ok (.iconst (-1), 1) := dk_2 (dk_at dksX6_person_1 8 rfl rfl)
theorem dX6_person_33 : decode cX6_person 33 = .ok (.ireturn, 1) := dk_172 (dk_at dksX6_person_1 9 rfl rfl)
abbrev cX6_tin : ByteArray := prog_2_method_6_code
def yX6_tin : MethodName := ⟨RX6, "tin", "(J)I"⟩
def dkwX6_tin_1 : List UInt8 := [29, 172, 132, 3, 1, 167, 255, 229, 2, 172]
abbrev dktX6_tin_1 : List UInt8 := dkwX6_tin_1 ++ []
def dkwX6_tin_0 : List UInt8 := [3, 62, 29, 42, 180, 0, 49, 162, 0, 25, 42, 180, 0, 27, 29, 50, 180, 0, 78, 31, 148, 154, 0, 5]
abbrev dktX6_tin_0 : List UInt8 := dkwX6_tin_0 ++ dktX6_tin_1
theorem dksX6_tin_0 : cX6_tin.data.toList.drop 0 = dktX6_tin_0 := by decide +kernel
theorem dksX6_tin_1 : cX6_tin.data.toList.drop 24 = dktX6_tin_1 := dk_seg dksX6_tin_0 24 rfl rfl
theorem dX6_tin_0 : decode cX6_tin 0 = .ok (.iconst 0, 1) := dk_3 (dk_at dksX6_tin_0 0 rfl rfl)
theorem dX6_tin_1 : decode cX6_tin 1 = .ok (.istore_n 3, 1) := dk_62 (dk_at dksX6_tin_0 1 rfl rfl)
theorem dX6_tin_2 : decode cX6_tin 2 = .ok (.iload_n 3, 1) := dk_29 (dk_at dksX6_tin_0 2 rfl rfl)
theorem dX6_tin_3 : decode cX6_tin 3 = .ok (.aload_n 0, 1) := dk_42 (dk_at dksX6_tin_0 3 rfl rfl)
theorem dX6_tin_4 : decode cX6_tin 4 = .ok (.getfield 49, 3) := dk_180 0 49 (dk_at dksX6_tin_0 4 rfl rfl)
theorem dX6_tin_7 : decode cX6_tin 7 = .ok (.if_icmp .ge 25, 3) := dk_162 0 25 (dk_at dksX6_tin_0 7 rfl rfl)
theorem dX6_tin_10 : decode cX6_tin 10 = .ok (.aload_n 0, 1) := dk_42 (dk_at dksX6_tin_0 10 rfl rfl)
theorem dX6_tin_11 : decode cX6_tin 11 = .ok (.getfield 27, 3) := dk_180 0 27 (dk_at dksX6_tin_0 11 rfl rfl)
theorem dX6_tin_14 : decode cX6_tin 14 = .ok (.iload_n 3, 1) := dk_29 (dk_at dksX6_tin_0 14 rfl rfl)
theorem dX6_tin_15 : decode cX6_tin 15 = .ok (.aaload, 1) := dk_50 (dk_at dksX6_tin_0 15 rfl rfl)
theorem dX6_tin_16 : decode cX6_tin 16 = .ok (.getfield 78, 3) := dk_180 0 78 (dk_at dksX6_tin_0 16 rfl rfl)
theorem dX6_tin_19 : decode cX6_tin 19 = .ok (.lload_n 1, 1) := dk_31 (dk_at dksX6_tin_0 19 rfl rfl)
theorem dX6_tin_20 : decode cX6_tin 20 = .ok (.lcmp, 1) := dk_148 (dk_at dksX6_tin_0 20 rfl rfl)
theorem dX6_tin_21 : decode cX6_tin 21 = .ok (.ifCond .ne 5, 3) := dk_154 0 5 (dk_at dksX6_tin_0 21 rfl rfl)
theorem dX6_tin_24 : decode cX6_tin 24 = .ok (.iload_n 3, 1) := dk_29 (dk_at dksX6_tin_1 0 rfl rfl)
theorem dX6_tin_25 : decode cX6_tin 25 = .ok (.ireturn, 1) := dk_172 (dk_at dksX6_tin_1 1 rfl rfl)
theorem dX6_tin_26 : decode cX6_tin 26 = .ok (.iinc 3 1, 3) := dk_132 3 1 (dk_at dksX6_tin_1 2 rfl rfl)
theorem dX6_tin_29 : decode cX6_tin 29 = .ok (.goto (-27), 3) := dk_167 255 229 (dk_at dksX6_tin_1 5 rfl rfl)
theorem dX6_tin_32 : decode cX6_tin 32 = .ok (.iconst (-1), 1) := dk_2 (dk_at dksX6_tin_1 8 rfl rfl)
theorem dX6_tin_33 : decode cX6_tin 33 = .ok (.ireturn, 1) := dk_172 (dk_at dksX6_tin_1 9 rfl rfl)
abbrev cX6_meets : ByteArray := prog_2_method_8_code
def yX6_meets : MethodName := ⟨RX6, "meets", "(II)V"⟩
def dkwX6_meets_1 : List UInt8 := [180, 0, 89, 4, 27, 120, 128, 181, 0, 89, 42, 89, 180, 0, 68, 4, 96, 181, 0, 68, 177]
abbrev dktX6_meets_1 : List UInt8 := dkwX6_meets_1 ++ []
def dkwX6_meets_0 : List UInt8 := [42, 180, 0, 21, 27, 50, 89, 180, 0, 89, 4, 28, 120, 128, 181, 0, 89, 42, 180, 0, 21, 28, 50, 89]
abbrev dktX6_meets_0 : List UInt8 := dkwX6_meets_0 ++ dktX6_meets_1
theorem dksX6_meets_0 : cX6_meets.data.toList.drop 0 = dktX6_meets_0 := by decide +kernel
theorem dksX6_meets_1 : cX6_meets.data.toList.drop 24 = dktX6_meets_1 := dk_seg dksX6_meets_0 24 rfl rfl
theorem dX6_meets_0 : decode cX6_meets 0 = .ok (.aload_n 0, 1) := dk_42 (dk_at dksX6_meets_0 0 rfl rfl)
theorem dX6_meets_1 : decode cX6_meets 1 = .ok (.getfield 21, 3) := dk_180 0 21 (dk_at dksX6_meets_0 1 rfl rfl)
theorem dX6_meets_4 : decode cX6_meets 4 = .ok (.iload_n 1, 1) := dk_27 (dk_at dksX6_meets_0 4 rfl rfl)
theorem dX6_meets_5 : decode cX6_meets 5 = .ok (.aaload, 1) := dk_50 (dk_at dksX6_meets_0 5 rfl rfl)
theorem dX6_meets_6 : decode cX6_meets 6 = .ok (.dup, 1) := dk_89 (dk_at dksX6_meets_0 6 rfl rfl)
theorem dX6_meets_7 : decode cX6_meets 7 = .ok (.getfield 89, 3) := dk_180 0 89 (dk_at dksX6_meets_0 7 rfl rfl)
theorem dX6_meets_10 : decode cX6_meets 10 = .ok (.iconst 1, 1) := dk_4 (dk_at dksX6_meets_0 10 rfl rfl)
theorem dX6_meets_11 : decode cX6_meets 11 = .ok (.iload_n 2, 1) := dk_28 (dk_at dksX6_meets_0 11 rfl rfl)
theorem dX6_meets_12 : decode cX6_meets 12 = .ok (.ishl, 1) := dk_120 (dk_at dksX6_meets_0 12 rfl rfl)
theorem dX6_meets_13 : decode cX6_meets 13 = .ok (.ior, 1) := dk_128 (dk_at dksX6_meets_0 13 rfl rfl)
theorem dX6_meets_14 : decode cX6_meets 14 = .ok (.putfield 89, 3) := dk_181 0 89 (dk_at dksX6_meets_0 14 rfl rfl)
theorem dX6_meets_17 : decode cX6_meets 17 = .ok (.aload_n 0, 1) := dk_42 (dk_at dksX6_meets_0 17 rfl rfl)
theorem dX6_meets_18 : decode cX6_meets 18 = .ok (.getfield 21, 3) := dk_180 0 21 (dk_at dksX6_meets_0 18 rfl rfl)
theorem dX6_meets_21 : decode cX6_meets 21 = .ok (.iload_n 2, 1) := dk_28 (dk_at dksX6_meets_0 21 rfl rfl)
theorem dX6_meets_22 : decode cX6_meets 22 = .ok (.aaload, 1) := dk_50 (dk_at dksX6_meets_0 22 rfl rfl)
theorem dX6_meets_23 : decode cX6_meets 23 = .ok (.dup, 1) := dk_89 (dk_at dksX6_meets_0 23 rfl rfl)
theorem dX6_meets_24 : decode cX6_meets 24 = .ok (.getfield 89, 3) := dk_180 0 89 (dk_at dksX6_meets_1 0 rfl rfl)
theorem dX6_meets_27 : decode cX6_meets 27 = .ok (.iconst 1, 1) := dk_4 (dk_at dksX6_meets_1 3 rfl rfl)
theorem dX6_meets_28 : decode cX6_meets 28 = .ok (.iload_n 1, 1) := dk_27 (dk_at dksX6_meets_1 4 rfl rfl)
theorem dX6_meets_29 : decode cX6_meets 29 = .ok (.ishl, 1) := dk_120 (dk_at dksX6_meets_1 5 rfl rfl)
theorem dX6_meets_30 : decode cX6_meets 30 = .ok (.ior, 1) := dk_128 (dk_at dksX6_meets_1 6 rfl rfl)
theorem dX6_meets_31 : decode cX6_meets 31 = .ok (.putfield 89, 3) := dk_181 0 89 (dk_at dksX6_meets_1 7 rfl rfl)
theorem dX6_meets_34 : decode cX6_meets 34 = .ok (.aload_n 0, 1) := dk_42 (dk_at dksX6_meets_1 10 rfl rfl)
theorem dX6_meets_35 : decode cX6_meets 35 = .ok (.dup, 1) := dk_89 (dk_at dksX6_meets_1 11 rfl rfl)
theorem dX6_meets_36 : decode cX6_meets 36 = .ok (.getfield 68, 3) := dk_180 0 68 (dk_at dksX6_meets_1 12 rfl rfl)
theorem dX6_meets_39 : decode cX6_meets 39 = .ok (.iconst 1, 1) := dk_4 (dk_at dksX6_meets_1 15 rfl rfl)
theorem dX6_meets_40 : decode cX6_meets 40 = .ok (.iadd, 1) := dk_96 (dk_at dksX6_meets_1 16 rfl rfl)
theorem dX6_meets_41 : decode cX6_meets 41 = .ok (.putfield 68, 3) := dk_181 0 68 (dk_at dksX6_meets_1 17 rfl rfl)
theorem dX6_meets_44 : decode cX6_meets 44 = .ok (.return_, 1) := dk_177 (dk_at dksX6_meets_1 20 rfl rfl)
abbrev cX6_strikes : ByteArray := prog_2_method_9_code
def yX6_strikes : MethodName := ⟨RX6, "strikes", "(LTinFen$Tin;II)LTinFen$Tin;"⟩
def dkwX6_strikes_1 : List UInt8 := [180, 0, 49, 43, 83, 42, 89, 180, 0, 49, 4, 96, 181, 0, 49, 43, 176]
abbrev dktX6_strikes_1 : List UInt8 := dkwX6_strikes_1 ++ []
def dkwX6_strikes_0 : List UInt8 := [43, 28, 181, 0, 92, 43, 29, 181, 0, 94, 43, 4, 29, 120, 181, 0, 97, 42, 180, 0, 27, 42]
abbrev dktX6_strikes_0 : List UInt8 := dkwX6_strikes_0 ++ dktX6_strikes_1
theorem dksX6_strikes_0 : cX6_strikes.data.toList.drop 0 = dktX6_strikes_0 := by decide +kernel
theorem dksX6_strikes_1 : cX6_strikes.data.toList.drop 22 = dktX6_strikes_1 := dk_seg dksX6_strikes_0 22 rfl rfl
theorem dX6_strikes_0 : decode cX6_strikes 0 = .ok (.aload_n 1, 1) := dk_43 (dk_at dksX6_strikes_0 0 rfl rfl)
theorem dX6_strikes_1 : decode cX6_strikes 1 = .ok (.iload_n 2, 1) := dk_28 (dk_at dksX6_strikes_0 1 rfl rfl)
theorem dX6_strikes_2 : decode cX6_strikes 2 = .ok (.putfield 92, 3) := dk_181 0 92 (dk_at dksX6_strikes_0 2 rfl rfl)
theorem dX6_strikes_5 : decode cX6_strikes 5 = .ok (.aload_n 1, 1) := dk_43 (dk_at dksX6_strikes_0 5 rfl rfl)
theorem dX6_strikes_6 : decode cX6_strikes 6 = .ok (.iload_n 3, 1) := dk_29 (dk_at dksX6_strikes_0 6 rfl rfl)
theorem dX6_strikes_7 : decode cX6_strikes 7 = .ok (.putfield 94, 3) := dk_181 0 94 (dk_at dksX6_strikes_0 7 rfl rfl)
theorem dX6_strikes_10 : decode cX6_strikes 10 = .ok (.aload_n 1, 1) := dk_43 (dk_at dksX6_strikes_0 10 rfl rfl)
theorem dX6_strikes_11 : decode cX6_strikes 11 = .ok (.iconst 1, 1) := dk_4 (dk_at dksX6_strikes_0 11 rfl rfl)
theorem dX6_strikes_12 : decode cX6_strikes 12 = .ok (.iload_n 3, 1) := dk_29 (dk_at dksX6_strikes_0 12 rfl rfl)
theorem dX6_strikes_13 : decode cX6_strikes 13 = .ok (.ishl, 1) := dk_120 (dk_at dksX6_strikes_0 13 rfl rfl)
theorem dX6_strikes_14 : decode cX6_strikes 14 = .ok (.putfield 97, 3) := dk_181 0 97 (dk_at dksX6_strikes_0 14 rfl rfl)
theorem dX6_strikes_17 : decode cX6_strikes 17 = .ok (.aload_n 0, 1) := dk_42 (dk_at dksX6_strikes_0 17 rfl rfl)
theorem dX6_strikes_18 : decode cX6_strikes 18 = .ok (.getfield 27, 3) := dk_180 0 27 (dk_at dksX6_strikes_0 18 rfl rfl)
theorem dX6_strikes_21 : decode cX6_strikes 21 = .ok (.aload_n 0, 1) := dk_42 (dk_at dksX6_strikes_0 21 rfl rfl)
theorem dX6_strikes_22 : decode cX6_strikes 22 = .ok (.getfield 49, 3) := dk_180 0 49 (dk_at dksX6_strikes_1 0 rfl rfl)
theorem dX6_strikes_25 : decode cX6_strikes 25 = .ok (.aload_n 1, 1) := dk_43 (dk_at dksX6_strikes_1 3 rfl rfl)
theorem dX6_strikes_26 : decode cX6_strikes 26 = .ok (.aastore, 1) := dk_83 (dk_at dksX6_strikes_1 4 rfl rfl)
theorem dX6_strikes_27 : decode cX6_strikes 27 = .ok (.aload_n 0, 1) := dk_42 (dk_at dksX6_strikes_1 5 rfl rfl)
theorem dX6_strikes_28 : decode cX6_strikes 28 = .ok (.dup, 1) := dk_89 (dk_at dksX6_strikes_1 6 rfl rfl)
theorem dX6_strikes_29 : decode cX6_strikes 29 = .ok (.getfield 49, 3) := dk_180 0 49 (dk_at dksX6_strikes_1 7 rfl rfl)
theorem dX6_strikes_32 : decode cX6_strikes 32 = .ok (.iconst 1, 1) := dk_4 (dk_at dksX6_strikes_1 10 rfl rfl)
theorem dX6_strikes_33 : decode cX6_strikes 33 = .ok (.iadd, 1) := dk_96 (dk_at dksX6_strikes_1 11 rfl rfl)
theorem dX6_strikes_34 : decode cX6_strikes 34 = .ok (.putfield 49, 3) := dk_181 0 49 (dk_at dksX6_strikes_1 12 rfl rfl)
theorem dX6_strikes_37 : decode cX6_strikes 37 = .ok (.aload_n 1, 1) := dk_43 (dk_at dksX6_strikes_1 15 rfl rfl)
theorem dX6_strikes_38 : decode cX6_strikes 38 = .ok (.areturn, 1) := dk_176 (dk_at dksX6_strikes_1 16 rfl rfl)
abbrev cX6_tinsOn : ByteArray := prog_2_method_12_code
def yX6_tinsOn : MethodName := ⟨RX6, "tinsOn", "(I)I"⟩
def dkwX6_tinsOn_1 : List UInt8 := [160, 0, 9, 4, 29, 120, 167, 0, 4, 3, 128, 61, 132, 3, 1, 167, 255, 222, 28, 172]
abbrev dktX6_tinsOn_1 : List UInt8 := dkwX6_tinsOn_1 ++ []
def dkwX6_tinsOn_0 : List UInt8 := [3, 61, 3, 62, 29, 42, 180, 0, 49, 162, 0, 32, 28, 42, 180, 0, 27, 29, 50, 180, 0, 94, 27]
abbrev dktX6_tinsOn_0 : List UInt8 := dkwX6_tinsOn_0 ++ dktX6_tinsOn_1
theorem dksX6_tinsOn_0 : cX6_tinsOn.data.toList.drop 0 = dktX6_tinsOn_0 := by decide +kernel
theorem dksX6_tinsOn_1 : cX6_tinsOn.data.toList.drop 23 = dktX6_tinsOn_1 := dk_seg dksX6_tinsOn_0 23 rfl rfl
theorem dX6_tinsOn_0 : decode cX6_tinsOn 0 = .ok (.iconst 0, 1) := dk_3 (dk_at dksX6_tinsOn_0 0 rfl rfl)
theorem dX6_tinsOn_1 : decode cX6_tinsOn 1 = .ok (.istore_n 2, 1) := dk_61 (dk_at dksX6_tinsOn_0 1 rfl rfl)
theorem dX6_tinsOn_2 : decode cX6_tinsOn 2 = .ok (.iconst 0, 1) := dk_3 (dk_at dksX6_tinsOn_0 2 rfl rfl)
theorem dX6_tinsOn_3 : decode cX6_tinsOn 3 = .ok (.istore_n 3, 1) := dk_62 (dk_at dksX6_tinsOn_0 3 rfl rfl)
theorem dX6_tinsOn_4 : decode cX6_tinsOn 4 = .ok (.iload_n 3, 1) := dk_29 (dk_at dksX6_tinsOn_0 4 rfl rfl)
theorem dX6_tinsOn_5 : decode cX6_tinsOn 5 = .ok (.aload_n 0, 1) := dk_42 (dk_at dksX6_tinsOn_0 5 rfl rfl)
theorem dX6_tinsOn_6 : decode cX6_tinsOn 6 = .ok (.getfield 49, 3) := dk_180 0 49 (dk_at dksX6_tinsOn_0 6 rfl rfl)
theorem dX6_tinsOn_9 : decode cX6_tinsOn 9 = .ok (.if_icmp .ge 32, 3) := dk_162 0 32 (dk_at dksX6_tinsOn_0 9 rfl rfl)
theorem dX6_tinsOn_12 : decode cX6_tinsOn 12 = .ok (.iload_n 2, 1) := dk_28 (dk_at dksX6_tinsOn_0 12 rfl rfl)
theorem dX6_tinsOn_13 : decode cX6_tinsOn 13 = .ok (.aload_n 0, 1) := dk_42 (dk_at dksX6_tinsOn_0 13 rfl rfl)
theorem dX6_tinsOn_14 : decode cX6_tinsOn 14 = .ok (.getfield 27, 3) := dk_180 0 27 (dk_at dksX6_tinsOn_0 14 rfl rfl)
theorem dX6_tinsOn_17 : decode cX6_tinsOn 17 = .ok (.iload_n 3, 1) := dk_29 (dk_at dksX6_tinsOn_0 17 rfl rfl)
theorem dX6_tinsOn_18 : decode cX6_tinsOn 18 = .ok (.aaload, 1) := dk_50 (dk_at dksX6_tinsOn_0 18 rfl rfl)
theorem dX6_tinsOn_19 : decode cX6_tinsOn 19 = .ok (.getfield 94, 3) := dk_180 0 94 (dk_at dksX6_tinsOn_0 19 rfl rfl)
theorem dX6_tinsOn_22 : decode cX6_tinsOn 22 = .ok (.iload_n 1, 1) := dk_27 (dk_at dksX6_tinsOn_0 22 rfl rfl)
theorem dX6_tinsOn_23 : decode cX6_tinsOn 23 = .ok (.if_icmp .ne 9, 3) := dk_160 0 9 (dk_at dksX6_tinsOn_1 0 rfl rfl)
theorem dX6_tinsOn_26 : decode cX6_tinsOn 26 = .ok (.iconst 1, 1) := dk_4 (dk_at dksX6_tinsOn_1 3 rfl rfl)
theorem dX6_tinsOn_27 : decode cX6_tinsOn 27 = .ok (.iload_n 3, 1) := dk_29 (dk_at dksX6_tinsOn_1 4 rfl rfl)
theorem dX6_tinsOn_28 : decode cX6_tinsOn 28 = .ok (.ishl, 1) := dk_120 (dk_at dksX6_tinsOn_1 5 rfl rfl)
theorem dX6_tinsOn_29 : decode cX6_tinsOn 29 = .ok (.goto 4, 3) := dk_167 0 4 (dk_at dksX6_tinsOn_1 6 rfl rfl)
theorem dX6_tinsOn_32 : decode cX6_tinsOn 32 = .ok (.iconst 0, 1) := dk_3 (dk_at dksX6_tinsOn_1 9 rfl rfl)
theorem dX6_tinsOn_33 : decode cX6_tinsOn 33 = .ok (.ior, 1) := dk_128 (dk_at dksX6_tinsOn_1 10 rfl rfl)
theorem dX6_tinsOn_34 : decode cX6_tinsOn 34 = .ok (.istore_n 2, 1) := dk_61 (dk_at dksX6_tinsOn_1 11 rfl rfl)
theorem dX6_tinsOn_35 : decode cX6_tinsOn 35 = .ok (.iinc 3 1, 3) := dk_132 3 1 (dk_at dksX6_tinsOn_1 12 rfl rfl)
theorem dX6_tinsOn_38 : decode cX6_tinsOn 38 = .ok (.goto (-34), 3) := dk_167 255 222 (dk_at dksX6_tinsOn_1 15 rfl rfl)
theorem dX6_tinsOn_41 : decode cX6_tinsOn 41 = .ok (.iload_n 2, 1) := dk_28 (dk_at dksX6_tinsOn_1 18 rfl rfl)
theorem dX6_tinsOn_42 : decode cX6_tinsOn 42 = .ok (.ireturn, 1) := dk_172 (dk_at dksX6_tinsOn_1 19 rfl rfl)
abbrev cX6_found : ByteArray := prog_2_method_13_code
def yX6_found : MethodName := ⟨RX6, "found", "()I"⟩
def dkwX6_found_1 : List UInt8 := [153, 0, 9, 4, 28, 120, 167, 0, 4, 3, 128, 60, 132, 2, 1, 167, 255, 223, 27, 172]
abbrev dktX6_found_1 : List UInt8 := dkwX6_found_1 ++ []
def dkwX6_found_0 : List UInt8 := [3, 60, 3, 61, 28, 42, 180, 0, 49, 162, 0, 31, 27, 42, 180, 0, 27, 28, 50, 180, 0, 111]
abbrev dktX6_found_0 : List UInt8 := dkwX6_found_0 ++ dktX6_found_1
theorem dksX6_found_0 : cX6_found.data.toList.drop 0 = dktX6_found_0 := by decide +kernel
theorem dksX6_found_1 : cX6_found.data.toList.drop 22 = dktX6_found_1 := dk_seg dksX6_found_0 22 rfl rfl
theorem dX6_found_0 : decode cX6_found 0 = .ok (.iconst 0, 1) := dk_3 (dk_at dksX6_found_0 0 rfl rfl)
theorem dX6_found_1 : decode cX6_found 1 = .ok (.istore_n 1, 1) := dk_60 (dk_at dksX6_found_0 1 rfl rfl)
theorem dX6_found_2 : decode cX6_found 2 = .ok (.iconst 0, 1) := dk_3 (dk_at dksX6_found_0 2 rfl rfl)
theorem dX6_found_3 : decode cX6_found 3 = .ok (.istore_n 2, 1) := dk_61 (dk_at dksX6_found_0 3 rfl rfl)
theorem dX6_found_4 : decode cX6_found 4 = .ok (.iload_n 2, 1) := dk_28 (dk_at dksX6_found_0 4 rfl rfl)
theorem dX6_found_5 : decode cX6_found 5 = .ok (.aload_n 0, 1) := dk_42 (dk_at dksX6_found_0 5 rfl rfl)
theorem dX6_found_6 : decode cX6_found 6 = .ok (.getfield 49, 3) := dk_180 0 49 (dk_at dksX6_found_0 6 rfl rfl)
theorem dX6_found_9 : decode cX6_found 9 = .ok (.if_icmp .ge 31, 3) := dk_162 0 31 (dk_at dksX6_found_0 9 rfl rfl)
theorem dX6_found_12 : decode cX6_found 12 = .ok (.iload_n 1, 1) := dk_27 (dk_at dksX6_found_0 12 rfl rfl)
theorem dX6_found_13 : decode cX6_found 13 = .ok (.aload_n 0, 1) := dk_42 (dk_at dksX6_found_0 13 rfl rfl)
theorem dX6_found_14 : decode cX6_found 14 = .ok (.getfield 27, 3) := dk_180 0 27 (dk_at dksX6_found_0 14 rfl rfl)
theorem dX6_found_17 : decode cX6_found 17 = .ok (.iload_n 2, 1) := dk_28 (dk_at dksX6_found_0 17 rfl rfl)
theorem dX6_found_18 : decode cX6_found 18 = .ok (.aaload, 1) := dk_50 (dk_at dksX6_found_0 18 rfl rfl)
theorem dX6_found_19 : decode cX6_found 19 = .ok (.getfield 111, 3) := dk_180 0 111 (dk_at dksX6_found_0 19 rfl rfl)
theorem dX6_found_22 : decode cX6_found 22 = .ok (.ifCond .eq 9, 3) := dk_153 0 9 (dk_at dksX6_found_1 0 rfl rfl)
theorem dX6_found_25 : decode cX6_found 25 = .ok (.iconst 1, 1) := dk_4 (dk_at dksX6_found_1 3 rfl rfl)
theorem dX6_found_26 : decode cX6_found 26 = .ok (.iload_n 2, 1) := dk_28 (dk_at dksX6_found_1 4 rfl rfl)
theorem dX6_found_27 : decode cX6_found 27 = .ok (.ishl, 1) := dk_120 (dk_at dksX6_found_1 5 rfl rfl)
theorem dX6_found_28 : decode cX6_found 28 = .ok (.goto 4, 3) := dk_167 0 4 (dk_at dksX6_found_1 6 rfl rfl)
theorem dX6_found_31 : decode cX6_found 31 = .ok (.iconst 0, 1) := dk_3 (dk_at dksX6_found_1 9 rfl rfl)
theorem dX6_found_32 : decode cX6_found 32 = .ok (.ior, 1) := dk_128 (dk_at dksX6_found_1 10 rfl rfl)
theorem dX6_found_33 : decode cX6_found 33 = .ok (.istore_n 1, 1) := dk_60 (dk_at dksX6_found_1 11 rfl rfl)
theorem dX6_found_34 : decode cX6_found 34 = .ok (.iinc 2 1, 3) := dk_132 2 1 (dk_at dksX6_found_1 12 rfl rfl)
theorem dX6_found_37 : decode cX6_found 37 = .ok (.goto (-33), 3) := dk_167 255 223 (dk_at dksX6_found_1 15 rfl rfl)
theorem dX6_found_40 : decode cX6_found 40 = .ok (.iload_n 1, 1) := dk_27 (dk_at dksX6_found_1 18 rfl rfl)
theorem dX6_found_41 : decode cX6_found 41 = .ok (.ireturn, 1) := dk_172 (dk_at dksX6_found_1 19 rfl rfl)
abbrev cX6_worthOf : ByteArray := prog_2_method_14_code
def yX6_worthOf : MethodName := ⟨RX6, "worthOf", "(I)I"⟩
def dkwX6_worthOf_2 : List UInt8 := [167, 255, 216, 28, 172]
abbrev dktX6_worthOf_2 : List UInt8 := dkwX6_worthOf_2 ++ []
def dkwX6_worthOf_1 : List UInt8 := [180, 0, 15, 42, 180, 0, 27, 29, 50, 180, 0, 92, 46, 167, 0, 4, 3, 96, 61, 132, 3, 1]
abbrev dktX6_worthOf_1 : List UInt8 := dkwX6_worthOf_1 ++ dktX6_worthOf_2
def dkwX6_worthOf_0 : List UInt8 := [3, 61, 3, 62, 29, 42, 180, 0, 49, 162, 0, 38, 28, 27, 29, 184, 0, 103, 153, 0, 20, 42]
abbrev dktX6_worthOf_0 : List UInt8 := dkwX6_worthOf_0 ++ dktX6_worthOf_1
theorem dksX6_worthOf_0 : cX6_worthOf.data.toList.drop 0 = dktX6_worthOf_0 := by decide +kernel
theorem dksX6_worthOf_1 : cX6_worthOf.data.toList.drop 22 = dktX6_worthOf_1 := dk_seg dksX6_worthOf_0 22 rfl rfl
theorem dksX6_worthOf_2 : cX6_worthOf.data.toList.drop 44 = dktX6_worthOf_2 := dk_seg dksX6_worthOf_1 22 rfl rfl
theorem dX6_worthOf_0 : decode cX6_worthOf 0 = .ok (.iconst 0, 1) := dk_3 (dk_at dksX6_worthOf_0 0 rfl rfl)
theorem dX6_worthOf_1 : decode cX6_worthOf 1 = .ok (.istore_n 2, 1) := dk_61 (dk_at dksX6_worthOf_0 1 rfl rfl)
theorem dX6_worthOf_2 : decode cX6_worthOf 2 = .ok (.iconst 0, 1) := dk_3 (dk_at dksX6_worthOf_0 2 rfl rfl)
theorem dX6_worthOf_3 : decode cX6_worthOf 3 = .ok (.istore_n 3, 1) := dk_62 (dk_at dksX6_worthOf_0 3 rfl rfl)
theorem dX6_worthOf_4 : decode cX6_worthOf 4 = .ok (.iload_n 3, 1) := dk_29 (dk_at dksX6_worthOf_0 4 rfl rfl)
theorem dX6_worthOf_5 : decode cX6_worthOf 5 = .ok (.aload_n 0, 1) := dk_42 (dk_at dksX6_worthOf_0 5 rfl rfl)
theorem dX6_worthOf_6 : decode cX6_worthOf 6 = .ok (.getfield 49, 3) := dk_180 0 49 (dk_at dksX6_worthOf_0 6 rfl rfl)
theorem dX6_worthOf_9 : decode cX6_worthOf 9 = .ok (.if_icmp .ge 38, 3) := dk_162 0 38 (dk_at dksX6_worthOf_0 9 rfl rfl)
theorem dX6_worthOf_12 : decode cX6_worthOf 12 = .ok (.iload_n 2, 1) := dk_28 (dk_at dksX6_worthOf_0 12 rfl rfl)
theorem dX6_worthOf_13 : decode cX6_worthOf 13 = .ok (.iload_n 1, 1) := dk_27 (dk_at dksX6_worthOf_0 13 rfl rfl)
theorem dX6_worthOf_14 : decode cX6_worthOf 14 = .ok (.iload_n 3, 1) := dk_29 (dk_at dksX6_worthOf_0 14 rfl rfl)
theorem dX6_worthOf_15 : decode cX6_worthOf 15 = .ok (.invokestatic 103, 3) := dk_184 0 103 (dk_at dksX6_worthOf_0 15 rfl rfl)
theorem dX6_worthOf_18 : decode cX6_worthOf 18 = .ok (.ifCond .eq 20, 3) := dk_153 0 20 (dk_at dksX6_worthOf_0 18 rfl rfl)
theorem dX6_worthOf_21 : decode cX6_worthOf 21 = .ok (.aload_n 0, 1) := dk_42 (dk_at dksX6_worthOf_0 21 rfl rfl)
theorem dX6_worthOf_22 : decode cX6_worthOf 22 = .ok (.getfield 15, 3) := dk_180 0 15 (dk_at dksX6_worthOf_1 0 rfl rfl)
theorem dX6_worthOf_25 : decode cX6_worthOf 25 = .ok (.aload_n 0, 1) := dk_42 (dk_at dksX6_worthOf_1 3 rfl rfl)
theorem dX6_worthOf_26 : decode cX6_worthOf 26 = .ok (.getfield 27, 3) := dk_180 0 27 (dk_at dksX6_worthOf_1 4 rfl rfl)
theorem dX6_worthOf_29 : decode cX6_worthOf 29 = .ok (.iload_n 3, 1) := dk_29 (dk_at dksX6_worthOf_1 7 rfl rfl)
theorem dX6_worthOf_30 : decode cX6_worthOf 30 = .ok (.aaload, 1) := dk_50 (dk_at dksX6_worthOf_1 8 rfl rfl)
theorem dX6_worthOf_31 : decode cX6_worthOf 31 = .ok (.getfield 92, 3) := dk_180 0 92 (dk_at dksX6_worthOf_1 9 rfl rfl)
theorem dX6_worthOf_34 : decode cX6_worthOf 34 = .ok (.iaload, 1) := dk_46 (dk_at dksX6_worthOf_1 12 rfl rfl)
theorem dX6_worthOf_35 : decode cX6_worthOf 35 = .ok (.goto 4, 3) := dk_167 0 4 (dk_at dksX6_worthOf_1 13 rfl rfl)
theorem dX6_worthOf_38 : decode cX6_worthOf 38 = .ok (.iconst 0, 1) := dk_3 (dk_at dksX6_worthOf_1 16 rfl rfl)
theorem dX6_worthOf_39 : decode cX6_worthOf 39 = .ok (.iadd, 1) := dk_96 (dk_at dksX6_worthOf_1 17 rfl rfl)
theorem dX6_worthOf_40 : decode cX6_worthOf 40 = .ok (.istore_n 2, 1) := dk_61 (dk_at dksX6_worthOf_1 18 rfl rfl)
theorem dX6_worthOf_41 : decode cX6_worthOf 41 = .ok (.iinc 3 1, 3) := dk_132 3 1 (dk_at dksX6_worthOf_1 19 rfl rfl)
theorem dX6_worthOf_44 : decode cX6_worthOf 44 = .ok (.goto (-40), 3) := dk_167 255 216 (dk_at dksX6_worthOf_2 0 rfl rfl)
theorem dX6_worthOf_47 : decode cX6_worthOf 47 = .ok (.iload_n 2, 1) := dk_28 (dk_at dksX6_worthOf_2 3 rfl rfl)
theorem dX6_worthOf_48 : decode cX6_worthOf 48 = .ok (.ireturn, 1) := dk_172 (dk_at dksX6_worthOf_2 4 rfl rfl)
abbrev cX6_passes : ByteArray := prog_2_method_17_code
def yX6_passes : MethodName := ⟨RX6, "passes", "(II)Z"⟩
def dkwX6_passes_3 : List UInt8 := [181, 0, 125, 42, 89, 180, 0, 71, 4, 96, 181, 0, 71, 4, 172]
abbrev dktX6_passes_3 : List UInt8 := dkwX6_passes_3 ++ []
def dkwX6_passes_2 : List UInt8 := [181, 0, 94, 45, 89, 180, 0, 97, 4, 28, 120, 128, 181, 0, 97, 45, 89, 180, 0, 125, 4, 96]
abbrev dktX6_passes_2 : List UInt8 := dkwX6_passes_2 ++ dktX6_passes_3
def dkwX6_passes_1 : List UInt8 := [180, 0, 94, 50, 89, 180, 0, 115, 42, 180, 0, 15, 45, 180, 0, 92, 46, 96, 181, 0, 115, 45, 28]
abbrev dktX6_passes_1 : List UInt8 := dkwX6_passes_1 ++ dktX6_passes_2
def dkwX6_passes_0 : List UInt8 := [42, 27, 28, 182, 0, 122, 154, 0, 5, 3, 172, 42, 180, 0, 27, 27, 50, 78, 42, 180, 0, 21, 45]
abbrev dktX6_passes_0 : List UInt8 := dkwX6_passes_0 ++ dktX6_passes_1
theorem dksX6_passes_0 : cX6_passes.data.toList.drop 0 = dktX6_passes_0 := by decide +kernel
theorem dksX6_passes_1 : cX6_passes.data.toList.drop 23 = dktX6_passes_1 := dk_seg dksX6_passes_0 23 rfl rfl
theorem dksX6_passes_2 : cX6_passes.data.toList.drop 46 = dktX6_passes_2 := dk_seg dksX6_passes_1 23 rfl rfl
theorem dksX6_passes_3 : cX6_passes.data.toList.drop 68 = dktX6_passes_3 := dk_seg dksX6_passes_2 22 rfl rfl
theorem dX6_passes_0 : decode cX6_passes 0 = .ok (.aload_n 0, 1) := dk_42 (dk_at dksX6_passes_0 0 rfl rfl)
theorem dX6_passes_1 : decode cX6_passes 1 = .ok (.iload_n 1, 1) := dk_27 (dk_at dksX6_passes_0 1 rfl rfl)
theorem dX6_passes_2 : decode cX6_passes 2 = .ok (.iload_n 2, 1) := dk_28 (dk_at dksX6_passes_0 2 rfl rfl)
theorem dX6_passes_3 : decode cX6_passes 3 = .ok (.invokevirtual 122, 3) := dk_182 0 122 (dk_at dksX6_passes_0 3 rfl rfl)
theorem dX6_passes_6 : decode cX6_passes 6 = .ok (.ifCond .ne 5, 3) := dk_154 0 5 (dk_at dksX6_passes_0 6 rfl rfl)
theorem dX6_passes_9 : decode cX6_passes 9 = .ok (.iconst 0, 1) := dk_3 (dk_at dksX6_passes_0 9 rfl rfl)
theorem dX6_passes_10 : decode cX6_passes 10 = .ok (.ireturn, 1) := dk_172 (dk_at dksX6_passes_0 10 rfl rfl)
theorem dX6_passes_11 : decode cX6_passes 11 = .ok (.aload_n 0, 1) := dk_42 (dk_at dksX6_passes_0 11 rfl rfl)
theorem dX6_passes_12 : decode cX6_passes 12 = .ok (.getfield 27, 3) := dk_180 0 27 (dk_at dksX6_passes_0 12 rfl rfl)
theorem dX6_passes_15 : decode cX6_passes 15 = .ok (.iload_n 1, 1) := dk_27 (dk_at dksX6_passes_0 15 rfl rfl)
theorem dX6_passes_16 : decode cX6_passes 16 = .ok (.aaload, 1) := dk_50 (dk_at dksX6_passes_0 16 rfl rfl)
theorem dX6_passes_17 : decode cX6_passes 17 = .ok (.astore_n 3, 1) := dk_78 (dk_at dksX6_passes_0 17 rfl rfl)
theorem dX6_passes_18 : decode cX6_passes 18 = .ok (.aload_n 0, 1) := dk_42 (dk_at dksX6_passes_0 18 rfl rfl)
theorem dX6_passes_19 : decode cX6_passes 19 = .ok (.getfield 21, 3) := dk_180 0 21 (dk_at dksX6_passes_0 19 rfl rfl)
theorem dX6_passes_22 : decode cX6_passes 22 = .ok (.aload_n 3, 1) := dk_45 (dk_at dksX6_passes_0 22 rfl rfl)
theorem dX6_passes_23 : decode cX6_passes 23 = .ok (.getfield 94, 3) := dk_180 0 94 (dk_at dksX6_passes_1 0 rfl rfl)
theorem dX6_passes_26 : decode cX6_passes 26 = .ok (.aaload, 1) := dk_50 (dk_at dksX6_passes_1 3 rfl rfl)
theorem dX6_passes_27 : decode cX6_passes 27 = .ok (.dup, 1) := dk_89 (dk_at dksX6_passes_1 4 rfl rfl)
theorem dX6_passes_28 : decode cX6_passes 28 = .ok (.getfield 115, 3) := dk_180 0 115 (dk_at dksX6_passes_1 5 rfl rfl)
theorem dX6_passes_31 : decode cX6_passes 31 = .ok (.aload_n 0, 1) := dk_42 (dk_at dksX6_passes_1 8 rfl rfl)
theorem dX6_passes_32 : decode cX6_passes 32 = .ok (.getfield 15, 3) := dk_180 0 15 (dk_at dksX6_passes_1 9 rfl rfl)
theorem dX6_passes_35 : decode cX6_passes 35 = .ok (.aload_n 3, 1) := dk_45 (dk_at dksX6_passes_1 12 rfl rfl)
theorem dX6_passes_36 : decode cX6_passes 36 = .ok (.getfield 92, 3) := dk_180 0 92 (dk_at dksX6_passes_1 13 rfl rfl)
theorem dX6_passes_39 : decode cX6_passes 39 = .ok (.iaload, 1) := dk_46 (dk_at dksX6_passes_1 16 rfl rfl)
theorem dX6_passes_40 : decode cX6_passes 40 = .ok (.iadd, 1) := dk_96 (dk_at dksX6_passes_1 17 rfl rfl)
theorem dX6_passes_41 : decode cX6_passes 41 = .ok (.putfield 115, 3) := dk_181 0 115 (dk_at dksX6_passes_1 18 rfl rfl)
theorem dX6_passes_44 : decode cX6_passes 44 = .ok (.aload_n 3, 1) := dk_45 (dk_at dksX6_passes_1 21 rfl rfl)
theorem dX6_passes_45 : decode cX6_passes 45 = .ok (.iload_n 2, 1) := dk_28 (dk_at dksX6_passes_1 22 rfl rfl)
theorem dX6_passes_46 : decode cX6_passes 46 = .ok (.putfield 94, 3) := dk_181 0 94 (dk_at dksX6_passes_2 0 rfl rfl)
theorem dX6_passes_49 : decode cX6_passes 49 = .ok (.aload_n 3, 1) := dk_45 (dk_at dksX6_passes_2 3 rfl rfl)
theorem dX6_passes_50 : decode cX6_passes 50 = .ok (.dup, 1) := dk_89 (dk_at dksX6_passes_2 4 rfl rfl)
theorem dX6_passes_51 : decode cX6_passes 51 = .ok (.getfield 97, 3) := dk_180 0 97 (dk_at dksX6_passes_2 5 rfl rfl)
theorem dX6_passes_54 : decode cX6_passes 54 = .ok (.iconst 1, 1) := dk_4 (dk_at dksX6_passes_2 8 rfl rfl)
theorem dX6_passes_55 : decode cX6_passes 55 = .ok (.iload_n 2, 1) := dk_28 (dk_at dksX6_passes_2 9 rfl rfl)
theorem dX6_passes_56 : decode cX6_passes 56 = .ok (.ishl, 1) := dk_120 (dk_at dksX6_passes_2 10 rfl rfl)
theorem dX6_passes_57 : decode cX6_passes 57 = .ok (.ior, 1) := dk_128 (dk_at dksX6_passes_2 11 rfl rfl)
theorem dX6_passes_58 : decode cX6_passes 58 = .ok (.putfield 97, 3) := dk_181 0 97 (dk_at dksX6_passes_2 12 rfl rfl)
theorem dX6_passes_61 : decode cX6_passes 61 = .ok (.aload_n 3, 1) := dk_45 (dk_at dksX6_passes_2 15 rfl rfl)
theorem dX6_passes_62 : decode cX6_passes 62 = .ok (.dup, 1) := dk_89 (dk_at dksX6_passes_2 16 rfl rfl)
theorem dX6_passes_63 : decode cX6_passes 63 = .ok (.getfield 125, 3) := dk_180 0 125 (dk_at dksX6_passes_2 17 rfl rfl)
theorem dX6_passes_66 : decode cX6_passes 66 = .ok (.iconst 1, 1) := dk_4 (dk_at dksX6_passes_2 20 rfl rfl)
theorem dX6_passes_67 : decode cX6_passes 67 = .ok (.iadd, 1) := dk_96 (dk_at dksX6_passes_2 21 rfl rfl)
theorem dX6_passes_68 : decode cX6_passes 68 = .ok (.putfield 125, 3) := dk_181 0 125 (dk_at dksX6_passes_3 0 rfl rfl)
theorem dX6_passes_71 : decode cX6_passes 71 = .ok (.aload_n 0, 1) := dk_42 (dk_at dksX6_passes_3 3 rfl rfl)
theorem dX6_passes_72 : decode cX6_passes 72 = .ok (.dup, 1) := dk_89 (dk_at dksX6_passes_3 4 rfl rfl)
theorem dX6_passes_73 : decode cX6_passes 73 = .ok (.getfield 71, 3) := dk_180 0 71 (dk_at dksX6_passes_3 5 rfl rfl)
theorem dX6_passes_76 : decode cX6_passes 76 = .ok (.iconst 1, 1) := dk_4 (dk_at dksX6_passes_3 8 rfl rfl)
theorem dX6_passes_77 : decode cX6_passes 77 = .ok (.iadd, 1) := dk_96 (dk_at dksX6_passes_3 9 rfl rfl)
theorem dX6_passes_78 : decode cX6_passes 78 = .ok (.putfield 71, 3) := dk_181 0 71 (dk_at dksX6_passes_3 10 rfl rfl)
theorem dX6_passes_81 : decode cX6_passes 81 = .ok (.iconst 1, 1) := dk_4 (dk_at dksX6_passes_3 13 rfl rfl)
theorem dX6_passes_82 : decode cX6_passes 82 = .ok (.ireturn, 1) := dk_172 (dk_at dksX6_passes_3 14 rfl rfl)
abbrev cX6_canPass : ByteArray := prog_2_method_16_code
def yX6_canPass : MethodName := ⟨RX6, "canPass", "(II)Z"⟩
def dkwX6_canPass_1 : List UInt8 := [182, 0, 118, 28, 184, 0, 103, 153, 0, 7, 4, 167, 0, 4, 3, 172]
abbrev dktX6_canPass_1 : List UInt8 := dkwX6_canPass_1 ++ []
def dkwX6_canPass_0 : List UInt8 := [42, 180, 0, 27, 27, 50, 180, 0, 94, 2, 159, 0, 28, 42, 27, 42, 180, 0, 27, 27, 50, 180, 0, 94]
abbrev dktX6_canPass_0 : List UInt8 := dkwX6_canPass_0 ++ dktX6_canPass_1
theorem dksX6_canPass_0 : cX6_canPass.data.toList.drop 0 = dktX6_canPass_0 := by decide +kernel
theorem dksX6_canPass_1 : cX6_canPass.data.toList.drop 24 = dktX6_canPass_1 := dk_seg dksX6_canPass_0 24 rfl rfl
theorem dX6_canPass_0 : decode cX6_canPass 0 = .ok (.aload_n 0, 1) := dk_42 (dk_at dksX6_canPass_0 0 rfl rfl)
theorem dX6_canPass_1 : decode cX6_canPass 1 = .ok (.getfield 27, 3) := dk_180 0 27 (dk_at dksX6_canPass_0 1 rfl rfl)
theorem dX6_canPass_4 : decode cX6_canPass 4 = .ok (.iload_n 1, 1) := dk_27 (dk_at dksX6_canPass_0 4 rfl rfl)
theorem dX6_canPass_5 : decode cX6_canPass 5 = .ok (.aaload, 1) := dk_50 (dk_at dksX6_canPass_0 5 rfl rfl)
theorem dX6_canPass_6 : decode cX6_canPass 6 = .ok (.getfield 94, 3) := dk_180 0 94 (dk_at dksX6_canPass_0 6 rfl rfl)
theorem dX6_canPass_9 : decode cX6_canPass 9 = .ok (.iconst (-1), 1) := dk_2 (dk_at dksX6_canPass_0 9 rfl rfl)
theorem dX6_canPass_10 : decode cX6_canPass 10 = .ok (.if_icmp .eq 28, 3) := dk_159 0 28 (dk_at dksX6_canPass_0 10 rfl rfl)
theorem dX6_canPass_13 : decode cX6_canPass 13 = .ok (.aload_n 0, 1) := dk_42 (dk_at dksX6_canPass_0 13 rfl rfl)
theorem dX6_canPass_14 : decode cX6_canPass 14 = .ok (.iload_n 1, 1) := dk_27 (dk_at dksX6_canPass_0 14 rfl rfl)
theorem dX6_canPass_15 : decode cX6_canPass 15 = .ok (.aload_n 0, 1) := dk_42 (dk_at dksX6_canPass_0 15 rfl rfl)
theorem dX6_canPass_16 : decode cX6_canPass 16 = .ok (.getfield 27, 3) := dk_180 0 27 (dk_at dksX6_canPass_0 16 rfl rfl)
theorem dX6_canPass_19 : decode cX6_canPass 19 = .ok (.iload_n 1, 1) := dk_27 (dk_at dksX6_canPass_0 19 rfl rfl)
theorem dX6_canPass_20 : decode cX6_canPass 20 = .ok (.aaload, 1) := dk_50 (dk_at dksX6_canPass_0 20 rfl rfl)
theorem dX6_canPass_21 : decode cX6_canPass 21 = .ok (.getfield 94, 3) := dk_180 0 94 (dk_at dksX6_canPass_0 21 rfl rfl)
theorem dX6_canPass_24 : decode cX6_canPass 24 = .ok (.invokevirtual 118, 3) := dk_182 0 118 (dk_at dksX6_canPass_1 0 rfl rfl)
theorem dX6_canPass_27 : decode cX6_canPass 27 = .ok (.iload_n 2, 1) := dk_28 (dk_at dksX6_canPass_1 3 rfl rfl)
theorem dX6_canPass_28 : decode cX6_canPass 28 = .ok (.invokestatic 103, 3) := dk_184 0 103 (dk_at dksX6_canPass_1 4 rfl rfl)
theorem dX6_canPass_31 : decode cX6_canPass 31 = .ok (.ifCond .eq 7, 3) := dk_153 0 7 (dk_at dksX6_canPass_1 7 rfl rfl)
theorem dX6_canPass_34 : decode cX6_canPass 34 = .ok (.iconst 1, 1) := dk_4 (dk_at dksX6_canPass_1 10 rfl rfl)
theorem dX6_canPass_35 : decode cX6_canPass 35 = .ok (.goto 4, 3) := dk_167 0 4 (dk_at dksX6_canPass_1 11 rfl rfl)
theorem dX6_canPass_38 : decode cX6_canPass 38 = .ok (.iconst 0, 1) := dk_3 (dk_at dksX6_canPass_1 14 rfl rfl)
theorem dX6_canPass_39 : decode cX6_canPass 39 = .ok (.ireturn, 1) := dk_172 (dk_at dksX6_canPass_1 15 rfl rfl)
abbrev cX6_nextOf : ByteArray := prog_2_method_11_code
def yX6_nextOf : MethodName := ⟨RX6, "nextOf", "(II)I"⟩
def dkwX6_nextOf_0 : List UInt8 := [42, 180, 0, 21, 28, 50, 180, 0, 89, 42, 42, 180, 0, 27, 27, 50, 180, 0, 92, 182, 0, 107, 126, 172]
abbrev dktX6_nextOf_0 : List UInt8 := dkwX6_nextOf_0 ++ []
theorem dksX6_nextOf_0 : cX6_nextOf.data.toList.drop 0 = dktX6_nextOf_0 := by decide +kernel
theorem dX6_nextOf_0 : decode cX6_nextOf 0 = .ok (.aload_n 0, 1) := dk_42 (dk_at dksX6_nextOf_0 0 rfl rfl)
theorem dX6_nextOf_1 : decode cX6_nextOf 1 = .ok (.getfield 21, 3) := dk_180 0 21 (dk_at dksX6_nextOf_0 1 rfl rfl)
theorem dX6_nextOf_4 : decode cX6_nextOf 4 = .ok (.iload_n 2, 1) := dk_28 (dk_at dksX6_nextOf_0 4 rfl rfl)
theorem dX6_nextOf_5 : decode cX6_nextOf 5 = .ok (.aaload, 1) := dk_50 (dk_at dksX6_nextOf_0 5 rfl rfl)
theorem dX6_nextOf_6 : decode cX6_nextOf 6 = .ok (.getfield 89, 3) := dk_180 0 89 (dk_at dksX6_nextOf_0 6 rfl rfl)
theorem dX6_nextOf_9 : decode cX6_nextOf 9 = .ok (.aload_n 0, 1) := dk_42 (dk_at dksX6_nextOf_0 9 rfl rfl)
theorem dX6_nextOf_10 : decode cX6_nextOf 10 = .ok (.aload_n 0, 1) := dk_42 (dk_at dksX6_nextOf_0 10 rfl rfl)
theorem dX6_nextOf_11 : decode cX6_nextOf 11 = .ok (.getfield 27, 3) := dk_180 0 27 (dk_at dksX6_nextOf_0 11 rfl rfl)
theorem dX6_nextOf_14 : decode cX6_nextOf 14 = .ok (.iload_n 1, 1) := dk_27 (dk_at dksX6_nextOf_0 14 rfl rfl)
theorem dX6_nextOf_15 : decode cX6_nextOf 15 = .ok (.aaload, 1) := dk_50 (dk_at dksX6_nextOf_0 15 rfl rfl)
theorem dX6_nextOf_16 : decode cX6_nextOf 16 = .ok (.getfield 92, 3) := dk_180 0 92 (dk_at dksX6_nextOf_0 16 rfl rfl)
theorem dX6_nextOf_19 : decode cX6_nextOf 19 = .ok (.invokevirtual 107, 3) := dk_182 0 107 (dk_at dksX6_nextOf_0 19 rfl rfl)
theorem dX6_nextOf_22 : decode cX6_nextOf 22 = .ok (.iand, 1) := dk_126 (dk_at dksX6_nextOf_0 22 rfl rfl)
theorem dX6_nextOf_23 : decode cX6_nextOf 23 = .ok (.ireturn, 1) := dk_172 (dk_at dksX6_nextOf_0 23 rfl rfl)
abbrev cX6_trueOf : ByteArray := prog_2_method_10_code
def yX6_trueOf : MethodName := ⟨RX6, "trueOf", "(I)I"⟩
def dkwX6_trueOf_1 : List UInt8 := [184, 0, 103, 153, 0, 9, 4, 29, 120, 167, 0, 4, 3, 128, 61, 132, 3, 1, 167, 255, 219, 28, 172]
abbrev dktX6_trueOf_1 : List UInt8 := dkwX6_trueOf_1 ++ []
def dkwX6_trueOf_0 : List UInt8 := [3, 61, 3, 62, 29, 42, 180, 0, 42, 162, 0, 35, 28, 42, 180, 0, 21, 29, 50, 180, 0, 100, 27]
abbrev dktX6_trueOf_0 : List UInt8 := dkwX6_trueOf_0 ++ dktX6_trueOf_1
theorem dksX6_trueOf_0 : cX6_trueOf.data.toList.drop 0 = dktX6_trueOf_0 := by decide +kernel
theorem dksX6_trueOf_1 : cX6_trueOf.data.toList.drop 23 = dktX6_trueOf_1 := dk_seg dksX6_trueOf_0 23 rfl rfl
theorem dX6_trueOf_0 : decode cX6_trueOf 0 = .ok (.iconst 0, 1) := dk_3 (dk_at dksX6_trueOf_0 0 rfl rfl)
theorem dX6_trueOf_1 : decode cX6_trueOf 1 = .ok (.istore_n 2, 1) := dk_61 (dk_at dksX6_trueOf_0 1 rfl rfl)
theorem dX6_trueOf_2 : decode cX6_trueOf 2 = .ok (.iconst 0, 1) := dk_3 (dk_at dksX6_trueOf_0 2 rfl rfl)
theorem dX6_trueOf_3 : decode cX6_trueOf 3 = .ok (.istore_n 3, 1) := dk_62 (dk_at dksX6_trueOf_0 3 rfl rfl)
theorem dX6_trueOf_4 : decode cX6_trueOf 4 = .ok (.iload_n 3, 1) := dk_29 (dk_at dksX6_trueOf_0 4 rfl rfl)
theorem dX6_trueOf_5 : decode cX6_trueOf 5 = .ok (.aload_n 0, 1) := dk_42 (dk_at dksX6_trueOf_0 5 rfl rfl)
theorem dX6_trueOf_6 : decode cX6_trueOf 6 = .ok (.getfield 42, 3) := dk_180 0 42 (dk_at dksX6_trueOf_0 6 rfl rfl)
theorem dX6_trueOf_9 : decode cX6_trueOf 9 = .ok (.if_icmp .ge 35, 3) := dk_162 0 35 (dk_at dksX6_trueOf_0 9 rfl rfl)
theorem dX6_trueOf_12 : decode cX6_trueOf 12 = .ok (.iload_n 2, 1) := dk_28 (dk_at dksX6_trueOf_0 12 rfl rfl)
theorem dX6_trueOf_13 : decode cX6_trueOf 13 = .ok (.aload_n 0, 1) := dk_42 (dk_at dksX6_trueOf_0 13 rfl rfl)
theorem dX6_trueOf_14 : decode cX6_trueOf 14 = .ok (.getfield 21, 3) := dk_180 0 21 (dk_at dksX6_trueOf_0 14 rfl rfl)
theorem dX6_trueOf_17 : decode cX6_trueOf 17 = .ok (.iload_n 3, 1) := dk_29 (dk_at dksX6_trueOf_0 17 rfl rfl)
theorem dX6_trueOf_18 : decode cX6_trueOf 18 = .ok (.aaload, 1) := dk_50 (dk_at dksX6_trueOf_0 18 rfl rfl)
theorem dX6_trueOf_19 : decode cX6_trueOf 19 = .ok (.getfield 100, 3) := dk_180 0 100 (dk_at dksX6_trueOf_0 19 rfl rfl)
theorem dX6_trueOf_22 : decode cX6_trueOf 22 = .ok (.iload_n 1, 1) := dk_27 (dk_at dksX6_trueOf_0 22 rfl rfl)
theorem dX6_trueOf_23 : decode cX6_trueOf 23 = .ok (.invokestatic 103, 3) := dk_184 0 103 (dk_at dksX6_trueOf_1 0 rfl rfl)
theorem dX6_trueOf_26 : decode cX6_trueOf 26 = .ok (.ifCond .eq 9, 3) := dk_153 0 9 (dk_at dksX6_trueOf_1 3 rfl rfl)
theorem dX6_trueOf_29 : decode cX6_trueOf 29 = .ok (.iconst 1, 1) := dk_4 (dk_at dksX6_trueOf_1 6 rfl rfl)
theorem dX6_trueOf_30 : decode cX6_trueOf 30 = .ok (.iload_n 3, 1) := dk_29 (dk_at dksX6_trueOf_1 7 rfl rfl)
theorem dX6_trueOf_31 : decode cX6_trueOf 31 = .ok (.ishl, 1) := dk_120 (dk_at dksX6_trueOf_1 8 rfl rfl)
theorem dX6_trueOf_32 : decode cX6_trueOf 32 = .ok (.goto 4, 3) := dk_167 0 4 (dk_at dksX6_trueOf_1 9 rfl rfl)
theorem dX6_trueOf_35 : decode cX6_trueOf 35 = .ok (.iconst 0, 1) := dk_3 (dk_at dksX6_trueOf_1 12 rfl rfl)
theorem dX6_trueOf_36 : decode cX6_trueOf 36 = .ok (.ior, 1) := dk_128 (dk_at dksX6_trueOf_1 13 rfl rfl)
theorem dX6_trueOf_37 : decode cX6_trueOf 37 = .ok (.istore_n 2, 1) := dk_61 (dk_at dksX6_trueOf_1 14 rfl rfl)
theorem dX6_trueOf_38 : decode cX6_trueOf 38 = .ok (.iinc 3 1, 3) := dk_132 3 1 (dk_at dksX6_trueOf_1 15 rfl rfl)
theorem dX6_trueOf_41 : decode cX6_trueOf 41 = .ok (.goto (-37), 3) := dk_167 255 219 (dk_at dksX6_trueOf_1 18 rfl rfl)
theorem dX6_trueOf_44 : decode cX6_trueOf 44 = .ok (.iload_n 2, 1) := dk_28 (dk_at dksX6_trueOf_1 21 rfl rfl)
theorem dX6_trueOf_45 : decode cX6_trueOf 45 = .ok (.ireturn, 1) := dk_172 (dk_at dksX6_trueOf_1 22 rfl rfl)
abbrev cX6_teaches : ByteArray := prog_2_method_18_code
def yX6_teaches : MethodName := ⟨RX6, "teaches", "(IIZ)Z"⟩
def dkwX6_teaches_2 : List UInt8 := [172]
abbrev dktX6_teaches_2 : List UInt8 := dkwX6_teaches_2 ++ []
def dkwX6_teaches_1 : List UInt8 := [21, 4, 153, 0, 20, 42, 180, 0, 21, 27, 50, 89, 180, 0, 100, 4, 28, 120, 130, 181, 0, 100, 21, 4]
abbrev dktX6_teaches_1 : List UInt8 := dkwX6_teaches_1 ++ dktX6_teaches_2
def dkwX6_teaches_0 : List UInt8 := [42, 180, 0, 21, 27, 50, 180, 0, 100, 28, 184, 0, 103, 29, 159, 0, 7, 4, 167, 0, 4, 3, 54, 4]
abbrev dktX6_teaches_0 : List UInt8 := dkwX6_teaches_0 ++ dktX6_teaches_1
theorem dksX6_teaches_0 : cX6_teaches.data.toList.drop 0 = dktX6_teaches_0 := by decide +kernel
theorem dksX6_teaches_1 : cX6_teaches.data.toList.drop 24 = dktX6_teaches_1 := dk_seg dksX6_teaches_0 24 rfl rfl
theorem dksX6_teaches_2 : cX6_teaches.data.toList.drop 48 = dktX6_teaches_2 := dk_seg dksX6_teaches_1 24 rfl rfl
theorem dX6_teaches_0 : decode cX6_teaches 0 = .ok (.aload_n 0, 1) := dk_42 (dk_at dksX6_teaches_0 0 rfl rfl)
theorem dX6_teaches_1 : decode cX6_teaches 1 = .ok (.getfield 21, 3) := dk_180 0 21 (dk_at dksX6_teaches_0 1 rfl rfl)
theorem dX6_teaches_4 : decode cX6_teaches 4 = .ok (.iload_n 1, 1) := dk_27 (dk_at dksX6_teaches_0 4 rfl rfl)
theorem dX6_teaches_5 : decode cX6_teaches 5 = .ok (.aaload, 1) := dk_50 (dk_at dksX6_teaches_0 5 rfl rfl)
theorem dX6_teaches_6 : decode cX6_teaches 6 = .ok (.getfield 100, 3) := dk_180 0 100 (dk_at dksX6_teaches_0 6 rfl rfl)
theorem dX6_teaches_9 : decode cX6_teaches 9 = .ok (.iload_n 2, 1) := dk_28 (dk_at dksX6_teaches_0 9 rfl rfl)
theorem dX6_teaches_10 : decode cX6_teaches 10 = .ok (.invokestatic 103, 3) := dk_184 0 103 (dk_at dksX6_teaches_0 10 rfl rfl)
theorem dX6_teaches_13 : decode cX6_teaches 13 = .ok (.iload_n 3, 1) := dk_29 (dk_at dksX6_teaches_0 13 rfl rfl)
theorem dX6_teaches_14 : decode cX6_teaches 14 = .ok (.if_icmp .eq 7, 3) := dk_159 0 7 (dk_at dksX6_teaches_0 14 rfl rfl)
theorem dX6_teaches_17 : decode cX6_teaches 17 = .ok (.iconst 1, 1) := dk_4 (dk_at dksX6_teaches_0 17 rfl rfl)
theorem dX6_teaches_18 : decode cX6_teaches 18 = .ok (.goto 4, 3) := dk_167 0 4 (dk_at dksX6_teaches_0 18 rfl rfl)
theorem dX6_teaches_21 : decode cX6_teaches 21 = .ok (.iconst 0, 1) := dk_3 (dk_at dksX6_teaches_0 21 rfl rfl)
theorem dX6_teaches_22 : decode cX6_teaches 22 = .ok (.istore 4, 2) := dk_54 4 (dk_at dksX6_teaches_0 22 rfl rfl)
theorem dX6_teaches_24 : decode cX6_teaches 24 = .ok (.iload 4, 2) := dk_21 4 (dk_at dksX6_teaches_1 0 rfl rfl)
theorem dX6_teaches_26 : decode cX6_teaches 26 = .ok (.ifCond .eq 20, 3) := dk_153 0 20 (dk_at dksX6_teaches_1 2 rfl rfl)
theorem dX6_teaches_29 : decode cX6_teaches 29 = .ok (.aload_n 0, 1) := dk_42 (dk_at dksX6_teaches_1 5 rfl rfl)
theorem dX6_teaches_30 : decode cX6_teaches 30 = .ok (.getfield 21, 3) := dk_180 0 21 (dk_at dksX6_teaches_1 6 rfl rfl)
theorem dX6_teaches_33 : decode cX6_teaches 33 = .ok (.iload_n 1, 1) := dk_27 (dk_at dksX6_teaches_1 9 rfl rfl)
theorem dX6_teaches_34 : decode cX6_teaches 34 = .ok (.aaload, 1) := dk_50 (dk_at dksX6_teaches_1 10 rfl rfl)
theorem dX6_teaches_35 : decode cX6_teaches 35 = .ok (.dup, 1) := dk_89 (dk_at dksX6_teaches_1 11 rfl rfl)
theorem dX6_teaches_36 : decode cX6_teaches 36 = .ok (.getfield 100, 3) := dk_180 0 100 (dk_at dksX6_teaches_1 12 rfl rfl)
theorem dX6_teaches_39 : decode cX6_teaches 39 = .ok (.iconst 1, 1) := dk_4 (dk_at dksX6_teaches_1 15 rfl rfl)
theorem dX6_teaches_40 : decode cX6_teaches 40 = .ok (.iload_n 2, 1) := dk_28 (dk_at dksX6_teaches_1 16 rfl rfl)
theorem dX6_teaches_41 : decode cX6_teaches 41 = .ok (.ishl, 1) := dk_120 (dk_at dksX6_teaches_1 17 rfl rfl)
theorem dX6_teaches_42 : decode cX6_teaches 42 = .ok (.ixor, 1) := dk_130 (dk_at dksX6_teaches_1 18 rfl rfl)
theorem dX6_teaches_43 : decode cX6_teaches 43 = .ok (.putfield 100, 3) := dk_181 0 100 (dk_at dksX6_teaches_1 19 rfl rfl)
theorem dX6_teaches_46 : decode cX6_teaches 46 = .ok (.iload 4, 2) := dk_21 4 (dk_at dksX6_teaches_1 22 rfl rfl)
theorem dX6_teaches_48 : decode cX6_teaches 48 = .ok (.ireturn, 1) := dk_172 (dk_at dksX6_teaches_2 0 rfl rfl)
abbrev cX6_twin : ByteArray := prog_2_method_2_code
def yX6_twin : MethodName := ⟨RX6, "twin", "()LTinFen$Fen;"⟩
def dkwX6_twin_4 : List UInt8 := [42, 180, 0, 42, 181, 0, 42, 43, 42, 180, 0, 49, 181, 0, 49, 43, 42, 182, 0, 58, 176]
abbrev dktX6_twin_4 : List UInt8 := dkwX6_twin_4 ++ []
def dkwX6_twin_3 : List UInt8 := [180, 0, 27, 28, 50, 182, 0, 52, 83, 132, 2, 1, 167, 255, 230, 43, 42, 180, 0, 55, 181, 0, 55, 43]
abbrev dktX6_twin_3 : List UInt8 := dkwX6_twin_3 ++ dktX6_twin_4
def dkwX6_twin_2 : List UInt8 := [132, 2, 1, 167, 255, 230, 3, 61, 28, 42, 180, 0, 49, 162, 0, 24, 43, 180, 0, 27, 28, 42]
abbrev dktX6_twin_2 : List UInt8 := dkwX6_twin_2 ++ dktX6_twin_3
def dkwX6_twin_1 : List UInt8 := [61, 28, 42, 180, 0, 42, 162, 0, 24, 43, 180, 0, 21, 28, 42, 180, 0, 21, 28, 50, 182, 0, 45, 83]
abbrev dktX6_twin_1 : List UInt8 := dkwX6_twin_1 ++ dktX6_twin_2
def dkwX6_twin_0 : List UInt8 := [187, 0, 10, 89, 183, 0, 35, 76, 42, 180, 0, 9, 3, 43, 180, 0, 9, 3, 16, 6, 184, 0, 36, 3]
abbrev dktX6_twin_0 : List UInt8 := dkwX6_twin_0 ++ dktX6_twin_1
theorem dksX6_twin_0 : cX6_twin.data.toList.drop 0 = dktX6_twin_0 := by decide +kernel
theorem dksX6_twin_1 : cX6_twin.data.toList.drop 24 = dktX6_twin_1 := dk_seg dksX6_twin_0 24 rfl rfl
theorem dksX6_twin_2 : cX6_twin.data.toList.drop 48 = dktX6_twin_2 := dk_seg dksX6_twin_1 24 rfl rfl
theorem dksX6_twin_3 : cX6_twin.data.toList.drop 70 = dktX6_twin_3 := dk_seg dksX6_twin_2 22 rfl rfl
theorem dksX6_twin_4 : cX6_twin.data.toList.drop 94 = dktX6_twin_4 := dk_seg dksX6_twin_3 24 rfl rfl
theorem dX6_twin_0 : decode cX6_twin 0 = .ok (.new 10, 3) := dk_187 0 10 (dk_at dksX6_twin_0 0 rfl rfl)
theorem dX6_twin_3 : decode cX6_twin 3 = .ok (.dup, 1) := dk_89 (dk_at dksX6_twin_0 3 rfl rfl)
theorem dX6_twin_4 : decode cX6_twin 4 = .ok (.invokespecial 35, 3) := dk_183 0 35 (dk_at dksX6_twin_0 4 rfl rfl)
theorem dX6_twin_7 : decode cX6_twin 7 = .ok (.astore_n 1, 1) := dk_76 (dk_at dksX6_twin_0 7 rfl rfl)
theorem dX6_twin_8 : decode cX6_twin 8 = .ok (.aload_n 0, 1) := dk_42 (dk_at dksX6_twin_0 8 rfl rfl)
theorem dX6_twin_9 : decode cX6_twin 9 = .ok (.getfield 9, 3) := dk_180 0 9 (dk_at dksX6_twin_0 9 rfl rfl)
theorem dX6_twin_12 : decode cX6_twin 12 = .ok (.iconst 0, 1) := dk_3 (dk_at dksX6_twin_0 12 rfl rfl)
theorem dX6_twin_13 : decode cX6_twin 13 = .ok (.aload_n 1, 1) := dk_43 (dk_at dksX6_twin_0 13 rfl rfl)
theorem dX6_twin_14 : decode cX6_twin 14 = .ok (.getfield 9, 3) := dk_180 0 9 (dk_at dksX6_twin_0 14 rfl rfl)
theorem dX6_twin_17 : decode cX6_twin 17 = .ok (.iconst 0, 1) := dk_3 (dk_at dksX6_twin_0 17 rfl rfl)
theorem dX6_twin_18 : decode cX6_twin 18 = .ok (.bipush 6, 2) := dk_16 6 (dk_at dksX6_twin_0 18 rfl rfl)
theorem dX6_twin_20 : decode cX6_twin 20 = .ok (.invokestatic 36, 3) := dk_184 0 36 (dk_at dksX6_twin_0 20 rfl rfl)
theorem dX6_twin_23 : decode cX6_twin 23 = .ok (.iconst 0, 1) := dk_3 (dk_at dksX6_twin_0 23 rfl rfl)
theorem dX6_twin_24 : decode cX6_twin 24 = .ok (.istore_n 2, 1) := dk_61 (dk_at dksX6_twin_1 0 rfl rfl)
theorem dX6_twin_25 : decode cX6_twin 25 = .ok (.iload_n 2, 1) := dk_28 (dk_at dksX6_twin_1 1 rfl rfl)
theorem dX6_twin_26 : decode cX6_twin 26 = .ok (.aload_n 0, 1) := dk_42 (dk_at dksX6_twin_1 2 rfl rfl)
theorem dX6_twin_27 : decode cX6_twin 27 = .ok (.getfield 42, 3) := dk_180 0 42 (dk_at dksX6_twin_1 3 rfl rfl)
theorem dX6_twin_30 : decode cX6_twin 30 = .ok (.if_icmp .ge 24, 3) := dk_162 0 24 (dk_at dksX6_twin_1 6 rfl rfl)
theorem dX6_twin_33 : decode cX6_twin 33 = .ok (.aload_n 1, 1) := dk_43 (dk_at dksX6_twin_1 9 rfl rfl)
theorem dX6_twin_34 : decode cX6_twin 34 = .ok (.getfield 21, 3) := dk_180 0 21 (dk_at dksX6_twin_1 10 rfl rfl)
theorem dX6_twin_37 : decode cX6_twin 37 = .ok (.iload_n 2, 1) := dk_28 (dk_at dksX6_twin_1 13 rfl rfl)
theorem dX6_twin_38 : decode cX6_twin 38 = .ok (.aload_n 0, 1) := dk_42 (dk_at dksX6_twin_1 14 rfl rfl)
theorem dX6_twin_39 : decode cX6_twin 39 = .ok (.getfield 21, 3) := dk_180 0 21 (dk_at dksX6_twin_1 15 rfl rfl)
theorem dX6_twin_42 : decode cX6_twin 42 = .ok (.iload_n 2, 1) := dk_28 (dk_at dksX6_twin_1 18 rfl rfl)
theorem dX6_twin_43 : decode cX6_twin 43 = .ok (.aaload, 1) := dk_50 (dk_at dksX6_twin_1 19 rfl rfl)
theorem dX6_twin_44 : decode cX6_twin 44 = .ok (.invokevirtual 45, 3) := dk_182 0 45 (dk_at dksX6_twin_1 20 rfl rfl)
theorem dX6_twin_47 : decode cX6_twin 47 = .ok (.aastore, 1) := dk_83 (dk_at dksX6_twin_1 23 rfl rfl)
theorem dX6_twin_48 : decode cX6_twin 48 = .ok (.iinc 2 1, 3) := dk_132 2 1 (dk_at dksX6_twin_2 0 rfl rfl)
theorem dX6_twin_51 : decode cX6_twin 51 = .ok (.goto (-26), 3) := dk_167 255 230 (dk_at dksX6_twin_2 3 rfl rfl)
theorem dX6_twin_54 : decode cX6_twin 54 = .ok (.iconst 0, 1) := dk_3 (dk_at dksX6_twin_2 6 rfl rfl)
theorem dX6_twin_55 : decode cX6_twin 55 = .ok (.istore_n 2, 1) := dk_61 (dk_at dksX6_twin_2 7 rfl rfl)
theorem dX6_twin_56 : decode cX6_twin 56 = .ok (.iload_n 2, 1) := dk_28 (dk_at dksX6_twin_2 8 rfl rfl)
theorem dX6_twin_57 : decode cX6_twin 57 = .ok (.aload_n 0, 1) := dk_42 (dk_at dksX6_twin_2 9 rfl rfl)
theorem dX6_twin_58 : decode cX6_twin 58 = .ok (.getfield 49, 3) := dk_180 0 49 (dk_at dksX6_twin_2 10 rfl rfl)
theorem dX6_twin_61 : decode cX6_twin 61 = .ok (.if_icmp .ge 24, 3) := dk_162 0 24 (dk_at dksX6_twin_2 13 rfl rfl)
theorem dX6_twin_64 : decode cX6_twin 64 = .ok (.aload_n 1, 1) := dk_43 (dk_at dksX6_twin_2 16 rfl rfl)
theorem dX6_twin_65 : decode cX6_twin 65 = .ok (.getfield 27, 3) := dk_180 0 27 (dk_at dksX6_twin_2 17 rfl rfl)
theorem dX6_twin_68 : decode cX6_twin 68 = .ok (.iload_n 2, 1) := dk_28 (dk_at dksX6_twin_2 20 rfl rfl)
theorem dX6_twin_69 : decode cX6_twin 69 = .ok (.aload_n 0, 1) := dk_42 (dk_at dksX6_twin_2 21 rfl rfl)
theorem dX6_twin_70 : decode cX6_twin 70 = .ok (.getfield 27, 3) := dk_180 0 27 (dk_at dksX6_twin_3 0 rfl rfl)
theorem dX6_twin_73 : decode cX6_twin 73 = .ok (.iload_n 2, 1) := dk_28 (dk_at dksX6_twin_3 3 rfl rfl)
theorem dX6_twin_74 : decode cX6_twin 74 = .ok (.aaload, 1) := dk_50 (dk_at dksX6_twin_3 4 rfl rfl)
theorem dX6_twin_75 : decode cX6_twin 75 = .ok (.invokevirtual 52, 3) := dk_182 0 52 (dk_at dksX6_twin_3 5 rfl rfl)
theorem dX6_twin_78 : decode cX6_twin 78 = .ok (.aastore, 1) := dk_83 (dk_at dksX6_twin_3 8 rfl rfl)
theorem dX6_twin_79 : decode cX6_twin 79 = .ok (.iinc 2 1, 3) := dk_132 2 1 (dk_at dksX6_twin_3 9 rfl rfl)
theorem dX6_twin_82 : decode cX6_twin 82 = .ok (.goto (-26), 3) := dk_167 255 230 (dk_at dksX6_twin_3 12 rfl rfl)
theorem dX6_twin_85 : decode cX6_twin 85 = .ok (.aload_n 1, 1) := dk_43 (dk_at dksX6_twin_3 15 rfl rfl)
theorem dX6_twin_86 : decode cX6_twin 86 = .ok (.aload_n 0, 1) := dk_42 (dk_at dksX6_twin_3 16 rfl rfl)
theorem dX6_twin_87 : decode cX6_twin 87 = .ok (.getfield 55, 3) := dk_180 0 55 (dk_at dksX6_twin_3 17 rfl rfl)
theorem dX6_twin_90 : decode cX6_twin 90 = .ok (.putfield 55, 3) := dk_181 0 55 (dk_at dksX6_twin_3 20 rfl rfl)
theorem dX6_twin_93 : decode cX6_twin 93 = .ok (.aload_n 1, 1) := dk_43 (dk_at dksX6_twin_3 23 rfl rfl)
theorem dX6_twin_94 : decode cX6_twin 94 = .ok (.aload_n 0, 1) := dk_42 (dk_at dksX6_twin_4 0 rfl rfl)
theorem dX6_twin_95 : decode cX6_twin 95 = .ok (.getfield 42, 3) := dk_180 0 42 (dk_at dksX6_twin_4 1 rfl rfl)
theorem dX6_twin_98 : decode cX6_twin 98 = .ok (.putfield 42, 3) := dk_181 0 42 (dk_at dksX6_twin_4 4 rfl rfl)
theorem dX6_twin_101 : decode cX6_twin 101 = .ok (.aload_n 1, 1) := dk_43 (dk_at dksX6_twin_4 7 rfl rfl)
theorem dX6_twin_102 : decode cX6_twin 102 = .ok (.aload_n 0, 1) := dk_42 (dk_at dksX6_twin_4 8 rfl rfl)
theorem dX6_twin_103 : decode cX6_twin 103 = .ok (.getfield 49, 3) := dk_180 0 49 (dk_at dksX6_twin_4 9 rfl rfl)
theorem dX6_twin_106 : decode cX6_twin 106 = .ok (.putfield 49, 3) := dk_181 0 49 (dk_at dksX6_twin_4 12 rfl rfl)
theorem dX6_twin_109 : decode cX6_twin 109 = .ok (.aload_n 1, 1) := dk_43 (dk_at dksX6_twin_4 15 rfl rfl)
theorem dX6_twin_110 : decode cX6_twin 110 = .ok (.aload_n 0, 1) := dk_42 (dk_at dksX6_twin_4 16 rfl rfl)
theorem dX6_twin_111 : decode cX6_twin 111 = .ok (.invokevirtual 58, 3) := dk_182 0 58 (dk_at dksX6_twin_4 17 rfl rfl)
theorem dX6_twin_114 : decode cX6_twin 114 = .ok (.areturn, 1) := dk_176 (dk_at dksX6_twin_4 20 rfl rfl)
abbrev cX6_takes : ByteArray := prog_2_method_3_code
def yX6_takes : MethodName := ⟨RX6, "takes", "(LTinFen$Fen;)LTinFen$Fen;"⟩
def dkwX6_takes_4 : List UInt8 := [181, 0, 31, 42, 43, 180, 0, 71, 181, 0, 71, 42, 176]
abbrev dktX6_takes_4 : List UInt8 := dkwX6_takes_4 ++ []
def dkwX6_takes_3 : List UInt8 := [50, 182, 0, 65, 87, 132, 2, 1, 167, 255, 229, 42, 43, 180, 0, 68, 181, 0, 68, 42, 43, 180, 0, 31]
abbrev dktX6_takes_3 : List UInt8 := dkwX6_takes_3 ++ dktX6_takes_4
def dkwX6_takes_2 : List UInt8 := [167, 255, 229, 3, 61, 28, 42, 180, 0, 49, 162, 0, 25, 42, 180, 0, 27, 28, 50, 43, 180, 0, 27, 28]
abbrev dktX6_takes_2 : List UInt8 := dkwX6_takes_2 ++ dktX6_takes_3
def dkwX6_takes_1 : List UInt8 := [162, 0, 25, 42, 180, 0, 21, 28, 50, 43, 180, 0, 21, 28, 50, 182, 0, 62, 87, 132, 2, 1]
abbrev dktX6_takes_1 : List UInt8 := dkwX6_takes_1 ++ dktX6_takes_2
def dkwX6_takes_0 : List UInt8 := [43, 180, 0, 15, 3, 42, 180, 0, 15, 3, 16, 6, 184, 0, 36, 3, 61, 28, 42, 180, 0, 42]
abbrev dktX6_takes_0 : List UInt8 := dkwX6_takes_0 ++ dktX6_takes_1
theorem dksX6_takes_0 : cX6_takes.data.toList.drop 0 = dktX6_takes_0 := by decide +kernel
theorem dksX6_takes_1 : cX6_takes.data.toList.drop 22 = dktX6_takes_1 := dk_seg dksX6_takes_0 22 rfl rfl
theorem dksX6_takes_2 : cX6_takes.data.toList.drop 44 = dktX6_takes_2 := dk_seg dksX6_takes_1 22 rfl rfl
theorem dksX6_takes_3 : cX6_takes.data.toList.drop 68 = dktX6_takes_3 := dk_seg dksX6_takes_2 24 rfl rfl
theorem dksX6_takes_4 : cX6_takes.data.toList.drop 92 = dktX6_takes_4 := dk_seg dksX6_takes_3 24 rfl rfl
theorem dX6_takes_0 : decode cX6_takes 0 = .ok (.aload_n 1, 1) := dk_43 (dk_at dksX6_takes_0 0 rfl rfl)
theorem dX6_takes_1 : decode cX6_takes 1 = .ok (.getfield 15, 3) := dk_180 0 15 (dk_at dksX6_takes_0 1 rfl rfl)
theorem dX6_takes_4 : decode cX6_takes 4 = .ok (.iconst 0, 1) := dk_3 (dk_at dksX6_takes_0 4 rfl rfl)
theorem dX6_takes_5 : decode cX6_takes 5 = .ok (.aload_n 0, 1) := dk_42 (dk_at dksX6_takes_0 5 rfl rfl)
theorem dX6_takes_6 : decode cX6_takes 6 = .ok (.getfield 15, 3) := dk_180 0 15 (dk_at dksX6_takes_0 6 rfl rfl)
theorem dX6_takes_9 : decode cX6_takes 9 = .ok (.iconst 0, 1) := dk_3 (dk_at dksX6_takes_0 9 rfl rfl)
theorem dX6_takes_10 : decode cX6_takes 10 = .ok (.bipush 6, 2) := dk_16 6 (dk_at dksX6_takes_0 10 rfl rfl)
theorem dX6_takes_12 : decode cX6_takes 12 = .ok (.invokestatic 36, 3) := dk_184 0 36 (dk_at dksX6_takes_0 12 rfl rfl)
theorem dX6_takes_15 : decode cX6_takes 15 = .ok (.iconst 0, 1) := dk_3 (dk_at dksX6_takes_0 15 rfl rfl)
theorem dX6_takes_16 : decode cX6_takes 16 = .ok (.istore_n 2, 1) := dk_61 (dk_at dksX6_takes_0 16 rfl rfl)
theorem dX6_takes_17 : decode cX6_takes 17 = .ok (.iload_n 2, 1) := dk_28 (dk_at dksX6_takes_0 17 rfl rfl)
theorem dX6_takes_18 : decode cX6_takes 18 = .ok (.aload_n 0, 1) := dk_42 (dk_at dksX6_takes_0 18 rfl rfl)
theorem dX6_takes_19 : decode cX6_takes 19 = .ok (.getfield 42, 3) := dk_180 0 42 (dk_at dksX6_takes_0 19 rfl rfl)
theorem dX6_takes_22 : decode cX6_takes 22 = .ok (.if_icmp .ge 25, 3) := dk_162 0 25 (dk_at dksX6_takes_1 0 rfl rfl)
theorem dX6_takes_25 : decode cX6_takes 25 = .ok (.aload_n 0, 1) := dk_42 (dk_at dksX6_takes_1 3 rfl rfl)
theorem dX6_takes_26 : decode cX6_takes 26 = .ok (.getfield 21, 3) := dk_180 0 21 (dk_at dksX6_takes_1 4 rfl rfl)
theorem dX6_takes_29 : decode cX6_takes 29 = .ok (.iload_n 2, 1) := dk_28 (dk_at dksX6_takes_1 7 rfl rfl)
theorem dX6_takes_30 : decode cX6_takes 30 = .ok (.aaload, 1) := dk_50 (dk_at dksX6_takes_1 8 rfl rfl)
theorem dX6_takes_31 : decode cX6_takes 31 = .ok (.aload_n 1, 1) := dk_43 (dk_at dksX6_takes_1 9 rfl rfl)
theorem dX6_takes_32 : decode cX6_takes 32 = .ok (.getfield 21, 3) := dk_180 0 21 (dk_at dksX6_takes_1 10 rfl rfl)
theorem dX6_takes_35 : decode cX6_takes 35 = .ok (.iload_n 2, 1) := dk_28 (dk_at dksX6_takes_1 13 rfl rfl)
theorem dX6_takes_36 : decode cX6_takes 36 = .ok (.aaload, 1) := dk_50 (dk_at dksX6_takes_1 14 rfl rfl)
theorem dX6_takes_37 : decode cX6_takes 37 = .ok (.invokevirtual 62, 3) := dk_182 0 62 (dk_at dksX6_takes_1 15 rfl rfl)
theorem dX6_takes_40 : decode cX6_takes 40 = .ok (.pop, 1) := dk_87 (dk_at dksX6_takes_1 18 rfl rfl)
theorem dX6_takes_41 : decode cX6_takes 41 = .ok (.iinc 2 1, 3) := dk_132 2 1 (dk_at dksX6_takes_1 19 rfl rfl)
theorem dX6_takes_44 : decode cX6_takes 44 = .ok (.goto (-27), 3) := dk_167 255 229 (dk_at dksX6_takes_2 0 rfl rfl)
theorem dX6_takes_47 : decode cX6_takes 47 = .ok (.iconst 0, 1) := dk_3 (dk_at dksX6_takes_2 3 rfl rfl)
theorem dX6_takes_48 : decode cX6_takes 48 = .ok (.istore_n 2, 1) := dk_61 (dk_at dksX6_takes_2 4 rfl rfl)
theorem dX6_takes_49 : decode cX6_takes 49 = .ok (.iload_n 2, 1) := dk_28 (dk_at dksX6_takes_2 5 rfl rfl)
theorem dX6_takes_50 : decode cX6_takes 50 = .ok (.aload_n 0, 1) := dk_42 (dk_at dksX6_takes_2 6 rfl rfl)
theorem dX6_takes_51 : decode cX6_takes 51 = .ok (.getfield 49, 3) := dk_180 0 49 (dk_at dksX6_takes_2 7 rfl rfl)
theorem dX6_takes_54 : decode cX6_takes 54 = .ok (.if_icmp .ge 25, 3) := dk_162 0 25 (dk_at dksX6_takes_2 10 rfl rfl)
theorem dX6_takes_57 : decode cX6_takes 57 = .ok (.aload_n 0, 1) := dk_42 (dk_at dksX6_takes_2 13 rfl rfl)
theorem dX6_takes_58 : decode cX6_takes 58 = .ok (.getfield 27, 3) := dk_180 0 27 (dk_at dksX6_takes_2 14 rfl rfl)
theorem dX6_takes_61 : decode cX6_takes 61 = .ok (.iload_n 2, 1) := dk_28 (dk_at dksX6_takes_2 17 rfl rfl)
theorem dX6_takes_62 : decode cX6_takes 62 = .ok (.aaload, 1) := dk_50 (dk_at dksX6_takes_2 18 rfl rfl)
theorem dX6_takes_63 : decode cX6_takes 63 = .ok (.aload_n 1, 1) := dk_43 (dk_at dksX6_takes_2 19 rfl rfl)
theorem dX6_takes_64 : decode cX6_takes 64 = .ok (.getfield 27, 3) := dk_180 0 27 (dk_at dksX6_takes_2 20 rfl rfl)
theorem dX6_takes_67 : decode cX6_takes 67 = .ok (.iload_n 2, 1) := dk_28 (dk_at dksX6_takes_2 23 rfl rfl)
theorem dX6_takes_68 : decode cX6_takes 68 = .ok (.aaload, 1) := dk_50 (dk_at dksX6_takes_3 0 rfl rfl)
theorem dX6_takes_69 : decode cX6_takes 69 = .ok (.invokevirtual 65, 3) := dk_182 0 65 (dk_at dksX6_takes_3 1 rfl rfl)
theorem dX6_takes_72 : decode cX6_takes 72 = .ok (.pop, 1) := dk_87 (dk_at dksX6_takes_3 4 rfl rfl)
theorem dX6_takes_73 : decode cX6_takes 73 = .ok (.iinc 2 1, 3) := dk_132 2 1 (dk_at dksX6_takes_3 5 rfl rfl)
theorem dX6_takes_76 : decode cX6_takes 76 = .ok (.goto (-27), 3) := dk_167 255 229 (dk_at dksX6_takes_3 8 rfl rfl)
theorem dX6_takes_79 : decode cX6_takes 79 = .ok (.aload_n 0, 1) := dk_42 (dk_at dksX6_takes_3 11 rfl rfl)
theorem dX6_takes_80 : decode cX6_takes 80 = .ok (.aload_n 1, 1) := dk_43 (dk_at dksX6_takes_3 12 rfl rfl)
theorem dX6_takes_81 : decode cX6_takes 81 = .ok (.getfield 68, 3) := dk_180 0 68 (dk_at dksX6_takes_3 13 rfl rfl)
theorem dX6_takes_84 : decode cX6_takes 84 = .ok (.putfield 68, 3) := dk_181 0 68 (dk_at dksX6_takes_3 16 rfl rfl)
theorem dX6_takes_87 : decode cX6_takes 87 = .ok (.aload_n 0, 1) := dk_42 (dk_at dksX6_takes_3 19 rfl rfl)
theorem dX6_takes_88 : decode cX6_takes 88 = .ok (.aload_n 1, 1) := dk_43 (dk_at dksX6_takes_3 20 rfl rfl)
theorem dX6_takes_89 : decode cX6_takes 89 = .ok (.getfield 31, 3) := dk_180 0 31 (dk_at dksX6_takes_3 21 rfl rfl)
theorem dX6_takes_92 : decode cX6_takes 92 = .ok (.putfield 31, 3) := dk_181 0 31 (dk_at dksX6_takes_4 0 rfl rfl)
theorem dX6_takes_95 : decode cX6_takes 95 = .ok (.aload_n 0, 1) := dk_42 (dk_at dksX6_takes_4 3 rfl rfl)
theorem dX6_takes_96 : decode cX6_takes 96 = .ok (.aload_n 1, 1) := dk_43 (dk_at dksX6_takes_4 4 rfl rfl)
theorem dX6_takes_97 : decode cX6_takes 97 = .ok (.getfield 71, 3) := dk_180 0 71 (dk_at dksX6_takes_4 5 rfl rfl)
theorem dX6_takes_100 : decode cX6_takes 100 = .ok (.putfield 71, 3) := dk_181 0 71 (dk_at dksX6_takes_4 8 rfl rfl)
theorem dX6_takes_103 : decode cX6_takes 103 = .ok (.aload_n 0, 1) := dk_42 (dk_at dksX6_takes_4 11 rfl rfl)
theorem dX6_takes_104 : decode cX6_takes 104 = .ok (.areturn, 1) := dk_176 (dk_at dksX6_takes_4 12 rfl rfl)
abbrev cX6_allGot : ByteArray := prog_2_method_15_code
def yX6_allGot : MethodName := ⟨RX6, "allGot", "()I"⟩
def dkwX6_allGot_1 : List UInt8 := [132, 2, 1, 167, 255, 233, 27, 172]
abbrev dktX6_allGot_1 : List UInt8 := dkwX6_allGot_1 ++ []
def dkwX6_allGot_0 : List UInt8 := [3, 60, 3, 61, 28, 42, 180, 0, 42, 162, 0, 21, 27, 42, 180, 0, 21, 28, 50, 180, 0, 115, 96, 60]
abbrev dktX6_allGot_0 : List UInt8 := dkwX6_allGot_0 ++ dktX6_allGot_1
theorem dksX6_allGot_0 : cX6_allGot.data.toList.drop 0 = dktX6_allGot_0 := by decide +kernel
theorem dksX6_allGot_1 : cX6_allGot.data.toList.drop 24 = dktX6_allGot_1 := dk_seg dksX6_allGot_0 24 rfl rfl
theorem dX6_allGot_0 : decode cX6_allGot 0 = .ok (.iconst 0, 1) := dk_3 (dk_at dksX6_allGot_0 0 rfl rfl)
theorem dX6_allGot_1 : decode cX6_allGot 1 = .ok (.istore_n 1, 1) := dk_60 (dk_at dksX6_allGot_0 1 rfl rfl)
theorem dX6_allGot_2 : decode cX6_allGot 2 = .ok (.iconst 0, 1) := dk_3 (dk_at dksX6_allGot_0 2 rfl rfl)
theorem dX6_allGot_3 : decode cX6_allGot 3 = .ok (.istore_n 2, 1) := dk_61 (dk_at dksX6_allGot_0 3 rfl rfl)
theorem dX6_allGot_4 : decode cX6_allGot 4 = .ok (.iload_n 2, 1) := dk_28 (dk_at dksX6_allGot_0 4 rfl rfl)
theorem dX6_allGot_5 : decode cX6_allGot 5 = .ok (.aload_n 0, 1) := dk_42 (dk_at dksX6_allGot_0 5 rfl rfl)
theorem dX6_allGot_6 : decode cX6_allGot 6 = .ok (.getfield 42, 3) := dk_180 0 42 (dk_at dksX6_allGot_0 6 rfl rfl)
theorem dX6_allGot_9 : decode cX6_allGot 9 = .ok (.if_icmp .ge 21, 3) := dk_162 0 21 (dk_at dksX6_allGot_0 9 rfl rfl)
theorem dX6_allGot_12 : decode cX6_allGot 12 = .ok (.iload_n 1, 1) := dk_27 (dk_at dksX6_allGot_0 12 rfl rfl)
theorem dX6_allGot_13 : decode cX6_allGot 13 = .ok (.aload_n 0, 1) := dk_42 (dk_at dksX6_allGot_0 13 rfl rfl)
theorem dX6_allGot_14 : decode cX6_allGot 14 = .ok (.getfield 21, 3) := dk_180 0 21 (dk_at dksX6_allGot_0 14 rfl rfl)
theorem dX6_allGot_17 : decode cX6_allGot 17 = .ok (.iload_n 2, 1) := dk_28 (dk_at dksX6_allGot_0 17 rfl rfl)
theorem dX6_allGot_18 : decode cX6_allGot 18 = .ok (.aaload, 1) := dk_50 (dk_at dksX6_allGot_0 18 rfl rfl)
theorem dX6_allGot_19 : decode cX6_allGot 19 = .ok (.getfield 115, 3) := dk_180 0 115 (dk_at dksX6_allGot_0 19 rfl rfl)
theorem dX6_allGot_22 : decode cX6_allGot 22 = .ok (.iadd, 1) := dk_96 (dk_at dksX6_allGot_0 22 rfl rfl)
theorem dX6_allGot_23 : decode cX6_allGot 23 = .ok (.istore_n 1, 1) := dk_60 (dk_at dksX6_allGot_0 23 rfl rfl)
theorem dX6_allGot_24 : decode cX6_allGot 24 = .ok (.iinc 2 1, 3) := dk_132 2 1 (dk_at dksX6_allGot_1 0 rfl rfl)
theorem dX6_allGot_27 : decode cX6_allGot 27 = .ok (.goto (-23), 3) := dk_167 255 233 (dk_at dksX6_allGot_1 3 rfl rfl)
theorem dX6_allGot_30 : decode cX6_allGot 30 = .ok (.iload_n 1, 1) := dk_27 (dk_at dksX6_allGot_1 6 rfl rfl)
theorem dX6_allGot_31 : decode cX6_allGot 31 = .ok (.ireturn, 1) := dk_172 (dk_at dksX6_allGot_1 7 rfl rfl)
theorem q162 : (Jvm.Cond.initialized "TinFen$Fen") ∈ lw_all := lw_g (lw_at lw_m1 10 rfl) rfl
theorem q377 : (Jvm.Cond.instantiable "TinFen$Fen" (10 : Nat)) ∈ lw_all := lw_g (lw_at lw_m1 225 rfl) rfl
theorem q379 : (Jvm.Cond.instanceMethod ({ cls := "TinFen$Fen", name := "<init>", desc := "()V" } : Jvm.MethodName)) ∈ lw_all := lw_g (lw_at lw_m1 227 rfl) rfl
theorem q380 : (Jvm.Cond.code ({ cls := "TinFen$Fen", name := "<init>", desc := "()V" } : Jvm.MethodName) prog_2_method_1_code (1 : Nat) (Option.none : Option Jvm.ClassFile.FieldType)) ∈ lw_all := lw_g (lw_at lw_m1 228 rfl) rfl
theorem q381 : (Jvm.Cond.methodLink "TinFen$Fen" (3 : Nat) ({ cls := "java/lang/Object", name := "<init>", desc := "()V" } : Jvm.MethodName)) ∈ lw_all := lw_g (lw_at lw_m1 229 rfl) rfl
theorem q382 : (Jvm.Cond.classLink "TinFen$Fen" (19 : Nat) "TinFen$Person") ∈ lw_all := lw_g (lw_at lw_m1 230 rfl) rfl
theorem q384 : (Jvm.Cond.classLink "TinFen$Fen" (25 : Nat) "TinFen$Tin") ∈ lw_all := lw_g (lw_at lw_m1 232 rfl) rfl
theorem q386 : (Jvm.Cond.fieldLink "TinFen$Fen" (9 : Nat) "TinFen$Fen" "traits" "[J") ∈ lw_all := lw_g (lw_at lw_m1 234 rfl) rfl
theorem q388 : (Jvm.Cond.fieldLink "TinFen$Fen" (15 : Nat) "TinFen$Fen" "worth" "[I") ∈ lw_all := lw_g (lw_at lw_m1 236 rfl) rfl
theorem q391 : (Jvm.Cond.fieldLink "TinFen$Fen" (21 : Nat) "TinFen$Fen" "people" "[LTinFen$Person;") ∈ lw_all := lw_g (lw_at lw_m1 239 rfl) rfl
theorem q394 : (Jvm.Cond.fieldLink "TinFen$Fen" (27 : Nat) "TinFen$Fen" "tins" "[LTinFen$Tin;") ∈ lw_all := lw_g (lw_at lw_m2 2 rfl) rfl
theorem q396 : (Jvm.Cond.fieldLink "TinFen$Fen" (55 : Nat) "TinFen$Fen" "traitMany" "I") ∈ lw_all := lw_g (lw_at lw_m2 4 rfl) rfl
theorem q399 : (Jvm.Cond.fieldLink "TinFen$Fen" (42 : Nat) "TinFen$Fen" "personMany" "I") ∈ lw_all := lw_g (lw_at lw_m2 7 rfl) rfl
theorem q402 : (Jvm.Cond.fieldLink "TinFen$Fen" (68 : Nat) "TinFen$Fen" "laneMany" "I") ∈ lw_all := lw_g (lw_at lw_m2 10 rfl) rfl
theorem q405 : (Jvm.Cond.fieldLink "TinFen$Fen" (49 : Nat) "TinFen$Fen" "tinMany" "I") ∈ lw_all := lw_g (lw_at lw_m2 13 rfl) rfl
theorem q408 : (Jvm.Cond.fieldLink "TinFen$Fen" (31 : Nat) "TinFen$Fen" "odds" "I") ∈ lw_all := lw_g (lw_at lw_m2 16 rfl) rfl
theorem q411 : (Jvm.Cond.fieldLink "TinFen$Fen" (71 : Nat) "TinFen$Fen" "passes" "I") ∈ lw_all := lw_g (lw_at lw_m2 19 rfl) rfl
theorem q413 : (Jvm.Cond.laysFinal "TinFen$Fen" "TinFen$Fen" "traits" "[J") ∈ lw_all := lw_g (lw_at lw_m2 21 rfl) rfl
theorem q414 : (Jvm.Cond.soleField "TinFen$Fen" "traits") ∈ lw_all := lw_g (lw_at lw_m2 22 rfl) rfl
theorem q415 : (Jvm.Cond.laysFinal "TinFen$Fen" "TinFen$Fen" "worth" "[I") ∈ lw_all := lw_g (lw_at lw_m2 23 rfl) rfl
theorem q416 : (Jvm.Cond.soleField "TinFen$Fen" "worth") ∈ lw_all := lw_g (lw_at lw_m2 24 rfl) rfl
theorem q417 : (Jvm.Cond.laysFinal "TinFen$Fen" "TinFen$Fen" "people" "[LTinFen$Person;") ∈ lw_all := lw_g (lw_at lw_m2 25 rfl) rfl
theorem q418 : (Jvm.Cond.soleField "TinFen$Fen" "people") ∈ lw_all := lw_g (lw_at lw_m2 26 rfl) rfl
theorem q419 : (Jvm.Cond.laysFinal "TinFen$Fen" "TinFen$Fen" "tins" "[LTinFen$Tin;") ∈ lw_all := lw_g (lw_at lw_m2 27 rfl) rfl
theorem q420 : (Jvm.Cond.soleField "TinFen$Fen" "tins") ∈ lw_all := lw_g (lw_at lw_m2 28 rfl) rfl
theorem q421 : (Jvm.Cond.lays "TinFen$Fen" "TinFen$Fen" "traitMany" "I") ∈ lw_all := lw_g (lw_at lw_m2 29 rfl) rfl
theorem q422 : (Jvm.Cond.soleField "TinFen$Fen" "traitMany") ∈ lw_all := lw_g (lw_at lw_m2 30 rfl) rfl
theorem q423 : (Jvm.Cond.lays "TinFen$Fen" "TinFen$Fen" "personMany" "I") ∈ lw_all := lw_g (lw_at lw_m2 31 rfl) rfl
theorem q424 : (Jvm.Cond.soleField "TinFen$Fen" "personMany") ∈ lw_all := lw_g (lw_at lw_m2 32 rfl) rfl
theorem q425 : (Jvm.Cond.lays "TinFen$Fen" "TinFen$Fen" "laneMany" "I") ∈ lw_all := lw_g (lw_at lw_m2 33 rfl) rfl
theorem q426 : (Jvm.Cond.soleField "TinFen$Fen" "laneMany") ∈ lw_all := lw_g (lw_at lw_m2 34 rfl) rfl
theorem q427 : (Jvm.Cond.lays "TinFen$Fen" "TinFen$Fen" "tinMany" "I") ∈ lw_all := lw_g (lw_at lw_m2 35 rfl) rfl
theorem q428 : (Jvm.Cond.soleField "TinFen$Fen" "tinMany") ∈ lw_all := lw_g (lw_at lw_m2 36 rfl) rfl
theorem q429 : (Jvm.Cond.lays "TinFen$Fen" "TinFen$Fen" "odds" "I") ∈ lw_all := lw_g (lw_at lw_m2 37 rfl) rfl
theorem q430 : (Jvm.Cond.soleField "TinFen$Fen" "odds") ∈ lw_all := lw_g (lw_at lw_m2 38 rfl) rfl
theorem q431 : (Jvm.Cond.lays "TinFen$Fen" "TinFen$Fen" "passes" "I") ∈ lw_all := lw_g (lw_at lw_m2 39 rfl) rfl
theorem q432 : (Jvm.Cond.soleField "TinFen$Fen" "passes") ∈ lw_all := lw_g (lw_at lw_m2 40 rfl) rfl
theorem q433 : (Jvm.Cond.superclass "TinFen$Fen" "java/lang/Object") ∈ lw_all := lw_g (lw_at lw_m2 41 rfl) rfl
theorem q829 : (Jvm.Cond.instanceMethod ({ cls := "TinFen$Fen", name := "isTaken", desc := "(J)Z" } : Jvm.MethodName)) ∈ lw_all := lw_g (lw_at lw_m3 197 rfl) rfl
theorem q830 : (Jvm.Cond.selects "TinFen$Fen" ({ cls := "TinFen$Fen", name := "isTaken", desc := "(J)Z" } : Jvm.MethodName) ({ cls := "TinFen$Fen", name := "isTaken", desc := "(J)Z" } : Jvm.MethodName)) ∈ lw_all := lw_g (lw_at lw_m3 198 rfl) rfl
theorem q831 : (Jvm.Cond.code ({ cls := "TinFen$Fen", name := "isTaken", desc := "(J)Z" } : Jvm.MethodName) prog_2_method_7_code (3 : Nat) (Option.some Jvm.ClassFile.FieldType.boolean)) ∈ lw_all := lw_g (lw_at lw_m3 199 rfl) rfl
theorem q832 : (Jvm.Cond.methodLink "TinFen$Fen" (79 : Nat) ({ cls := "TinFen$Fen", name := "trait", desc := "(J)I" } : Jvm.MethodName)) ∈ lw_all := lw_g (lw_at lw_m3 200 rfl) rfl
theorem q833 : (Jvm.Cond.instanceMethod ({ cls := "TinFen$Fen", name := "trait", desc := "(J)I" } : Jvm.MethodName)) ∈ lw_all := lw_g (lw_at lw_m3 201 rfl) rfl
theorem q834 : (Jvm.Cond.selects "TinFen$Fen" ({ cls := "TinFen$Fen", name := "trait", desc := "(J)I" } : Jvm.MethodName) ({ cls := "TinFen$Fen", name := "trait", desc := "(J)I" } : Jvm.MethodName)) ∈ lw_all := lw_g (lw_at lw_m3 202 rfl) rfl
theorem q835 : (Jvm.Cond.code ({ cls := "TinFen$Fen", name := "trait", desc := "(J)I" } : Jvm.MethodName) prog_2_method_4_code (4 : Nat) (Option.some Jvm.ClassFile.FieldType.int)) ∈ lw_all := lw_g (lw_at lw_m3 203 rfl) rfl
theorem q836 : (Jvm.Cond.methodLink "TinFen$Fen" (83 : Nat) ({ cls := "TinFen$Fen", name := "person", desc := "(J)I" } : Jvm.MethodName)) ∈ lw_all := lw_g (lw_at lw_m3 204 rfl) rfl
theorem q837 : (Jvm.Cond.instanceMethod ({ cls := "TinFen$Fen", name := "person", desc := "(J)I" } : Jvm.MethodName)) ∈ lw_all := lw_g (lw_at lw_m3 205 rfl) rfl
theorem q838 : (Jvm.Cond.selects "TinFen$Fen" ({ cls := "TinFen$Fen", name := "person", desc := "(J)I" } : Jvm.MethodName) ({ cls := "TinFen$Fen", name := "person", desc := "(J)I" } : Jvm.MethodName)) ∈ lw_all := lw_g (lw_at lw_m3 206 rfl) rfl
theorem q839 : (Jvm.Cond.code ({ cls := "TinFen$Fen", name := "person", desc := "(J)I" } : Jvm.MethodName) prog_2_method_5_code (4 : Nat) (Option.some Jvm.ClassFile.FieldType.int)) ∈ lw_all := lw_g (lw_at lw_m3 207 rfl) rfl
theorem q840 : (Jvm.Cond.methodLink "TinFen$Fen" (86 : Nat) ({ cls := "TinFen$Fen", name := "tin", desc := "(J)I" } : Jvm.MethodName)) ∈ lw_all := lw_g (lw_at lw_m3 208 rfl) rfl
theorem q841 : (Jvm.Cond.instanceMethod ({ cls := "TinFen$Fen", name := "tin", desc := "(J)I" } : Jvm.MethodName)) ∈ lw_all := lw_g (lw_at lw_m3 209 rfl) rfl
theorem q842 : (Jvm.Cond.selects "TinFen$Fen" ({ cls := "TinFen$Fen", name := "tin", desc := "(J)I" } : Jvm.MethodName) ({ cls := "TinFen$Fen", name := "tin", desc := "(J)I" } : Jvm.MethodName)) ∈ lw_all := lw_g (lw_at lw_m3 210 rfl) rfl
theorem q843 : (Jvm.Cond.code ({ cls := "TinFen$Fen", name := "tin", desc := "(J)I" } : Jvm.MethodName) prog_2_method_6_code (4 : Nat) (Option.some Jvm.ClassFile.FieldType.int)) ∈ lw_all := lw_g (lw_at lw_m3 211 rfl) rfl
theorem q859 : (Jvm.Cond.fieldLink "TinFen$Fen" (74 : Nat) "TinFen$Person" "name" "J") ∈ lw_all := lw_g (lw_at lw_m3 227 rfl) rfl
theorem q861 : (Jvm.Cond.fieldLinkNest "TinFen$Fen" (100 : Nat) "TinFen$Person" "isTrue" "I" "TinFen") ∈ lw_tbl := lw_at lw_m3 229 rfl
theorem q865 : (Jvm.Cond.fieldLinkNest "TinFen$Fen" (89 : Nat) "TinFen$Person" "meets" "I" "TinFen") ∈ lw_tbl := lw_at lw_m3 233 rfl
theorem q868 : (Jvm.Cond.fieldLinkNest "TinFen$Fen" (115 : Nat) "TinFen$Person" "got" "I" "TinFen") ∈ lw_tbl := lw_at lw_m3 236 rfl
theorem q913 : (Jvm.Cond.instanceMethod ({ cls := "TinFen$Fen", name := "meets", desc := "(II)V" } : Jvm.MethodName)) ∈ lw_all := lw_g (lw_at lw_m4 41 rfl) rfl
theorem q914 : (Jvm.Cond.selects "TinFen$Fen" ({ cls := "TinFen$Fen", name := "meets", desc := "(II)V" } : Jvm.MethodName) ({ cls := "TinFen$Fen", name := "meets", desc := "(II)V" } : Jvm.MethodName)) ∈ lw_all := lw_g (lw_at lw_m4 42 rfl) rfl
theorem q915 : (Jvm.Cond.code ({ cls := "TinFen$Fen", name := "meets", desc := "(II)V" } : Jvm.MethodName) prog_2_method_8_code (3 : Nat) (Option.none : Option Jvm.ClassFile.FieldType)) ∈ lw_all := lw_g (lw_at lw_m4 43 rfl) rfl
theorem q927 : (Jvm.Cond.fieldLink "TinFen$Fen" (78 : Nat) "TinFen$Tin" "name" "J") ∈ lw_all := lw_g (lw_at lw_m4 55 rfl) rfl
theorem q931 : (Jvm.Cond.fieldLinkNest "TinFen$Fen" (92 : Nat) "TinFen$Tin" "trait" "I" "TinFen") ∈ lw_tbl := lw_at lw_m4 59 rfl
theorem q936 : (Jvm.Cond.fieldLinkNest "TinFen$Fen" (94 : Nat) "TinFen$Tin" "on" "I" "TinFen") ∈ lw_tbl := lw_at lw_m4 64 rfl
theorem q939 : (Jvm.Cond.fieldLinkNest "TinFen$Fen" (97 : Nat) "TinFen$Tin" "held" "I" "TinFen") ∈ lw_tbl := lw_at lw_m4 67 rfl
theorem q942 : (Jvm.Cond.fieldLinkNest "TinFen$Fen" (125 : Nat) "TinFen$Tin" "passed" "I" "TinFen") ∈ lw_tbl := lw_at lw_m4 70 rfl
theorem q946 : (Jvm.Cond.fieldLinkNest "TinFen$Fen" (111 : Nat) "TinFen$Tin" "isFound" "Z" "TinFen") ∈ lw_tbl := lw_at lw_m4 74 rfl
theorem q964 : (Jvm.Cond.instanceMethod ({ cls := "TinFen$Fen", name := "strikes", desc := "(LTinFen$Tin;II)LTinFen$Tin;" } : Jvm.MethodName)) ∈ lw_all := lw_g (lw_at lw_m4 92 rfl) rfl
theorem q965 : (Jvm.Cond.selects "TinFen$Fen" ({ cls := "TinFen$Fen", name := "strikes", desc := "(LTinFen$Tin;II)LTinFen$Tin;" } : Jvm.MethodName) ({ cls := "TinFen$Fen", name := "strikes", desc := "(LTinFen$Tin;II)LTinFen$Tin;" } : Jvm.MethodName)) ∈ lw_all := lw_g (lw_at lw_m4 93 rfl) rfl
theorem q966 : (Jvm.Cond.code ({ cls := "TinFen$Fen", name := "strikes", desc := "(LTinFen$Tin;II)LTinFen$Tin;" } : Jvm.MethodName) prog_2_method_9_code (4 : Nat) (Option.some (Jvm.ClassFile.FieldType.object "TinFen$Tin"))) ∈ lw_all := lw_g (lw_at lw_m4 94 rfl) rfl
theorem q1060 : (Jvm.Cond.instanceMethod ({ cls := "TinFen$Fen", name := "tinsOn", desc := "(I)I" } : Jvm.MethodName)) ∈ lw_all := lw_g (lw_at lw_m4 188 rfl) rfl
theorem q1061 : (Jvm.Cond.selects "TinFen$Fen" ({ cls := "TinFen$Fen", name := "tinsOn", desc := "(I)I" } : Jvm.MethodName) ({ cls := "TinFen$Fen", name := "tinsOn", desc := "(I)I" } : Jvm.MethodName)) ∈ lw_all := lw_g (lw_at lw_m4 189 rfl) rfl
theorem q1062 : (Jvm.Cond.code ({ cls := "TinFen$Fen", name := "tinsOn", desc := "(I)I" } : Jvm.MethodName) prog_2_method_12_code (4 : Nat) (Option.some Jvm.ClassFile.FieldType.int)) ∈ lw_all := lw_g (lw_at lw_m4 190 rfl) rfl
theorem q1064 : (Jvm.Cond.instanceMethod ({ cls := "TinFen$Fen", name := "found", desc := "()I" } : Jvm.MethodName)) ∈ lw_all := lw_g (lw_at lw_m4 192 rfl) rfl
theorem q1065 : (Jvm.Cond.selects "TinFen$Fen" ({ cls := "TinFen$Fen", name := "found", desc := "()I" } : Jvm.MethodName) ({ cls := "TinFen$Fen", name := "found", desc := "()I" } : Jvm.MethodName)) ∈ lw_all := lw_g (lw_at lw_m4 193 rfl) rfl
theorem q1066 : (Jvm.Cond.code ({ cls := "TinFen$Fen", name := "found", desc := "()I" } : Jvm.MethodName) prog_2_method_13_code (3 : Nat) (Option.some Jvm.ClassFile.FieldType.int)) ∈ lw_all := lw_g (lw_at lw_m4 194 rfl) rfl
theorem q1076 : (Jvm.Cond.instanceMethod ({ cls := "TinFen$Fen", name := "worthOf", desc := "(I)I" } : Jvm.MethodName)) ∈ lw_all := lw_g (lw_at lw_m4 204 rfl) rfl
theorem q1077 : (Jvm.Cond.selects "TinFen$Fen" ({ cls := "TinFen$Fen", name := "worthOf", desc := "(I)I" } : Jvm.MethodName) ({ cls := "TinFen$Fen", name := "worthOf", desc := "(I)I" } : Jvm.MethodName)) ∈ lw_all := lw_g (lw_at lw_m4 205 rfl) rfl
theorem q1078 : (Jvm.Cond.code ({ cls := "TinFen$Fen", name := "worthOf", desc := "(I)I" } : Jvm.MethodName) prog_2_method_14_code (4 : Nat) (Option.some Jvm.ClassFile.FieldType.int)) ∈ lw_all := lw_g (lw_at lw_m4 206 rfl) rfl
theorem q1079 : (Jvm.Cond.methodLinkNest "TinFen$Fen" (103 : Nat) ({ cls := "TinFen", name := "isIn", desc := "(II)Z" } : Jvm.MethodName) "TinFen") ∈ lw_tbl := lw_at lw_m4 207 rfl
theorem q1121 : (Jvm.Cond.instanceMethod ({ cls := "TinFen$Fen", name := "passes", desc := "(II)Z" } : Jvm.MethodName)) ∈ lw_all := lw_g (lw_at lw_m5 9 rfl) rfl
theorem q1122 : (Jvm.Cond.selects "TinFen$Fen" ({ cls := "TinFen$Fen", name := "passes", desc := "(II)Z" } : Jvm.MethodName) ({ cls := "TinFen$Fen", name := "passes", desc := "(II)Z" } : Jvm.MethodName)) ∈ lw_all := lw_g (lw_at lw_m5 10 rfl) rfl
theorem q1123 : (Jvm.Cond.code ({ cls := "TinFen$Fen", name := "passes", desc := "(II)Z" } : Jvm.MethodName) prog_2_method_17_code (4 : Nat) (Option.some Jvm.ClassFile.FieldType.boolean)) ∈ lw_all := lw_g (lw_at lw_m5 11 rfl) rfl
theorem q1124 : (Jvm.Cond.methodLink "TinFen$Fen" (122 : Nat) ({ cls := "TinFen$Fen", name := "canPass", desc := "(II)Z" } : Jvm.MethodName)) ∈ lw_all := lw_g (lw_at lw_m5 12 rfl) rfl
theorem q1125 : (Jvm.Cond.instanceMethod ({ cls := "TinFen$Fen", name := "canPass", desc := "(II)Z" } : Jvm.MethodName)) ∈ lw_all := lw_g (lw_at lw_m5 13 rfl) rfl
theorem q1126 : (Jvm.Cond.selects "TinFen$Fen" ({ cls := "TinFen$Fen", name := "canPass", desc := "(II)Z" } : Jvm.MethodName) ({ cls := "TinFen$Fen", name := "canPass", desc := "(II)Z" } : Jvm.MethodName)) ∈ lw_all := lw_g (lw_at lw_m5 14 rfl) rfl
theorem q1127 : (Jvm.Cond.code ({ cls := "TinFen$Fen", name := "canPass", desc := "(II)Z" } : Jvm.MethodName) prog_2_method_16_code (3 : Nat) (Option.some Jvm.ClassFile.FieldType.boolean)) ∈ lw_all := lw_g (lw_at lw_m5 15 rfl) rfl
theorem q1128 : (Jvm.Cond.methodLink "TinFen$Fen" (118 : Nat) ({ cls := "TinFen$Fen", name := "nextOf", desc := "(II)I" } : Jvm.MethodName)) ∈ lw_all := lw_g (lw_at lw_m5 16 rfl) rfl
theorem q1129 : (Jvm.Cond.instanceMethod ({ cls := "TinFen$Fen", name := "nextOf", desc := "(II)I" } : Jvm.MethodName)) ∈ lw_all := lw_g (lw_at lw_m5 17 rfl) rfl
theorem q1130 : (Jvm.Cond.selects "TinFen$Fen" ({ cls := "TinFen$Fen", name := "nextOf", desc := "(II)I" } : Jvm.MethodName) ({ cls := "TinFen$Fen", name := "nextOf", desc := "(II)I" } : Jvm.MethodName)) ∈ lw_all := lw_g (lw_at lw_m5 18 rfl) rfl
theorem q1131 : (Jvm.Cond.code ({ cls := "TinFen$Fen", name := "nextOf", desc := "(II)I" } : Jvm.MethodName) prog_2_method_11_code (3 : Nat) (Option.some Jvm.ClassFile.FieldType.int)) ∈ lw_all := lw_g (lw_at lw_m5 19 rfl) rfl
theorem q1132 : (Jvm.Cond.methodLink "TinFen$Fen" (107 : Nat) ({ cls := "TinFen$Fen", name := "trueOf", desc := "(I)I" } : Jvm.MethodName)) ∈ lw_all := lw_g (lw_at lw_m5 20 rfl) rfl
theorem q1133 : (Jvm.Cond.instanceMethod ({ cls := "TinFen$Fen", name := "trueOf", desc := "(I)I" } : Jvm.MethodName)) ∈ lw_all := lw_g (lw_at lw_m5 21 rfl) rfl
theorem q1134 : (Jvm.Cond.selects "TinFen$Fen" ({ cls := "TinFen$Fen", name := "trueOf", desc := "(I)I" } : Jvm.MethodName) ({ cls := "TinFen$Fen", name := "trueOf", desc := "(I)I" } : Jvm.MethodName)) ∈ lw_all := lw_g (lw_at lw_m5 22 rfl) rfl
theorem q1135 : (Jvm.Cond.code ({ cls := "TinFen$Fen", name := "trueOf", desc := "(I)I" } : Jvm.MethodName) prog_2_method_10_code (4 : Nat) (Option.some Jvm.ClassFile.FieldType.int)) ∈ lw_all := lw_g (lw_at lw_m5 23 rfl) rfl
theorem q1171 : (Jvm.Cond.instanceMethod ({ cls := "TinFen$Fen", name := "teaches", desc := "(IIZ)Z" } : Jvm.MethodName)) ∈ lw_all := lw_g (lw_at lw_m5 59 rfl) rfl
theorem q1172 : (Jvm.Cond.selects "TinFen$Fen" ({ cls := "TinFen$Fen", name := "teaches", desc := "(IIZ)Z" } : Jvm.MethodName) ({ cls := "TinFen$Fen", name := "teaches", desc := "(IIZ)Z" } : Jvm.MethodName)) ∈ lw_all := lw_g (lw_at lw_m5 60 rfl) rfl
theorem q1173 : (Jvm.Cond.code ({ cls := "TinFen$Fen", name := "teaches", desc := "(IIZ)Z" } : Jvm.MethodName) prog_2_method_18_code (5 : Nat) (Option.some Jvm.ClassFile.FieldType.boolean)) ∈ lw_all := lw_g (lw_at lw_m5 61 rfl) rfl
theorem q1351 : (Jvm.Cond.instanceMethod ({ cls := "TinFen$Fen", name := "twin", desc := "()LTinFen$Fen;" } : Jvm.MethodName)) ∈ lw_all := lw_g (lw_at lw_m5 239 rfl) rfl
theorem q1352 : (Jvm.Cond.selects "TinFen$Fen" ({ cls := "TinFen$Fen", name := "twin", desc := "()LTinFen$Fen;" } : Jvm.MethodName) ({ cls := "TinFen$Fen", name := "twin", desc := "()LTinFen$Fen;" } : Jvm.MethodName)) ∈ lw_all := lw_g (lw_at lw_m6 0 rfl) rfl
theorem q1353 : (Jvm.Cond.code ({ cls := "TinFen$Fen", name := "twin", desc := "()LTinFen$Fen;" } : Jvm.MethodName) prog_2_method_2_code (3 : Nat) (Option.some (Jvm.ClassFile.FieldType.object "TinFen$Fen"))) ∈ lw_all := lw_g (lw_at lw_m6 1 rfl) rfl
theorem q1354 : (Jvm.Cond.classLink "TinFen$Fen" (10 : Nat) "TinFen$Fen") ∈ lw_all := lw_g (lw_at lw_m6 2 rfl) rfl
theorem q1355 : (Jvm.Cond.methodLink "TinFen$Fen" (35 : Nat) ({ cls := "TinFen$Fen", name := "<init>", desc := "()V" } : Jvm.MethodName)) ∈ lw_all := lw_g (lw_at lw_m6 3 rfl) rfl
theorem q1356 : (Jvm.Cond.methodLink "TinFen$Fen" (36 : Nat) ({ cls := "java/lang/System", name := "arraycopy", desc := "(Ljava/lang/Object;ILjava/lang/Object;II)V" } : Jvm.MethodName)) ∈ lw_all := lw_g (lw_at lw_m6 4 rfl) rfl
theorem q1357 : (Jvm.Cond.methodLink "TinFen$Fen" (45 : Nat) ({ cls := "TinFen$Person", name := "twin", desc := "()LTinFen$Person;" } : Jvm.MethodName)) ∈ lw_all := lw_g (lw_at lw_m6 5 rfl) rfl
theorem q1367 : (Jvm.Cond.methodLink "TinFen$Fen" (52 : Nat) ({ cls := "TinFen$Tin", name := "twin", desc := "()LTinFen$Tin;" } : Jvm.MethodName)) ∈ lw_all := lw_g (lw_at lw_m6 15 rfl) rfl
theorem q1377 : (Jvm.Cond.methodLink "TinFen$Fen" (58 : Nat) ({ cls := "TinFen$Fen", name := "takes", desc := "(LTinFen$Fen;)LTinFen$Fen;" } : Jvm.MethodName)) ∈ lw_all := lw_g (lw_at lw_m6 25 rfl) rfl
theorem q1378 : (Jvm.Cond.instanceMethod ({ cls := "TinFen$Fen", name := "takes", desc := "(LTinFen$Fen;)LTinFen$Fen;" } : Jvm.MethodName)) ∈ lw_all := lw_g (lw_at lw_m6 26 rfl) rfl
theorem q1379 : (Jvm.Cond.selects "TinFen$Fen" ({ cls := "TinFen$Fen", name := "takes", desc := "(LTinFen$Fen;)LTinFen$Fen;" } : Jvm.MethodName) ({ cls := "TinFen$Fen", name := "takes", desc := "(LTinFen$Fen;)LTinFen$Fen;" } : Jvm.MethodName)) ∈ lw_all := lw_g (lw_at lw_m6 27 rfl) rfl
theorem q1380 : (Jvm.Cond.code ({ cls := "TinFen$Fen", name := "takes", desc := "(LTinFen$Fen;)LTinFen$Fen;" } : Jvm.MethodName) prog_2_method_3_code (3 : Nat) (Option.some (Jvm.ClassFile.FieldType.object "TinFen$Fen"))) ∈ lw_all := lw_g (lw_at lw_m6 28 rfl) rfl
theorem q1381 : (Jvm.Cond.methodLink "TinFen$Fen" (62 : Nat) ({ cls := "TinFen$Person", name := "takes", desc := "(LTinFen$Person;)LTinFen$Person;" } : Jvm.MethodName)) ∈ lw_all := lw_g (lw_at lw_m6 29 rfl) rfl
theorem q1382 : (Jvm.Cond.methodLink "TinFen$Fen" (65 : Nat) ({ cls := "TinFen$Tin", name := "takes", desc := "(LTinFen$Tin;)LTinFen$Tin;" } : Jvm.MethodName)) ∈ lw_all := lw_g (lw_at lw_m6 30 rfl) rfl
theorem q1416 : (Jvm.Cond.instanceMethod ({ cls := "TinFen$Fen", name := "allGot", desc := "()I" } : Jvm.MethodName)) ∈ lw_all := lw_g (lw_at lw_m6 64 rfl) rfl
theorem q1417 : (Jvm.Cond.selects "TinFen$Fen" ({ cls := "TinFen$Fen", name := "allGot", desc := "()I" } : Jvm.MethodName) ({ cls := "TinFen$Fen", name := "allGot", desc := "()I" } : Jvm.MethodName)) ∈ lw_all := lw_g (lw_at lw_m6 65 rfl) rfl
theorem q1418 : (Jvm.Cond.code ({ cls := "TinFen$Fen", name := "allGot", desc := "()I" } : Jvm.MethodName) prog_2_method_15_code (3 : Nat) (Option.some Jvm.ClassFile.FieldType.int)) ∈ lw_all := lw_g (lw_at lw_m6 66 rfl) rfl
theorem in_X6 : ∀ w ∈ wsX60, w ∈ lw_all := lw_in wsX60 [413, 415, 417, 419, 421, 423, 425, 427, 429, 431] (by decide +kernel) (by decide +kernel)

/-! TinFen$Tray -/
set_option maxRecDepth 100000
def RX7 : String := "TinFen$Tray"
def TX7 : u_T := fun k => match k with
  | 0 => ("TinFen$Tray", "row", "Ljava/lang/Object;", false)
  | _ => ("TinFen$Tray", "sort", "I", false)
def tyX7 : Nat → FieldType := fun k => match k with
  | 0 => .object "java/lang/Object"
  | _ => .int
abbrev wsX70 : List Cond := u_ws RX7 TX7 2
theorem nmX7 : ∀ a, a < 2 → ∀ b, b < 2 → a ≠ b → (TX7 a).2.1 ≠ (TX7 b).2.1 := by decide +kernel
theorem tyX7_ok : ∀ k, k < 2 → parseFieldDescriptor (TX7 k).2.2.1 = some (tyX7 k) := by decide +kernel
abbrev cX7_init : ByteArray := prog_11_method_1_code
def yX7_init : MethodName := ⟨RX7, "<init>", "()V"⟩
theorem dX7_init_0 : decode cX7_init 0 = .ok (.aload_n 0, 1) := by decide +kernel
theorem dX7_init_1 : decode cX7_init 1 = .ok (.invokespecial 1, 3) := by decide +kernel
theorem dX7_init_4 : decode cX7_init 4 = .ok (.return_, 1) := by decide +kernel
abbrev cX7_make : ByteArray := prog_11_method_2_code
def yX7_make : MethodName := ⟨RX7, "make", "(II)V"⟩
def dkwX7_make_1 : List UInt8 := [160, 0, 9, 28, 188, 10, 167, 0, 6, 28, 188, 11, 78, 42, 45, 181, 0, 7, 42, 27, 181, 0, 13, 177]
abbrev dktX7_make_1 : List UInt8 := dkwX7_make_1 ++ []
def dkwX7_make_0 : List UInt8 := [27, 154, 0, 9, 28, 188, 8, 167, 0, 28, 27, 4, 160, 0, 9, 28, 188, 9, 167, 0, 17, 27, 5]
abbrev dktX7_make_0 : List UInt8 := dkwX7_make_0 ++ dktX7_make_1
theorem dksX7_make_0 : cX7_make.data.toList.drop 0 = dktX7_make_0 := by decide +kernel
theorem dksX7_make_1 : cX7_make.data.toList.drop 23 = dktX7_make_1 := dk_seg dksX7_make_0 23 rfl rfl
theorem dX7_make_0 : decode cX7_make 0 = .ok (.iload_n 1, 1) := dk_27 (dk_at dksX7_make_0 0 rfl rfl)
theorem dX7_make_1 : decode cX7_make 1 = .ok (.ifCond .ne 9, 3) := dk_154 0 9 (dk_at dksX7_make_0 1 rfl rfl)
theorem dX7_make_4 : decode cX7_make 4 = .ok (.iload_n 2, 1) := dk_28 (dk_at dksX7_make_0 4 rfl rfl)
theorem dX7_make_5 : decode cX7_make 5 = .ok (.newarray .byte, 2) := dk_188_8 (dk_at dksX7_make_0 5 rfl rfl)
theorem dX7_make_7 : decode cX7_make 7 = .ok (.goto 28, 3) := dk_167 0 28 (dk_at dksX7_make_0 7 rfl rfl)
theorem dX7_make_10 : decode cX7_make 10 = .ok (.iload_n 1, 1) := dk_27 (dk_at dksX7_make_0 10 rfl rfl)
theorem dX7_make_11 : decode cX7_make 11 = .ok (.iconst 1, 1) := dk_4 (dk_at dksX7_make_0 11 rfl rfl)
theorem dX7_make_12 : decode cX7_make 12 = .ok (.if_icmp .ne 9, 3) := dk_160 0 9 (dk_at dksX7_make_0 12 rfl rfl)
theorem dX7_make_15 : decode cX7_make 15 = .ok (.iload_n 2, 1) := dk_28 (dk_at dksX7_make_0 15 rfl rfl)
theorem dX7_make_16 : decode cX7_make 16 = .ok (.newarray .short, 2) := dk_188_9 (dk_at dksX7_make_0 16 rfl rfl)
theorem dX7_make_18 : decode cX7_make 18 = .ok (.goto 17, 3) := dk_167 0 17 (dk_at dksX7_make_0 18 rfl rfl)
theorem dX7_make_21 : decode cX7_make 21 = .ok (.iload_n 1, 1) := dk_27 (dk_at dksX7_make_0 21 rfl rfl)
theorem dX7_make_22 : decode cX7_make 22 = .ok (.iconst 2, 1) := dk_5 (dk_at dksX7_make_0 22 rfl rfl)
theorem dX7_make_23 : decode cX7_make 23 = .ok (.if_icmp .ne 9, 3) := dk_160 0 9 (dk_at dksX7_make_1 0 rfl rfl)
theorem dX7_make_26 : decode cX7_make 26 = .ok (.iload_n 2, 1) := dk_28 (dk_at dksX7_make_1 3 rfl rfl)
theorem dX7_make_27 : decode cX7_make 27 = .ok (.newarray .int, 2) := dk_188_10 (dk_at dksX7_make_1 4 rfl rfl)
theorem dX7_make_29 : decode cX7_make 29 = .ok (.goto 6, 3) := dk_167 0 6 (dk_at dksX7_make_1 6 rfl rfl)
theorem dX7_make_32 : decode cX7_make 32 = .ok (.iload_n 2, 1) := dk_28 (dk_at dksX7_make_1 9 rfl rfl)
theorem dX7_make_33 : decode cX7_make 33 = .ok (.newarray .long, 2) := dk_188_11 (dk_at dksX7_make_1 10 rfl rfl)
theorem dX7_make_35 : decode cX7_make 35 = .ok (.astore_n 3, 1) := dk_78 (dk_at dksX7_make_1 12 rfl rfl)
theorem dX7_make_36 : decode cX7_make 36 = .ok (.aload_n 0, 1) := dk_42 (dk_at dksX7_make_1 13 rfl rfl)
theorem dX7_make_37 : decode cX7_make 37 = .ok (.aload_n 3, 1) := dk_45 (dk_at dksX7_make_1 14 rfl rfl)
theorem dX7_make_38 : decode cX7_make 38 = .ok (.putfield 7, 3) := dk_181 0 7 (dk_at dksX7_make_1 15 rfl rfl)
theorem dX7_make_41 : decode cX7_make 41 = .ok (.aload_n 0, 1) := dk_42 (dk_at dksX7_make_1 18 rfl rfl)
theorem dX7_make_42 : decode cX7_make 42 = .ok (.iload_n 1, 1) := dk_27 (dk_at dksX7_make_1 19 rfl rfl)
theorem dX7_make_43 : decode cX7_make 43 = .ok (.putfield 13, 3) := dk_181 0 13 (dk_at dksX7_make_1 20 rfl rfl)
theorem dX7_make_46 : decode cX7_make 46 = .ok (.return_, 1) := dk_177 (dk_at dksX7_make_1 23 rfl rfl)
abbrev cX7_set : ByteArray := prog_11_method_5_code
def yX7_set : MethodName := ⟨RX7, "set", "(IJ)V"⟩
def dkwX7_set_3 : List UInt8 := [180, 0, 7, 192, 0, 23, 27, 32, 80, 177]
abbrev dktX7_set_3 : List UInt8 := dkwX7_set_3 ++ []
def dkwX7_set_2 : List UInt8 := [180, 0, 13, 5, 160, 0, 17, 42, 180, 0, 7, 192, 0, 21, 27, 32, 136, 79, 167, 0, 13, 42]
abbrev dktX7_set_2 : List UInt8 := dkwX7_set_2 ++ dktX7_set_3
def dkwX7_set_1 : List UInt8 := [180, 0, 13, 4, 160, 0, 18, 42, 180, 0, 7, 192, 0, 19, 27, 32, 136, 147, 86, 167, 0, 35, 42]
abbrev dktX7_set_1 : List UInt8 := dkwX7_set_1 ++ dktX7_set_2
def dkwX7_set_0 : List UInt8 := [42, 180, 0, 13, 154, 0, 18, 42, 180, 0, 7, 192, 0, 17, 27, 32, 136, 145, 84, 167, 0, 58, 42]
abbrev dktX7_set_0 : List UInt8 := dkwX7_set_0 ++ dktX7_set_1
theorem dksX7_set_0 : cX7_set.data.toList.drop 0 = dktX7_set_0 := by decide +kernel
theorem dksX7_set_1 : cX7_set.data.toList.drop 23 = dktX7_set_1 := dk_seg dksX7_set_0 23 rfl rfl
theorem dksX7_set_2 : cX7_set.data.toList.drop 46 = dktX7_set_2 := dk_seg dksX7_set_1 23 rfl rfl
theorem dksX7_set_3 : cX7_set.data.toList.drop 68 = dktX7_set_3 := dk_seg dksX7_set_2 22 rfl rfl
theorem dX7_set_0 : decode cX7_set 0 = .ok (.aload_n 0, 1) := dk_42 (dk_at dksX7_set_0 0 rfl rfl)
theorem dX7_set_1 : decode cX7_set 1 = .ok (.getfield 13, 3) := dk_180 0 13 (dk_at dksX7_set_0 1 rfl rfl)
theorem dX7_set_4 : decode cX7_set 4 = .ok (.ifCond .ne 18, 3) := dk_154 0 18 (dk_at dksX7_set_0 4 rfl rfl)
theorem dX7_set_7 : decode cX7_set 7 = .ok (.aload_n 0, 1) := dk_42 (dk_at dksX7_set_0 7 rfl rfl)
theorem dX7_set_8 : decode cX7_set 8 = .ok (.getfield 7, 3) := dk_180 0 7 (dk_at dksX7_set_0 8 rfl rfl)
theorem dX7_set_11 : decode cX7_set 11 = .ok (.checkcast 17, 3) := dk_192 0 17 (dk_at dksX7_set_0 11 rfl rfl)
theorem dX7_set_14 : decode cX7_set 14 = .ok (.iload_n 1, 1) := dk_27 (dk_at dksX7_set_0 14 rfl rfl)
theorem dX7_set_15 : decode cX7_set 15 = .ok (.lload_n 2, 1) := dk_32 (dk_at dksX7_set_0 15 rfl rfl)
theorem dX7_set_16 : decode cX7_set 16 = .ok (.l2i, 1) := dk_136 (dk_at dksX7_set_0 16 rfl rfl)
theorem dX7_set_17 : decode cX7_set 17 = .ok (.i2b, 1) := dk_145 (dk_at dksX7_set_0 17 rfl rfl)
theorem dX7_set_18 : decode cX7_set 18 = .ok (.bastore, 1) := dk_84 (dk_at dksX7_set_0 18 rfl rfl)
theorem dX7_set_19 : decode cX7_set 19 = .ok (.goto 58, 3) := dk_167 0 58 (dk_at dksX7_set_0 19 rfl rfl)
theorem dX7_set_22 : decode cX7_set 22 = .ok (.aload_n 0, 1) := dk_42 (dk_at dksX7_set_0 22 rfl rfl)
theorem dX7_set_23 : decode cX7_set 23 = .ok (.getfield 13, 3) := dk_180 0 13 (dk_at dksX7_set_1 0 rfl rfl)
theorem dX7_set_26 : decode cX7_set 26 = .ok (.iconst 1, 1) := dk_4 (dk_at dksX7_set_1 3 rfl rfl)
theorem dX7_set_27 : decode cX7_set 27 = .ok (.if_icmp .ne 18, 3) := dk_160 0 18 (dk_at dksX7_set_1 4 rfl rfl)
theorem dX7_set_30 : decode cX7_set 30 = .ok (.aload_n 0, 1) := dk_42 (dk_at dksX7_set_1 7 rfl rfl)
theorem dX7_set_31 : decode cX7_set 31 = .ok (.getfield 7, 3) := dk_180 0 7 (dk_at dksX7_set_1 8 rfl rfl)
theorem dX7_set_34 : decode cX7_set 34 = .ok (.checkcast 19, 3) := dk_192 0 19 (dk_at dksX7_set_1 11 rfl rfl)
theorem dX7_set_37 : decode cX7_set 37 = .ok (.iload_n 1, 1) := dk_27 (dk_at dksX7_set_1 14 rfl rfl)
theorem dX7_set_38 : decode cX7_set 38 = .ok (.lload_n 2, 1) := dk_32 (dk_at dksX7_set_1 15 rfl rfl)
theorem dX7_set_39 : decode cX7_set 39 = .ok (.l2i, 1) := dk_136 (dk_at dksX7_set_1 16 rfl rfl)
theorem dX7_set_40 : decode cX7_set 40 = .ok (.i2s, 1) := dk_147 (dk_at dksX7_set_1 17 rfl rfl)
theorem dX7_set_41 : decode cX7_set 41 = .ok (.sastore, 1) := dk_86 (dk_at dksX7_set_1 18 rfl rfl)
theorem dX7_set_42 : decode cX7_set 42 = .ok (.goto 35, 3) := dk_167 0 35 (dk_at dksX7_set_1 19 rfl rfl)
theorem dX7_set_45 : decode cX7_set 45 = .ok (.aload_n 0, 1) := dk_42 (dk_at dksX7_set_1 22 rfl rfl)
theorem dX7_set_46 : decode cX7_set 46 = .ok (.getfield 13, 3) := dk_180 0 13 (dk_at dksX7_set_2 0 rfl rfl)
theorem dX7_set_49 : decode cX7_set 49 = .ok (.iconst 2, 1) := dk_5 (dk_at dksX7_set_2 3 rfl rfl)
theorem dX7_set_50 : decode cX7_set 50 = .ok (.if_icmp .ne 17, 3) := dk_160 0 17 (dk_at dksX7_set_2 4 rfl rfl)
theorem dX7_set_53 : decode cX7_set 53 = .ok (.aload_n 0, 1) := dk_42 (dk_at dksX7_set_2 7 rfl rfl)
theorem dX7_set_54 : decode cX7_set 54 = .ok (.getfield 7, 3) := dk_180 0 7 (dk_at dksX7_set_2 8 rfl rfl)
theorem dX7_set_57 : decode cX7_set 57 = .ok (.checkcast 21, 3) := dk_192 0 21 (dk_at dksX7_set_2 11 rfl rfl)
theorem dX7_set_60 : decode cX7_set 60 = .ok (.iload_n 1, 1) := dk_27 (dk_at dksX7_set_2 14 rfl rfl)
theorem dX7_set_61 : decode cX7_set 61 = .ok (.lload_n 2, 1) := dk_32 (dk_at dksX7_set_2 15 rfl rfl)
theorem dX7_set_62 : decode cX7_set 62 = .ok (.l2i, 1) := dk_136 (dk_at dksX7_set_2 16 rfl rfl)
theorem dX7_set_63 : decode cX7_set 63 = .ok (.iastore, 1) := dk_79 (dk_at dksX7_set_2 17 rfl rfl)
theorem dX7_set_64 : decode cX7_set 64 = .ok (.goto 13, 3) := dk_167 0 13 (dk_at dksX7_set_2 18 rfl rfl)
theorem dX7_set_67 : decode cX7_set 67 = .ok (.aload_n 0, 1) := dk_42 (dk_at dksX7_set_2 21 rfl rfl)
theorem dX7_set_68 : decode cX7_set 68 = .ok (.getfield 7, 3) := dk_180 0 7 (dk_at dksX7_set_3 0 rfl rfl)
theorem dX7_set_71 : decode cX7_set 71 = .ok (.checkcast 23, 3) := dk_192 0 23 (dk_at dksX7_set_3 3 rfl rfl)
theorem dX7_set_74 : decode cX7_set 74 = .ok (.iload_n 1, 1) := dk_27 (dk_at dksX7_set_3 6 rfl rfl)
theorem dX7_set_75 : decode cX7_set 75 = .ok (.lload_n 2, 1) := dk_32 (dk_at dksX7_set_3 7 rfl rfl)
theorem dX7_set_76 : decode cX7_set 76 = .ok (.lastore, 1) := dk_80 (dk_at dksX7_set_3 8 rfl rfl)
theorem dX7_set_77 : decode cX7_set 77 = .ok (.return_, 1) := dk_177 (dk_at dksX7_set_3 9 rfl rfl)
abbrev cX7_get : ByteArray := prog_11_method_4_code
def yX7_get : MethodName := ⟨RX7, "get", "(I)J"⟩
def dkwX7_get_3 : List UInt8 := [47, 173]
abbrev dktX7_get_3 : List UInt8 := dkwX7_get_3 ++ []
def dkwX7_get_2 : List UInt8 := [160, 0, 16, 42, 180, 0, 7, 192, 0, 21, 27, 46, 133, 167, 0, 12, 42, 180, 0, 7, 192, 0, 23, 27]
abbrev dktX7_get_2 : List UInt8 := dkwX7_get_2 ++ dktX7_get_3
def dkwX7_get_1 : List UInt8 := [4, 160, 0, 16, 42, 180, 0, 7, 192, 0, 19, 27, 53, 133, 167, 0, 33, 42, 180, 0, 13, 5]
abbrev dktX7_get_1 : List UInt8 := dkwX7_get_1 ++ dktX7_get_2
def dkwX7_get_0 : List UInt8 := [42, 180, 0, 13, 154, 0, 16, 42, 180, 0, 7, 192, 0, 17, 27, 51, 133, 167, 0, 54, 42, 180, 0, 13]
abbrev dktX7_get_0 : List UInt8 := dkwX7_get_0 ++ dktX7_get_1
theorem dksX7_get_0 : cX7_get.data.toList.drop 0 = dktX7_get_0 := by decide +kernel
theorem dksX7_get_1 : cX7_get.data.toList.drop 24 = dktX7_get_1 := dk_seg dksX7_get_0 24 rfl rfl
theorem dksX7_get_2 : cX7_get.data.toList.drop 46 = dktX7_get_2 := dk_seg dksX7_get_1 22 rfl rfl
theorem dksX7_get_3 : cX7_get.data.toList.drop 70 = dktX7_get_3 := dk_seg dksX7_get_2 24 rfl rfl
theorem dX7_get_0 : decode cX7_get 0 = .ok (.aload_n 0, 1) := dk_42 (dk_at dksX7_get_0 0 rfl rfl)
theorem dX7_get_1 : decode cX7_get 1 = .ok (.getfield 13, 3) := dk_180 0 13 (dk_at dksX7_get_0 1 rfl rfl)
theorem dX7_get_4 : decode cX7_get 4 = .ok (.ifCond .ne 16, 3) := dk_154 0 16 (dk_at dksX7_get_0 4 rfl rfl)
theorem dX7_get_7 : decode cX7_get 7 = .ok (.aload_n 0, 1) := dk_42 (dk_at dksX7_get_0 7 rfl rfl)
theorem dX7_get_8 : decode cX7_get 8 = .ok (.getfield 7, 3) := dk_180 0 7 (dk_at dksX7_get_0 8 rfl rfl)
theorem dX7_get_11 : decode cX7_get 11 = .ok (.checkcast 17, 3) := dk_192 0 17 (dk_at dksX7_get_0 11 rfl rfl)
theorem dX7_get_14 : decode cX7_get 14 = .ok (.iload_n 1, 1) := dk_27 (dk_at dksX7_get_0 14 rfl rfl)
theorem dX7_get_15 : decode cX7_get 15 = .ok (.baload, 1) := dk_51 (dk_at dksX7_get_0 15 rfl rfl)
theorem dX7_get_16 : decode cX7_get 16 = .ok (.i2l, 1) := dk_133 (dk_at dksX7_get_0 16 rfl rfl)
theorem dX7_get_17 : decode cX7_get 17 = .ok (.goto 54, 3) := dk_167 0 54 (dk_at dksX7_get_0 17 rfl rfl)
theorem dX7_get_20 : decode cX7_get 20 = .ok (.aload_n 0, 1) := dk_42 (dk_at dksX7_get_0 20 rfl rfl)
theorem dX7_get_21 : decode cX7_get 21 = .ok (.getfield 13, 3) := dk_180 0 13 (dk_at dksX7_get_0 21 rfl rfl)
theorem dX7_get_24 : decode cX7_get 24 = .ok (.iconst 1, 1) := dk_4 (dk_at dksX7_get_1 0 rfl rfl)
theorem dX7_get_25 : decode cX7_get 25 = .ok (.if_icmp .ne 16, 3) := dk_160 0 16 (dk_at dksX7_get_1 1 rfl rfl)
theorem dX7_get_28 : decode cX7_get 28 = .ok (.aload_n 0, 1) := dk_42 (dk_at dksX7_get_1 4 rfl rfl)
theorem dX7_get_29 : decode cX7_get 29 = .ok (.getfield 7, 3) := dk_180 0 7 (dk_at dksX7_get_1 5 rfl rfl)
theorem dX7_get_32 : decode cX7_get 32 = .ok (.checkcast 19, 3) := dk_192 0 19 (dk_at dksX7_get_1 8 rfl rfl)
theorem dX7_get_35 : decode cX7_get 35 = .ok (.iload_n 1, 1) := dk_27 (dk_at dksX7_get_1 11 rfl rfl)
theorem dX7_get_36 : decode cX7_get 36 = .ok (.saload, 1) := dk_53 (dk_at dksX7_get_1 12 rfl rfl)
theorem dX7_get_37 : decode cX7_get 37 = .ok (.i2l, 1) := dk_133 (dk_at dksX7_get_1 13 rfl rfl)
theorem dX7_get_38 : decode cX7_get 38 = .ok (.goto 33, 3) := dk_167 0 33 (dk_at dksX7_get_1 14 rfl rfl)
theorem dX7_get_41 : decode cX7_get 41 = .ok (.aload_n 0, 1) := dk_42 (dk_at dksX7_get_1 17 rfl rfl)
theorem dX7_get_42 : decode cX7_get 42 = .ok (.getfield 13, 3) := dk_180 0 13 (dk_at dksX7_get_1 18 rfl rfl)
theorem dX7_get_45 : decode cX7_get 45 = .ok (.iconst 2, 1) := dk_5 (dk_at dksX7_get_1 21 rfl rfl)
theorem dX7_get_46 : decode cX7_get 46 = .ok (.if_icmp .ne 16, 3) := dk_160 0 16 (dk_at dksX7_get_2 0 rfl rfl)
theorem dX7_get_49 : decode cX7_get 49 = .ok (.aload_n 0, 1) := dk_42 (dk_at dksX7_get_2 3 rfl rfl)
theorem dX7_get_50 : decode cX7_get 50 = .ok (.getfield 7, 3) := dk_180 0 7 (dk_at dksX7_get_2 4 rfl rfl)
theorem dX7_get_53 : decode cX7_get 53 = .ok (.checkcast 21, 3) := dk_192 0 21 (dk_at dksX7_get_2 7 rfl rfl)
theorem dX7_get_56 : decode cX7_get 56 = .ok (.iload_n 1, 1) := dk_27 (dk_at dksX7_get_2 10 rfl rfl)
theorem dX7_get_57 : decode cX7_get 57 = .ok (.iaload, 1) := dk_46 (dk_at dksX7_get_2 11 rfl rfl)
theorem dX7_get_58 : decode cX7_get 58 = .ok (.i2l, 1) := dk_133 (dk_at dksX7_get_2 12 rfl rfl)
theorem dX7_get_59 : decode cX7_get 59 = .ok (.goto 12, 3) := dk_167 0 12 (dk_at dksX7_get_2 13 rfl rfl)
theorem dX7_get_62 : decode cX7_get 62 = .ok (.aload_n 0, 1) := dk_42 (dk_at dksX7_get_2 16 rfl rfl)
theorem dX7_get_63 : decode cX7_get 63 = .ok (.getfield 7, 3) := dk_180 0 7 (dk_at dksX7_get_2 17 rfl rfl)
theorem dX7_get_66 : decode cX7_get 66 = .ok (.checkcast 23, 3) := dk_192 0 23 (dk_at dksX7_get_2 20 rfl rfl)
theorem dX7_get_69 : decode cX7_get 69 = .ok (.iload_n 1, 1) := dk_27 (dk_at dksX7_get_2 23 rfl rfl)
theorem dX7_get_70 : decode cX7_get 70 = .ok (.laload, 1) := dk_47 (dk_at dksX7_get_3 0 rfl rfl)
theorem dX7_get_71 : decode cX7_get 71 = .ok (.lreturn, 1) := dk_173 (dk_at dksX7_get_3 1 rfl rfl)
abbrev cX7_many : ByteArray := prog_11_method_3_code
def yX7_many : MethodName := ⟨RX7, "many", "()I"⟩
def dkwX7_many_2 : List UInt8 := [180, 0, 7, 192, 0, 21, 190, 167, 0, 11, 42, 180, 0, 7, 192, 0, 23, 190, 172]
abbrev dktX7_many_2 : List UInt8 := dkwX7_many_2 ++ []
def dkwX7_many_1 : List UInt8 := [160, 0, 14, 42, 180, 0, 7, 192, 0, 19, 190, 167, 0, 30, 42, 180, 0, 13, 5, 160, 0, 14, 42]
abbrev dktX7_many_1 : List UInt8 := dkwX7_many_1 ++ dktX7_many_2
def dkwX7_many_0 : List UInt8 := [42, 180, 0, 13, 154, 0, 14, 42, 180, 0, 7, 192, 0, 17, 190, 167, 0, 49, 42, 180, 0, 13, 4]
abbrev dktX7_many_0 : List UInt8 := dkwX7_many_0 ++ dktX7_many_1
theorem dksX7_many_0 : cX7_many.data.toList.drop 0 = dktX7_many_0 := by decide +kernel
theorem dksX7_many_1 : cX7_many.data.toList.drop 23 = dktX7_many_1 := dk_seg dksX7_many_0 23 rfl rfl
theorem dksX7_many_2 : cX7_many.data.toList.drop 46 = dktX7_many_2 := dk_seg dksX7_many_1 23 rfl rfl
theorem dX7_many_0 : decode cX7_many 0 = .ok (.aload_n 0, 1) := dk_42 (dk_at dksX7_many_0 0 rfl rfl)
theorem dX7_many_1 : decode cX7_many 1 = .ok (.getfield 13, 3) := dk_180 0 13 (dk_at dksX7_many_0 1 rfl rfl)
theorem dX7_many_4 : decode cX7_many 4 = .ok (.ifCond .ne 14, 3) := dk_154 0 14 (dk_at dksX7_many_0 4 rfl rfl)
theorem dX7_many_7 : decode cX7_many 7 = .ok (.aload_n 0, 1) := dk_42 (dk_at dksX7_many_0 7 rfl rfl)
theorem dX7_many_8 : decode cX7_many 8 = .ok (.getfield 7, 3) := dk_180 0 7 (dk_at dksX7_many_0 8 rfl rfl)
theorem dX7_many_11 : decode cX7_many 11 = .ok (.checkcast 17, 3) := dk_192 0 17 (dk_at dksX7_many_0 11 rfl rfl)
theorem dX7_many_14 : decode cX7_many 14 = .ok (.arraylength, 1) := dk_190 (dk_at dksX7_many_0 14 rfl rfl)
theorem dX7_many_15 : decode cX7_many 15 = .ok (.goto 49, 3) := dk_167 0 49 (dk_at dksX7_many_0 15 rfl rfl)
theorem dX7_many_18 : decode cX7_many 18 = .ok (.aload_n 0, 1) := dk_42 (dk_at dksX7_many_0 18 rfl rfl)
theorem dX7_many_19 : decode cX7_many 19 = .ok (.getfield 13, 3) := dk_180 0 13 (dk_at dksX7_many_0 19 rfl rfl)
theorem dX7_many_22 : decode cX7_many 22 = .ok (.iconst 1, 1) := dk_4 (dk_at dksX7_many_0 22 rfl rfl)
theorem dX7_many_23 : decode cX7_many 23 = .ok (.if_icmp .ne 14, 3) := dk_160 0 14 (dk_at dksX7_many_1 0 rfl rfl)
theorem dX7_many_26 : decode cX7_many 26 = .ok (.aload_n 0, 1) := dk_42 (dk_at dksX7_many_1 3 rfl rfl)
theorem dX7_many_27 : decode cX7_many 27 = .ok (.getfield 7, 3) := dk_180 0 7 (dk_at dksX7_many_1 4 rfl rfl)
theorem dX7_many_30 : decode cX7_many 30 = .ok (.checkcast 19, 3) := dk_192 0 19 (dk_at dksX7_many_1 7 rfl rfl)
theorem dX7_many_33 : decode cX7_many 33 = .ok (.arraylength, 1) := dk_190 (dk_at dksX7_many_1 10 rfl rfl)
theorem dX7_many_34 : decode cX7_many 34 = .ok (.goto 30, 3) := dk_167 0 30 (dk_at dksX7_many_1 11 rfl rfl)
theorem dX7_many_37 : decode cX7_many 37 = .ok (.aload_n 0, 1) := dk_42 (dk_at dksX7_many_1 14 rfl rfl)
theorem dX7_many_38 : decode cX7_many 38 = .ok (.getfield 13, 3) := dk_180 0 13 (dk_at dksX7_many_1 15 rfl rfl)
theorem dX7_many_41 : decode cX7_many 41 = .ok (.iconst 2, 1) := dk_5 (dk_at dksX7_many_1 18 rfl rfl)
theorem dX7_many_42 : decode cX7_many 42 = .ok (.if_icmp .ne 14, 3) := dk_160 0 14 (dk_at dksX7_many_1 19 rfl rfl)
theorem dX7_many_45 : decode cX7_many 45 = .ok (.aload_n 0, 1) := dk_42 (dk_at dksX7_many_1 22 rfl rfl)
theorem dX7_many_46 : decode cX7_many 46 = .ok (.getfield 7, 3) := dk_180 0 7 (dk_at dksX7_many_2 0 rfl rfl)
theorem dX7_many_49 : decode cX7_many 49 = .ok (.checkcast 21, 3) := dk_192 0 21 (dk_at dksX7_many_2 3 rfl rfl)
theorem dX7_many_52 : decode cX7_many 52 = .ok (.arraylength, 1) := dk_190 (dk_at dksX7_many_2 6 rfl rfl)
theorem dX7_many_53 : decode cX7_many 53 = .ok (.goto 11, 3) := dk_167 0 11 (dk_at dksX7_many_2 7 rfl rfl)
theorem dX7_many_56 : decode cX7_many 56 = .ok (.aload_n 0, 1) := dk_42 (dk_at dksX7_many_2 10 rfl rfl)
theorem dX7_many_57 : decode cX7_many 57 = .ok (.getfield 7, 3) := dk_180 0 7 (dk_at dksX7_many_2 11 rfl rfl)
theorem dX7_many_60 : decode cX7_many 60 = .ok (.checkcast 23, 3) := dk_192 0 23 (dk_at dksX7_many_2 14 rfl rfl)
theorem dX7_many_63 : decode cX7_many 63 = .ok (.arraylength, 1) := dk_190 (dk_at dksX7_many_2 17 rfl rfl)
theorem dX7_many_64 : decode cX7_many 64 = .ok (.ireturn, 1) := dk_172 (dk_at dksX7_many_2 18 rfl rfl)
theorem q163 : (Jvm.Cond.initialized "TinFen$Tray") ∈ lw_all := lw_g (lw_at lw_m1 11 rfl) rfl
theorem q438 : (Jvm.Cond.instantiable "TinFen$Tray" (2 : Nat)) ∈ lw_all := lw_g (lw_at lw_m2 46 rfl) rfl
theorem q440 : (Jvm.Cond.instanceMethod ({ cls := "TinFen$Tray", name := "<init>", desc := "()V" } : Jvm.MethodName)) ∈ lw_all := lw_g (lw_at lw_m2 48 rfl) rfl
theorem q441 : (Jvm.Cond.code ({ cls := "TinFen$Tray", name := "<init>", desc := "()V" } : Jvm.MethodName) prog_11_method_1_code (1 : Nat) (Option.none : Option Jvm.ClassFile.FieldType)) ∈ lw_all := lw_g (lw_at lw_m2 49 rfl) rfl
theorem q442 : (Jvm.Cond.methodLink "TinFen$Tray" (1 : Nat) ({ cls := "java/lang/Object", name := "<init>", desc := "()V" } : Jvm.MethodName)) ∈ lw_all := lw_g (lw_at lw_m2 50 rfl) rfl
theorem q443 : (Jvm.Cond.fieldLink "TinFen$Tray" (7 : Nat) "TinFen$Tray" "row" "Ljava/lang/Object;") ∈ lw_all := lw_g (lw_at lw_m2 51 rfl) rfl
theorem q445 : (Jvm.Cond.fieldLink "TinFen$Tray" (13 : Nat) "TinFen$Tray" "sort" "I") ∈ lw_all := lw_g (lw_at lw_m2 53 rfl) rfl
theorem q447 : (Jvm.Cond.lays "TinFen$Tray" "TinFen$Tray" "row" "Ljava/lang/Object;") ∈ lw_all := lw_g (lw_at lw_m2 55 rfl) rfl
theorem q448 : (Jvm.Cond.soleField "TinFen$Tray" "row") ∈ lw_all := lw_g (lw_at lw_m2 56 rfl) rfl
theorem q449 : (Jvm.Cond.lays "TinFen$Tray" "TinFen$Tray" "sort" "I") ∈ lw_all := lw_g (lw_at lw_m2 57 rfl) rfl
theorem q450 : (Jvm.Cond.soleField "TinFen$Tray" "sort") ∈ lw_all := lw_g (lw_at lw_m2 58 rfl) rfl
theorem q451 : (Jvm.Cond.superclass "TinFen$Tray" "java/lang/Object") ∈ lw_all := lw_g (lw_at lw_m2 59 rfl) rfl
theorem q579 : (Jvm.Cond.instanceMethod ({ cls := "TinFen$Tray", name := "make", desc := "(II)V" } : Jvm.MethodName)) ∈ lw_all := lw_g (lw_at lw_m2 187 rfl) rfl
theorem q580 : (Jvm.Cond.selects "TinFen$Tray" ({ cls := "TinFen$Tray", name := "make", desc := "(II)V" } : Jvm.MethodName) ({ cls := "TinFen$Tray", name := "make", desc := "(II)V" } : Jvm.MethodName)) ∈ lw_all := lw_g (lw_at lw_m2 188 rfl) rfl
theorem q581 : (Jvm.Cond.code ({ cls := "TinFen$Tray", name := "make", desc := "(II)V" } : Jvm.MethodName) prog_11_method_2_code (4 : Nat) (Option.none : Option Jvm.ClassFile.FieldType)) ∈ lw_all := lw_g (lw_at lw_m2 189 rfl) rfl
theorem q632 : (Jvm.Cond.instanceMethod ({ cls := "TinFen$Tray", name := "set", desc := "(IJ)V" } : Jvm.MethodName)) ∈ lw_all := lw_g (lw_at lw_m3 0 rfl) rfl
theorem q633 : (Jvm.Cond.selects "TinFen$Tray" ({ cls := "TinFen$Tray", name := "set", desc := "(IJ)V" } : Jvm.MethodName) ({ cls := "TinFen$Tray", name := "set", desc := "(IJ)V" } : Jvm.MethodName)) ∈ lw_all := lw_g (lw_at lw_m3 1 rfl) rfl
theorem q634 : (Jvm.Cond.code ({ cls := "TinFen$Tray", name := "set", desc := "(IJ)V" } : Jvm.MethodName) prog_11_method_5_code (4 : Nat) (Option.none : Option Jvm.ClassFile.FieldType)) ∈ lw_all := lw_g (lw_at lw_m3 2 rfl) rfl
theorem q635 : (Jvm.Cond.classLink "TinFen$Tray" (17 : Nat) "[B") ∈ lw_all := lw_g (lw_at lw_m3 3 rfl) rfl
theorem q636 : (Jvm.Cond.classLink "TinFen$Tray" (19 : Nat) "[S") ∈ lw_all := lw_g (lw_at lw_m3 4 rfl) rfl
theorem q637 : (Jvm.Cond.classLink "TinFen$Tray" (21 : Nat) "[I") ∈ lw_all := lw_g (lw_at lw_m3 5 rfl) rfl
theorem q638 : (Jvm.Cond.classLink "TinFen$Tray" (23 : Nat) "[J") ∈ lw_all := lw_g (lw_at lw_m3 6 rfl) rfl
theorem q648 : (Jvm.Cond.instanceMethod ({ cls := "TinFen$Tray", name := "get", desc := "(I)J" } : Jvm.MethodName)) ∈ lw_all := lw_g (lw_at lw_m3 16 rfl) rfl
theorem q649 : (Jvm.Cond.selects "TinFen$Tray" ({ cls := "TinFen$Tray", name := "get", desc := "(I)J" } : Jvm.MethodName) ({ cls := "TinFen$Tray", name := "get", desc := "(I)J" } : Jvm.MethodName)) ∈ lw_all := lw_g (lw_at lw_m3 17 rfl) rfl
theorem q650 : (Jvm.Cond.code ({ cls := "TinFen$Tray", name := "get", desc := "(I)J" } : Jvm.MethodName) prog_11_method_4_code (2 : Nat) (Option.some Jvm.ClassFile.FieldType.long)) ∈ lw_all := lw_g (lw_at lw_m3 18 rfl) rfl
theorem q1113 : (Jvm.Cond.instanceMethod ({ cls := "TinFen$Tray", name := "many", desc := "()I" } : Jvm.MethodName)) ∈ lw_all := lw_g (lw_at lw_m5 1 rfl) rfl
theorem q1114 : (Jvm.Cond.selects "TinFen$Tray" ({ cls := "TinFen$Tray", name := "many", desc := "()I" } : Jvm.MethodName) ({ cls := "TinFen$Tray", name := "many", desc := "()I" } : Jvm.MethodName)) ∈ lw_all := lw_g (lw_at lw_m5 2 rfl) rfl
theorem q1115 : (Jvm.Cond.code ({ cls := "TinFen$Tray", name := "many", desc := "()I" } : Jvm.MethodName) prog_11_method_3_code (1 : Nat) (Option.some Jvm.ClassFile.FieldType.int)) ∈ lw_all := lw_g (lw_at lw_m5 3 rfl) rfl
theorem in_X7 : ∀ w ∈ wsX70, w ∈ lw_all := lw_in wsX70 [447, 449] (by decide +kernel) (by decide +kernel)

/-! TinFen$Person -/
set_option maxRecDepth 100000
def RX9 : String := "TinFen$Person"
def TX9 : u_T := fun k => match k with
  | 0 => ("TinFen$Person", "name", "J", true)
  | 1 => ("TinFen$Person", "isTrue", "I", false)
  | 2 => ("TinFen$Person", "meets", "I", false)
  | _ => ("TinFen$Person", "got", "I", false)
def tyX9 : Nat → FieldType := fun k => match k with
  | 0 => .long
  | 1 => .int
  | 2 => .int
  | _ => .int
abbrev wsX90 : List Cond := u_ws RX9 TX9 4
theorem nmX9 : ∀ a, a < 4 → ∀ b, b < 4 → a ≠ b → (TX9 a).2.1 ≠ (TX9 b).2.1 := by decide +kernel
theorem tyX9_ok : ∀ k, k < 4 → parseFieldDescriptor (TX9 k).2.2.1 = some (tyX9 k) := by decide +kernel
abbrev cX9_init : ByteArray := prog_6_method_1_code
def yX9_init : MethodName := ⟨RX9, "<init>", "(J)V"⟩
def dkwX9_init_0 : List UInt8 := [42, 183, 0, 1, 42, 31, 181, 0, 7, 177]
abbrev dktX9_init_0 : List UInt8 := dkwX9_init_0 ++ []
theorem dksX9_init_0 : cX9_init.data.toList.drop 0 = dktX9_init_0 := by decide +kernel
theorem dX9_init_0 : decode cX9_init 0 = .ok (.aload_n 0, 1) := dk_42 (dk_at dksX9_init_0 0 rfl rfl)
theorem dX9_init_1 : decode cX9_init 1 = .ok (.invokespecial 1, 3) := dk_183 0 1 (dk_at dksX9_init_0 1 rfl rfl)
theorem dX9_init_4 : decode cX9_init 4 = .ok (.aload_n 0, 1) := dk_42 (dk_at dksX9_init_0 4 rfl rfl)
theorem dX9_init_5 : decode cX9_init 5 = .ok (.lload_n 1, 1) := dk_31 (dk_at dksX9_init_0 5 rfl rfl)
theorem dX9_init_6 : decode cX9_init 6 = .ok (.putfield 7, 3) := dk_181 0 7 (dk_at dksX9_init_0 6 rfl rfl)
theorem dX9_init_9 : decode cX9_init 9 = .ok (.return_, 1) := dk_177 (dk_at dksX9_init_0 9 rfl rfl)
abbrev cX9_twin : ByteArray := prog_6_method_2_code
def yX9_twin : MethodName := ⟨RX9, "twin", "()LTinFen$Person;"⟩
def dkwX9_twin_0 : List UInt8 := [187, 0, 8, 89, 42, 180, 0, 7, 183, 0, 13, 42, 182, 0, 16, 176]
abbrev dktX9_twin_0 : List UInt8 := dkwX9_twin_0 ++ []
theorem dksX9_twin_0 : cX9_twin.data.toList.drop 0 = dktX9_twin_0 := by decide +kernel
theorem dX9_twin_0 : decode cX9_twin 0 = .ok (.new 8, 3) := dk_187 0 8 (dk_at dksX9_twin_0 0 rfl rfl)
theorem dX9_twin_3 : decode cX9_twin 3 = .ok (.dup, 1) := dk_89 (dk_at dksX9_twin_0 3 rfl rfl)
theorem dX9_twin_4 : decode cX9_twin 4 = .ok (.aload_n 0, 1) := dk_42 (dk_at dksX9_twin_0 4 rfl rfl)
theorem dX9_twin_5 : decode cX9_twin 5 = .ok (.getfield 7, 3) := dk_180 0 7 (dk_at dksX9_twin_0 5 rfl rfl)
theorem dX9_twin_8 : decode cX9_twin 8 = .ok (.invokespecial 13, 3) := dk_183 0 13 (dk_at dksX9_twin_0 8 rfl rfl)
theorem dX9_twin_11 : decode cX9_twin 11 = .ok (.aload_n 0, 1) := dk_42 (dk_at dksX9_twin_0 11 rfl rfl)
theorem dX9_twin_12 : decode cX9_twin 12 = .ok (.invokevirtual 16, 3) := dk_182 0 16 (dk_at dksX9_twin_0 12 rfl rfl)
theorem dX9_twin_15 : decode cX9_twin 15 = .ok (.areturn, 1) := dk_176 (dk_at dksX9_twin_0 15 rfl rfl)
abbrev cX9_takes : ByteArray := prog_6_method_3_code
def yX9_takes : MethodName := ⟨RX9, "takes", "(LTinFen$Person;)LTinFen$Person;"⟩
def dkwX9_takes_1 : List UInt8 := [42, 176]
abbrev dktX9_takes_1 : List UInt8 := dkwX9_takes_1 ++ []
def dkwX9_takes_0 : List UInt8 := [42, 43, 180, 0, 20, 181, 0, 20, 42, 43, 180, 0, 24, 181, 0, 24, 42, 43, 180, 0, 27, 181, 0, 27]
abbrev dktX9_takes_0 : List UInt8 := dkwX9_takes_0 ++ dktX9_takes_1
theorem dksX9_takes_0 : cX9_takes.data.toList.drop 0 = dktX9_takes_0 := by decide +kernel
theorem dksX9_takes_1 : cX9_takes.data.toList.drop 24 = dktX9_takes_1 := dk_seg dksX9_takes_0 24 rfl rfl
theorem dX9_takes_0 : decode cX9_takes 0 = .ok (.aload_n 0, 1) := dk_42 (dk_at dksX9_takes_0 0 rfl rfl)
theorem dX9_takes_1 : decode cX9_takes 1 = .ok (.aload_n 1, 1) := dk_43 (dk_at dksX9_takes_0 1 rfl rfl)
theorem dX9_takes_2 : decode cX9_takes 2 = .ok (.getfield 20, 3) := dk_180 0 20 (dk_at dksX9_takes_0 2 rfl rfl)
theorem dX9_takes_5 : decode cX9_takes 5 = .ok (.putfield 20, 3) := dk_181 0 20 (dk_at dksX9_takes_0 5 rfl rfl)
theorem dX9_takes_8 : decode cX9_takes 8 = .ok (.aload_n 0, 1) := dk_42 (dk_at dksX9_takes_0 8 rfl rfl)
theorem dX9_takes_9 : decode cX9_takes 9 = .ok (.aload_n 1, 1) := dk_43 (dk_at dksX9_takes_0 9 rfl rfl)
theorem dX9_takes_10 : decode cX9_takes 10 = .ok (.getfield 24, 3) := dk_180 0 24 (dk_at dksX9_takes_0 10 rfl rfl)
theorem dX9_takes_13 : decode cX9_takes 13 = .ok (.putfield 24, 3) := dk_181 0 24 (dk_at dksX9_takes_0 13 rfl rfl)
theorem dX9_takes_16 : decode cX9_takes 16 = .ok (.aload_n 0, 1) := dk_42 (dk_at dksX9_takes_0 16 rfl rfl)
theorem dX9_takes_17 : decode cX9_takes 17 = .ok (.aload_n 1, 1) := dk_43 (dk_at dksX9_takes_0 17 rfl rfl)
theorem dX9_takes_18 : decode cX9_takes 18 = .ok (.getfield 27, 3) := dk_180 0 27 (dk_at dksX9_takes_0 18 rfl rfl)
theorem dX9_takes_21 : decode cX9_takes 21 = .ok (.putfield 27, 3) := dk_181 0 27 (dk_at dksX9_takes_0 21 rfl rfl)
theorem dX9_takes_24 : decode cX9_takes 24 = .ok (.aload_n 0, 1) := dk_42 (dk_at dksX9_takes_1 0 rfl rfl)
theorem dX9_takes_25 : decode cX9_takes 25 = .ok (.areturn, 1) := dk_176 (dk_at dksX9_takes_1 1 rfl rfl)
theorem q175 : (Jvm.Cond.initialized "TinFen$Person") ∈ lw_all := lw_g (lw_at lw_m1 23 rfl) rfl
theorem q853 : (Jvm.Cond.instantiable "TinFen$Person" (4 : Nat)) ∈ lw_all := lw_g (lw_at lw_m3 221 rfl) rfl
theorem q855 : (Jvm.Cond.instanceMethod ({ cls := "TinFen$Person", name := "<init>", desc := "(J)V" } : Jvm.MethodName)) ∈ lw_all := lw_g (lw_at lw_m3 223 rfl) rfl
theorem q856 : (Jvm.Cond.code ({ cls := "TinFen$Person", name := "<init>", desc := "(J)V" } : Jvm.MethodName) prog_6_method_1_code (3 : Nat) (Option.none : Option Jvm.ClassFile.FieldType)) ∈ lw_all := lw_g (lw_at lw_m3 224 rfl) rfl
theorem q857 : (Jvm.Cond.methodLink "TinFen$Person" (1 : Nat) ({ cls := "java/lang/Object", name := "<init>", desc := "()V" } : Jvm.MethodName)) ∈ lw_all := lw_g (lw_at lw_m3 225 rfl) rfl
theorem q858 : (Jvm.Cond.fieldLink "TinFen$Person" (7 : Nat) "TinFen$Person" "name" "J") ∈ lw_all := lw_g (lw_at lw_m3 226 rfl) rfl
theorem q860 : (Jvm.Cond.fieldLink "TinFen$Person" (20 : Nat) "TinFen$Person" "isTrue" "I") ∈ lw_all := lw_g (lw_at lw_m3 228 rfl) rfl
theorem q864 : (Jvm.Cond.fieldLink "TinFen$Person" (24 : Nat) "TinFen$Person" "meets" "I") ∈ lw_all := lw_g (lw_at lw_m3 232 rfl) rfl
theorem q867 : (Jvm.Cond.fieldLink "TinFen$Person" (27 : Nat) "TinFen$Person" "got" "I") ∈ lw_all := lw_g (lw_at lw_m3 235 rfl) rfl
theorem q870 : (Jvm.Cond.laysFinal "TinFen$Person" "TinFen$Person" "name" "J") ∈ lw_all := lw_g (lw_at lw_m3 238 rfl) rfl
theorem q871 : (Jvm.Cond.soleField "TinFen$Person" "name") ∈ lw_all := lw_g (lw_at lw_m3 239 rfl) rfl
theorem q872 : (Jvm.Cond.lays "TinFen$Person" "TinFen$Person" "isTrue" "I") ∈ lw_all := lw_g (lw_at lw_m4 0 rfl) rfl
theorem q873 : (Jvm.Cond.soleField "TinFen$Person" "isTrue") ∈ lw_all := lw_g (lw_at lw_m4 1 rfl) rfl
theorem q874 : (Jvm.Cond.lays "TinFen$Person" "TinFen$Person" "meets" "I") ∈ lw_all := lw_g (lw_at lw_m4 2 rfl) rfl
theorem q875 : (Jvm.Cond.soleField "TinFen$Person" "meets") ∈ lw_all := lw_g (lw_at lw_m4 3 rfl) rfl
theorem q876 : (Jvm.Cond.lays "TinFen$Person" "TinFen$Person" "got" "I") ∈ lw_all := lw_g (lw_at lw_m4 4 rfl) rfl
theorem q877 : (Jvm.Cond.soleField "TinFen$Person" "got") ∈ lw_all := lw_g (lw_at lw_m4 5 rfl) rfl
theorem q878 : (Jvm.Cond.superclass "TinFen$Person" "java/lang/Object") ∈ lw_all := lw_g (lw_at lw_m4 6 rfl) rfl
theorem q1358 : (Jvm.Cond.instanceMethod ({ cls := "TinFen$Person", name := "twin", desc := "()LTinFen$Person;" } : Jvm.MethodName)) ∈ lw_all := lw_g (lw_at lw_m6 6 rfl) rfl
theorem q1359 : (Jvm.Cond.selects "TinFen$Person" ({ cls := "TinFen$Person", name := "twin", desc := "()LTinFen$Person;" } : Jvm.MethodName) ({ cls := "TinFen$Person", name := "twin", desc := "()LTinFen$Person;" } : Jvm.MethodName)) ∈ lw_all := lw_g (lw_at lw_m6 7 rfl) rfl
theorem q1360 : (Jvm.Cond.code ({ cls := "TinFen$Person", name := "twin", desc := "()LTinFen$Person;" } : Jvm.MethodName) prog_6_method_2_code (1 : Nat) (Option.some (Jvm.ClassFile.FieldType.object "TinFen$Person"))) ∈ lw_all := lw_g (lw_at lw_m6 8 rfl) rfl
theorem q1361 : (Jvm.Cond.classLink "TinFen$Person" (8 : Nat) "TinFen$Person") ∈ lw_all := lw_g (lw_at lw_m6 9 rfl) rfl
theorem q1362 : (Jvm.Cond.methodLink "TinFen$Person" (13 : Nat) ({ cls := "TinFen$Person", name := "<init>", desc := "(J)V" } : Jvm.MethodName)) ∈ lw_all := lw_g (lw_at lw_m6 10 rfl) rfl
theorem q1363 : (Jvm.Cond.methodLink "TinFen$Person" (16 : Nat) ({ cls := "TinFen$Person", name := "takes", desc := "(LTinFen$Person;)LTinFen$Person;" } : Jvm.MethodName)) ∈ lw_all := lw_g (lw_at lw_m6 11 rfl) rfl
theorem q1364 : (Jvm.Cond.instanceMethod ({ cls := "TinFen$Person", name := "takes", desc := "(LTinFen$Person;)LTinFen$Person;" } : Jvm.MethodName)) ∈ lw_all := lw_g (lw_at lw_m6 12 rfl) rfl
theorem q1365 : (Jvm.Cond.selects "TinFen$Person" ({ cls := "TinFen$Person", name := "takes", desc := "(LTinFen$Person;)LTinFen$Person;" } : Jvm.MethodName) ({ cls := "TinFen$Person", name := "takes", desc := "(LTinFen$Person;)LTinFen$Person;" } : Jvm.MethodName)) ∈ lw_all := lw_g (lw_at lw_m6 13 rfl) rfl
theorem q1366 : (Jvm.Cond.code ({ cls := "TinFen$Person", name := "takes", desc := "(LTinFen$Person;)LTinFen$Person;" } : Jvm.MethodName) prog_6_method_3_code (2 : Nat) (Option.some (Jvm.ClassFile.FieldType.object "TinFen$Person"))) ∈ lw_all := lw_g (lw_at lw_m6 14 rfl) rfl
theorem in_X9 : ∀ w ∈ wsX90, w ∈ lw_all := lw_in wsX90 [870, 872, 874, 876] (by decide +kernel) (by decide +kernel)

/-! TinFen$Tin -/
set_option maxRecDepth 100000
def RX10 : String := "TinFen$Tin"
def TX10 : u_T := fun k => match k with
  | 0 => ("TinFen$Tin", "name", "J", true)
  | 1 => ("TinFen$Tin", "of", "LTinFen$Metal;", true)
  | 2 => ("TinFen$Tin", "trait", "I", false)
  | 3 => ("TinFen$Tin", "on", "I", false)
  | 4 => ("TinFen$Tin", "held", "I", false)
  | 5 => ("TinFen$Tin", "passed", "I", false)
  | _ => ("TinFen$Tin", "isFound", "Z", false)
def tyX10 : Nat → FieldType := fun k => match k with
  | 0 => .long
  | 1 => .object "TinFen$Metal"
  | 2 => .int
  | 3 => .int
  | 4 => .int
  | 5 => .int
  | _ => .boolean
abbrev wsX100 : List Cond := u_ws RX10 TX10 7
theorem nmX10 : ∀ a, a < 7 → ∀ b, b < 7 → a ≠ b → (TX10 a).2.1 ≠ (TX10 b).2.1 := by decide +kernel
theorem tyX10_ok : ∀ k, k < 7 → parseFieldDescriptor (TX10 k).2.2.1 = some (tyX10 k) := by decide +kernel
abbrev cX10_init : ByteArray := prog_10_method_1_code
def yX10_init : MethodName := ⟨RX10, "<init>", "(JLTinFen$Metal;)V"⟩
def dkwX10_init_0 : List UInt8 := [42, 183, 0, 1, 42, 31, 181, 0, 7, 42, 45, 181, 0, 13, 177]
abbrev dktX10_init_0 : List UInt8 := dkwX10_init_0 ++ []
theorem dksX10_init_0 : cX10_init.data.toList.drop 0 = dktX10_init_0 := by decide +kernel
theorem dX10_init_0 : decode cX10_init 0 = .ok (.aload_n 0, 1) := dk_42 (dk_at dksX10_init_0 0 rfl rfl)
theorem dX10_init_1 : decode cX10_init 1 = .ok (.invokespecial 1, 3) := dk_183 0 1 (dk_at dksX10_init_0 1 rfl rfl)
theorem dX10_init_4 : decode cX10_init 4 = .ok (.aload_n 0, 1) := dk_42 (dk_at dksX10_init_0 4 rfl rfl)
theorem dX10_init_5 : decode cX10_init 5 = .ok (.lload_n 1, 1) := dk_31 (dk_at dksX10_init_0 5 rfl rfl)
theorem dX10_init_6 : decode cX10_init 6 = .ok (.putfield 7, 3) := dk_181 0 7 (dk_at dksX10_init_0 6 rfl rfl)
theorem dX10_init_9 : decode cX10_init 9 = .ok (.aload_n 0, 1) := dk_42 (dk_at dksX10_init_0 9 rfl rfl)
theorem dX10_init_10 : decode cX10_init 10 = .ok (.aload_n 3, 1) := dk_45 (dk_at dksX10_init_0 10 rfl rfl)
theorem dX10_init_11 : decode cX10_init 11 = .ok (.putfield 13, 3) := dk_181 0 13 (dk_at dksX10_init_0 11 rfl rfl)
theorem dX10_init_14 : decode cX10_init 14 = .ok (.return_, 1) := dk_177 (dk_at dksX10_init_0 14 rfl rfl)
abbrev cX10_twin : ByteArray := prog_10_method_2_code
def yX10_twin : MethodName := ⟨RX10, "twin", "()LTinFen$Tin;"⟩
def dkwX10_twin_1 : List UInt8 := [43, 42, 182, 0, 24, 176]
abbrev dktX10_twin_1 : List UInt8 := dkwX10_twin_1 ++ []
def dkwX10_twin_0 : List UInt8 := [187, 0, 8, 89, 42, 180, 0, 7, 42, 180, 0, 13, 183, 0, 17, 76, 43, 42, 180, 0, 20, 181, 0, 20]
abbrev dktX10_twin_0 : List UInt8 := dkwX10_twin_0 ++ dktX10_twin_1
theorem dksX10_twin_0 : cX10_twin.data.toList.drop 0 = dktX10_twin_0 := by decide +kernel
theorem dksX10_twin_1 : cX10_twin.data.toList.drop 24 = dktX10_twin_1 := dk_seg dksX10_twin_0 24 rfl rfl
theorem dX10_twin_0 : decode cX10_twin 0 = .ok (.new 8, 3) := dk_187 0 8 (dk_at dksX10_twin_0 0 rfl rfl)
theorem dX10_twin_3 : decode cX10_twin 3 = .ok (.dup, 1) := dk_89 (dk_at dksX10_twin_0 3 rfl rfl)
theorem dX10_twin_4 : decode cX10_twin 4 = .ok (.aload_n 0, 1) := dk_42 (dk_at dksX10_twin_0 4 rfl rfl)
theorem dX10_twin_5 : decode cX10_twin 5 = .ok (.getfield 7, 3) := dk_180 0 7 (dk_at dksX10_twin_0 5 rfl rfl)
theorem dX10_twin_8 : decode cX10_twin 8 = .ok (.aload_n 0, 1) := dk_42 (dk_at dksX10_twin_0 8 rfl rfl)
theorem dX10_twin_9 : decode cX10_twin 9 = .ok (.getfield 13, 3) := dk_180 0 13 (dk_at dksX10_twin_0 9 rfl rfl)
theorem dX10_twin_12 : decode cX10_twin 12 = .ok (.invokespecial 17, 3) := dk_183 0 17 (dk_at dksX10_twin_0 12 rfl rfl)
theorem dX10_twin_15 : decode cX10_twin 15 = .ok (.astore_n 1, 1) := dk_76 (dk_at dksX10_twin_0 15 rfl rfl)
theorem dX10_twin_16 : decode cX10_twin 16 = .ok (.aload_n 1, 1) := dk_43 (dk_at dksX10_twin_0 16 rfl rfl)
theorem dX10_twin_17 : decode cX10_twin 17 = .ok (.aload_n 0, 1) := dk_42 (dk_at dksX10_twin_0 17 rfl rfl)
theorem dX10_twin_18 : decode cX10_twin 18 = .ok (.getfield 20, 3) := dk_180 0 20 (dk_at dksX10_twin_0 18 rfl rfl)
theorem dX10_twin_21 : decode cX10_twin 21 = .ok (.putfield 20, 3) := dk_181 0 20 (dk_at dksX10_twin_0 21 rfl rfl)
theorem dX10_twin_24 : decode cX10_twin 24 = .ok (.aload_n 1, 1) := dk_43 (dk_at dksX10_twin_1 0 rfl rfl)
theorem dX10_twin_25 : decode cX10_twin 25 = .ok (.aload_n 0, 1) := dk_42 (dk_at dksX10_twin_1 1 rfl rfl)
theorem dX10_twin_26 : decode cX10_twin 26 = .ok (.invokevirtual 24, 3) := dk_182 0 24 (dk_at dksX10_twin_1 2 rfl rfl)
theorem dX10_twin_29 : decode cX10_twin 29 = .ok (.areturn, 1) := dk_176 (dk_at dksX10_twin_1 5 rfl rfl)
abbrev cX10_takes : ByteArray := prog_10_method_3_code
def yX10_takes : MethodName := ⟨RX10, "takes", "(LTinFen$Tin;)LTinFen$Tin;"⟩
def dkwX10_takes_1 : List UInt8 := [42, 43, 180, 0, 37, 181, 0, 37, 42, 176]
abbrev dktX10_takes_1 : List UInt8 := dkwX10_takes_1 ++ []
def dkwX10_takes_0 : List UInt8 := [42, 43, 180, 0, 28, 181, 0, 28, 42, 43, 180, 0, 31, 181, 0, 31, 42, 43, 180, 0, 34, 181, 0, 34]
abbrev dktX10_takes_0 : List UInt8 := dkwX10_takes_0 ++ dktX10_takes_1
theorem dksX10_takes_0 : cX10_takes.data.toList.drop 0 = dktX10_takes_0 := by decide +kernel
theorem dksX10_takes_1 : cX10_takes.data.toList.drop 24 = dktX10_takes_1 := dk_seg dksX10_takes_0 24 rfl rfl
theorem dX10_takes_0 : decode cX10_takes 0 = .ok (.aload_n 0, 1) := dk_42 (dk_at dksX10_takes_0 0 rfl rfl)
theorem dX10_takes_1 : decode cX10_takes 1 = .ok (.aload_n 1, 1) := dk_43 (dk_at dksX10_takes_0 1 rfl rfl)
theorem dX10_takes_2 : decode cX10_takes 2 = .ok (.getfield 28, 3) := dk_180 0 28 (dk_at dksX10_takes_0 2 rfl rfl)
theorem dX10_takes_5 : decode cX10_takes 5 = .ok (.putfield 28, 3) := dk_181 0 28 (dk_at dksX10_takes_0 5 rfl rfl)
theorem dX10_takes_8 : decode cX10_takes 8 = .ok (.aload_n 0, 1) := dk_42 (dk_at dksX10_takes_0 8 rfl rfl)
theorem dX10_takes_9 : decode cX10_takes 9 = .ok (.aload_n 1, 1) := dk_43 (dk_at dksX10_takes_0 9 rfl rfl)
theorem dX10_takes_10 : decode cX10_takes 10 = .ok (.getfield 31, 3) := dk_180 0 31 (dk_at dksX10_takes_0 10 rfl rfl)
theorem dX10_takes_13 : decode cX10_takes 13 = .ok (.putfield 31, 3) := dk_181 0 31 (dk_at dksX10_takes_0 13 rfl rfl)
theorem dX10_takes_16 : decode cX10_takes 16 = .ok (.aload_n 0, 1) := dk_42 (dk_at dksX10_takes_0 16 rfl rfl)
theorem dX10_takes_17 : decode cX10_takes 17 = .ok (.aload_n 1, 1) := dk_43 (dk_at dksX10_takes_0 17 rfl rfl)
theorem dX10_takes_18 : decode cX10_takes 18 = .ok (.getfield 34, 3) := dk_180 0 34 (dk_at dksX10_takes_0 18 rfl rfl)
theorem dX10_takes_21 : decode cX10_takes 21 = .ok (.putfield 34, 3) := dk_181 0 34 (dk_at dksX10_takes_0 21 rfl rfl)
theorem dX10_takes_24 : decode cX10_takes 24 = .ok (.aload_n 0, 1) := dk_42 (dk_at dksX10_takes_1 0 rfl rfl)
theorem dX10_takes_25 : decode cX10_takes 25 = .ok (.aload_n 1, 1) := dk_43 (dk_at dksX10_takes_1 1 rfl rfl)
theorem dX10_takes_26 : decode cX10_takes 26 = .ok (.getfield 37, 3) := dk_180 0 37 (dk_at dksX10_takes_1 2 rfl rfl)
theorem dX10_takes_29 : decode cX10_takes 29 = .ok (.putfield 37, 3) := dk_181 0 37 (dk_at dksX10_takes_1 5 rfl rfl)
theorem dX10_takes_32 : decode cX10_takes 32 = .ok (.aload_n 0, 1) := dk_42 (dk_at dksX10_takes_1 8 rfl rfl)
theorem dX10_takes_33 : decode cX10_takes 33 = .ok (.areturn, 1) := dk_176 (dk_at dksX10_takes_1 9 rfl rfl)
theorem q176 : (Jvm.Cond.initialized "TinFen$Tin") ∈ lw_all := lw_g (lw_at lw_m1 24 rfl) rfl
theorem q921 : (Jvm.Cond.instantiable "TinFen$Tin" (7 : Nat)) ∈ lw_all := lw_g (lw_at lw_m4 49 rfl) rfl
theorem q923 : (Jvm.Cond.instanceMethod ({ cls := "TinFen$Tin", name := "<init>", desc := "(JLTinFen$Metal;)V" } : Jvm.MethodName)) ∈ lw_all := lw_g (lw_at lw_m4 51 rfl) rfl
theorem q924 : (Jvm.Cond.code ({ cls := "TinFen$Tin", name := "<init>", desc := "(JLTinFen$Metal;)V" } : Jvm.MethodName) prog_10_method_1_code (4 : Nat) (Option.none : Option Jvm.ClassFile.FieldType)) ∈ lw_all := lw_g (lw_at lw_m4 52 rfl) rfl
theorem q925 : (Jvm.Cond.methodLink "TinFen$Tin" (1 : Nat) ({ cls := "java/lang/Object", name := "<init>", desc := "()V" } : Jvm.MethodName)) ∈ lw_all := lw_g (lw_at lw_m4 53 rfl) rfl
theorem q926 : (Jvm.Cond.fieldLink "TinFen$Tin" (7 : Nat) "TinFen$Tin" "name" "J") ∈ lw_all := lw_g (lw_at lw_m4 54 rfl) rfl
theorem q928 : (Jvm.Cond.fieldLink "TinFen$Tin" (13 : Nat) "TinFen$Tin" "of" "LTinFen$Metal;") ∈ lw_all := lw_g (lw_at lw_m4 56 rfl) rfl
theorem q930 : (Jvm.Cond.fieldLink "TinFen$Tin" (20 : Nat) "TinFen$Tin" "trait" "I") ∈ lw_all := lw_g (lw_at lw_m4 58 rfl) rfl
theorem q935 : (Jvm.Cond.fieldLink "TinFen$Tin" (28 : Nat) "TinFen$Tin" "on" "I") ∈ lw_all := lw_g (lw_at lw_m4 63 rfl) rfl
theorem q938 : (Jvm.Cond.fieldLink "TinFen$Tin" (31 : Nat) "TinFen$Tin" "held" "I") ∈ lw_all := lw_g (lw_at lw_m4 66 rfl) rfl
theorem q941 : (Jvm.Cond.fieldLink "TinFen$Tin" (34 : Nat) "TinFen$Tin" "passed" "I") ∈ lw_all := lw_g (lw_at lw_m4 69 rfl) rfl
theorem q945 : (Jvm.Cond.fieldLink "TinFen$Tin" (37 : Nat) "TinFen$Tin" "isFound" "Z") ∈ lw_all := lw_g (lw_at lw_m4 73 rfl) rfl
theorem q948 : (Jvm.Cond.laysFinal "TinFen$Tin" "TinFen$Tin" "name" "J") ∈ lw_all := lw_g (lw_at lw_m4 76 rfl) rfl
theorem q949 : (Jvm.Cond.soleField "TinFen$Tin" "name") ∈ lw_all := lw_g (lw_at lw_m4 77 rfl) rfl
theorem q950 : (Jvm.Cond.laysFinal "TinFen$Tin" "TinFen$Tin" "of" "LTinFen$Metal;") ∈ lw_all := lw_g (lw_at lw_m4 78 rfl) rfl
theorem q951 : (Jvm.Cond.soleField "TinFen$Tin" "of") ∈ lw_all := lw_g (lw_at lw_m4 79 rfl) rfl
theorem q952 : (Jvm.Cond.lays "TinFen$Tin" "TinFen$Tin" "trait" "I") ∈ lw_all := lw_g (lw_at lw_m4 80 rfl) rfl
theorem q953 : (Jvm.Cond.soleField "TinFen$Tin" "trait") ∈ lw_all := lw_g (lw_at lw_m4 81 rfl) rfl
theorem q954 : (Jvm.Cond.lays "TinFen$Tin" "TinFen$Tin" "on" "I") ∈ lw_all := lw_g (lw_at lw_m4 82 rfl) rfl
theorem q955 : (Jvm.Cond.soleField "TinFen$Tin" "on") ∈ lw_all := lw_g (lw_at lw_m4 83 rfl) rfl
theorem q956 : (Jvm.Cond.lays "TinFen$Tin" "TinFen$Tin" "held" "I") ∈ lw_all := lw_g (lw_at lw_m4 84 rfl) rfl
theorem q957 : (Jvm.Cond.soleField "TinFen$Tin" "held") ∈ lw_all := lw_g (lw_at lw_m4 85 rfl) rfl
theorem q958 : (Jvm.Cond.lays "TinFen$Tin" "TinFen$Tin" "passed" "I") ∈ lw_all := lw_g (lw_at lw_m4 86 rfl) rfl
theorem q959 : (Jvm.Cond.soleField "TinFen$Tin" "passed") ∈ lw_all := lw_g (lw_at lw_m4 87 rfl) rfl
theorem q960 : (Jvm.Cond.lays "TinFen$Tin" "TinFen$Tin" "isFound" "Z") ∈ lw_all := lw_g (lw_at lw_m4 88 rfl) rfl
theorem q961 : (Jvm.Cond.soleField "TinFen$Tin" "isFound") ∈ lw_all := lw_g (lw_at lw_m4 89 rfl) rfl
theorem q962 : (Jvm.Cond.superclass "TinFen$Tin" "java/lang/Object") ∈ lw_all := lw_g (lw_at lw_m4 90 rfl) rfl
theorem q1368 : (Jvm.Cond.instanceMethod ({ cls := "TinFen$Tin", name := "twin", desc := "()LTinFen$Tin;" } : Jvm.MethodName)) ∈ lw_all := lw_g (lw_at lw_m6 16 rfl) rfl
theorem q1369 : (Jvm.Cond.selects "TinFen$Tin" ({ cls := "TinFen$Tin", name := "twin", desc := "()LTinFen$Tin;" } : Jvm.MethodName) ({ cls := "TinFen$Tin", name := "twin", desc := "()LTinFen$Tin;" } : Jvm.MethodName)) ∈ lw_all := lw_g (lw_at lw_m6 17 rfl) rfl
theorem q1370 : (Jvm.Cond.code ({ cls := "TinFen$Tin", name := "twin", desc := "()LTinFen$Tin;" } : Jvm.MethodName) prog_10_method_2_code (2 : Nat) (Option.some (Jvm.ClassFile.FieldType.object "TinFen$Tin"))) ∈ lw_all := lw_g (lw_at lw_m6 18 rfl) rfl
theorem q1371 : (Jvm.Cond.classLink "TinFen$Tin" (8 : Nat) "TinFen$Tin") ∈ lw_all := lw_g (lw_at lw_m6 19 rfl) rfl
theorem q1372 : (Jvm.Cond.methodLink "TinFen$Tin" (17 : Nat) ({ cls := "TinFen$Tin", name := "<init>", desc := "(JLTinFen$Metal;)V" } : Jvm.MethodName)) ∈ lw_all := lw_g (lw_at lw_m6 20 rfl) rfl
theorem q1373 : (Jvm.Cond.methodLink "TinFen$Tin" (24 : Nat) ({ cls := "TinFen$Tin", name := "takes", desc := "(LTinFen$Tin;)LTinFen$Tin;" } : Jvm.MethodName)) ∈ lw_all := lw_g (lw_at lw_m6 21 rfl) rfl
theorem q1374 : (Jvm.Cond.instanceMethod ({ cls := "TinFen$Tin", name := "takes", desc := "(LTinFen$Tin;)LTinFen$Tin;" } : Jvm.MethodName)) ∈ lw_all := lw_g (lw_at lw_m6 22 rfl) rfl
theorem q1375 : (Jvm.Cond.selects "TinFen$Tin" ({ cls := "TinFen$Tin", name := "takes", desc := "(LTinFen$Tin;)LTinFen$Tin;" } : Jvm.MethodName) ({ cls := "TinFen$Tin", name := "takes", desc := "(LTinFen$Tin;)LTinFen$Tin;" } : Jvm.MethodName)) ∈ lw_all := lw_g (lw_at lw_m6 23 rfl) rfl
theorem q1376 : (Jvm.Cond.code ({ cls := "TinFen$Tin", name := "takes", desc := "(LTinFen$Tin;)LTinFen$Tin;" } : Jvm.MethodName) prog_10_method_3_code (2 : Nat) (Option.some (Jvm.ClassFile.FieldType.object "TinFen$Tin"))) ∈ lw_all := lw_g (lw_at lw_m6 24 rfl) rfl
theorem in_X10 : ∀ w ∈ wsX100, w ∈ lw_all := lw_in wsX100 [948, 950, 952, 954, 956, 958, 960] (by decide +kernel) (by decide +kernel)

/-! TinFen$Step -/
set_option maxRecDepth 100000
def RX11 : String := "TinFen$Step"
def TX11 : u_T := fun k => match k with
  | 0 => ("TinFen$Step", "kind", "I", true)
  | 1 => ("TinFen$Step", "one", "I", false)
  | 2 => ("TinFen$Step", "two", "I", false)
  | 3 => ("TinFen$Step", "test", "I", false)
  | 4 => ("TinFen$Step", "compares", "I", false)
  | 5 => ("TinFen$Step", "to", "I", false)
  | _ => ("TinFen$Step", "rounds", "I", false)
def tyX11 : Nat → FieldType := fun k => match k with
  | 0 => .int
  | 1 => .int
  | 2 => .int
  | 3 => .int
  | 4 => .int
  | 5 => .int
  | _ => .int
abbrev wsX110 : List Cond := u_ws RX11 TX11 7
theorem nmX11 : ∀ a, a < 7 → ∀ b, b < 7 → a ≠ b → (TX11 a).2.1 ≠ (TX11 b).2.1 := by decide +kernel
theorem tyX11_ok : ∀ k, k < 7 → parseFieldDescriptor (TX11 k).2.2.1 = some (tyX11 k) := by decide +kernel
abbrev cX11_init : ByteArray := prog_9_method_1_code
def yX11_init : MethodName := ⟨RX11, "<init>", "(I)V"⟩
def dkwX11_init_0 : List UInt8 := [42, 183, 0, 1, 42, 27, 181, 0, 7, 177]
abbrev dktX11_init_0 : List UInt8 := dkwX11_init_0 ++ []
theorem dksX11_init_0 : cX11_init.data.toList.drop 0 = dktX11_init_0 := by decide +kernel
theorem dX11_init_0 : decode cX11_init 0 = .ok (.aload_n 0, 1) := dk_42 (dk_at dksX11_init_0 0 rfl rfl)
theorem dX11_init_1 : decode cX11_init 1 = .ok (.invokespecial 1, 3) := dk_183 0 1 (dk_at dksX11_init_0 1 rfl rfl)
theorem dX11_init_4 : decode cX11_init 4 = .ok (.aload_n 0, 1) := dk_42 (dk_at dksX11_init_0 4 rfl rfl)
theorem dX11_init_5 : decode cX11_init 5 = .ok (.iload_n 1, 1) := dk_27 (dk_at dksX11_init_0 5 rfl rfl)
theorem dX11_init_6 : decode cX11_init 6 = .ok (.putfield 7, 3) := dk_181 0 7 (dk_at dksX11_init_0 6 rfl rfl)
theorem dX11_init_9 : decode cX11_init 9 = .ok (.return_, 1) := dk_177 (dk_at dksX11_init_0 9 rfl rfl)
theorem q177 : (Jvm.Cond.initialized "TinFen$Step") ∈ lw_all := lw_g (lw_at lw_m1 25 rfl) rfl
theorem q1000 : (Jvm.Cond.instantiable "TinFen$Step" (7 : Nat)) ∈ lw_all := lw_g (lw_at lw_m4 128 rfl) rfl
theorem q1002 : (Jvm.Cond.instanceMethod ({ cls := "TinFen$Step", name := "<init>", desc := "(I)V" } : Jvm.MethodName)) ∈ lw_all := lw_g (lw_at lw_m4 130 rfl) rfl
theorem q1003 : (Jvm.Cond.code ({ cls := "TinFen$Step", name := "<init>", desc := "(I)V" } : Jvm.MethodName) prog_9_method_1_code (2 : Nat) (Option.none : Option Jvm.ClassFile.FieldType)) ∈ lw_all := lw_g (lw_at lw_m4 131 rfl) rfl
theorem q1004 : (Jvm.Cond.methodLink "TinFen$Step" (1 : Nat) ({ cls := "java/lang/Object", name := "<init>", desc := "()V" } : Jvm.MethodName)) ∈ lw_all := lw_g (lw_at lw_m4 132 rfl) rfl
theorem q1005 : (Jvm.Cond.fieldLink "TinFen$Step" (7 : Nat) "TinFen$Step" "kind" "I") ∈ lw_all := lw_g (lw_at lw_m4 133 rfl) rfl
theorem q1019 : (Jvm.Cond.laysFinal "TinFen$Step" "TinFen$Step" "kind" "I") ∈ lw_all := lw_g (lw_at lw_m4 147 rfl) rfl
theorem q1020 : (Jvm.Cond.soleField "TinFen$Step" "kind") ∈ lw_all := lw_g (lw_at lw_m4 148 rfl) rfl
theorem q1021 : (Jvm.Cond.lays "TinFen$Step" "TinFen$Step" "one" "I") ∈ lw_all := lw_g (lw_at lw_m4 149 rfl) rfl
theorem q1022 : (Jvm.Cond.soleField "TinFen$Step" "one") ∈ lw_all := lw_g (lw_at lw_m4 150 rfl) rfl
theorem q1023 : (Jvm.Cond.lays "TinFen$Step" "TinFen$Step" "two" "I") ∈ lw_all := lw_g (lw_at lw_m4 151 rfl) rfl
theorem q1024 : (Jvm.Cond.soleField "TinFen$Step" "two") ∈ lw_all := lw_g (lw_at lw_m4 152 rfl) rfl
theorem q1025 : (Jvm.Cond.lays "TinFen$Step" "TinFen$Step" "test" "I") ∈ lw_all := lw_g (lw_at lw_m4 153 rfl) rfl
theorem q1026 : (Jvm.Cond.soleField "TinFen$Step" "test") ∈ lw_all := lw_g (lw_at lw_m4 154 rfl) rfl
theorem q1027 : (Jvm.Cond.lays "TinFen$Step" "TinFen$Step" "compares" "I") ∈ lw_all := lw_g (lw_at lw_m4 155 rfl) rfl
theorem q1028 : (Jvm.Cond.soleField "TinFen$Step" "compares") ∈ lw_all := lw_g (lw_at lw_m4 156 rfl) rfl
theorem q1029 : (Jvm.Cond.lays "TinFen$Step" "TinFen$Step" "to" "I") ∈ lw_all := lw_g (lw_at lw_m4 157 rfl) rfl
theorem q1030 : (Jvm.Cond.soleField "TinFen$Step" "to") ∈ lw_all := lw_g (lw_at lw_m4 158 rfl) rfl
theorem q1031 : (Jvm.Cond.lays "TinFen$Step" "TinFen$Step" "rounds" "I") ∈ lw_all := lw_g (lw_at lw_m4 159 rfl) rfl
theorem q1032 : (Jvm.Cond.soleField "TinFen$Step" "rounds") ∈ lw_all := lw_g (lw_at lw_m4 160 rfl) rfl
theorem q1033 : (Jvm.Cond.superclass "TinFen$Step" "java/lang/Object") ∈ lw_all := lw_g (lw_at lw_m4 161 rfl) rfl
theorem in_X11 : ∀ w ∈ wsX110, w ∈ lw_all := lw_in wsX110 [1019, 1021, 1023, 1025, 1027, 1029, 1031] (by decide +kernel) (by decide +kernel)

/-! TinFen$Kept -/
set_option maxRecDepth 100000
def RX12 : String := "TinFen$Kept"
def TX12 : u_T := fun k => match k with
  | 0 => ("TinFen$Kept", "fen", "LTinFen$Fen;", true)
  | 1 => ("TinFen$Kept", "steps", "[LTinFen$Step;", true)
  | _ => ("TinFen$Kept", "stepMany", "I", true)
def tyX12 : Nat → FieldType := fun k => match k with
  | 0 => .object "TinFen$Fen"
  | 1 => .array (.object "TinFen$Step")
  | _ => .int
abbrev wsX120 : List Cond := u_ws RX12 TX12 3
theorem nmX12 : ∀ a, a < 3 → ∀ b, b < 3 → a ≠ b → (TX12 a).2.1 ≠ (TX12 b).2.1 := by decide +kernel
theorem tyX12_ok : ∀ k, k < 3 → parseFieldDescriptor (TX12 k).2.2.1 = some (tyX12 k) := by decide +kernel
abbrev cX12_init : ByteArray := prog_3_method_1_code
def yX12_init : MethodName := ⟨RX12, "<init>", "(LTinFen$Fen;[LTinFen$Step;I)V"⟩
def dkwX12_init_0 : List UInt8 := [42, 183, 0, 1, 42, 43, 181, 0, 7, 42, 44, 181, 0, 13, 42, 29, 181, 0, 17, 177]
abbrev dktX12_init_0 : List UInt8 := dkwX12_init_0 ++ []
theorem dksX12_init_0 : cX12_init.data.toList.drop 0 = dktX12_init_0 := by decide +kernel
theorem dX12_init_0 : decode cX12_init 0 = .ok (.aload_n 0, 1) := dk_42 (dk_at dksX12_init_0 0 rfl rfl)
theorem dX12_init_1 : decode cX12_init 1 = .ok (.invokespecial 1, 3) := dk_183 0 1 (dk_at dksX12_init_0 1 rfl rfl)
theorem dX12_init_4 : decode cX12_init 4 = .ok (.aload_n 0, 1) := dk_42 (dk_at dksX12_init_0 4 rfl rfl)
theorem dX12_init_5 : decode cX12_init 5 = .ok (.aload_n 1, 1) := dk_43 (dk_at dksX12_init_0 5 rfl rfl)
theorem dX12_init_6 : decode cX12_init 6 = .ok (.putfield 7, 3) := dk_181 0 7 (dk_at dksX12_init_0 6 rfl rfl)
theorem dX12_init_9 : decode cX12_init 9 = .ok (.aload_n 0, 1) := dk_42 (dk_at dksX12_init_0 9 rfl rfl)
theorem dX12_init_10 : decode cX12_init 10 = .ok (.aload_n 2, 1) := dk_44 (dk_at dksX12_init_0 10 rfl rfl)
theorem dX12_init_11 : decode cX12_init 11 = .ok (.putfield 13, 3) := dk_181 0 13 (dk_at dksX12_init_0 11 rfl rfl)
theorem dX12_init_14 : decode cX12_init 14 = .ok (.aload_n 0, 1) := dk_42 (dk_at dksX12_init_0 14 rfl rfl)
theorem dX12_init_15 : decode cX12_init 15 = .ok (.iload_n 3, 1) := dk_29 (dk_at dksX12_init_0 15 rfl rfl)
theorem dX12_init_16 : decode cX12_init 16 = .ok (.putfield 17, 3) := dk_181 0 17 (dk_at dksX12_init_0 16 rfl rfl)
theorem dX12_init_19 : decode cX12_init 19 = .ok (.return_, 1) := dk_177 (dk_at dksX12_init_0 19 rfl rfl)
theorem q178 : (Jvm.Cond.initialized "TinFen$Kept") ∈ lw_all := lw_g (lw_at lw_m1 26 rfl) rfl
theorem q1461 : (Jvm.Cond.instantiable "TinFen$Kept" (3 : Nat)) ∈ lw_all := lw_g (lw_at lw_m6 109 rfl) rfl
theorem q1463 : (Jvm.Cond.instanceMethod ({ cls := "TinFen$Kept", name := "<init>", desc := "(LTinFen$Fen;[LTinFen$Step;I)V" } : Jvm.MethodName)) ∈ lw_all := lw_g (lw_at lw_m6 111 rfl) rfl
theorem q1464 : (Jvm.Cond.code ({ cls := "TinFen$Kept", name := "<init>", desc := "(LTinFen$Fen;[LTinFen$Step;I)V" } : Jvm.MethodName) prog_3_method_1_code (4 : Nat) (Option.none : Option Jvm.ClassFile.FieldType)) ∈ lw_all := lw_g (lw_at lw_m6 112 rfl) rfl
theorem q1465 : (Jvm.Cond.methodLink "TinFen$Kept" (1 : Nat) ({ cls := "java/lang/Object", name := "<init>", desc := "()V" } : Jvm.MethodName)) ∈ lw_all := lw_g (lw_at lw_m6 113 rfl) rfl
theorem q1466 : (Jvm.Cond.fieldLink "TinFen$Kept" (7 : Nat) "TinFen$Kept" "fen" "LTinFen$Fen;") ∈ lw_all := lw_g (lw_at lw_m6 114 rfl) rfl
theorem q1468 : (Jvm.Cond.fieldLink "TinFen$Kept" (13 : Nat) "TinFen$Kept" "steps" "[LTinFen$Step;") ∈ lw_all := lw_g (lw_at lw_m6 116 rfl) rfl
theorem q1470 : (Jvm.Cond.fieldLink "TinFen$Kept" (17 : Nat) "TinFen$Kept" "stepMany" "I") ∈ lw_all := lw_g (lw_at lw_m6 118 rfl) rfl
theorem q1472 : (Jvm.Cond.laysFinal "TinFen$Kept" "TinFen$Kept" "fen" "LTinFen$Fen;") ∈ lw_all := lw_g (lw_at lw_m6 120 rfl) rfl
theorem q1473 : (Jvm.Cond.soleField "TinFen$Kept" "fen") ∈ lw_all := lw_g (lw_at lw_m6 121 rfl) rfl
theorem q1474 : (Jvm.Cond.laysFinal "TinFen$Kept" "TinFen$Kept" "steps" "[LTinFen$Step;") ∈ lw_all := lw_g (lw_at lw_m6 122 rfl) rfl
theorem q1475 : (Jvm.Cond.soleField "TinFen$Kept" "steps") ∈ lw_all := lw_g (lw_at lw_m6 123 rfl) rfl
theorem q1476 : (Jvm.Cond.laysFinal "TinFen$Kept" "TinFen$Kept" "stepMany" "I") ∈ lw_all := lw_g (lw_at lw_m6 124 rfl) rfl
theorem q1477 : (Jvm.Cond.soleField "TinFen$Kept" "stepMany") ∈ lw_all := lw_g (lw_at lw_m6 125 rfl) rfl
theorem q1478 : (Jvm.Cond.superclass "TinFen$Kept" "java/lang/Object") ∈ lw_all := lw_g (lw_at lw_m6 126 rfl) rfl
theorem in_X12 : ∀ w ∈ wsX120, w ∈ lw_all := lw_in wsX120 [1472, 1474, 1476] (by decide +kernel) (by decide +kernel)

/-! java/lang/Throwable -/
set_option maxRecDepth 100000
def RJ0 : String := "java/lang/Throwable"
def TJ0 : u_T := fun k => match k with
  | 0 => ("java/lang/Throwable", "cause", "Ljava/lang/Throwable;", false)
  | 1 => ("java/lang/Throwable", "stackTrace", "[Ljava/lang/StackTraceElement;", false)
  | 2 => ("java/lang/Throwable", "suppressedExceptions", "Ljava/util/List;", false)
  | 3 => ("java/lang/Throwable", "detailMessage", "Ljava/lang/String;", false)
  | _ => ("java/lang/Throwable", "backtrace", "Ljava/lang/Object;", false)
def tyJ0 : Nat → FieldType := fun k => match k with
  | 0 => .object "java/lang/Throwable"
  | 1 => .array (.object "java/lang/StackTraceElement")
  | 2 => .object "java/util/List"
  | 3 => .object "java/lang/String"
  | _ => .object "java/lang/Object"
abbrev wsJ00 : List Cond := u_ws RJ0 TJ0 5
theorem nmJ0 : ∀ a, a < 5 → ∀ b, b < 5 → a ≠ b → (TJ0 a).2.1 ≠ (TJ0 b).2.1 := by decide +kernel
theorem tyJ0_ok : ∀ k, k < 5 → parseFieldDescriptor (TJ0 k).2.2.1 = some (tyJ0 k) := by decide +kernel
abbrev cJ0_init : ByteArray := prog_26_method_1_code
def yJ0_init : MethodName := ⟨RJ0, "<init>", "()V"⟩
def dkwJ0_init_1 : List UInt8 := [182, 0, 27, 87, 177]
abbrev dktJ0_init_1 : List UInt8 := dkwJ0_init_1 ++ []
def dkwJ0_init_0 : List UInt8 := [42, 183, 0, 1, 42, 42, 181, 0, 7, 42, 178, 0, 13, 181, 0, 17, 42, 178, 0, 20, 181, 0, 24, 42]
abbrev dktJ0_init_0 : List UInt8 := dkwJ0_init_0 ++ dktJ0_init_1
theorem dksJ0_init_0 : cJ0_init.data.toList.drop 0 = dktJ0_init_0 := by decide +kernel
theorem dksJ0_init_1 : cJ0_init.data.toList.drop 24 = dktJ0_init_1 := dk_seg dksJ0_init_0 24 rfl rfl
theorem dJ0_init_0 : decode cJ0_init 0 = .ok (.aload_n 0, 1) := dk_42 (dk_at dksJ0_init_0 0 rfl rfl)
theorem dJ0_init_1 : decode cJ0_init 1 = .ok (.invokespecial 1, 3) := dk_183 0 1 (dk_at dksJ0_init_0 1 rfl rfl)
theorem dJ0_init_4 : decode cJ0_init 4 = .ok (.aload_n 0, 1) := dk_42 (dk_at dksJ0_init_0 4 rfl rfl)
theorem dJ0_init_5 : decode cJ0_init 5 = .ok (.aload_n 0, 1) := dk_42 (dk_at dksJ0_init_0 5 rfl rfl)
theorem dJ0_init_6 : decode cJ0_init 6 = .ok (.putfield 7, 3) := dk_181 0 7 (dk_at dksJ0_init_0 6 rfl rfl)
theorem dJ0_init_9 : decode cJ0_init 9 = .ok (.aload_n 0, 1) := dk_42 (dk_at dksJ0_init_0 9 rfl rfl)
theorem dJ0_init_10 : decode cJ0_init 10 = .ok (.getstatic 13, 3) := dk_178 0 13 (dk_at dksJ0_init_0 10 rfl rfl)
theorem dJ0_init_13 : decode cJ0_init 13 = .ok (.putfield 17, 3) := dk_181 0 17 (dk_at dksJ0_init_0 13 rfl rfl)
theorem dJ0_init_16 : decode cJ0_init 16 = .ok (.aload_n 0, 1) := dk_42 (dk_at dksJ0_init_0 16 rfl rfl)
theorem dJ0_init_17 : decode cJ0_init 17 = .ok (.getstatic 20, 3) := dk_178 0 20 (dk_at dksJ0_init_0 17 rfl rfl)
theorem dJ0_init_20 : decode cJ0_init 20 = .ok (.putfield 24, 3) := dk_181 0 24 (dk_at dksJ0_init_0 20 rfl rfl)
theorem dJ0_init_23 : decode cJ0_init 23 = .ok (.aload_n 0, 1) := dk_42 (dk_at dksJ0_init_0 23 rfl rfl)
theorem dJ0_init_24 : decode cJ0_init 24 = .ok (.invokevirtual 27, 3) := dk_182 0 27 (dk_at dksJ0_init_1 0 rfl rfl)
theorem dJ0_init_27 : decode cJ0_init 27 = .ok (.pop, 1) := dk_87 (dk_at dksJ0_init_1 3 rfl rfl)
theorem dJ0_init_28 : decode cJ0_init 28 = .ok (.return_, 1) := dk_177 (dk_at dksJ0_init_1 4 rfl rfl)
abbrev cJ0_init_2 : ByteArray := prog_26_method_5_code
def yJ0_init_2 : MethodName := ⟨RJ0, "<init>", "(Ljava/lang/String;Ljava/lang/Throwable;ZZ)V"⟩
def dkwJ0_init_2_2 : List UInt8 := [44, 181, 0, 7, 29, 154, 0, 8, 42, 1, 181, 0, 24, 177]
abbrev dktJ0_init_2_2 : List UInt8 := dkwJ0_init_2_2 ++ []
def dkwJ0_init_2_1 : List UInt8 := [21, 4, 153, 0, 11, 42, 182, 0, 27, 87, 167, 0, 8, 42, 1, 181, 0, 17, 42, 43, 181, 0, 31, 42]
abbrev dktJ0_init_2_1 : List UInt8 := dkwJ0_init_2_1 ++ dktJ0_init_2_2
def dkwJ0_init_2_0 : List UInt8 := [42, 183, 0, 1, 42, 42, 181, 0, 7, 42, 178, 0, 13, 181, 0, 17, 42, 178, 0, 20, 181, 0, 24]
abbrev dktJ0_init_2_0 : List UInt8 := dkwJ0_init_2_0 ++ dktJ0_init_2_1
theorem dksJ0_init_2_0 : cJ0_init_2.data.toList.drop 0 = dktJ0_init_2_0 := by decide +kernel
theorem dksJ0_init_2_1 : cJ0_init_2.data.toList.drop 23 = dktJ0_init_2_1 := dk_seg dksJ0_init_2_0 23 rfl rfl
theorem dksJ0_init_2_2 : cJ0_init_2.data.toList.drop 47 = dktJ0_init_2_2 := dk_seg dksJ0_init_2_1 24 rfl rfl
theorem dJ0_init_2_0 : decode cJ0_init_2 0 = .ok (.aload_n 0, 1) := dk_42 (dk_at dksJ0_init_2_0 0 rfl rfl)
theorem dJ0_init_2_1 : decode cJ0_init_2 1 = .ok (.invokespecial 1, 3) := dk_183 0 1 (dk_at dksJ0_init_2_0 1 rfl rfl)
theorem dJ0_init_2_4 : decode cJ0_init_2 4 = .ok (.aload_n 0, 1) := dk_42 (dk_at dksJ0_init_2_0 4 rfl rfl)
theorem dJ0_init_2_5 : decode cJ0_init_2 5 = .ok (.aload_n 0, 1) := dk_42 (dk_at dksJ0_init_2_0 5 rfl rfl)
theorem dJ0_init_2_6 : decode cJ0_init_2 6 = .ok (.putfield 7, 3) := dk_181 0 7 (dk_at dksJ0_init_2_0 6 rfl rfl)
theorem dJ0_init_2_9 : decode cJ0_init_2 9 = .ok (.aload_n 0, 1) := dk_42 (dk_at dksJ0_init_2_0 9 rfl rfl)
theorem dJ0_init_2_10 : decode cJ0_init_2 10 = .ok (.getstatic 13, 3) := dk_178 0 13 (dk_at dksJ0_init_2_0 10 rfl rfl)
theorem dJ0_init_2_13 : decode cJ0_init_2 13 = .ok (.putfield 17, 3) := dk_181 0 17 (dk_at dksJ0_init_2_0 13 rfl rfl)
theorem dJ0_init_2_16 : decode cJ0_init_2 16 = .ok (.aload_n 0, 1) := dk_42 (dk_at dksJ0_init_2_0 16 rfl rfl)
theorem dJ0_init_2_17 : decode cJ0_init_2 17 = .ok (.getstatic 20, 3) := dk_178 0 20 (dk_at dksJ0_init_2_0 17 rfl rfl)
theorem dJ0_init_2_20 : decode cJ0_init_2 20 = .ok (.putfield 24, 3) := dk_181 0 24 (dk_at dksJ0_init_2_0 20 rfl rfl)
theorem dJ0_init_2_23 : decode cJ0_init_2 23 = .ok (.iload 4, 2) := dk_21 4 (dk_at dksJ0_init_2_1 0 rfl rfl)
theorem dJ0_init_2_25 : decode cJ0_init_2 25 = .ok (.ifCond .eq 11, 3) := dk_153 0 11 (dk_at dksJ0_init_2_1 2 rfl rfl)
theorem dJ0_init_2_28 : decode cJ0_init_2 28 = .ok (.aload_n 0, 1) := dk_42 (dk_at dksJ0_init_2_1 5 rfl rfl)
theorem dJ0_init_2_29 : decode cJ0_init_2 29 = .ok (.invokevirtual 27, 3) := dk_182 0 27 (dk_at dksJ0_init_2_1 6 rfl rfl)
theorem dJ0_init_2_32 : decode cJ0_init_2 32 = .ok (.pop, 1) := dk_87 (dk_at dksJ0_init_2_1 9 rfl rfl)
theorem dJ0_init_2_33 : decode cJ0_init_2 33 = .ok (.goto 8, 3) := dk_167 0 8 (dk_at dksJ0_init_2_1 10 rfl rfl)
theorem dJ0_init_2_36 : decode cJ0_init_2 36 = .ok (.aload_n 0, 1) := dk_42 (dk_at dksJ0_init_2_1 13 rfl rfl)
theorem dJ0_init_2_37 : decode cJ0_init_2 37 = .ok (.aconst_null, 1) := dk_1 (dk_at dksJ0_init_2_1 14 rfl rfl)
theorem dJ0_init_2_38 : decode cJ0_init_2 38 = .ok (.putfield 17, 3) := dk_181 0 17 (dk_at dksJ0_init_2_1 15 rfl rfl)
theorem dJ0_init_2_41 : decode cJ0_init_2 41 = .ok (.aload_n 0, 1) := dk_42 (dk_at dksJ0_init_2_1 18 rfl rfl)
theorem dJ0_init_2_42 : decode cJ0_init_2 42 = .ok (.aload_n 1, 1) := dk_43 (dk_at dksJ0_init_2_1 19 rfl rfl)
theorem dJ0_init_2_43 : decode cJ0_init_2 43 = .ok (.putfield 31, 3) := dk_181 0 31 (dk_at dksJ0_init_2_1 20 rfl rfl)
theorem dJ0_init_2_46 : decode cJ0_init_2 46 = .ok (.aload_n 0, 1) := dk_42 (dk_at dksJ0_init_2_1 23 rfl rfl)
theorem dJ0_init_2_47 : decode cJ0_init_2 47 = .ok (.aload_n 2, 1) := dk_44 (dk_at dksJ0_init_2_2 0 rfl rfl)
theorem dJ0_init_2_48 : decode cJ0_init_2 48 = .ok (.putfield 7, 3) := dk_181 0 7 (dk_at dksJ0_init_2_2 1 rfl rfl)
theorem dJ0_init_2_51 : decode cJ0_init_2 51 = .ok (.iload_n 3, 1) := dk_29 (dk_at dksJ0_init_2_2 4 rfl rfl)
theorem dJ0_init_2_52 : decode cJ0_init_2 52 = .ok (.ifCond .ne 8, 3) := dk_154 0 8 (dk_at dksJ0_init_2_2 5 rfl rfl)
theorem dJ0_init_2_55 : decode cJ0_init_2 55 = .ok (.aload_n 0, 1) := dk_42 (dk_at dksJ0_init_2_2 8 rfl rfl)
theorem dJ0_init_2_56 : decode cJ0_init_2 56 = .ok (.aconst_null, 1) := dk_1 (dk_at dksJ0_init_2_2 9 rfl rfl)
theorem dJ0_init_2_57 : decode cJ0_init_2 57 = .ok (.putfield 24, 3) := dk_181 0 24 (dk_at dksJ0_init_2_2 10 rfl rfl)
theorem dJ0_init_2_60 : decode cJ0_init_2 60 = .ok (.return_, 1) := dk_177 (dk_at dksJ0_init_2_2 13 rfl rfl)
abbrev cJ0_init_3 : ByteArray := prog_26_method_2_code
def yJ0_init_3 : MethodName := ⟨RJ0, "<init>", "(Ljava/lang/String;)V"⟩
def dkwJ0_init_3_1 : List UInt8 := [182, 0, 27, 87, 42, 43, 181, 0, 31, 177]
abbrev dktJ0_init_3_1 : List UInt8 := dkwJ0_init_3_1 ++ []
def dkwJ0_init_3_0 : List UInt8 := [42, 183, 0, 1, 42, 42, 181, 0, 7, 42, 178, 0, 13, 181, 0, 17, 42, 178, 0, 20, 181, 0, 24, 42]
abbrev dktJ0_init_3_0 : List UInt8 := dkwJ0_init_3_0 ++ dktJ0_init_3_1
theorem dksJ0_init_3_0 : cJ0_init_3.data.toList.drop 0 = dktJ0_init_3_0 := by decide +kernel
theorem dksJ0_init_3_1 : cJ0_init_3.data.toList.drop 24 = dktJ0_init_3_1 := dk_seg dksJ0_init_3_0 24 rfl rfl
theorem dJ0_init_3_0 : decode cJ0_init_3 0 = .ok (.aload_n 0, 1) := dk_42 (dk_at dksJ0_init_3_0 0 rfl rfl)
theorem dJ0_init_3_1 : decode cJ0_init_3 1 = .ok (.invokespecial 1, 3) := dk_183 0 1 (dk_at dksJ0_init_3_0 1 rfl rfl)
theorem dJ0_init_3_4 : decode cJ0_init_3 4 = .ok (.aload_n 0, 1) := dk_42 (dk_at dksJ0_init_3_0 4 rfl rfl)
theorem dJ0_init_3_5 : decode cJ0_init_3 5 = .ok (.aload_n 0, 1) := dk_42 (dk_at dksJ0_init_3_0 5 rfl rfl)
theorem dJ0_init_3_6 : decode cJ0_init_3 6 = .ok (.putfield 7, 3) := dk_181 0 7 (dk_at dksJ0_init_3_0 6 rfl rfl)
theorem dJ0_init_3_9 : decode cJ0_init_3 9 = .ok (.aload_n 0, 1) := dk_42 (dk_at dksJ0_init_3_0 9 rfl rfl)
theorem dJ0_init_3_10 : decode cJ0_init_3 10 = .ok (.getstatic 13, 3) := dk_178 0 13 (dk_at dksJ0_init_3_0 10 rfl rfl)
theorem dJ0_init_3_13 : decode cJ0_init_3 13 = .ok (.putfield 17, 3) := dk_181 0 17 (dk_at dksJ0_init_3_0 13 rfl rfl)
theorem dJ0_init_3_16 : decode cJ0_init_3 16 = .ok (.aload_n 0, 1) := dk_42 (dk_at dksJ0_init_3_0 16 rfl rfl)
theorem dJ0_init_3_17 : decode cJ0_init_3 17 = .ok (.getstatic 20, 3) := dk_178 0 20 (dk_at dksJ0_init_3_0 17 rfl rfl)
theorem dJ0_init_3_20 : decode cJ0_init_3 20 = .ok (.putfield 24, 3) := dk_181 0 24 (dk_at dksJ0_init_3_0 20 rfl rfl)
theorem dJ0_init_3_23 : decode cJ0_init_3 23 = .ok (.aload_n 0, 1) := dk_42 (dk_at dksJ0_init_3_0 23 rfl rfl)
theorem dJ0_init_3_24 : decode cJ0_init_3 24 = .ok (.invokevirtual 27, 3) := dk_182 0 27 (dk_at dksJ0_init_3_1 0 rfl rfl)
theorem dJ0_init_3_27 : decode cJ0_init_3 27 = .ok (.pop, 1) := dk_87 (dk_at dksJ0_init_3_1 3 rfl rfl)
theorem dJ0_init_3_28 : decode cJ0_init_3 28 = .ok (.aload_n 0, 1) := dk_42 (dk_at dksJ0_init_3_1 4 rfl rfl)
theorem dJ0_init_3_29 : decode cJ0_init_3 29 = .ok (.aload_n 1, 1) := dk_43 (dk_at dksJ0_init_3_1 5 rfl rfl)
theorem dJ0_init_3_30 : decode cJ0_init_3 30 = .ok (.putfield 31, 3) := dk_181 0 31 (dk_at dksJ0_init_3_1 6 rfl rfl)
theorem dJ0_init_3_33 : decode cJ0_init_3 33 = .ok (.return_, 1) := dk_177 (dk_at dksJ0_init_3_1 9 rfl rfl)
theorem q156 : (Jvm.Cond.initialized "java/lang/Throwable") ∈ lw_all := lw_g (lw_at lw_m1 4 rfl) rfl
theorem q198 : (Jvm.Cond.declares ({ cls := "java/lang/Throwable", name := "<init>", desc := "()V" } : Jvm.MethodName)) ∈ lw_tbl := lw_at lw_m1 46 rfl
theorem q199 : (Jvm.Cond.declares ({ cls := "java/lang/Throwable", name := "<init>", desc := "(Ljava/lang/String;)V" } : Jvm.MethodName)) ∈ lw_tbl := lw_at lw_m1 47 rfl
theorem q203 : (Jvm.Cond.lays "java/lang/Throwable" "java/lang/Throwable" "cause" "Ljava/lang/Throwable;") ∈ lw_all := lw_g (lw_at lw_m1 51 rfl) rfl
theorem q205 : (Jvm.Cond.lays "java/lang/Throwable" "java/lang/Throwable" "stackTrace" "[Ljava/lang/StackTraceElement;") ∈ lw_all := lw_g (lw_at lw_m1 53 rfl) rfl
theorem q207 : (Jvm.Cond.lays "java/lang/Throwable" "java/lang/Throwable" "suppressedExceptions" "Ljava/util/List;") ∈ lw_all := lw_g (lw_at lw_m1 55 rfl) rfl
theorem q209 : (Jvm.Cond.lays "java/lang/Throwable" "java/lang/Throwable" "detailMessage" "Ljava/lang/String;") ∈ lw_all := lw_g (lw_at lw_m1 57 rfl) rfl
theorem q211 : (Jvm.Cond.lays "java/lang/Throwable" "java/lang/Throwable" "backtrace" "Ljava/lang/Object;") ∈ lw_all := lw_g (lw_at lw_m1 59 rfl) rfl
theorem q212 : (Jvm.Cond.fieldLink "java/lang/Throwable" (198 : Nat) "java/lang/Throwable" "backtrace" "Ljava/lang/Object;") ∈ lw_all := lw_g (lw_at lw_m1 60 rfl) rfl
theorem q213 : (Jvm.Cond.superclass "java/lang/Throwable" "java/lang/Object") ∈ lw_all := lw_g (lw_at lw_m1 61 rfl) rfl
theorem q214 : (Jvm.Cond.instanceMethod ({ cls := "java/lang/Throwable", name := "<init>", desc := "()V" } : Jvm.MethodName)) ∈ lw_all := lw_g (lw_at lw_m1 62 rfl) rfl
theorem q215 : (Jvm.Cond.code ({ cls := "java/lang/Throwable", name := "<init>", desc := "()V" } : Jvm.MethodName) prog_26_method_1_code (1 : Nat) (Option.none : Option Jvm.ClassFile.FieldType)) ∈ lw_all := lw_g (lw_at lw_m1 63 rfl) rfl
theorem q216 : (Jvm.Cond.methodLink "java/lang/Throwable" (1 : Nat) ({ cls := "java/lang/Object", name := "<init>", desc := "()V" } : Jvm.MethodName)) ∈ lw_all := lw_g (lw_at lw_m1 64 rfl) rfl
theorem q217 : (Jvm.Cond.fieldLink "java/lang/Throwable" (13 : Nat) "java/lang/Throwable" "UNASSIGNED_STACK" "[Ljava/lang/StackTraceElement;") ∈ lw_all := lw_g (lw_at lw_m1 65 rfl) rfl
theorem q218 : (Jvm.Cond.laysStatic "java/lang/Throwable" "UNASSIGNED_STACK" "[Ljava/lang/StackTraceElement;") ∈ lw_tbl := lw_at lw_m1 66 rfl
theorem q219 : (Jvm.Cond.fieldLink "java/lang/Throwable" (20 : Nat) "java/lang/Throwable" "SUPPRESSED_SENTINEL" "Ljava/util/List;") ∈ lw_all := lw_g (lw_at lw_m1 67 rfl) rfl
theorem q220 : (Jvm.Cond.laysStatic "java/lang/Throwable" "SUPPRESSED_SENTINEL" "Ljava/util/List;") ∈ lw_tbl := lw_at lw_m1 68 rfl
theorem q221 : (Jvm.Cond.methodLink "java/lang/Throwable" (27 : Nat) ({ cls := "java/lang/Throwable", name := "fillInStackTrace", desc := "()Ljava/lang/Throwable;" } : Jvm.MethodName)) ∈ lw_all := lw_g (lw_at lw_m1 69 rfl) rfl
theorem q222 : (Jvm.Cond.instanceMethod ({ cls := "java/lang/Throwable", name := "fillInStackTrace", desc := "()Ljava/lang/Throwable;" } : Jvm.MethodName)) ∈ lw_all := lw_g (lw_at lw_m1 70 rfl) rfl
theorem q223 : (Jvm.Cond.sameMethod "java/lang/Throwable" "java/lang/Throwable" "fillInStackTrace" "()Ljava/lang/Throwable;") ∈ lw_all := lw_g (lw_at lw_m1 71 rfl) rfl
theorem q236 : (Jvm.Cond.declares ({ cls := "java/lang/Throwable", name := "fillInStackTrace", desc := "()Ljava/lang/Throwable;" } : Jvm.MethodName)) ∈ lw_tbl := lw_at lw_m1 84 rfl
theorem q240 : (Jvm.Cond.codeSync ({ cls := "java/lang/Throwable", name := "fillInStackTrace", desc := "()Ljava/lang/Throwable;" } : Jvm.MethodName) prog_26_method_18_code (1 : Nat) (Option.some (Jvm.ClassFile.FieldType.object "java/lang/Throwable"))) ∈ lw_all := lw_g (lw_at lw_m1 88 rfl) rfl
theorem q241 : (Jvm.Cond.methodLink "java/lang/Throwable" (202 : Nat) ({ cls := "java/lang/Throwable", name := "fillInStackTrace", desc := "(I)Ljava/lang/Throwable;" } : Jvm.MethodName)) ∈ lw_all := lw_g (lw_at lw_m1 89 rfl) rfl
theorem q242 : (Jvm.Cond.privateMethod ({ cls := "java/lang/Throwable", name := "fillInStackTrace", desc := "(I)Ljava/lang/Throwable;" } : Jvm.MethodName)) ∈ lw_tbl := lw_at lw_m1 90 rfl
theorem q243 : (Jvm.Cond.instanceMethod ({ cls := "java/lang/Throwable", name := "fillInStackTrace", desc := "(I)Ljava/lang/Throwable;" } : Jvm.MethodName)) ∈ lw_all := lw_g (lw_at lw_m1 91 rfl) rfl
theorem q244 : (Jvm.Cond.instantiable "java/lang/Throwable" (6 : Nat)) ∈ lw_all := lw_g (lw_at lw_m1 92 rfl) rfl
theorem q245 : (Jvm.Cond.native ({ cls := "java/lang/Throwable", name := "fillInStackTrace", desc := "(I)Ljava/lang/Throwable;" } : Jvm.MethodName)) ∈ lw_all := lw_g (lw_at lw_m1 93 rfl) rfl
theorem q256 : (Jvm.Cond.instanceMethod ({ cls := "java/lang/Throwable", name := "<init>", desc := "(Ljava/lang/String;Ljava/lang/Throwable;ZZ)V" } : Jvm.MethodName)) ∈ lw_all := lw_g (lw_at lw_m1 104 rfl) rfl
theorem q257 : (Jvm.Cond.code ({ cls := "java/lang/Throwable", name := "<init>", desc := "(Ljava/lang/String;Ljava/lang/Throwable;ZZ)V" } : Jvm.MethodName) prog_26_method_5_code (5 : Nat) (Option.none : Option Jvm.ClassFile.FieldType)) ∈ lw_all := lw_g (lw_at lw_m1 105 rfl) rfl
theorem q262 : (Jvm.Cond.fieldLink "java/lang/Throwable" (198 : Nat) "java/lang/Throwable" "backtrace" "Ljava/lang/Object;") ∈ lw_all := lw_g (lw_at lw_m1 110 rfl) rfl
theorem q263 : (Jvm.Cond.fieldLink "java/lang/Throwable" (31 : Nat) "java/lang/Throwable" "detailMessage" "Ljava/lang/String;") ∈ lw_all := lw_g (lw_at lw_m1 111 rfl) rfl
theorem q264 : (Jvm.Cond.fieldLink "java/lang/Throwable" (7 : Nat) "java/lang/Throwable" "cause" "Ljava/lang/Throwable;") ∈ lw_all := lw_g (lw_at lw_m1 112 rfl) rfl
theorem q265 : (Jvm.Cond.fieldLink "java/lang/Throwable" (17 : Nat) "java/lang/Throwable" "stackTrace" "[Ljava/lang/StackTraceElement;") ∈ lw_all := lw_g (lw_at lw_m1 113 rfl) rfl
theorem q266 : (Jvm.Cond.fieldLink "java/lang/Throwable" (24 : Nat) "java/lang/Throwable" "suppressedExceptions" "Ljava/util/List;") ∈ lw_all := lw_g (lw_at lw_m1 114 rfl) rfl
theorem q271 : (Jvm.Cond.soleField "java/lang/Throwable" "backtrace") ∈ lw_all := lw_g (lw_at lw_m1 119 rfl) rfl
theorem q272 : (Jvm.Cond.soleField "java/lang/Throwable" "detailMessage") ∈ lw_all := lw_g (lw_at lw_m1 120 rfl) rfl
theorem q273 : (Jvm.Cond.soleField "java/lang/Throwable" "cause") ∈ lw_all := lw_g (lw_at lw_m1 121 rfl) rfl
theorem q274 : (Jvm.Cond.soleField "java/lang/Throwable" "stackTrace") ∈ lw_all := lw_g (lw_at lw_m1 122 rfl) rfl
theorem q276 : (Jvm.Cond.soleField "java/lang/Throwable" "depth") ∈ lw_all := lw_g (lw_at lw_m1 124 rfl) rfl
theorem q277 : (Jvm.Cond.soleField "java/lang/Throwable" "suppressedExceptions") ∈ lw_all := lw_g (lw_at lw_m1 125 rfl) rfl
theorem q555 : (Jvm.Cond.instanceMethod ({ cls := "java/lang/Throwable", name := "<init>", desc := "(Ljava/lang/String;)V" } : Jvm.MethodName)) ∈ lw_all := lw_g (lw_at lw_m2 163 rfl) rfl
theorem q556 : (Jvm.Cond.code ({ cls := "java/lang/Throwable", name := "<init>", desc := "(Ljava/lang/String;)V" } : Jvm.MethodName) prog_26_method_2_code (2 : Nat) (Option.none : Option Jvm.ClassFile.FieldType)) ∈ lw_all := lw_g (lw_at lw_m2 164 rfl) rfl
theorem q2252 : (Jvm.Cond.sameMethod "java/lang/Throwable" "java/lang/Throwable" "fillInStackTrace" "(I)Ljava/lang/Throwable;") ∈ lw_all := lw_g (lw_at lw_m9 180 rfl) rfl
theorem in_J0 : ∀ w ∈ wsJ00, w ∈ lw_all := lw_in wsJ00 [203, 205, 207, 209, 211] (by decide +kernel) (by decide +kernel)

/-! java/lang/Exception -/
set_option maxRecDepth 100000
def RJ1 : String := "java/lang/Exception"
abbrev cJ1_init : ByteArray := prog_16_method_5_code
def yJ1_init : MethodName := ⟨RJ1, "<init>", "(Ljava/lang/String;Ljava/lang/Throwable;ZZ)V"⟩
def dkwJ1_init_0 : List UInt8 := [42, 43, 44, 29, 21, 4, 183, 0, 16, 177]
abbrev dktJ1_init_0 : List UInt8 := dkwJ1_init_0 ++ []
theorem dksJ1_init_0 : cJ1_init.data.toList.drop 0 = dktJ1_init_0 := by decide +kernel
theorem dJ1_init_0 : decode cJ1_init 0 = .ok (.aload_n 0, 1) := dk_42 (dk_at dksJ1_init_0 0 rfl rfl)
theorem dJ1_init_1 : decode cJ1_init 1 = .ok (.aload_n 1, 1) := dk_43 (dk_at dksJ1_init_0 1 rfl rfl)
theorem dJ1_init_2 : decode cJ1_init 2 = .ok (.aload_n 2, 1) := dk_44 (dk_at dksJ1_init_0 2 rfl rfl)
theorem dJ1_init_3 : decode cJ1_init 3 = .ok (.iload_n 3, 1) := dk_29 (dk_at dksJ1_init_0 3 rfl rfl)
theorem dJ1_init_4 : decode cJ1_init 4 = .ok (.iload 4, 2) := dk_21 4 (dk_at dksJ1_init_0 4 rfl rfl)
theorem dJ1_init_6 : decode cJ1_init 6 = .ok (.invokespecial 16, 3) := dk_183 0 16 (dk_at dksJ1_init_0 6 rfl rfl)
theorem dJ1_init_9 : decode cJ1_init 9 = .ok (.return_, 1) := dk_177 (dk_at dksJ1_init_0 9 rfl rfl)
abbrev cJ1_init_2 : ByteArray := prog_16_method_2_code
def yJ1_init_2 : MethodName := ⟨RJ1, "<init>", "(Ljava/lang/String;)V"⟩
def dkwJ1_init_2_0 : List UInt8 := [42, 43, 183, 0, 7, 177]
abbrev dktJ1_init_2_0 : List UInt8 := dkwJ1_init_2_0 ++ []
theorem dksJ1_init_2_0 : cJ1_init_2.data.toList.drop 0 = dktJ1_init_2_0 := by decide +kernel
theorem dJ1_init_2_0 : decode cJ1_init_2 0 = .ok (.aload_n 0, 1) := dk_42 (dk_at dksJ1_init_2_0 0 rfl rfl)
theorem dJ1_init_2_1 : decode cJ1_init_2 1 = .ok (.aload_n 1, 1) := dk_43 (dk_at dksJ1_init_2_0 1 rfl rfl)
theorem dJ1_init_2_2 : decode cJ1_init_2 2 = .ok (.invokespecial 7, 3) := dk_183 0 7 (dk_at dksJ1_init_2_0 2 rfl rfl)
theorem dJ1_init_2_5 : decode cJ1_init_2 5 = .ok (.return_, 1) := dk_177 (dk_at dksJ1_init_2_0 5 rfl rfl)
abbrev cJ1_init_3 : ByteArray := prog_16_method_1_code
def yJ1_init_3 : MethodName := ⟨RJ1, "<init>", "()V"⟩
theorem dJ1_init_3_0 : decode cJ1_init_3 0 = .ok (.aload_n 0, 1) := by decide +kernel
theorem dJ1_init_3_1 : decode cJ1_init_3 1 = .ok (.invokespecial 1, 3) := by decide +kernel
theorem dJ1_init_3_4 : decode cJ1_init_3 4 = .ok (.return_, 1) := by decide +kernel
theorem q157 : (Jvm.Cond.initialized "java/lang/Exception") ∈ lw_all := lw_g (lw_at lw_m1 5 rfl) rfl
theorem q196 : (Jvm.Cond.declares ({ cls := "java/lang/Exception", name := "<init>", desc := "()V" } : Jvm.MethodName)) ∈ lw_tbl := lw_at lw_m1 44 rfl
theorem q197 : (Jvm.Cond.declares ({ cls := "java/lang/Exception", name := "<init>", desc := "(Ljava/lang/String;)V" } : Jvm.MethodName)) ∈ lw_tbl := lw_at lw_m1 45 rfl
theorem q239 : (Jvm.Cond.superclass "java/lang/Exception" "java/lang/Throwable") ∈ lw_all := lw_g (lw_at lw_m1 87 rfl) rfl
theorem q253 : (Jvm.Cond.instanceMethod ({ cls := "java/lang/Exception", name := "<init>", desc := "(Ljava/lang/String;Ljava/lang/Throwable;ZZ)V" } : Jvm.MethodName)) ∈ lw_all := lw_g (lw_at lw_m1 101 rfl) rfl
theorem q254 : (Jvm.Cond.code ({ cls := "java/lang/Exception", name := "<init>", desc := "(Ljava/lang/String;Ljava/lang/Throwable;ZZ)V" } : Jvm.MethodName) prog_16_method_5_code (5 : Nat) (Option.none : Option Jvm.ClassFile.FieldType)) ∈ lw_all := lw_g (lw_at lw_m1 102 rfl) rfl
theorem q255 : (Jvm.Cond.methodLink "java/lang/Exception" (16 : Nat) ({ cls := "java/lang/Throwable", name := "<init>", desc := "(Ljava/lang/String;Ljava/lang/Throwable;ZZ)V" } : Jvm.MethodName)) ∈ lw_all := lw_g (lw_at lw_m1 103 rfl) rfl
theorem q552 : (Jvm.Cond.instanceMethod ({ cls := "java/lang/Exception", name := "<init>", desc := "(Ljava/lang/String;)V" } : Jvm.MethodName)) ∈ lw_all := lw_g (lw_at lw_m2 160 rfl) rfl
theorem q553 : (Jvm.Cond.code ({ cls := "java/lang/Exception", name := "<init>", desc := "(Ljava/lang/String;)V" } : Jvm.MethodName) prog_16_method_2_code (2 : Nat) (Option.none : Option Jvm.ClassFile.FieldType)) ∈ lw_all := lw_g (lw_at lw_m2 161 rfl) rfl
theorem q554 : (Jvm.Cond.methodLink "java/lang/Exception" (7 : Nat) ({ cls := "java/lang/Throwable", name := "<init>", desc := "(Ljava/lang/String;)V" } : Jvm.MethodName)) ∈ lw_all := lw_g (lw_at lw_m2 162 rfl) rfl
theorem q594 : (Jvm.Cond.instanceMethod ({ cls := "java/lang/Exception", name := "<init>", desc := "()V" } : Jvm.MethodName)) ∈ lw_all := lw_g (lw_at lw_m2 202 rfl) rfl
theorem q595 : (Jvm.Cond.code ({ cls := "java/lang/Exception", name := "<init>", desc := "()V" } : Jvm.MethodName) prog_16_method_1_code (1 : Nat) (Option.none : Option Jvm.ClassFile.FieldType)) ∈ lw_all := lw_g (lw_at lw_m2 203 rfl) rfl
theorem q596 : (Jvm.Cond.methodLink "java/lang/Exception" (1 : Nat) ({ cls := "java/lang/Throwable", name := "<init>", desc := "()V" } : Jvm.MethodName)) ∈ lw_all := lw_g (lw_at lw_m2 204 rfl) rfl

/-! java/lang/RuntimeException -/
set_option maxRecDepth 100000
def RJ2 : String := "java/lang/RuntimeException"
abbrev cJ2_init : ByteArray := prog_21_method_5_code
def yJ2_init : MethodName := ⟨RJ2, "<init>", "(Ljava/lang/String;Ljava/lang/Throwable;ZZ)V"⟩
def dkwJ2_init_0 : List UInt8 := [42, 43, 44, 29, 21, 4, 183, 0, 16, 177]
abbrev dktJ2_init_0 : List UInt8 := dkwJ2_init_0 ++ []
theorem dksJ2_init_0 : cJ2_init.data.toList.drop 0 = dktJ2_init_0 := by decide +kernel
theorem dJ2_init_0 : decode cJ2_init 0 = .ok (.aload_n 0, 1) := dk_42 (dk_at dksJ2_init_0 0 rfl rfl)
theorem dJ2_init_1 : decode cJ2_init 1 = .ok (.aload_n 1, 1) := dk_43 (dk_at dksJ2_init_0 1 rfl rfl)
theorem dJ2_init_2 : decode cJ2_init 2 = .ok (.aload_n 2, 1) := dk_44 (dk_at dksJ2_init_0 2 rfl rfl)
theorem dJ2_init_3 : decode cJ2_init 3 = .ok (.iload_n 3, 1) := dk_29 (dk_at dksJ2_init_0 3 rfl rfl)
theorem dJ2_init_4 : decode cJ2_init 4 = .ok (.iload 4, 2) := dk_21 4 (dk_at dksJ2_init_0 4 rfl rfl)
theorem dJ2_init_6 : decode cJ2_init 6 = .ok (.invokespecial 16, 3) := dk_183 0 16 (dk_at dksJ2_init_0 6 rfl rfl)
theorem dJ2_init_9 : decode cJ2_init 9 = .ok (.return_, 1) := dk_177 (dk_at dksJ2_init_0 9 rfl rfl)
abbrev cJ2_init_2 : ByteArray := prog_21_method_2_code
def yJ2_init_2 : MethodName := ⟨RJ2, "<init>", "(Ljava/lang/String;)V"⟩
def dkwJ2_init_2_0 : List UInt8 := [42, 43, 183, 0, 7, 177]
abbrev dktJ2_init_2_0 : List UInt8 := dkwJ2_init_2_0 ++ []
theorem dksJ2_init_2_0 : cJ2_init_2.data.toList.drop 0 = dktJ2_init_2_0 := by decide +kernel
theorem dJ2_init_2_0 : decode cJ2_init_2 0 = .ok (.aload_n 0, 1) := dk_42 (dk_at dksJ2_init_2_0 0 rfl rfl)
theorem dJ2_init_2_1 : decode cJ2_init_2 1 = .ok (.aload_n 1, 1) := dk_43 (dk_at dksJ2_init_2_0 1 rfl rfl)
theorem dJ2_init_2_2 : decode cJ2_init_2 2 = .ok (.invokespecial 7, 3) := dk_183 0 7 (dk_at dksJ2_init_2_0 2 rfl rfl)
theorem dJ2_init_2_5 : decode cJ2_init_2 5 = .ok (.return_, 1) := dk_177 (dk_at dksJ2_init_2_0 5 rfl rfl)
abbrev cJ2_init_3 : ByteArray := prog_21_method_1_code
def yJ2_init_3 : MethodName := ⟨RJ2, "<init>", "()V"⟩
theorem dJ2_init_3_0 : decode cJ2_init_3 0 = .ok (.aload_n 0, 1) := by decide +kernel
theorem dJ2_init_3_1 : decode cJ2_init_3 1 = .ok (.invokespecial 1, 3) := by decide +kernel
theorem dJ2_init_3_4 : decode cJ2_init_3 4 = .ok (.return_, 1) := by decide +kernel
theorem q158 : (Jvm.Cond.initialized "java/lang/RuntimeException") ∈ lw_all := lw_g (lw_at lw_m1 6 rfl) rfl
theorem q194 : (Jvm.Cond.declares ({ cls := "java/lang/RuntimeException", name := "<init>", desc := "()V" } : Jvm.MethodName)) ∈ lw_tbl := lw_at lw_m1 42 rfl
theorem q195 : (Jvm.Cond.declares ({ cls := "java/lang/RuntimeException", name := "<init>", desc := "(Ljava/lang/String;)V" } : Jvm.MethodName)) ∈ lw_tbl := lw_at lw_m1 43 rfl
theorem q235 : (Jvm.Cond.sameMethod "java/lang/RuntimeException" "java/lang/Throwable" "fillInStackTrace" "()Ljava/lang/Throwable;") ∈ lw_all := lw_g (lw_at lw_m1 83 rfl) rfl
theorem q238 : (Jvm.Cond.superclass "java/lang/RuntimeException" "java/lang/Exception") ∈ lw_all := lw_g (lw_at lw_m1 86 rfl) rfl
theorem q250 : (Jvm.Cond.instanceMethod ({ cls := "java/lang/RuntimeException", name := "<init>", desc := "(Ljava/lang/String;Ljava/lang/Throwable;ZZ)V" } : Jvm.MethodName)) ∈ lw_all := lw_g (lw_at lw_m1 98 rfl) rfl
theorem q251 : (Jvm.Cond.code ({ cls := "java/lang/RuntimeException", name := "<init>", desc := "(Ljava/lang/String;Ljava/lang/Throwable;ZZ)V" } : Jvm.MethodName) prog_21_method_5_code (5 : Nat) (Option.none : Option Jvm.ClassFile.FieldType)) ∈ lw_all := lw_g (lw_at lw_m1 99 rfl) rfl
theorem q252 : (Jvm.Cond.methodLink "java/lang/RuntimeException" (16 : Nat) ({ cls := "java/lang/Exception", name := "<init>", desc := "(Ljava/lang/String;Ljava/lang/Throwable;ZZ)V" } : Jvm.MethodName)) ∈ lw_all := lw_g (lw_at lw_m1 100 rfl) rfl
theorem q549 : (Jvm.Cond.instanceMethod ({ cls := "java/lang/RuntimeException", name := "<init>", desc := "(Ljava/lang/String;)V" } : Jvm.MethodName)) ∈ lw_all := lw_g (lw_at lw_m2 157 rfl) rfl
theorem q550 : (Jvm.Cond.code ({ cls := "java/lang/RuntimeException", name := "<init>", desc := "(Ljava/lang/String;)V" } : Jvm.MethodName) prog_21_method_2_code (2 : Nat) (Option.none : Option Jvm.ClassFile.FieldType)) ∈ lw_all := lw_g (lw_at lw_m2 158 rfl) rfl
theorem q551 : (Jvm.Cond.methodLink "java/lang/RuntimeException" (7 : Nat) ({ cls := "java/lang/Exception", name := "<init>", desc := "(Ljava/lang/String;)V" } : Jvm.MethodName)) ∈ lw_all := lw_g (lw_at lw_m2 159 rfl) rfl
theorem q591 : (Jvm.Cond.instanceMethod ({ cls := "java/lang/RuntimeException", name := "<init>", desc := "()V" } : Jvm.MethodName)) ∈ lw_all := lw_g (lw_at lw_m2 199 rfl) rfl
theorem q592 : (Jvm.Cond.code ({ cls := "java/lang/RuntimeException", name := "<init>", desc := "()V" } : Jvm.MethodName) prog_21_method_1_code (1 : Nat) (Option.none : Option Jvm.ClassFile.FieldType)) ∈ lw_all := lw_g (lw_at lw_m2 200 rfl) rfl
theorem q593 : (Jvm.Cond.methodLink "java/lang/RuntimeException" (1 : Nat) ({ cls := "java/lang/Exception", name := "<init>", desc := "()V" } : Jvm.MethodName)) ∈ lw_all := lw_g (lw_at lw_m2 201 rfl) rfl
theorem q611 : (Jvm.Cond.castable "java/lang/RuntimeException" "java/lang/Throwable") ∈ lw_tbl := lw_at lw_m2 219 rfl

/-! java/lang/NegativeArraySizeException -/
set_option maxRecDepth 100000
def RJ3 : String := "java/lang/NegativeArraySizeException"
def TJ3 : u_T := fun k => match k with
  | 0 => ("java/lang/Throwable", "backtrace", "Ljava/lang/Object;", false)
  | 1 => ("java/lang/Throwable", "detailMessage", "Ljava/lang/String;", false)
  | 2 => ("java/lang/Throwable", "cause", "Ljava/lang/Throwable;", false)
  | 3 => ("java/lang/Throwable", "stackTrace", "[Ljava/lang/StackTraceElement;", false)
  | 4 => ("java/lang/Throwable", "depth", "I", false)
  | _ => ("java/lang/Throwable", "suppressedExceptions", "Ljava/util/List;", false)
def tyJ3 : Nat → FieldType := fun k => match k with
  | 0 => .object "java/lang/Object"
  | 1 => .object "java/lang/String"
  | 2 => .object "java/lang/Throwable"
  | 3 => .array (.object "java/lang/StackTraceElement")
  | 4 => .int
  | _ => .object "java/util/List"
abbrev wsJ30 : List Cond := u_ws RJ3 TJ3 6
theorem nmJ3 : ∀ a, a < 6 → ∀ b, b < 6 → a ≠ b → (TJ3 a).2.1 ≠ (TJ3 b).2.1 := by decide +kernel
theorem tyJ3_ok : ∀ k, k < 6 → parseFieldDescriptor (TJ3 k).2.2.1 = some (tyJ3 k) := by decide +kernel
abbrev cJ3_init : ByteArray := prog_19_method_2_code
def yJ3_init : MethodName := ⟨RJ3, "<init>", "(Ljava/lang/String;)V"⟩
def dkwJ3_init_0 : List UInt8 := [42, 43, 183, 0, 7, 177]
abbrev dktJ3_init_0 : List UInt8 := dkwJ3_init_0 ++ []
theorem dksJ3_init_0 : cJ3_init.data.toList.drop 0 = dktJ3_init_0 := by decide +kernel
theorem dJ3_init_0 : decode cJ3_init 0 = .ok (.aload_n 0, 1) := dk_42 (dk_at dksJ3_init_0 0 rfl rfl)
theorem dJ3_init_1 : decode cJ3_init 1 = .ok (.aload_n 1, 1) := dk_43 (dk_at dksJ3_init_0 1 rfl rfl)
theorem dJ3_init_2 : decode cJ3_init 2 = .ok (.invokespecial 7, 3) := dk_183 0 7 (dk_at dksJ3_init_0 2 rfl rfl)
theorem dJ3_init_5 : decode cJ3_init 5 = .ok (.return_, 1) := dk_177 (dk_at dksJ3_init_0 5 rfl rfl)
theorem q165 : (Jvm.Cond.initialized "java/lang/NegativeArraySizeException") ∈ lw_all := lw_g (lw_at lw_m1 13 rfl) rfl
theorem q225 : (Jvm.Cond.selects "java/lang/NegativeArraySizeException" ({ cls := "java/lang/Throwable", name := "fillInStackTrace", desc := "()Ljava/lang/Throwable;" } : Jvm.MethodName) ({ cls := "java/lang/Throwable", name := "fillInStackTrace", desc := "()Ljava/lang/Throwable;" } : Jvm.MethodName)) ∈ lw_all := lw_g (lw_at lw_m1 73 rfl) rfl
theorem q545 : (Jvm.Cond.instantiable "java/lang/NegativeArraySizeException" (6 : Nat)) ∈ lw_all := lw_g (lw_at lw_m2 153 rfl) rfl
theorem q546 : (Jvm.Cond.instanceMethod ({ cls := "java/lang/NegativeArraySizeException", name := "<init>", desc := "(Ljava/lang/String;)V" } : Jvm.MethodName)) ∈ lw_all := lw_g (lw_at lw_m2 154 rfl) rfl
theorem q547 : (Jvm.Cond.code ({ cls := "java/lang/NegativeArraySizeException", name := "<init>", desc := "(Ljava/lang/String;)V" } : Jvm.MethodName) prog_19_method_2_code (2 : Nat) (Option.none : Option Jvm.ClassFile.FieldType)) ∈ lw_all := lw_g (lw_at lw_m2 155 rfl) rfl
theorem q548 : (Jvm.Cond.methodLink "java/lang/NegativeArraySizeException" (7 : Nat) ({ cls := "java/lang/RuntimeException", name := "<init>", desc := "(Ljava/lang/String;)V" } : Jvm.MethodName)) ∈ lw_all := lw_g (lw_at lw_m2 156 rfl) rfl
theorem q557 : (Jvm.Cond.lays "java/lang/NegativeArraySizeException" "java/lang/Throwable" "backtrace" "Ljava/lang/Object;") ∈ lw_all := lw_g (lw_at lw_m2 165 rfl) rfl
theorem q558 : (Jvm.Cond.lays "java/lang/NegativeArraySizeException" "java/lang/Throwable" "detailMessage" "Ljava/lang/String;") ∈ lw_all := lw_g (lw_at lw_m2 166 rfl) rfl
theorem q559 : (Jvm.Cond.lays "java/lang/NegativeArraySizeException" "java/lang/Throwable" "cause" "Ljava/lang/Throwable;") ∈ lw_all := lw_g (lw_at lw_m2 167 rfl) rfl
theorem q560 : (Jvm.Cond.lays "java/lang/NegativeArraySizeException" "java/lang/Throwable" "stackTrace" "[Ljava/lang/StackTraceElement;") ∈ lw_all := lw_g (lw_at lw_m2 168 rfl) rfl
theorem q561 : (Jvm.Cond.lays "java/lang/NegativeArraySizeException" "java/lang/Throwable" "depth" "I") ∈ lw_all := lw_g (lw_at lw_m2 169 rfl) rfl
theorem q562 : (Jvm.Cond.lays "java/lang/NegativeArraySizeException" "java/lang/Throwable" "suppressedExceptions" "Ljava/util/List;") ∈ lw_all := lw_g (lw_at lw_m2 170 rfl) rfl
theorem q563 : (Jvm.Cond.superclass "java/lang/NegativeArraySizeException" "java/lang/RuntimeException") ∈ lw_all := lw_g (lw_at lw_m2 171 rfl) rfl
theorem q564 : (Jvm.Cond.castable "java/lang/NegativeArraySizeException" "java/lang/NegativeArraySizeException") ∈ lw_tbl := lw_at lw_m2 172 rfl
theorem q565 : (Jvm.Cond.selects "java/lang/NegativeArraySizeException" ({ cls := "java/lang/Throwable", name := "fillInStackTrace", desc := "(I)Ljava/lang/Throwable;" } : Jvm.MethodName) ({ cls := "java/lang/Throwable", name := "fillInStackTrace", desc := "(I)Ljava/lang/Throwable;" } : Jvm.MethodName)) ∈ lw_all := lw_g (lw_at lw_m2 173 rfl) rfl
theorem in_J3 : ∀ w ∈ wsJ30, w ∈ lw_all := lw_in wsJ30 [557, 558, 559, 560, 561, 562] (by decide +kernel) (by decide +kernel)

/-! java/lang/String -/
set_option maxRecDepth 100000
def RJ4 : String := "java/lang/String"
def TJ4 : u_T := fun k => match k with
  | 0 => ("java/lang/String", "value", "[B", true)
  | _ => ("java/lang/String", "coder", "B", true)
def tyJ4 : Nat → FieldType := fun k => match k with
  | 0 => .array .byte
  | _ => .byte
abbrev wsJ40 : List Cond := u_ws RJ4 TJ4 2
theorem nmJ4 : ∀ a, a < 2 → ∀ b, b < 2 → a ≠ b → (TJ4 a).2.1 ≠ (TJ4 b).2.1 := by decide +kernel
theorem tyJ4_ok : ∀ k, k < 2 → parseFieldDescriptor (TJ4 k).2.2.1 = some (tyJ4 k) := by decide +kernel
abbrev cJ4_length : ByteArray := prog_22_method_54_code
def yJ4_length : MethodName := ⟨RJ4, "length", "()I"⟩
def dkwJ4_length_0 : List UInt8 := [42, 180, 0, 9, 190, 42, 182, 1, 79, 122, 172]
abbrev dktJ4_length_0 : List UInt8 := dkwJ4_length_0 ++ []
theorem dksJ4_length_0 : cJ4_length.data.toList.drop 0 = dktJ4_length_0 := by decide +kernel
theorem dJ4_length_0 : decode cJ4_length 0 = .ok (.aload_n 0, 1) := dk_42 (dk_at dksJ4_length_0 0 rfl rfl)
theorem dJ4_length_1 : decode cJ4_length 1 = .ok (.getfield 9, 3) := dk_180 0 9 (dk_at dksJ4_length_0 1 rfl rfl)
theorem dJ4_length_4 : decode cJ4_length 4 = .ok (.arraylength, 1) := dk_190 (dk_at dksJ4_length_0 4 rfl rfl)
theorem dJ4_length_5 : decode cJ4_length 5 = .ok (.aload_n 0, 1) := dk_42 (dk_at dksJ4_length_0 5 rfl rfl)
theorem dJ4_length_6 : decode cJ4_length 6 = .ok (.invokevirtual 335, 3) := dk_182 1 79 (dk_at dksJ4_length_0 6 rfl rfl)
theorem dJ4_length_9 : decode cJ4_length 9 = .ok (.ishr, 1) := dk_122 (dk_at dksJ4_length_0 9 rfl rfl)
theorem dJ4_length_10 : decode cJ4_length 10 = .ok (.ireturn, 1) := dk_172 (dk_at dksJ4_length_0 10 rfl rfl)
abbrev cJ4_coder : ByteArray := prog_22_method_152_code
def yJ4_coder : MethodName := ⟨RJ4, "coder", "()B"⟩
def dkwJ4_coder_0 : List UInt8 := [178, 0, 38, 153, 0, 10, 42, 180, 0, 15, 167, 0, 4, 4, 172]
abbrev dktJ4_coder_0 : List UInt8 := dkwJ4_coder_0 ++ []
theorem dksJ4_coder_0 : cJ4_coder.data.toList.drop 0 = dktJ4_coder_0 := by decide +kernel
theorem dJ4_coder_0 : decode cJ4_coder 0 = .ok (.getstatic 38, 3) := dk_178 0 38 (dk_at dksJ4_coder_0 0 rfl rfl)
theorem dJ4_coder_3 : decode cJ4_coder 3 = .ok (.ifCond .eq 10, 3) := dk_153 0 10 (dk_at dksJ4_coder_0 3 rfl rfl)
theorem dJ4_coder_6 : decode cJ4_coder 6 = .ok (.aload_n 0, 1) := dk_42 (dk_at dksJ4_coder_0 6 rfl rfl)
theorem dJ4_coder_7 : decode cJ4_coder 7 = .ok (.getfield 15, 3) := dk_180 0 15 (dk_at dksJ4_coder_0 7 rfl rfl)
theorem dJ4_coder_10 : decode cJ4_coder 10 = .ok (.goto 4, 3) := dk_167 0 4 (dk_at dksJ4_coder_0 10 rfl rfl)
theorem dJ4_coder_13 : decode cJ4_coder 13 = .ok (.iconst 1, 1) := dk_4 (dk_at dksJ4_coder_0 13 rfl rfl)
theorem dJ4_coder_14 : decode cJ4_coder 14 = .ok (.ireturn, 1) := dk_172 (dk_at dksJ4_coder_0 14 rfl rfl)
abbrev cJ4_charAt : ByteArray := prog_22_method_56_code
def yJ4_charAt : MethodName := ⟨RJ4, "charAt", "(I)C"⟩
def dkwJ4_charAt_1 : List UInt8 := [172]
abbrev dktJ4_charAt_1 : List UInt8 := dkwJ4_charAt_1 ++ []
def dkwJ4_charAt_0 : List UInt8 := [42, 182, 1, 236, 153, 0, 12, 42, 180, 0, 9, 27, 184, 1, 239, 172, 42, 180, 0, 9, 27, 184, 1, 242]
abbrev dktJ4_charAt_0 : List UInt8 := dkwJ4_charAt_0 ++ dktJ4_charAt_1
theorem dksJ4_charAt_0 : cJ4_charAt.data.toList.drop 0 = dktJ4_charAt_0 := by decide +kernel
theorem dksJ4_charAt_1 : cJ4_charAt.data.toList.drop 24 = dktJ4_charAt_1 := dk_seg dksJ4_charAt_0 24 rfl rfl
theorem dJ4_charAt_0 : decode cJ4_charAt 0 = .ok (.aload_n 0, 1) := dk_42 (dk_at dksJ4_charAt_0 0 rfl rfl)
theorem dJ4_charAt_1 : decode cJ4_charAt 1 = .ok (.invokevirtual 492, 3) := dk_182 1 236 (dk_at dksJ4_charAt_0 1 rfl rfl)
theorem dJ4_charAt_4 : decode cJ4_charAt 4 = .ok (.ifCond .eq 12, 3) := dk_153 0 12 (dk_at dksJ4_charAt_0 4 rfl rfl)
theorem dJ4_charAt_7 : decode cJ4_charAt 7 = .ok (.aload_n 0, 1) := dk_42 (dk_at dksJ4_charAt_0 7 rfl rfl)
theorem dJ4_charAt_8 : decode cJ4_charAt 8 = .ok (.getfield 9, 3) := dk_180 0 9 (dk_at dksJ4_charAt_0 8 rfl rfl)
theorem dJ4_charAt_11 : decode cJ4_charAt 11 = .ok (.iload_n 1, 1) := dk_27 (dk_at dksJ4_charAt_0 11 rfl rfl)
theorem dJ4_charAt_12 : decode cJ4_charAt 12 = .ok (.invokestatic 495, 3) := dk_184 1 239 (dk_at dksJ4_charAt_0 12 rfl rfl)
theorem dJ4_charAt_15 : decode cJ4_charAt 15 = .ok (.ireturn, 1) := dk_172 (dk_at dksJ4_charAt_0 15 rfl rfl)
theorem dJ4_charAt_16 : decode cJ4_charAt 16 = .ok (.aload_n 0, 1) := dk_42 (dk_at dksJ4_charAt_0 16 rfl rfl)
theorem dJ4_charAt_17 : decode cJ4_charAt 17 = .ok (.getfield 9, 3) := dk_180 0 9 (dk_at dksJ4_charAt_0 17 rfl rfl)
theorem dJ4_charAt_20 : decode cJ4_charAt 20 = .ok (.iload_n 1, 1) := dk_27 (dk_at dksJ4_charAt_0 20 rfl rfl)
theorem dJ4_charAt_21 : decode cJ4_charAt 21 = .ok (.invokestatic 498, 3) := dk_184 1 242 (dk_at dksJ4_charAt_0 21 rfl rfl)
theorem dJ4_charAt_24 : decode cJ4_charAt 24 = .ok (.ireturn, 1) := dk_172 (dk_at dksJ4_charAt_1 0 rfl rfl)
abbrev cJ4_isLatin1 : ByteArray := prog_22_method_154_code
def yJ4_isLatin1 : MethodName := ⟨RJ4, "isLatin1", "()Z"⟩
def dkwJ4_isLatin1_0 : List UInt8 := [178, 0, 38, 153, 0, 14, 42, 180, 0, 15, 154, 0, 7, 4, 167, 0, 4, 3, 172]
abbrev dktJ4_isLatin1_0 : List UInt8 := dkwJ4_isLatin1_0 ++ []
theorem dksJ4_isLatin1_0 : cJ4_isLatin1.data.toList.drop 0 = dktJ4_isLatin1_0 := by decide +kernel
theorem dJ4_isLatin1_0 : decode cJ4_isLatin1 0 = .ok (.getstatic 38, 3) := dk_178 0 38 (dk_at dksJ4_isLatin1_0 0 rfl rfl)
theorem dJ4_isLatin1_3 : decode cJ4_isLatin1 3 = .ok (.ifCond .eq 14, 3) := dk_153 0 14 (dk_at dksJ4_isLatin1_0 3 rfl rfl)
theorem dJ4_isLatin1_6 : decode cJ4_isLatin1 6 = .ok (.aload_n 0, 1) := dk_42 (dk_at dksJ4_isLatin1_0 6 rfl rfl)
theorem dJ4_isLatin1_7 : decode cJ4_isLatin1 7 = .ok (.getfield 15, 3) := dk_180 0 15 (dk_at dksJ4_isLatin1_0 7 rfl rfl)
theorem dJ4_isLatin1_10 : decode cJ4_isLatin1 10 = .ok (.ifCond .ne 7, 3) := dk_154 0 7 (dk_at dksJ4_isLatin1_0 10 rfl rfl)
theorem dJ4_isLatin1_13 : decode cJ4_isLatin1 13 = .ok (.iconst 1, 1) := dk_4 (dk_at dksJ4_isLatin1_0 13 rfl rfl)
theorem dJ4_isLatin1_14 : decode cJ4_isLatin1 14 = .ok (.goto 4, 3) := dk_167 0 4 (dk_at dksJ4_isLatin1_0 14 rfl rfl)
theorem dJ4_isLatin1_17 : decode cJ4_isLatin1 17 = .ok (.iconst 0, 1) := dk_3 (dk_at dksJ4_isLatin1_0 17 rfl rfl)
theorem dJ4_isLatin1_18 : decode cJ4_isLatin1 18 = .ok (.ireturn, 1) := dk_172 (dk_at dksJ4_isLatin1_0 18 rfl rfl)
abbrev cJ4_checkIndex : ByteArray := prog_22_method_155_code
def yJ4_checkIndex : MethodName := ⟨RJ4, "checkIndex", "(II)V"⟩
def dkwJ4_checkIndex_0 : List UInt8 := [26, 27, 178, 4, 29, 184, 4, 35, 87, 177]
abbrev dktJ4_checkIndex_0 : List UInt8 := dkwJ4_checkIndex_0 ++ []
theorem dksJ4_checkIndex_0 : cJ4_checkIndex.data.toList.drop 0 = dktJ4_checkIndex_0 := by decide +kernel
theorem dJ4_checkIndex_0 : decode cJ4_checkIndex 0 = .ok (.iload_n 0, 1) := dk_26 (dk_at dksJ4_checkIndex_0 0 rfl rfl)
theorem dJ4_checkIndex_1 : decode cJ4_checkIndex 1 = .ok (.iload_n 1, 1) := dk_27 (dk_at dksJ4_checkIndex_0 1 rfl rfl)
theorem dJ4_checkIndex_2 : decode cJ4_checkIndex 2 = .ok (.getstatic 1053, 3) := dk_178 4 29 (dk_at dksJ4_checkIndex_0 2 rfl rfl)
theorem dJ4_checkIndex_5 : decode cJ4_checkIndex 5 = .ok (.invokestatic 1059, 3) := dk_184 4 35 (dk_at dksJ4_checkIndex_0 5 rfl rfl)
theorem dJ4_checkIndex_8 : decode cJ4_checkIndex 8 = .ok (.pop, 1) := dk_87 (dk_at dksJ4_checkIndex_0 8 rfl rfl)
theorem dJ4_checkIndex_9 : decode cJ4_checkIndex 9 = .ok (.return_, 1) := dk_177 (dk_at dksJ4_checkIndex_0 9 rfl rfl)
theorem q166 : (Jvm.Cond.initialized "java/lang/String") ∈ lw_all := lw_g (lw_at lw_m1 14 rfl) rfl
theorem q566 : (Jvm.Cond.instantiable "java/lang/String" (4 : Nat)) ∈ lw_all := lw_g (lw_at lw_m2 174 rfl) rfl
theorem q567 : (Jvm.Cond.laysFinal "java/lang/String" "java/lang/String" "value" "[B") ∈ lw_all := lw_g (lw_at lw_m2 175 rfl) rfl
theorem q568 : (Jvm.Cond.soleField "java/lang/String" "value") ∈ lw_all := lw_g (lw_at lw_m2 176 rfl) rfl
theorem q569 : (Jvm.Cond.laysFinal "java/lang/String" "java/lang/String" "coder" "B") ∈ lw_all := lw_g (lw_at lw_m2 177 rfl) rfl
theorem q570 : (Jvm.Cond.soleField "java/lang/String" "coder") ∈ lw_all := lw_g (lw_at lw_m2 178 rfl) rfl
theorem q712 : (Jvm.Cond.instanceMethod ({ cls := "java/lang/String", name := "length", desc := "()I" } : Jvm.MethodName)) ∈ lw_all := lw_g (lw_at lw_m3 80 rfl) rfl
theorem q713 : (Jvm.Cond.selects "java/lang/String" ({ cls := "java/lang/String", name := "length", desc := "()I" } : Jvm.MethodName) ({ cls := "java/lang/String", name := "length", desc := "()I" } : Jvm.MethodName)) ∈ lw_all := lw_g (lw_at lw_m3 81 rfl) rfl
theorem q714 : (Jvm.Cond.code ({ cls := "java/lang/String", name := "length", desc := "()I" } : Jvm.MethodName) prog_22_method_54_code (1 : Nat) (Option.some Jvm.ClassFile.FieldType.int)) ∈ lw_all := lw_g (lw_at lw_m3 82 rfl) rfl
theorem q715 : (Jvm.Cond.methodLink "java/lang/String" (335 : Nat) ({ cls := "java/lang/String", name := "coder", desc := "()B" } : Jvm.MethodName)) ∈ lw_all := lw_g (lw_at lw_m3 83 rfl) rfl
theorem q716 : (Jvm.Cond.instanceMethod ({ cls := "java/lang/String", name := "coder", desc := "()B" } : Jvm.MethodName)) ∈ lw_all := lw_g (lw_at lw_m3 84 rfl) rfl
theorem q717 : (Jvm.Cond.selects "java/lang/String" ({ cls := "java/lang/String", name := "coder", desc := "()B" } : Jvm.MethodName) ({ cls := "java/lang/String", name := "coder", desc := "()B" } : Jvm.MethodName)) ∈ lw_all := lw_g (lw_at lw_m3 85 rfl) rfl
theorem q718 : (Jvm.Cond.code ({ cls := "java/lang/String", name := "coder", desc := "()B" } : Jvm.MethodName) prog_22_method_152_code (1 : Nat) (Option.some Jvm.ClassFile.FieldType.byte)) ∈ lw_all := lw_g (lw_at lw_m3 86 rfl) rfl
theorem q719 : (Jvm.Cond.fieldLink "java/lang/String" (38 : Nat) "java/lang/String" "COMPACT_STRINGS" "Z") ∈ lw_all := lw_g (lw_at lw_m3 87 rfl) rfl
theorem q720 : (Jvm.Cond.laysStatic "java/lang/String" "COMPACT_STRINGS" "Z") ∈ lw_tbl := lw_at lw_m3 88 rfl
theorem q722 : (Jvm.Cond.instanceMethod ({ cls := "java/lang/String", name := "charAt", desc := "(I)C" } : Jvm.MethodName)) ∈ lw_all := lw_g (lw_at lw_m3 90 rfl) rfl
theorem q723 : (Jvm.Cond.selects "java/lang/String" ({ cls := "java/lang/String", name := "charAt", desc := "(I)C" } : Jvm.MethodName) ({ cls := "java/lang/String", name := "charAt", desc := "(I)C" } : Jvm.MethodName)) ∈ lw_all := lw_g (lw_at lw_m3 91 rfl) rfl
theorem q724 : (Jvm.Cond.code ({ cls := "java/lang/String", name := "charAt", desc := "(I)C" } : Jvm.MethodName) prog_22_method_56_code (2 : Nat) (Option.some Jvm.ClassFile.FieldType.char)) ∈ lw_all := lw_g (lw_at lw_m3 92 rfl) rfl
theorem q725 : (Jvm.Cond.methodLink "java/lang/String" (492 : Nat) ({ cls := "java/lang/String", name := "isLatin1", desc := "()Z" } : Jvm.MethodName)) ∈ lw_all := lw_g (lw_at lw_m3 93 rfl) rfl
theorem q726 : (Jvm.Cond.instanceMethod ({ cls := "java/lang/String", name := "isLatin1", desc := "()Z" } : Jvm.MethodName)) ∈ lw_all := lw_g (lw_at lw_m3 94 rfl) rfl
theorem q727 : (Jvm.Cond.selects "java/lang/String" ({ cls := "java/lang/String", name := "isLatin1", desc := "()Z" } : Jvm.MethodName) ({ cls := "java/lang/String", name := "isLatin1", desc := "()Z" } : Jvm.MethodName)) ∈ lw_all := lw_g (lw_at lw_m3 95 rfl) rfl
theorem q728 : (Jvm.Cond.code ({ cls := "java/lang/String", name := "isLatin1", desc := "()Z" } : Jvm.MethodName) prog_22_method_154_code (1 : Nat) (Option.some Jvm.ClassFile.FieldType.boolean)) ∈ lw_all := lw_g (lw_at lw_m3 96 rfl) rfl
theorem q729 : (Jvm.Cond.methodLink "java/lang/String" (495 : Nat) ({ cls := "java/lang/StringLatin1", name := "charAt", desc := "([BI)C" } : Jvm.MethodName)) ∈ lw_all := lw_g (lw_at lw_m3 97 rfl) rfl
theorem q733 : (Jvm.Cond.static ({ cls := "java/lang/String", name := "checkIndex", desc := "(II)V" } : Jvm.MethodName)) ∈ lw_all := lw_g (lw_at lw_m3 101 rfl) rfl
theorem q734 : (Jvm.Cond.code ({ cls := "java/lang/String", name := "checkIndex", desc := "(II)V" } : Jvm.MethodName) prog_22_method_155_code (2 : Nat) (Option.none : Option Jvm.ClassFile.FieldType)) ∈ lw_all := lw_g (lw_at lw_m3 102 rfl) rfl
theorem q735 : (Jvm.Cond.fieldLink "java/lang/String" (1053 : Nat) "jdk/internal/util/Preconditions" "SIOOBE_FORMATTER" "Ljava/util/function/BiFunction;") ∈ lw_all := lw_g (lw_at lw_m3 103 rfl) rfl
theorem q737 : (Jvm.Cond.methodLink "java/lang/String" (1059 : Nat) ({ cls := "jdk/internal/util/Preconditions", name := "checkIndex", desc := "(IILjava/util/function/BiFunction;)I" } : Jvm.MethodName)) ∈ lw_all := lw_g (lw_at lw_m3 105 rfl) rfl
theorem q740 : (Jvm.Cond.methodLink "java/lang/String" (498 : Nat) ({ cls := "java/lang/StringUTF16", name := "charAt", desc := "([BI)C" } : Jvm.MethodName)) ∈ lw_all := lw_g (lw_at lw_m3 108 rfl) rfl
theorem q2259 : (Jvm.Cond.fieldLink "java/lang/String" (9 : Nat) "java/lang/String" "value" "[B") ∈ lw_all := lw_g (lw_at lw_m9 187 rfl) rfl
theorem q2260 : (Jvm.Cond.fieldLink "java/lang/String" (15 : Nat) "java/lang/String" "coder" "B") ∈ lw_all := lw_g (lw_at lw_m9 188 rfl) rfl
theorem in_J4 : ∀ w ∈ wsJ40, w ∈ lw_all := lw_in wsJ40 [567, 569] (by decide +kernel) (by decide +kernel)

/-! java/lang/NullPointerException -/
set_option maxRecDepth 100000
def RJ5 : String := "java/lang/NullPointerException"
def TJ5 : u_T := fun k => match k with
  | 0 => ("java/lang/Throwable", "backtrace", "Ljava/lang/Object;", false)
  | 1 => ("java/lang/Throwable", "detailMessage", "Ljava/lang/String;", false)
  | 2 => ("java/lang/Throwable", "cause", "Ljava/lang/Throwable;", false)
  | 3 => ("java/lang/Throwable", "stackTrace", "[Ljava/lang/StackTraceElement;", false)
  | 4 => ("java/lang/Throwable", "depth", "I", false)
  | 5 => ("java/lang/Throwable", "suppressedExceptions", "Ljava/util/List;", false)
  | 6 => ("java/lang/NullPointerException", "extendedMessageState", "I", false)
  | _ => ("java/lang/NullPointerException", "extendedMessage", "Ljava/lang/String;", false)
def tyJ5 : Nat → FieldType := fun k => match k with
  | 0 => .object "java/lang/Object"
  | 1 => .object "java/lang/String"
  | 2 => .object "java/lang/Throwable"
  | 3 => .array (.object "java/lang/StackTraceElement")
  | 4 => .int
  | 5 => .object "java/util/List"
  | 6 => .int
  | _ => .object "java/lang/String"
abbrev wsJ50 : List Cond := u_ws RJ5 TJ5 8
theorem nmJ5 : ∀ a, a < 8 → ∀ b, b < 8 → a ≠ b → (TJ5 a).2.1 ≠ (TJ5 b).2.1 := by decide +kernel
theorem tyJ5_ok : ∀ k, k < 8 → parseFieldDescriptor (TJ5 k).2.2.1 = some (tyJ5 k) := by decide +kernel
abbrev cJ5_init : ByteArray := prog_20_method_1_code
def yJ5_init : MethodName := ⟨RJ5, "<init>", "()V"⟩
theorem dJ5_init_0 : decode cJ5_init 0 = .ok (.aload_n 0, 1) := by decide +kernel
theorem dJ5_init_1 : decode cJ5_init 1 = .ok (.invokespecial 1, 3) := by decide +kernel
theorem dJ5_init_4 : decode cJ5_init 4 = .ok (.return_, 1) := by decide +kernel
theorem q167 : (Jvm.Cond.initialized "java/lang/NullPointerException") ∈ lw_all := lw_g (lw_at lw_m1 15 rfl) rfl
theorem q226 : (Jvm.Cond.selects "java/lang/NullPointerException" ({ cls := "java/lang/Throwable", name := "fillInStackTrace", desc := "()Ljava/lang/Throwable;" } : Jvm.MethodName) ({ cls := "java/lang/NullPointerException", name := "fillInStackTrace", desc := "()Ljava/lang/Throwable;" } : Jvm.MethodName)) ∈ lw_all := lw_g (lw_at lw_m1 74 rfl) rfl
theorem q227 : (Jvm.Cond.instanceMethod ({ cls := "java/lang/NullPointerException", name := "fillInStackTrace", desc := "()Ljava/lang/Throwable;" } : Jvm.MethodName)) ∈ lw_all := lw_g (lw_at lw_m1 75 rfl) rfl
theorem q228 : (Jvm.Cond.codeSync ({ cls := "java/lang/NullPointerException", name := "fillInStackTrace", desc := "()Ljava/lang/Throwable;" } : Jvm.MethodName) prog_20_method_3_code (1 : Nat) (Option.some (Jvm.ClassFile.FieldType.object "java/lang/Throwable"))) ∈ lw_all := lw_g (lw_at lw_m1 76 rfl) rfl
theorem q229 : (Jvm.Cond.methodLink "java/lang/NullPointerException" (16 : Nat) ({ cls := "java/lang/NullPointerException", name := "getExtendedNPEMessage", desc := "()Ljava/lang/String;" } : Jvm.MethodName)) ∈ lw_all := lw_g (lw_at lw_m1 77 rfl) rfl
theorem q230 : (Jvm.Cond.privateMethod ({ cls := "java/lang/NullPointerException", name := "getExtendedNPEMessage", desc := "()Ljava/lang/String;" } : Jvm.MethodName)) ∈ lw_tbl := lw_at lw_m1 78 rfl
theorem q231 : (Jvm.Cond.instanceMethod ({ cls := "java/lang/NullPointerException", name := "getExtendedNPEMessage", desc := "()Ljava/lang/String;" } : Jvm.MethodName)) ∈ lw_all := lw_g (lw_at lw_m1 79 rfl) rfl
theorem q232 : (Jvm.Cond.instantiable "java/lang/NullPointerException" (8 : Nat)) ∈ lw_all := lw_g (lw_at lw_m1 80 rfl) rfl
theorem q233 : (Jvm.Cond.native ({ cls := "java/lang/NullPointerException", name := "getExtendedNPEMessage", desc := "()Ljava/lang/String;" } : Jvm.MethodName)) ∈ lw_all := lw_g (lw_at lw_m1 81 rfl) rfl
theorem q234 : (Jvm.Cond.methodLink "java/lang/NullPointerException" (24 : Nat) ({ cls := "java/lang/RuntimeException", name := "fillInStackTrace", desc := "()Ljava/lang/Throwable;" } : Jvm.MethodName)) ∈ lw_all := lw_g (lw_at lw_m1 82 rfl) rfl
theorem q237 : (Jvm.Cond.superclass "java/lang/NullPointerException" "java/lang/RuntimeException") ∈ lw_all := lw_g (lw_at lw_m1 85 rfl) rfl
theorem q588 : (Jvm.Cond.instanceMethod ({ cls := "java/lang/NullPointerException", name := "<init>", desc := "()V" } : Jvm.MethodName)) ∈ lw_all := lw_g (lw_at lw_m2 196 rfl) rfl
theorem q589 : (Jvm.Cond.code ({ cls := "java/lang/NullPointerException", name := "<init>", desc := "()V" } : Jvm.MethodName) prog_20_method_1_code (1 : Nat) (Option.none : Option Jvm.ClassFile.FieldType)) ∈ lw_all := lw_g (lw_at lw_m2 197 rfl) rfl
theorem q590 : (Jvm.Cond.methodLink "java/lang/NullPointerException" (1 : Nat) ({ cls := "java/lang/RuntimeException", name := "<init>", desc := "()V" } : Jvm.MethodName)) ∈ lw_all := lw_g (lw_at lw_m2 198 rfl) rfl
theorem q597 : (Jvm.Cond.fieldLink "java/lang/NullPointerException" (10 : Nat) "java/lang/NullPointerException" "extendedMessageState" "I") ∈ lw_all := lw_g (lw_at lw_m2 205 rfl) rfl
theorem q598 : (Jvm.Cond.fieldLink "java/lang/NullPointerException" (20 : Nat) "java/lang/NullPointerException" "extendedMessage" "Ljava/lang/String;") ∈ lw_all := lw_g (lw_at lw_m2 206 rfl) rfl
theorem q599 : (Jvm.Cond.lays "java/lang/NullPointerException" "java/lang/NullPointerException" "extendedMessageState" "I") ∈ lw_all := lw_g (lw_at lw_m2 207 rfl) rfl
theorem q600 : (Jvm.Cond.soleField "java/lang/NullPointerException" "extendedMessageState") ∈ lw_all := lw_g (lw_at lw_m2 208 rfl) rfl
theorem q601 : (Jvm.Cond.lays "java/lang/NullPointerException" "java/lang/NullPointerException" "extendedMessage" "Ljava/lang/String;") ∈ lw_all := lw_g (lw_at lw_m2 209 rfl) rfl
theorem q602 : (Jvm.Cond.soleField "java/lang/NullPointerException" "extendedMessage") ∈ lw_all := lw_g (lw_at lw_m2 210 rfl) rfl
theorem q603 : (Jvm.Cond.lays "java/lang/NullPointerException" "java/lang/Throwable" "backtrace" "Ljava/lang/Object;") ∈ lw_all := lw_g (lw_at lw_m2 211 rfl) rfl
theorem q604 : (Jvm.Cond.lays "java/lang/NullPointerException" "java/lang/Throwable" "detailMessage" "Ljava/lang/String;") ∈ lw_all := lw_g (lw_at lw_m2 212 rfl) rfl
theorem q605 : (Jvm.Cond.lays "java/lang/NullPointerException" "java/lang/Throwable" "cause" "Ljava/lang/Throwable;") ∈ lw_all := lw_g (lw_at lw_m2 213 rfl) rfl
theorem q606 : (Jvm.Cond.lays "java/lang/NullPointerException" "java/lang/Throwable" "stackTrace" "[Ljava/lang/StackTraceElement;") ∈ lw_all := lw_g (lw_at lw_m2 214 rfl) rfl
theorem q607 : (Jvm.Cond.lays "java/lang/NullPointerException" "java/lang/Throwable" "depth" "I") ∈ lw_all := lw_g (lw_at lw_m2 215 rfl) rfl
theorem q608 : (Jvm.Cond.lays "java/lang/NullPointerException" "java/lang/Throwable" "suppressedExceptions" "Ljava/util/List;") ∈ lw_all := lw_g (lw_at lw_m2 216 rfl) rfl
theorem q609 : (Jvm.Cond.castable "java/lang/NullPointerException" "java/lang/NullPointerException") ∈ lw_tbl := lw_at lw_m2 217 rfl
theorem q610 : (Jvm.Cond.selects "java/lang/NullPointerException" ({ cls := "java/lang/Throwable", name := "fillInStackTrace", desc := "(I)Ljava/lang/Throwable;" } : Jvm.MethodName) ({ cls := "java/lang/Throwable", name := "fillInStackTrace", desc := "(I)Ljava/lang/Throwable;" } : Jvm.MethodName)) ∈ lw_all := lw_g (lw_at lw_m2 218 rfl) rfl
theorem in_J5 : ∀ w ∈ wsJ50, w ∈ lw_all := lw_in wsJ50 [603, 604, 605, 606, 607, 608, 599, 601] (by decide +kernel) (by decide +kernel)

/-! java/lang/IndexOutOfBoundsException -/
set_option maxRecDepth 100000
def RJ6 : String := "java/lang/IndexOutOfBoundsException"
abbrev cJ6_init : ByteArray := prog_17_method_2_code
def yJ6_init : MethodName := ⟨RJ6, "<init>", "(Ljava/lang/String;)V"⟩
def dkwJ6_init_0 : List UInt8 := [42, 43, 183, 0, 7, 177]
abbrev dktJ6_init_0 : List UInt8 := dkwJ6_init_0 ++ []
theorem dksJ6_init_0 : cJ6_init.data.toList.drop 0 = dktJ6_init_0 := by decide +kernel
theorem dJ6_init_0 : decode cJ6_init 0 = .ok (.aload_n 0, 1) := dk_42 (dk_at dksJ6_init_0 0 rfl rfl)
theorem dJ6_init_1 : decode cJ6_init 1 = .ok (.aload_n 1, 1) := dk_43 (dk_at dksJ6_init_0 1 rfl rfl)
theorem dJ6_init_2 : decode cJ6_init 2 = .ok (.invokespecial 7, 3) := dk_183 0 7 (dk_at dksJ6_init_0 2 rfl rfl)
theorem dJ6_init_5 : decode cJ6_init 5 = .ok (.return_, 1) := dk_177 (dk_at dksJ6_init_0 5 rfl rfl)
theorem q168 : (Jvm.Cond.initialized "java/lang/IndexOutOfBoundsException") ∈ lw_all := lw_g (lw_at lw_m1 16 rfl) rfl
theorem q617 : (Jvm.Cond.instanceMethod ({ cls := "java/lang/IndexOutOfBoundsException", name := "<init>", desc := "(Ljava/lang/String;)V" } : Jvm.MethodName)) ∈ lw_all := lw_g (lw_at lw_m2 225 rfl) rfl
theorem q618 : (Jvm.Cond.code ({ cls := "java/lang/IndexOutOfBoundsException", name := "<init>", desc := "(Ljava/lang/String;)V" } : Jvm.MethodName) prog_17_method_2_code (2 : Nat) (Option.none : Option Jvm.ClassFile.FieldType)) ∈ lw_all := lw_g (lw_at lw_m2 226 rfl) rfl
theorem q619 : (Jvm.Cond.methodLink "java/lang/IndexOutOfBoundsException" (7 : Nat) ({ cls := "java/lang/RuntimeException", name := "<init>", desc := "(Ljava/lang/String;)V" } : Jvm.MethodName)) ∈ lw_all := lw_g (lw_at lw_m2 227 rfl) rfl
theorem q628 : (Jvm.Cond.declares ({ cls := "java/lang/IndexOutOfBoundsException", name := "<init>", desc := "()V" } : Jvm.MethodName)) ∈ lw_tbl := lw_at lw_m2 236 rfl
theorem q629 : (Jvm.Cond.declares ({ cls := "java/lang/IndexOutOfBoundsException", name := "<init>", desc := "(Ljava/lang/String;)V" } : Jvm.MethodName)) ∈ lw_tbl := lw_at lw_m2 237 rfl

/-! java/lang/ArrayIndexOutOfBoundsException -/
set_option maxRecDepth 100000
def RJ7 : String := "java/lang/ArrayIndexOutOfBoundsException"
def TJ7 : u_T := fun k => match k with
  | 0 => ("java/lang/Throwable", "backtrace", "Ljava/lang/Object;", false)
  | 1 => ("java/lang/Throwable", "detailMessage", "Ljava/lang/String;", false)
  | 2 => ("java/lang/Throwable", "cause", "Ljava/lang/Throwable;", false)
  | 3 => ("java/lang/Throwable", "stackTrace", "[Ljava/lang/StackTraceElement;", false)
  | 4 => ("java/lang/Throwable", "depth", "I", false)
  | _ => ("java/lang/Throwable", "suppressedExceptions", "Ljava/util/List;", false)
def tyJ7 : Nat → FieldType := fun k => match k with
  | 0 => .object "java/lang/Object"
  | 1 => .object "java/lang/String"
  | 2 => .object "java/lang/Throwable"
  | 3 => .array (.object "java/lang/StackTraceElement")
  | 4 => .int
  | _ => .object "java/util/List"
abbrev wsJ70 : List Cond := u_ws RJ7 TJ7 6
theorem nmJ7 : ∀ a, a < 6 → ∀ b, b < 6 → a ≠ b → (TJ7 a).2.1 ≠ (TJ7 b).2.1 := by decide +kernel
theorem tyJ7_ok : ∀ k, k < 6 → parseFieldDescriptor (TJ7 k).2.2.1 = some (tyJ7 k) := by decide +kernel
abbrev cJ7_init : ByteArray := prog_15_method_2_code
def yJ7_init : MethodName := ⟨RJ7, "<init>", "(Ljava/lang/String;)V"⟩
def dkwJ7_init_0 : List UInt8 := [42, 43, 183, 0, 7, 177]
abbrev dktJ7_init_0 : List UInt8 := dkwJ7_init_0 ++ []
theorem dksJ7_init_0 : cJ7_init.data.toList.drop 0 = dktJ7_init_0 := by decide +kernel
theorem dJ7_init_0 : decode cJ7_init 0 = .ok (.aload_n 0, 1) := dk_42 (dk_at dksJ7_init_0 0 rfl rfl)
theorem dJ7_init_1 : decode cJ7_init 1 = .ok (.aload_n 1, 1) := dk_43 (dk_at dksJ7_init_0 1 rfl rfl)
theorem dJ7_init_2 : decode cJ7_init 2 = .ok (.invokespecial 7, 3) := dk_183 0 7 (dk_at dksJ7_init_0 2 rfl rfl)
theorem dJ7_init_5 : decode cJ7_init 5 = .ok (.return_, 1) := dk_177 (dk_at dksJ7_init_0 5 rfl rfl)
theorem q169 : (Jvm.Cond.initialized "java/lang/ArrayIndexOutOfBoundsException") ∈ lw_all := lw_g (lw_at lw_m1 17 rfl) rfl
theorem q224 : (Jvm.Cond.selects "java/lang/ArrayIndexOutOfBoundsException" ({ cls := "java/lang/Throwable", name := "fillInStackTrace", desc := "()Ljava/lang/Throwable;" } : Jvm.MethodName) ({ cls := "java/lang/Throwable", name := "fillInStackTrace", desc := "()Ljava/lang/Throwable;" } : Jvm.MethodName)) ∈ lw_all := lw_g (lw_at lw_m1 72 rfl) rfl
theorem q613 : (Jvm.Cond.instantiable "java/lang/ArrayIndexOutOfBoundsException" (6 : Nat)) ∈ lw_all := lw_g (lw_at lw_m2 221 rfl) rfl
theorem q614 : (Jvm.Cond.instanceMethod ({ cls := "java/lang/ArrayIndexOutOfBoundsException", name := "<init>", desc := "(Ljava/lang/String;)V" } : Jvm.MethodName)) ∈ lw_all := lw_g (lw_at lw_m2 222 rfl) rfl
theorem q615 : (Jvm.Cond.code ({ cls := "java/lang/ArrayIndexOutOfBoundsException", name := "<init>", desc := "(Ljava/lang/String;)V" } : Jvm.MethodName) prog_15_method_2_code (2 : Nat) (Option.none : Option Jvm.ClassFile.FieldType)) ∈ lw_all := lw_g (lw_at lw_m2 223 rfl) rfl
theorem q616 : (Jvm.Cond.methodLink "java/lang/ArrayIndexOutOfBoundsException" (7 : Nat) ({ cls := "java/lang/IndexOutOfBoundsException", name := "<init>", desc := "(Ljava/lang/String;)V" } : Jvm.MethodName)) ∈ lw_all := lw_g (lw_at lw_m2 224 rfl) rfl
theorem q620 : (Jvm.Cond.lays "java/lang/ArrayIndexOutOfBoundsException" "java/lang/Throwable" "backtrace" "Ljava/lang/Object;") ∈ lw_all := lw_g (lw_at lw_m2 228 rfl) rfl
theorem q621 : (Jvm.Cond.lays "java/lang/ArrayIndexOutOfBoundsException" "java/lang/Throwable" "detailMessage" "Ljava/lang/String;") ∈ lw_all := lw_g (lw_at lw_m2 229 rfl) rfl
theorem q622 : (Jvm.Cond.lays "java/lang/ArrayIndexOutOfBoundsException" "java/lang/Throwable" "cause" "Ljava/lang/Throwable;") ∈ lw_all := lw_g (lw_at lw_m2 230 rfl) rfl
theorem q623 : (Jvm.Cond.lays "java/lang/ArrayIndexOutOfBoundsException" "java/lang/Throwable" "stackTrace" "[Ljava/lang/StackTraceElement;") ∈ lw_all := lw_g (lw_at lw_m2 231 rfl) rfl
theorem q624 : (Jvm.Cond.lays "java/lang/ArrayIndexOutOfBoundsException" "java/lang/Throwable" "depth" "I") ∈ lw_all := lw_g (lw_at lw_m2 232 rfl) rfl
theorem q625 : (Jvm.Cond.lays "java/lang/ArrayIndexOutOfBoundsException" "java/lang/Throwable" "suppressedExceptions" "Ljava/util/List;") ∈ lw_all := lw_g (lw_at lw_m2 233 rfl) rfl
theorem q626 : (Jvm.Cond.superclass "java/lang/ArrayIndexOutOfBoundsException" "java/lang/IndexOutOfBoundsException") ∈ lw_all := lw_g (lw_at lw_m2 234 rfl) rfl
theorem q627 : (Jvm.Cond.castable "java/lang/ArrayIndexOutOfBoundsException" "java/lang/ArrayIndexOutOfBoundsException") ∈ lw_tbl := lw_at lw_m2 235 rfl
theorem q630 : (Jvm.Cond.selects "java/lang/ArrayIndexOutOfBoundsException" ({ cls := "java/lang/Throwable", name := "fillInStackTrace", desc := "(I)Ljava/lang/Throwable;" } : Jvm.MethodName) ({ cls := "java/lang/Throwable", name := "fillInStackTrace", desc := "(I)Ljava/lang/Throwable;" } : Jvm.MethodName)) ∈ lw_all := lw_g (lw_at lw_m2 238 rfl) rfl
theorem q2258 : (Jvm.Cond.castable "java/lang/ArrayIndexOutOfBoundsException" "java/lang/IndexOutOfBoundsException") ∈ lw_tbl := lw_at lw_m9 186 rfl
theorem in_J7 : ∀ w ∈ wsJ70, w ∈ lw_all := lw_in wsJ70 [620, 621, 622, 623, 624, 625] (by decide +kernel) (by decide +kernel)

/-! java/lang/Math -/
set_option maxRecDepth 100000
def RJ8 : String := "java/lang/Math"
abbrev cJ8_min : ByteArray := prog_18_method_69_code
def yJ8_min : MethodName := ⟨RJ8, "min", "(II)I"⟩
def dkwJ8_min_0 : List UInt8 := [26, 27, 163, 0, 7, 26, 167, 0, 4, 27, 172]
abbrev dktJ8_min_0 : List UInt8 := dkwJ8_min_0 ++ []
theorem dksJ8_min_0 : cJ8_min.data.toList.drop 0 = dktJ8_min_0 := by decide +kernel
theorem dJ8_min_0 : decode cJ8_min 0 = .ok (.iload_n 0, 1) := dk_26 (dk_at dksJ8_min_0 0 rfl rfl)
theorem dJ8_min_1 : decode cJ8_min 1 = .ok (.iload_n 1, 1) := dk_27 (dk_at dksJ8_min_0 1 rfl rfl)
theorem dJ8_min_2 : decode cJ8_min 2 = .ok (.if_icmp .gt 7, 3) := dk_163 0 7 (dk_at dksJ8_min_0 2 rfl rfl)
theorem dJ8_min_5 : decode cJ8_min 5 = .ok (.iload_n 0, 1) := dk_26 (dk_at dksJ8_min_0 5 rfl rfl)
theorem dJ8_min_6 : decode cJ8_min 6 = .ok (.goto 4, 3) := dk_167 0 4 (dk_at dksJ8_min_0 6 rfl rfl)
theorem dJ8_min_9 : decode cJ8_min 9 = .ok (.iload_n 1, 1) := dk_27 (dk_at dksJ8_min_0 9 rfl rfl)
theorem dJ8_min_10 : decode cJ8_min 10 = .ok (.ireturn, 1) := dk_172 (dk_at dksJ8_min_0 10 rfl rfl)
abbrev cJ8_max : ByteArray := prog_18_method_65_code
def yJ8_max : MethodName := ⟨RJ8, "max", "(II)I"⟩
def dkwJ8_max_0 : List UInt8 := [26, 27, 161, 0, 7, 26, 167, 0, 4, 27, 172]
abbrev dktJ8_max_0 : List UInt8 := dkwJ8_max_0 ++ []
theorem dksJ8_max_0 : cJ8_max.data.toList.drop 0 = dktJ8_max_0 := by decide +kernel
theorem dJ8_max_0 : decode cJ8_max 0 = .ok (.iload_n 0, 1) := dk_26 (dk_at dksJ8_max_0 0 rfl rfl)
theorem dJ8_max_1 : decode cJ8_max 1 = .ok (.iload_n 1, 1) := dk_27 (dk_at dksJ8_max_0 1 rfl rfl)
theorem dJ8_max_2 : decode cJ8_max 2 = .ok (.if_icmp .lt 7, 3) := dk_161 0 7 (dk_at dksJ8_max_0 2 rfl rfl)
theorem dJ8_max_5 : decode cJ8_max 5 = .ok (.iload_n 0, 1) := dk_26 (dk_at dksJ8_max_0 5 rfl rfl)
theorem dJ8_max_6 : decode cJ8_max 6 = .ok (.goto 4, 3) := dk_167 0 4 (dk_at dksJ8_max_0 6 rfl rfl)
theorem dJ8_max_9 : decode cJ8_max 9 = .ok (.iload_n 1, 1) := dk_27 (dk_at dksJ8_max_0 9 rfl rfl)
theorem dJ8_max_10 : decode cJ8_max 10 = .ok (.ireturn, 1) := dk_172 (dk_at dksJ8_max_0 10 rfl rfl)
abbrev cJ8_abs : ByteArray := prog_18_method_61_code
def yJ8_abs : MethodName := ⟨RJ8, "abs", "(J)J"⟩
def dkwJ8_abs_0 : List UInt8 := [30, 9, 148, 156, 0, 8, 30, 117, 167, 0, 4, 30, 173]
abbrev dktJ8_abs_0 : List UInt8 := dkwJ8_abs_0 ++ []
theorem dksJ8_abs_0 : cJ8_abs.data.toList.drop 0 = dktJ8_abs_0 := by decide +kernel
theorem dJ8_abs_0 : decode cJ8_abs 0 = .ok (.lload_n 0, 1) := dk_30 (dk_at dksJ8_abs_0 0 rfl rfl)
theorem dJ8_abs_1 : decode cJ8_abs 1 = .ok (.lconst 0, 1) := dk_9 (dk_at dksJ8_abs_0 1 rfl rfl)
theorem dJ8_abs_2 : decode cJ8_abs 2 = .ok (.lcmp, 1) := dk_148 (dk_at dksJ8_abs_0 2 rfl rfl)
theorem dJ8_abs_3 : decode cJ8_abs 3 = .ok (.ifCond .ge 8, 3) := dk_156 0 8 (dk_at dksJ8_abs_0 3 rfl rfl)
theorem dJ8_abs_6 : decode cJ8_abs 6 = .ok (.lload_n 0, 1) := dk_30 (dk_at dksJ8_abs_0 6 rfl rfl)
theorem dJ8_abs_7 : decode cJ8_abs 7 = .ok (.lneg, 1) := dk_117 (dk_at dksJ8_abs_0 7 rfl rfl)
theorem dJ8_abs_8 : decode cJ8_abs 8 = .ok (.goto 4, 3) := dk_167 0 4 (dk_at dksJ8_abs_0 8 rfl rfl)
theorem dJ8_abs_11 : decode cJ8_abs 11 = .ok (.lload_n 0, 1) := dk_30 (dk_at dksJ8_abs_0 11 rfl rfl)
theorem dJ8_abs_12 : decode cJ8_abs 12 = .ok (.lreturn, 1) := dk_173 (dk_at dksJ8_abs_0 12 rfl rfl)
theorem q171 : (Jvm.Cond.initialized "java/lang/Math") ∈ lw_all := lw_g (lw_at lw_m1 19 rfl) rfl
theorem q705 : (Jvm.Cond.static ({ cls := "java/lang/Math", name := "min", desc := "(II)I" } : Jvm.MethodName)) ∈ lw_all := lw_g (lw_at lw_m3 73 rfl) rfl
theorem q706 : (Jvm.Cond.code ({ cls := "java/lang/Math", name := "min", desc := "(II)I" } : Jvm.MethodName) prog_18_method_69_code (2 : Nat) (Option.some Jvm.ClassFile.FieldType.int)) ∈ lw_all := lw_g (lw_at lw_m3 74 rfl) rfl
theorem q1253 : (Jvm.Cond.static ({ cls := "java/lang/Math", name := "max", desc := "(II)I" } : Jvm.MethodName)) ∈ lw_all := lw_g (lw_at lw_m5 141 rfl) rfl
theorem q1254 : (Jvm.Cond.code ({ cls := "java/lang/Math", name := "max", desc := "(II)I" } : Jvm.MethodName) prog_18_method_65_code (2 : Nat) (Option.some Jvm.ClassFile.FieldType.int)) ∈ lw_all := lw_g (lw_at lw_m5 142 rfl) rfl
theorem q2186 : (Jvm.Cond.static ({ cls := "java/lang/Math", name := "abs", desc := "(J)J" } : Jvm.MethodName)) ∈ lw_all := lw_g (lw_at lw_m9 114 rfl) rfl
theorem q2187 : (Jvm.Cond.code ({ cls := "java/lang/Math", name := "abs", desc := "(J)J" } : Jvm.MethodName) prog_18_method_61_code (2 : Nat) (Option.some Jvm.ClassFile.FieldType.long)) ∈ lw_all := lw_g (lw_at lw_m9 115 rfl) rfl

/-! java/lang/StringLatin1 -/
set_option maxRecDepth 100000
def RJ9 : String := "java/lang/StringLatin1"
abbrev cJ9_charAt : ByteArray := prog_23_method_2_code
def yJ9_charAt : MethodName := ⟨RJ9, "charAt", "([BI)C"⟩
def dkwJ9_charAt_0 : List UInt8 := [27, 42, 190, 184, 0, 9, 42, 27, 51, 17, 0, 255, 126, 146, 172]
abbrev dktJ9_charAt_0 : List UInt8 := dkwJ9_charAt_0 ++ []
theorem dksJ9_charAt_0 : cJ9_charAt.data.toList.drop 0 = dktJ9_charAt_0 := by decide +kernel
theorem dJ9_charAt_0 : decode cJ9_charAt 0 = .ok (.iload_n 1, 1) := dk_27 (dk_at dksJ9_charAt_0 0 rfl rfl)
theorem dJ9_charAt_1 : decode cJ9_charAt 1 = .ok (.aload_n 0, 1) := dk_42 (dk_at dksJ9_charAt_0 1 rfl rfl)
theorem dJ9_charAt_2 : decode cJ9_charAt 2 = .ok (.arraylength, 1) := dk_190 (dk_at dksJ9_charAt_0 2 rfl rfl)
theorem dJ9_charAt_3 : decode cJ9_charAt 3 = .ok (.invokestatic 9, 3) := dk_184 0 9 (dk_at dksJ9_charAt_0 3 rfl rfl)
theorem dJ9_charAt_6 : decode cJ9_charAt 6 = .ok (.aload_n 0, 1) := dk_42 (dk_at dksJ9_charAt_0 6 rfl rfl)
theorem dJ9_charAt_7 : decode cJ9_charAt 7 = .ok (.iload_n 1, 1) := dk_27 (dk_at dksJ9_charAt_0 7 rfl rfl)
theorem dJ9_charAt_8 : decode cJ9_charAt 8 = .ok (.baload, 1) := dk_51 (dk_at dksJ9_charAt_0 8 rfl rfl)
theorem dJ9_charAt_9 : decode cJ9_charAt 9 = .ok (.sipush 255, 3) := dk_17 0 255 (dk_at dksJ9_charAt_0 9 rfl rfl)
theorem dJ9_charAt_12 : decode cJ9_charAt 12 = .ok (.iand, 1) := dk_126 (dk_at dksJ9_charAt_0 12 rfl rfl)
theorem dJ9_charAt_13 : decode cJ9_charAt 13 = .ok (.i2c, 1) := dk_146 (dk_at dksJ9_charAt_0 13 rfl rfl)
theorem dJ9_charAt_14 : decode cJ9_charAt 14 = .ok (.ireturn, 1) := dk_172 (dk_at dksJ9_charAt_0 14 rfl rfl)
theorem q172 : (Jvm.Cond.initialized "java/lang/StringLatin1") ∈ lw_all := lw_g (lw_at lw_m1 20 rfl) rfl
theorem q730 : (Jvm.Cond.static ({ cls := "java/lang/StringLatin1", name := "charAt", desc := "([BI)C" } : Jvm.MethodName)) ∈ lw_all := lw_g (lw_at lw_m3 98 rfl) rfl
theorem q731 : (Jvm.Cond.code ({ cls := "java/lang/StringLatin1", name := "charAt", desc := "([BI)C" } : Jvm.MethodName) prog_23_method_2_code (2 : Nat) (Option.some Jvm.ClassFile.FieldType.char)) ∈ lw_all := lw_g (lw_at lw_m3 99 rfl) rfl
theorem q732 : (Jvm.Cond.methodLink "java/lang/StringLatin1" (9 : Nat) ({ cls := "java/lang/String", name := "checkIndex", desc := "(II)V" } : Jvm.MethodName)) ∈ lw_all := lw_g (lw_at lw_m3 100 rfl) rfl

/-! jdk/internal/util/Preconditions -/
set_option maxRecDepth 100000
def RJ10 : String := "jdk/internal/util/Preconditions"
abbrev cJ10_checkIndex : ByteArray := prog_27_method_11_code
def yJ10_checkIndex : MethodName := ⟨RJ10, "checkIndex", "(IILjava/util/function/BiFunction;)I"⟩
def dkwJ10_checkIndex_0 : List UInt8 := [26, 155, 0, 8, 26, 27, 161, 0, 10, 44, 26, 27, 184, 0, 95, 191, 26, 172]
abbrev dktJ10_checkIndex_0 : List UInt8 := dkwJ10_checkIndex_0 ++ []
theorem dksJ10_checkIndex_0 : cJ10_checkIndex.data.toList.drop 0 = dktJ10_checkIndex_0 := by decide +kernel
theorem dJ10_checkIndex_0 : decode cJ10_checkIndex 0 = .ok (.iload_n 0, 1) := dk_26 (dk_at dksJ10_checkIndex_0 0 rfl rfl)
theorem dJ10_checkIndex_1 : decode cJ10_checkIndex 1 = .ok (.ifCond .lt 8, 3) := dk_155 0 8 (dk_at dksJ10_checkIndex_0 1 rfl rfl)
theorem dJ10_checkIndex_4 : decode cJ10_checkIndex 4 = .ok (.iload_n 0, 1) := dk_26 (dk_at dksJ10_checkIndex_0 4 rfl rfl)
theorem dJ10_checkIndex_5 : decode cJ10_checkIndex 5 = .ok (.iload_n 1, 1) := dk_27 (dk_at dksJ10_checkIndex_0 5 rfl rfl)
theorem dJ10_checkIndex_6 : decode cJ10_checkIndex 6 = .ok (.if_icmp .lt 10, 3) := dk_161 0 10 (dk_at dksJ10_checkIndex_0 6 rfl rfl)
theorem dJ10_checkIndex_9 : decode cJ10_checkIndex 9 = .ok (.aload_n 2, 1) := dk_44 (dk_at dksJ10_checkIndex_0 9 rfl rfl)
theorem dJ10_checkIndex_10 : decode cJ10_checkIndex 10 = .ok (.iload_n 0, 1) := dk_26 (dk_at dksJ10_checkIndex_0 10 rfl rfl)
theorem dJ10_checkIndex_11 : decode cJ10_checkIndex 11 = .ok (.iload_n 1, 1) := dk_27 (dk_at dksJ10_checkIndex_0 11 rfl rfl)
theorem dJ10_checkIndex_12 : decode cJ10_checkIndex 12 = .ok (.invokestatic 95, 3) := dk_184 0 95 (dk_at dksJ10_checkIndex_0 12 rfl rfl)
theorem dJ10_checkIndex_15 : decode cJ10_checkIndex 15 = .ok (.athrow, 1) := dk_191 (dk_at dksJ10_checkIndex_0 15 rfl rfl)
theorem dJ10_checkIndex_16 : decode cJ10_checkIndex 16 = .ok (.iload_n 0, 1) := dk_26 (dk_at dksJ10_checkIndex_0 16 rfl rfl)
theorem dJ10_checkIndex_17 : decode cJ10_checkIndex 17 = .ok (.ireturn, 1) := dk_172 (dk_at dksJ10_checkIndex_0 17 rfl rfl)
theorem q173 : (Jvm.Cond.initialized "jdk/internal/util/Preconditions") ∈ lw_all := lw_g (lw_at lw_m1 21 rfl) rfl
theorem q736 : (Jvm.Cond.laysStatic "jdk/internal/util/Preconditions" "SIOOBE_FORMATTER" "Ljava/util/function/BiFunction;") ∈ lw_tbl := lw_at lw_m3 104 rfl
theorem q738 : (Jvm.Cond.static ({ cls := "jdk/internal/util/Preconditions", name := "checkIndex", desc := "(IILjava/util/function/BiFunction;)I" } : Jvm.MethodName)) ∈ lw_all := lw_g (lw_at lw_m3 106 rfl) rfl
theorem q739 : (Jvm.Cond.code ({ cls := "jdk/internal/util/Preconditions", name := "checkIndex", desc := "(IILjava/util/function/BiFunction;)I" } : Jvm.MethodName) prog_27_method_11_code (3 : Nat) (Option.some Jvm.ClassFile.FieldType.int)) ∈ lw_all := lw_g (lw_at lw_m3 107 rfl) rfl

/-! java/lang/StringUTF16 -/
set_option maxRecDepth 100000
def RJ11 : String := "java/lang/StringUTF16"
abbrev cJ11_charAt : ByteArray := prog_24_method_83_code
def yJ11_charAt : MethodName := ⟨RJ11, "charAt", "([BI)C"⟩
def dkwJ11_charAt_0 : List UInt8 := [27, 42, 184, 0, 67, 42, 27, 184, 0, 71, 172]
abbrev dktJ11_charAt_0 : List UInt8 := dkwJ11_charAt_0 ++ []
theorem dksJ11_charAt_0 : cJ11_charAt.data.toList.drop 0 = dktJ11_charAt_0 := by decide +kernel
theorem dJ11_charAt_0 : decode cJ11_charAt 0 = .ok (.iload_n 1, 1) := dk_27 (dk_at dksJ11_charAt_0 0 rfl rfl)
theorem dJ11_charAt_1 : decode cJ11_charAt 1 = .ok (.aload_n 0, 1) := dk_42 (dk_at dksJ11_charAt_0 1 rfl rfl)
theorem dJ11_charAt_2 : decode cJ11_charAt 2 = .ok (.invokestatic 67, 3) := dk_184 0 67 (dk_at dksJ11_charAt_0 2 rfl rfl)
theorem dJ11_charAt_5 : decode cJ11_charAt 5 = .ok (.aload_n 0, 1) := dk_42 (dk_at dksJ11_charAt_0 5 rfl rfl)
theorem dJ11_charAt_6 : decode cJ11_charAt 6 = .ok (.iload_n 1, 1) := dk_27 (dk_at dksJ11_charAt_0 6 rfl rfl)
theorem dJ11_charAt_7 : decode cJ11_charAt 7 = .ok (.invokestatic 71, 3) := dk_184 0 71 (dk_at dksJ11_charAt_0 7 rfl rfl)
theorem dJ11_charAt_10 : decode cJ11_charAt 10 = .ok (.ireturn, 1) := dk_172 (dk_at dksJ11_charAt_0 10 rfl rfl)
abbrev cJ11_checkIndex : ByteArray := prog_24_method_91_code
def yJ11_checkIndex : MethodName := ⟨RJ11, "checkIndex", "(I[B)V"⟩
def dkwJ11_checkIndex_0 : List UInt8 := [26, 43, 184, 0, 48, 184, 1, 158, 177]
abbrev dktJ11_checkIndex_0 : List UInt8 := dkwJ11_checkIndex_0 ++ []
theorem dksJ11_checkIndex_0 : cJ11_checkIndex.data.toList.drop 0 = dktJ11_checkIndex_0 := by decide +kernel
theorem dJ11_checkIndex_0 : decode cJ11_checkIndex 0 = .ok (.iload_n 0, 1) := dk_26 (dk_at dksJ11_checkIndex_0 0 rfl rfl)
theorem dJ11_checkIndex_1 : decode cJ11_checkIndex 1 = .ok (.aload_n 1, 1) := dk_43 (dk_at dksJ11_checkIndex_0 1 rfl rfl)
theorem dJ11_checkIndex_2 : decode cJ11_checkIndex 2 = .ok (.invokestatic 48, 3) := dk_184 0 48 (dk_at dksJ11_checkIndex_0 2 rfl rfl)
theorem dJ11_checkIndex_5 : decode cJ11_checkIndex 5 = .ok (.invokestatic 414, 3) := dk_184 1 158 (dk_at dksJ11_checkIndex_0 5 rfl rfl)
theorem dJ11_checkIndex_8 : decode cJ11_checkIndex 8 = .ok (.return_, 1) := dk_177 (dk_at dksJ11_checkIndex_0 8 rfl rfl)
abbrev cJ11_length : ByteArray := prog_24_method_6_code
def yJ11_length : MethodName := ⟨RJ11, "length", "([B)I"⟩
def dkwJ11_length_0 : List UInt8 := [42, 190, 4, 122, 172]
abbrev dktJ11_length_0 : List UInt8 := dkwJ11_length_0 ++ []
theorem dksJ11_length_0 : cJ11_length.data.toList.drop 0 = dktJ11_length_0 := by decide +kernel
theorem dJ11_length_0 : decode cJ11_length 0 = .ok (.aload_n 0, 1) := dk_42 (dk_at dksJ11_length_0 0 rfl rfl)
theorem dJ11_length_1 : decode cJ11_length 1 = .ok (.arraylength, 1) := dk_190 (dk_at dksJ11_length_0 1 rfl rfl)
theorem dJ11_length_2 : decode cJ11_length 2 = .ok (.iconst 1, 1) := dk_4 (dk_at dksJ11_length_0 2 rfl rfl)
theorem dJ11_length_3 : decode cJ11_length 3 = .ok (.ishr, 1) := dk_122 (dk_at dksJ11_length_0 3 rfl rfl)
theorem dJ11_length_4 : decode cJ11_length 4 = .ok (.ireturn, 1) := dk_172 (dk_at dksJ11_length_0 4 rfl rfl)
abbrev cJ11_getChar : ByteArray := prog_24_method_5_code
def yJ11_getChar : MethodName := ⟨RJ11, "getChar", "([BI)C"⟩
def dkwJ11_getChar_2 : List UInt8 := [51, 17, 0, 255, 126, 178, 0, 63, 120, 128, 146, 172]
abbrev dktJ11_getChar_2 : List UInt8 := dkwJ11_getChar_2 ++ []
def dkwJ11_getChar_1 : List UInt8 := [183, 0, 56, 191, 27, 4, 120, 60, 42, 27, 132, 1, 1, 51, 17, 0, 255, 126, 178, 0, 59, 120, 42, 27]
abbrev dktJ11_getChar_1 : List UInt8 := dkwJ11_getChar_1 ++ dktJ11_getChar_2
def dkwJ11_getChar_0 : List UInt8 := [178, 0, 44, 154, 0, 25, 27, 155, 0, 11, 27, 42, 184, 0, 48, 161, 0, 13, 187, 0, 52, 89, 18, 54]
abbrev dktJ11_getChar_0 : List UInt8 := dkwJ11_getChar_0 ++ dktJ11_getChar_1
theorem dksJ11_getChar_0 : cJ11_getChar.data.toList.drop 0 = dktJ11_getChar_0 := by decide +kernel
theorem dksJ11_getChar_1 : cJ11_getChar.data.toList.drop 24 = dktJ11_getChar_1 := dk_seg dksJ11_getChar_0 24 rfl rfl
theorem dksJ11_getChar_2 : cJ11_getChar.data.toList.drop 48 = dktJ11_getChar_2 := dk_seg dksJ11_getChar_1 24 rfl rfl
theorem dJ11_getChar_0 : decode cJ11_getChar 0 = .ok (.getstatic 44, 3) := dk_178 0 44 (dk_at dksJ11_getChar_0 0 rfl rfl)
theorem dJ11_getChar_3 : decode cJ11_getChar 3 = .ok (.ifCond .ne 25, 3) := dk_154 0 25 (dk_at dksJ11_getChar_0 3 rfl rfl)
theorem dJ11_getChar_6 : decode cJ11_getChar 6 = .ok (.iload_n 1, 1) := dk_27 (dk_at dksJ11_getChar_0 6 rfl rfl)
theorem dJ11_getChar_7 : decode cJ11_getChar 7 = .ok (.ifCond .lt 11, 3) := dk_155 0 11 (dk_at dksJ11_getChar_0 7 rfl rfl)
theorem dJ11_getChar_10 : decode cJ11_getChar 10 = .ok (.iload_n 1, 1) := dk_27 (dk_at dksJ11_getChar_0 10 rfl rfl)
theorem dJ11_getChar_11 : decode cJ11_getChar 11 = .ok (.aload_n 0, 1) := dk_42 (dk_at dksJ11_getChar_0 11 rfl rfl)
theorem dJ11_getChar_12 : decode cJ11_getChar 12 = .ok (.invokestatic 48, 3) := dk_184 0 48 (dk_at dksJ11_getChar_0 12 rfl rfl)
theorem dJ11_getChar_15 : decode cJ11_getChar 15 = .ok (.if_icmp .lt 13, 3) := dk_161 0 13 (dk_at dksJ11_getChar_0 15 rfl rfl)
theorem dJ11_getChar_18 : decode cJ11_getChar 18 = .ok (.new 52, 3) := dk_187 0 52 (dk_at dksJ11_getChar_0 18 rfl rfl)
theorem dJ11_getChar_21 : decode cJ11_getChar 21 = .ok (.dup, 1) := dk_89 (dk_at dksJ11_getChar_0 21 rfl rfl)
theorem dJ11_getChar_22 : decode cJ11_getChar 22 = .ok (.ldc 54, 2) := dk_18 54 (dk_at dksJ11_getChar_0 22 rfl rfl)
theorem dJ11_getChar_24 : decode cJ11_getChar 24 = .ok (.invokespecial 56, 3) := dk_183 0 56 (dk_at dksJ11_getChar_1 0 rfl rfl)
theorem dJ11_getChar_27 : decode cJ11_getChar 27 = .ok (.athrow, 1) := dk_191 (dk_at dksJ11_getChar_1 3 rfl rfl)
theorem dJ11_getChar_28 : decode cJ11_getChar 28 = .ok (.iload_n 1, 1) := dk_27 (dk_at dksJ11_getChar_1 4 rfl rfl)
theorem dJ11_getChar_29 : decode cJ11_getChar 29 = .ok (.iconst 1, 1) := dk_4 (dk_at dksJ11_getChar_1 5 rfl rfl)
theorem dJ11_getChar_30 : decode cJ11_getChar 30 = .ok (.ishl, 1) := dk_120 (dk_at dksJ11_getChar_1 6 rfl rfl)
theorem dJ11_getChar_31 : decode cJ11_getChar 31 = .ok (.istore_n 1, 1) := dk_60 (dk_at dksJ11_getChar_1 7 rfl rfl)
theorem dJ11_getChar_32 : decode cJ11_getChar 32 = .ok (.aload_n 0, 1) := dk_42 (dk_at dksJ11_getChar_1 8 rfl rfl)
theorem dJ11_getChar_33 : decode cJ11_getChar 33 = .ok (.iload_n 1, 1) := dk_27 (dk_at dksJ11_getChar_1 9 rfl rfl)
theorem dJ11_getChar_34 : decode cJ11_getChar 34 = .ok (.iinc 1 1, 3) := dk_132 1 1 (dk_at dksJ11_getChar_1 10 rfl rfl)
theorem dJ11_getChar_37 : decode cJ11_getChar 37 = .ok (.baload, 1) := dk_51 (dk_at dksJ11_getChar_1 13 rfl rfl)
theorem dJ11_getChar_38 : decode cJ11_getChar 38 = .ok (.sipush 255, 3) := dk_17 0 255 (dk_at dksJ11_getChar_1 14 rfl rfl)
theorem dJ11_getChar_41 : decode cJ11_getChar 41 = .ok (.iand, 1) := dk_126 (dk_at dksJ11_getChar_1 17 rfl rfl)
theorem dJ11_getChar_42 : decode cJ11_getChar 42 = .ok (.getstatic 59, 3) := dk_178 0 59 (dk_at dksJ11_getChar_1 18 rfl rfl)
theorem dJ11_getChar_45 : decode cJ11_getChar 45 = .ok (.ishl, 1) := dk_120 (dk_at dksJ11_getChar_1 21 rfl rfl)
theorem dJ11_getChar_46 : decode cJ11_getChar 46 = .ok (.aload_n 0, 1) := dk_42 (dk_at dksJ11_getChar_1 22 rfl rfl)
theorem dJ11_getChar_47 : decode cJ11_getChar 47 = .ok (.iload_n 1, 1) := dk_27 (dk_at dksJ11_getChar_1 23 rfl rfl)
theorem dJ11_getChar_48 : decode cJ11_getChar 48 = .ok (.baload, 1) := dk_51 (dk_at dksJ11_getChar_2 0 rfl rfl)
theorem dJ11_getChar_49 : decode cJ11_getChar 49 = .ok (.sipush 255, 3) := dk_17 0 255 (dk_at dksJ11_getChar_2 1 rfl rfl)
theorem dJ11_getChar_52 : decode cJ11_getChar 52 = .ok (.iand, 1) := dk_126 (dk_at dksJ11_getChar_2 4 rfl rfl)
theorem dJ11_getChar_53 : decode cJ11_getChar 53 = .ok (.getstatic 63, 3) := dk_178 0 63 (dk_at dksJ11_getChar_2 5 rfl rfl)
theorem dJ11_getChar_56 : decode cJ11_getChar 56 = .ok (.ishl, 1) := dk_120 (dk_at dksJ11_getChar_2 8 rfl rfl)
theorem dJ11_getChar_57 : decode cJ11_getChar 57 = .ok (.ior, 1) := dk_128 (dk_at dksJ11_getChar_2 9 rfl rfl)
theorem dJ11_getChar_58 : decode cJ11_getChar 58 = .ok (.i2c, 1) := dk_146 (dk_at dksJ11_getChar_2 10 rfl rfl)
theorem dJ11_getChar_59 : decode cJ11_getChar 59 = .ok (.ireturn, 1) := dk_172 (dk_at dksJ11_getChar_2 11 rfl rfl)
theorem q174 : (Jvm.Cond.initialized "java/lang/StringUTF16") ∈ lw_all := lw_g (lw_at lw_m1 22 rfl) rfl
theorem q741 : (Jvm.Cond.static ({ cls := "java/lang/StringUTF16", name := "charAt", desc := "([BI)C" } : Jvm.MethodName)) ∈ lw_all := lw_g (lw_at lw_m3 109 rfl) rfl
theorem q742 : (Jvm.Cond.code ({ cls := "java/lang/StringUTF16", name := "charAt", desc := "([BI)C" } : Jvm.MethodName) prog_24_method_83_code (2 : Nat) (Option.some Jvm.ClassFile.FieldType.char)) ∈ lw_all := lw_g (lw_at lw_m3 110 rfl) rfl
theorem q743 : (Jvm.Cond.methodLink "java/lang/StringUTF16" (67 : Nat) ({ cls := "java/lang/StringUTF16", name := "checkIndex", desc := "(I[B)V" } : Jvm.MethodName)) ∈ lw_all := lw_g (lw_at lw_m3 111 rfl) rfl
theorem q744 : (Jvm.Cond.static ({ cls := "java/lang/StringUTF16", name := "checkIndex", desc := "(I[B)V" } : Jvm.MethodName)) ∈ lw_all := lw_g (lw_at lw_m3 112 rfl) rfl
theorem q745 : (Jvm.Cond.code ({ cls := "java/lang/StringUTF16", name := "checkIndex", desc := "(I[B)V" } : Jvm.MethodName) prog_24_method_91_code (2 : Nat) (Option.none : Option Jvm.ClassFile.FieldType)) ∈ lw_all := lw_g (lw_at lw_m3 113 rfl) rfl
theorem q746 : (Jvm.Cond.methodLink "java/lang/StringUTF16" (48 : Nat) ({ cls := "java/lang/StringUTF16", name := "length", desc := "([B)I" } : Jvm.MethodName)) ∈ lw_all := lw_g (lw_at lw_m3 114 rfl) rfl
theorem q747 : (Jvm.Cond.static ({ cls := "java/lang/StringUTF16", name := "length", desc := "([B)I" } : Jvm.MethodName)) ∈ lw_all := lw_g (lw_at lw_m3 115 rfl) rfl
theorem q748 : (Jvm.Cond.code ({ cls := "java/lang/StringUTF16", name := "length", desc := "([B)I" } : Jvm.MethodName) prog_24_method_6_code (1 : Nat) (Option.some Jvm.ClassFile.FieldType.int)) ∈ lw_all := lw_g (lw_at lw_m3 116 rfl) rfl
theorem q749 : (Jvm.Cond.methodLink "java/lang/StringUTF16" (414 : Nat) ({ cls := "java/lang/String", name := "checkIndex", desc := "(II)V" } : Jvm.MethodName)) ∈ lw_all := lw_g (lw_at lw_m3 117 rfl) rfl
theorem q750 : (Jvm.Cond.methodLink "java/lang/StringUTF16" (71 : Nat) ({ cls := "java/lang/StringUTF16", name := "getChar", desc := "([BI)C" } : Jvm.MethodName)) ∈ lw_all := lw_g (lw_at lw_m3 118 rfl) rfl
theorem q751 : (Jvm.Cond.static ({ cls := "java/lang/StringUTF16", name := "getChar", desc := "([BI)C" } : Jvm.MethodName)) ∈ lw_all := lw_g (lw_at lw_m3 119 rfl) rfl
theorem q752 : (Jvm.Cond.code ({ cls := "java/lang/StringUTF16", name := "getChar", desc := "([BI)C" } : Jvm.MethodName) prog_24_method_5_code (2 : Nat) (Option.some Jvm.ClassFile.FieldType.char)) ∈ lw_all := lw_g (lw_at lw_m3 120 rfl) rfl
theorem q753 : (Jvm.Cond.fieldLink "java/lang/StringUTF16" (44 : Nat) "java/lang/StringUTF16" "$assertionsDisabled" "Z") ∈ lw_all := lw_g (lw_at lw_m3 121 rfl) rfl
theorem q754 : (Jvm.Cond.laysStatic "java/lang/StringUTF16" "$assertionsDisabled" "Z") ∈ lw_tbl := lw_at lw_m3 122 rfl
theorem q755 : (Jvm.Cond.fieldLink "java/lang/StringUTF16" (59 : Nat) "java/lang/StringUTF16" "HI_BYTE_SHIFT" "I") ∈ lw_all := lw_g (lw_at lw_m3 123 rfl) rfl
theorem q756 : (Jvm.Cond.laysStatic "java/lang/StringUTF16" "HI_BYTE_SHIFT" "I") ∈ lw_tbl := lw_at lw_m3 124 rfl
theorem q757 : (Jvm.Cond.fieldLink "java/lang/StringUTF16" (63 : Nat) "java/lang/StringUTF16" "LO_BYTE_SHIFT" "I") ∈ lw_all := lw_g (lw_at lw_m3 125 rfl) rfl
theorem q758 : (Jvm.Cond.laysStatic "java/lang/StringUTF16" "LO_BYTE_SHIFT" "I") ∈ lw_tbl := lw_at lw_m3 126 rfl

/-! java/lang/Object -/
set_option maxRecDepth 100000
def RJ12 : String := "java/lang/Object"
abbrev cJ12_init : ByteArray := object_method_1_code
def yJ12_init : MethodName := ⟨RJ12, "<init>", "()V"⟩
theorem dJ12_init_0 : decode cJ12_init 0 = .ok (.return_, 1) := by decide +kernel
theorem q185 : (Jvm.Cond.instanceMethod ({ cls := "java/lang/Object", name := "<init>", desc := "()V" } : Jvm.MethodName)) ∈ lw_all := lw_g (lw_at lw_m1 33 rfl) rfl
theorem q186 : (Jvm.Cond.code ({ cls := "java/lang/Object", name := "<init>", desc := "()V" } : Jvm.MethodName) object_method_1_code (1 : Nat) (Option.none : Option Jvm.ClassFile.FieldType)) ∈ lw_all := lw_g (lw_at lw_m1 34 rfl) rfl

theorem q152 : (Jvm.Cond.initialized "TinFenLaw") ∈ lw_all := lw_g (lw_at lw_m1 0 rfl) rfl
set_option maxRecDepth 100000
theorem q179 : (Jvm.Cond.classLink "TinFenLaw" (7 : Nat) "TinFen") ∈ lw_all := lw_g (lw_at lw_m1 27 rfl) rfl
theorem q181 : (Jvm.Cond.methodLink "TinFenLaw" (9 : Nat) ({ cls := "TinFen", name := "<init>", desc := "()V" } : Jvm.MethodName)) ∈ lw_all := lw_g (lw_at lw_m1 29 rfl) rfl
theorem q528 : (Jvm.Cond.methodLink "TinFenLaw" (13 : Nat) ({ cls := "TinFen", name := "status", desc := "()I" } : Jvm.MethodName)) ∈ lw_all := lw_g (lw_at lw_m2 136 rfl) rfl
theorem q532 : (Jvm.Cond.methodLink "TinFenLaw" (18 : Nat) ({ cls := "TinFen", name := "top", desc := "()J" } : Jvm.MethodName)) ∈ lw_all := lw_g (lw_at lw_m2 140 rfl) rfl
theorem q536 : (Jvm.Cond.methodLink "TinFenLaw" (23 : Nat) ({ cls := "TinFen", name := "bottom", desc := "()J" } : Jvm.MethodName)) ∈ lw_all := lw_g (lw_at lw_m2 144 rfl) rfl
theorem q540 : (Jvm.Cond.methodLink "TinFenLaw" (27 : Nat) ({ cls := "TinFen", name := "tray", desc := "(III)Z" } : Jvm.MethodName)) ∈ lw_all := lw_g (lw_at lw_m2 148 rfl) rfl
theorem q583 : (Jvm.Cond.methodLink "TinFenLaw" (34 : Nat) ({ cls := "TinFen", name := "write", desc := "(IIJ)Z" } : Jvm.MethodName)) ∈ lw_all := lw_g (lw_at lw_m2 191 rfl) rfl
theorem q639 : (Jvm.Cond.methodLink "TinFenLaw" (39 : Nat) ({ cls := "TinFen", name := "read", desc := "(II)J" } : Jvm.MethodName)) ∈ lw_all := lw_g (lw_at lw_m3 7 rfl) rfl
theorem q652 : (Jvm.Cond.methodLink "TinFenLaw" (44 : Nat) ({ cls := "TinFen", name := "pour", desc := "(IIIII)Z" } : Jvm.MethodName)) ∈ lw_all := lw_g (lw_at lw_m3 20 rfl) rfl
theorem q660 : (Jvm.Cond.methodLink "TinFenLaw" (49 : Nat) ({ cls := "TinFen", name := "feed", desc := "(IIIII)I" } : Jvm.MethodName)) ∈ lw_all := lw_g (lw_at lw_m3 28 rfl) rfl
theorem q668 : (Jvm.Cond.methodLink "TinFenLaw" (54 : Nat) ({ cls := "TinFen", name := "fen", desc := "(I)I" } : Jvm.MethodName)) ∈ lw_all := lw_g (lw_at lw_m3 36 rfl) rfl
theorem q986 : (Jvm.Cond.methodLink "TinFenLaw" (59 : Nat) ({ cls := "TinFen", name := "years", desc := "(I)I" } : Jvm.MethodName)) ∈ lw_all := lw_g (lw_at lw_m4 114 rfl) rfl
theorem q1051 : (Jvm.Cond.methodLink "TinFenLaw" (63 : Nat) ({ cls := "TinFen", name := "fault", desc := "(I)I" } : Jvm.MethodName)) ∈ lw_all := lw_g (lw_at lw_m4 179 rfl) rfl
theorem q1055 : (Jvm.Cond.methodLink "TinFenLaw" (67 : Nat) ({ cls := "TinFen", name := "many", desc := "(I)I" } : Jvm.MethodName)) ∈ lw_all := lw_g (lw_at lw_m4 183 rfl) rfl
theorem q1080 : (Jvm.Cond.methodLink "TinFenLaw" (71 : Nat) ({ cls := "TinFen", name := "worth", desc := "(I)I" } : Jvm.MethodName)) ∈ lw_all := lw_g (lw_at lw_m4 208 rfl) rfl
theorem q1088 : (Jvm.Cond.methodLink "TinFenLaw" (75 : Nat) ({ cls := "TinFen", name := "person", desc := "(II)I" } : Jvm.MethodName)) ∈ lw_all := lw_g (lw_at lw_m4 216 rfl) rfl
theorem q1096 : (Jvm.Cond.methodLink "TinFenLaw" (80 : Nat) ({ cls := "TinFen", name := "tin", desc := "(II)I" } : Jvm.MethodName)) ∈ lw_all := lw_g (lw_at lw_m4 224 rfl) rfl
theorem q1108 : (Jvm.Cond.methodLink "TinFenLaw" (84 : Nat) ({ cls := "TinFen", name := "copyGot", desc := "(I)I" } : Jvm.MethodName)) ∈ lw_all := lw_g (lw_at lw_m4 236 rfl) rfl
theorem q1116 : (Jvm.Cond.methodLink "TinFenLaw" (88 : Nat) ({ cls := "TinFen", name := "pass", desc := "(II)I" } : Jvm.MethodName)) ∈ lw_all := lw_g (lw_at lw_m5 4 rfl) rfl
theorem q1136 : (Jvm.Cond.methodLink "TinFenLaw" (92 : Nat) ({ cls := "TinFen", name := "bite", desc := "(I)I" } : Jvm.MethodName)) ∈ lw_all := lw_g (lw_at lw_m5 24 rfl) rfl
theorem q1149 : (Jvm.Cond.methodLink "TinFenLaw" (96 : Nat) ({ cls := "TinFen", name := "recite", desc := "(II)Z" } : Jvm.MethodName)) ∈ lw_all := lw_g (lw_at lw_m5 37 rfl) rfl
theorem q1155 : (Jvm.Cond.methodLink "TinFenLaw" (101 : Nat) ({ cls := "TinFen", name := "drop", desc := "(I)I" } : Jvm.MethodName)) ∈ lw_all := lw_g (lw_at lw_m5 43 rfl) rfl
theorem q1159 : (Jvm.Cond.methodLink "TinFenLaw" (105 : Nat) ({ cls := "TinFen", name := "strike", desc := "(IIZ)I" } : Jvm.MethodName)) ∈ lw_all := lw_g (lw_at lw_m5 47 rfl) rfl
theorem q1166 : (Jvm.Cond.methodLink "TinFenLaw" (110 : Nat) ({ cls := "TinFen", name := "teach", desc := "(IIZ)Z" } : Jvm.MethodName)) ∈ lw_all := lw_g (lw_at lw_m5 54 rfl) rfl
theorem q1174 : (Jvm.Cond.methodLink "TinFenLaw" (115 : Nat) ({ cls := "TinFen", name := "lane", desc := "(II)I" } : Jvm.MethodName)) ∈ lw_all := lw_g (lw_at lw_m5 62 rfl) rfl
theorem q1179 : (Jvm.Cond.methodLink "TinFenLaw" (119 : Nat) ({ cls := "TinFen", name := "price", desc := "(II)Z" } : Jvm.MethodName)) ∈ lw_all := lw_g (lw_at lw_m5 67 rfl) rfl
theorem q1187 : (Jvm.Cond.methodLink "TinFenLaw" (123 : Nat) ({ cls := "TinFen", name := "rule", desc := "(I)Z" } : Jvm.MethodName)) ∈ lw_all := lw_g (lw_at lw_m5 75 rfl) rfl
theorem q1192 : (Jvm.Cond.methodLink "TinFenLaw" (128 : Nat) ({ cls := "TinFen", name := "way", desc := "(II)I" } : Jvm.MethodName)) ∈ lw_all := lw_g (lw_at lw_m5 80 rfl) rfl
theorem q1201 : (Jvm.Cond.methodLink "TinFenLaw" (132 : Nat) ({ cls := "TinFen", name := "wayAt", desc := "(III)I" } : Jvm.MethodName)) ∈ lw_all := lw_g (lw_at lw_m5 89 rfl) rfl
theorem q1205 : (Jvm.Cond.methodLink "TinFenLaw" (137 : Nat) ({ cls := "TinFen", name := "reach", desc := "(I)I" } : Jvm.MethodName)) ∈ lw_all := lw_g (lw_at lw_m5 93 rfl) rfl
theorem q1213 : (Jvm.Cond.methodLink "TinFenLaw" (141 : Nat) ({ cls := "TinFen", name := "next", desc := "(I)I" } : Jvm.MethodName)) ∈ lw_all := lw_g (lw_at lw_m5 101 rfl) rfl
theorem q1217 : (Jvm.Cond.methodLink "TinFenLaw" (145 : Nat) ({ cls := "TinFen", name := "round", desc := "(I)I" } : Jvm.MethodName)) ∈ lw_all := lw_g (lw_at lw_m5 105 rfl) rfl
theorem q1229 : (Jvm.Cond.methodLink "TinFenLaw" (149 : Nat) ({ cls := "TinFen", name := "roundAt", desc := "(II)I" } : Jvm.MethodName)) ∈ lw_all := lw_g (lw_at lw_m5 117 rfl) rfl
theorem q1233 : (Jvm.Cond.methodLink "TinFenLaw" (153 : Nat) ({ cls := "TinFen", name := "most", desc := "(I)I" } : Jvm.MethodName)) ∈ lw_all := lw_g (lw_at lw_m5 121 rfl) rfl
theorem q1255 : (Jvm.Cond.methodLink "TinFenLaw" (157 : Nat) ({ cls := "TinFen", name := "givings", desc := "(I)I" } : Jvm.MethodName)) ∈ lw_all := lw_g (lw_at lw_m5 143 rfl) rfl
theorem q1263 : (Jvm.Cond.methodLink "TinFenLaw" (161 : Nat) ({ cls := "TinFen", name := "given", desc := "(II)I" } : Jvm.MethodName)) ∈ lw_all := lw_g (lw_at lw_m5 151 rfl) rfl
theorem q1267 : (Jvm.Cond.methodLink "TinFenLaw" (165 : Nat) ({ cls := "TinFen", name := "cover", desc := "()I" } : Jvm.MethodName)) ∈ lw_all := lw_g (lw_at lw_m5 155 rfl) rfl
theorem q1278 : (Jvm.Cond.methodLink "TinFenLaw" (169 : Nat) ({ cls := "TinFen", name := "coverSet", desc := "()I" } : Jvm.MethodName)) ∈ lw_all := lw_g (lw_at lw_m5 166 rfl) rfl
theorem q1282 : (Jvm.Cond.methodLink "TinFenLaw" (173 : Nat) ({ cls := "TinFen", name := "blamed", desc := "()I" } : Jvm.MethodName)) ∈ lw_all := lw_g (lw_at lw_m5 170 rfl) rfl
theorem q1290 : (Jvm.Cond.methodLink "TinFenLaw" (177 : Nat) ({ cls := "TinFen", name := "blamedSet", desc := "()I" } : Jvm.MethodName)) ∈ lw_all := lw_g (lw_at lw_m5 178 rfl) rfl
theorem q1294 : (Jvm.Cond.methodLink "TinFenLaw" (181 : Nat) ({ cls := "TinFen", name := "wheels", desc := "(I)I" } : Jvm.MethodName)) ∈ lw_all := lw_g (lw_at lw_m5 182 rfl) rfl
theorem q1308 : (Jvm.Cond.methodLink "TinFenLaw" (185 : Nat) ({ cls := "TinFen", name := "whose", desc := "(II)I" } : Jvm.MethodName)) ∈ lw_all := lw_g (lw_at lw_m5 196 rfl) rfl
theorem q1325 : (Jvm.Cond.methodLink "TinFenLaw" (189 : Nat) ({ cls := "TinFen", name := "sure", desc := "(II)I" } : Jvm.MethodName)) ∈ lw_all := lw_g (lw_at lw_m5 213 rfl) rfl
theorem q1329 : (Jvm.Cond.methodLink "TinFenLaw" (193 : Nat) ({ cls := "TinFen", name := "ask", desc := "(II)I" } : Jvm.MethodName)) ∈ lw_all := lw_g (lw_at lw_m5 217 rfl) rfl
theorem q1337 : (Jvm.Cond.methodLink "TinFenLaw" (197 : Nat) ({ cls := "TinFen", name := "game", desc := "(III)I" } : Jvm.MethodName)) ∈ lw_all := lw_g (lw_at lw_m5 225 rfl) rfl
theorem q1389 : (Jvm.Cond.methodLink "TinFenLaw" (201 : Nat) ({ cls := "TinFen", name := "moveOf", desc := "(IIII)I" } : Jvm.MethodName)) ∈ lw_all := lw_g (lw_at lw_m6 37 rfl) rfl
theorem q1393 : (Jvm.Cond.methodLink "TinFenLaw" (206 : Nat) ({ cls := "TinFen", name := "bites", desc := "(II)Z" } : Jvm.MethodName)) ∈ lw_all := lw_g (lw_at lw_m6 41 rfl) rfl
theorem q1402 : (Jvm.Cond.methodLink "TinFenLaw" (210 : Nat) ({ cls := "TinFen", name := "share", desc := "(I)Z" } : Jvm.MethodName)) ∈ lw_all := lw_g (lw_at lw_m6 50 rfl) rfl
theorem q1406 : (Jvm.Cond.methodLink "TinFenLaw" (214 : Nat) ({ cls := "TinFen", name := "live", desc := "(I)I" } : Jvm.MethodName)) ∈ lw_all := lw_g (lw_at lw_m6 54 rfl) rfl
theorem q1448 : (Jvm.Cond.methodLink "TinFenLaw" (218 : Nat) ({ cls := "TinFen", name := "lived", desc := "(I)I" } : Jvm.MethodName)) ∈ lw_all := lw_g (lw_at lw_m6 96 rfl) rfl
theorem q1452 : (Jvm.Cond.methodLink "TinFenLaw" (222 : Nat) ({ cls := "TinFen", name := "mean", desc := "(II)Z" } : Jvm.MethodName)) ∈ lw_all := lw_g (lw_at lw_m6 100 rfl) rfl
theorem q1457 : (Jvm.Cond.methodLink "TinFenLaw" (226 : Nat) ({ cls := "TinFen", name := "mark", desc := "()I" } : Jvm.MethodName)) ∈ lw_all := lw_g (lw_at lw_m6 105 rfl) rfl
theorem q1479 : (Jvm.Cond.methodLink "TinFenLaw" (230 : Nat) ({ cls := "TinFen", name := "back", desc := "()I" } : Jvm.MethodName)) ∈ lw_all := lw_g (lw_at lw_m6 127 rfl) rfl
theorem q1483 : (Jvm.Cond.classLink "TinFenLaw" (10 : Nat) "TinFenModel") ∈ lw_all := lw_g (lw_at lw_m6 131 rfl) rfl
theorem q1485 : (Jvm.Cond.methodLink "TinFenLaw" (12 : Nat) ({ cls := "TinFenModel", name := "<init>", desc := "()V" } : Jvm.MethodName)) ∈ lw_all := lw_g (lw_at lw_m6 133 rfl) rfl
theorem q1636 : (Jvm.Cond.methodLink "TinFenLaw" (17 : Nat) ({ cls := "TinFenModel", name := "status", desc := "()I" } : Jvm.MethodName)) ∈ lw_all := lw_g (lw_at lw_m7 44 rfl) rfl
theorem q1640 : (Jvm.Cond.methodLink "TinFenLaw" (22 : Nat) ({ cls := "TinFenModel", name := "top", desc := "()J" } : Jvm.MethodName)) ∈ lw_all := lw_g (lw_at lw_m7 48 rfl) rfl
theorem q1644 : (Jvm.Cond.methodLink "TinFenLaw" (26 : Nat) ({ cls := "TinFenModel", name := "bottom", desc := "()J" } : Jvm.MethodName)) ∈ lw_all := lw_g (lw_at lw_m7 52 rfl) rfl
theorem q1648 : (Jvm.Cond.methodLink "TinFenLaw" (31 : Nat) ({ cls := "TinFenModel", name := "tray", desc := "(III)Z" } : Jvm.MethodName)) ∈ lw_all := lw_g (lw_at lw_m7 56 rfl) rfl
theorem q1656 : (Jvm.Cond.methodLink "TinFenLaw" (38 : Nat) ({ cls := "TinFenModel", name := "write", desc := "(IIJ)Z" } : Jvm.MethodName)) ∈ lw_all := lw_g (lw_at lw_m7 64 rfl) rfl
theorem q1671 : (Jvm.Cond.methodLink "TinFenLaw" (43 : Nat) ({ cls := "TinFenModel", name := "read", desc := "(II)J" } : Jvm.MethodName)) ∈ lw_all := lw_g (lw_at lw_m7 79 rfl) rfl
theorem q1676 : (Jvm.Cond.methodLink "TinFenLaw" (48 : Nat) ({ cls := "TinFenModel", name := "pour", desc := "(IIIII)Z" } : Jvm.MethodName)) ∈ lw_all := lw_g (lw_at lw_m7 84 rfl) rfl
theorem q1680 : (Jvm.Cond.methodLink "TinFenLaw" (53 : Nat) ({ cls := "TinFenModel", name := "feed", desc := "(IIIII)I" } : Jvm.MethodName)) ∈ lw_all := lw_g (lw_at lw_m7 88 rfl) rfl
theorem q1688 : (Jvm.Cond.methodLink "TinFenLaw" (66 : Nat) ({ cls := "TinFenModel", name := "fault", desc := "(I)I" } : Jvm.MethodName)) ∈ lw_all := lw_g (lw_at lw_m7 96 rfl) rfl
theorem q1692 : (Jvm.Cond.methodLink "TinFenLaw" (58 : Nat) ({ cls := "TinFenModel", name := "fen", desc := "(I)I" } : Jvm.MethodName)) ∈ lw_all := lw_g (lw_at lw_m7 100 rfl) rfl
theorem q1877 : (Jvm.Cond.methodLink "TinFenLaw" (62 : Nat) ({ cls := "TinFenModel", name := "years", desc := "(I)I" } : Jvm.MethodName)) ∈ lw_all := lw_g (lw_at lw_m8 45 rfl) rfl
theorem q1893 : (Jvm.Cond.methodLink "TinFenLaw" (70 : Nat) ({ cls := "TinFenModel", name := "many", desc := "(I)I" } : Jvm.MethodName)) ∈ lw_all := lw_g (lw_at lw_m8 61 rfl) rfl
theorem q1926 : (Jvm.Cond.methodLink "TinFenLaw" (74 : Nat) ({ cls := "TinFenModel", name := "worth", desc := "(I)I" } : Jvm.MethodName)) ∈ lw_all := lw_g (lw_at lw_m8 94 rfl) rfl
theorem q1934 : (Jvm.Cond.methodLink "TinFenLaw" (79 : Nat) ({ cls := "TinFenModel", name := "person", desc := "(II)I" } : Jvm.MethodName)) ∈ lw_all := lw_g (lw_at lw_m8 102 rfl) rfl
theorem q1947 : (Jvm.Cond.methodLink "TinFenLaw" (83 : Nat) ({ cls := "TinFenModel", name := "tin", desc := "(II)I" } : Jvm.MethodName)) ∈ lw_all := lw_g (lw_at lw_m8 115 rfl) rfl
theorem q1955 : (Jvm.Cond.methodLink "TinFenLaw" (87 : Nat) ({ cls := "TinFenModel", name := "copyGot", desc := "(I)I" } : Jvm.MethodName)) ∈ lw_all := lw_g (lw_at lw_m8 123 rfl) rfl
theorem q1965 : (Jvm.Cond.methodLink "TinFenLaw" (91 : Nat) ({ cls := "TinFenModel", name := "pass", desc := "(II)I" } : Jvm.MethodName)) ∈ lw_all := lw_g (lw_at lw_m8 133 rfl) rfl
theorem q1981 : (Jvm.Cond.methodLink "TinFenLaw" (95 : Nat) ({ cls := "TinFenModel", name := "bite", desc := "(I)I" } : Jvm.MethodName)) ∈ lw_all := lw_g (lw_at lw_m8 149 rfl) rfl
theorem q1989 : (Jvm.Cond.methodLink "TinFenLaw" (100 : Nat) ({ cls := "TinFenModel", name := "recite", desc := "(II)Z" } : Jvm.MethodName)) ∈ lw_all := lw_g (lw_at lw_m8 157 rfl) rfl
theorem q1993 : (Jvm.Cond.methodLink "TinFenLaw" (104 : Nat) ({ cls := "TinFenModel", name := "drop", desc := "(I)I" } : Jvm.MethodName)) ∈ lw_all := lw_g (lw_at lw_m8 161 rfl) rfl
theorem q1997 : (Jvm.Cond.methodLink "TinFenLaw" (109 : Nat) ({ cls := "TinFenModel", name := "strike", desc := "(IIZ)I" } : Jvm.MethodName)) ∈ lw_all := lw_g (lw_at lw_m8 165 rfl) rfl
theorem q2001 : (Jvm.Cond.methodLink "TinFenLaw" (114 : Nat) ({ cls := "TinFenModel", name := "teach", desc := "(IIZ)Z" } : Jvm.MethodName)) ∈ lw_all := lw_g (lw_at lw_m8 169 rfl) rfl
theorem q2009 : (Jvm.Cond.methodLink "TinFenLaw" (118 : Nat) ({ cls := "TinFenModel", name := "lane", desc := "(II)I" } : Jvm.MethodName)) ∈ lw_all := lw_g (lw_at lw_m8 177 rfl) rfl
theorem q2013 : (Jvm.Cond.methodLink "TinFenLaw" (122 : Nat) ({ cls := "TinFenModel", name := "price", desc := "(II)Z" } : Jvm.MethodName)) ∈ lw_all := lw_g (lw_at lw_m8 181 rfl) rfl
theorem q2018 : (Jvm.Cond.methodLink "TinFenLaw" (127 : Nat) ({ cls := "TinFenModel", name := "rule", desc := "(I)Z" } : Jvm.MethodName)) ∈ lw_all := lw_g (lw_at lw_m8 186 rfl) rfl
theorem q2023 : (Jvm.Cond.methodLink "TinFenLaw" (131 : Nat) ({ cls := "TinFenModel", name := "way", desc := "(II)I" } : Jvm.MethodName)) ∈ lw_all := lw_g (lw_at lw_m8 191 rfl) rfl
theorem q2035 : (Jvm.Cond.methodLink "TinFenLaw" (136 : Nat) ({ cls := "TinFenModel", name := "wayAt", desc := "(III)I" } : Jvm.MethodName)) ∈ lw_all := lw_g (lw_at lw_m8 203 rfl) rfl
theorem q2039 : (Jvm.Cond.methodLink "TinFenLaw" (140 : Nat) ({ cls := "TinFenModel", name := "reach", desc := "(I)I" } : Jvm.MethodName)) ∈ lw_all := lw_g (lw_at lw_m8 207 rfl) rfl
theorem q2047 : (Jvm.Cond.methodLink "TinFenLaw" (144 : Nat) ({ cls := "TinFenModel", name := "next", desc := "(I)I" } : Jvm.MethodName)) ∈ lw_all := lw_g (lw_at lw_m8 215 rfl) rfl
theorem q2051 : (Jvm.Cond.methodLink "TinFenLaw" (148 : Nat) ({ cls := "TinFenModel", name := "round", desc := "(I)I" } : Jvm.MethodName)) ∈ lw_all := lw_g (lw_at lw_m8 219 rfl) rfl
theorem q2063 : (Jvm.Cond.methodLink "TinFenLaw" (152 : Nat) ({ cls := "TinFenModel", name := "roundAt", desc := "(II)I" } : Jvm.MethodName)) ∈ lw_all := lw_g (lw_at lw_m8 231 rfl) rfl
theorem q2067 : (Jvm.Cond.methodLink "TinFenLaw" (156 : Nat) ({ cls := "TinFenModel", name := "most", desc := "(I)I" } : Jvm.MethodName)) ∈ lw_all := lw_g (lw_at lw_m8 235 rfl) rfl
theorem q2086 : (Jvm.Cond.methodLink "TinFenLaw" (160 : Nat) ({ cls := "TinFenModel", name := "givings", desc := "(I)I" } : Jvm.MethodName)) ∈ lw_all := lw_g (lw_at lw_m9 14 rfl) rfl
theorem q2090 : (Jvm.Cond.methodLink "TinFenLaw" (164 : Nat) ({ cls := "TinFenModel", name := "given", desc := "(II)I" } : Jvm.MethodName)) ∈ lw_all := lw_g (lw_at lw_m9 18 rfl) rfl
theorem q2094 : (Jvm.Cond.methodLink "TinFenLaw" (168 : Nat) ({ cls := "TinFenModel", name := "cover", desc := "()I" } : Jvm.MethodName)) ∈ lw_all := lw_g (lw_at lw_m9 22 rfl) rfl
theorem q2102 : (Jvm.Cond.methodLink "TinFenLaw" (172 : Nat) ({ cls := "TinFenModel", name := "coverSet", desc := "()I" } : Jvm.MethodName)) ∈ lw_all := lw_g (lw_at lw_m9 30 rfl) rfl
theorem q2106 : (Jvm.Cond.methodLink "TinFenLaw" (176 : Nat) ({ cls := "TinFenModel", name := "blamed", desc := "()I" } : Jvm.MethodName)) ∈ lw_all := lw_g (lw_at lw_m9 34 rfl) rfl
theorem q2114 : (Jvm.Cond.methodLink "TinFenLaw" (180 : Nat) ({ cls := "TinFenModel", name := "blamedSet", desc := "()I" } : Jvm.MethodName)) ∈ lw_all := lw_g (lw_at lw_m9 42 rfl) rfl
theorem q2118 : (Jvm.Cond.methodLink "TinFenLaw" (184 : Nat) ({ cls := "TinFenModel", name := "wheels", desc := "(I)I" } : Jvm.MethodName)) ∈ lw_all := lw_g (lw_at lw_m9 46 rfl) rfl
theorem q2132 : (Jvm.Cond.methodLink "TinFenLaw" (188 : Nat) ({ cls := "TinFenModel", name := "whose", desc := "(II)I" } : Jvm.MethodName)) ∈ lw_all := lw_g (lw_at lw_m9 60 rfl) rfl
theorem q2149 : (Jvm.Cond.methodLink "TinFenLaw" (192 : Nat) ({ cls := "TinFenModel", name := "sure", desc := "(II)I" } : Jvm.MethodName)) ∈ lw_all := lw_g (lw_at lw_m9 77 rfl) rfl
theorem q2153 : (Jvm.Cond.methodLink "TinFenLaw" (196 : Nat) ({ cls := "TinFenModel", name := "ask", desc := "(II)I" } : Jvm.MethodName)) ∈ lw_all := lw_g (lw_at lw_m9 81 rfl) rfl
theorem q2161 : (Jvm.Cond.methodLink "TinFenLaw" (200 : Nat) ({ cls := "TinFenModel", name := "game", desc := "(III)I" } : Jvm.MethodName)) ∈ lw_all := lw_g (lw_at lw_m9 89 rfl) rfl
theorem q2173 : (Jvm.Cond.methodLink "TinFenLaw" (205 : Nat) ({ cls := "TinFenModel", name := "moveOf", desc := "(IIII)I" } : Jvm.MethodName)) ∈ lw_all := lw_g (lw_at lw_m9 101 rfl) rfl
theorem q2177 : (Jvm.Cond.methodLink "TinFenLaw" (209 : Nat) ({ cls := "TinFenModel", name := "bites", desc := "(II)Z" } : Jvm.MethodName)) ∈ lw_all := lw_g (lw_at lw_m9 105 rfl) rfl
theorem q2188 : (Jvm.Cond.methodLink "TinFenLaw" (213 : Nat) ({ cls := "TinFenModel", name := "share", desc := "(I)Z" } : Jvm.MethodName)) ∈ lw_all := lw_g (lw_at lw_m9 116 rfl) rfl
theorem q2192 : (Jvm.Cond.methodLink "TinFenLaw" (217 : Nat) ({ cls := "TinFenModel", name := "live", desc := "(I)I" } : Jvm.MethodName)) ∈ lw_all := lw_g (lw_at lw_m9 120 rfl) rfl
theorem q2234 : (Jvm.Cond.methodLink "TinFenLaw" (221 : Nat) ({ cls := "TinFenModel", name := "lived", desc := "(I)I" } : Jvm.MethodName)) ∈ lw_all := lw_g (lw_at lw_m9 162 rfl) rfl
theorem q2238 : (Jvm.Cond.methodLink "TinFenLaw" (225 : Nat) ({ cls := "TinFenModel", name := "mean", desc := "(II)Z" } : Jvm.MethodName)) ∈ lw_all := lw_g (lw_at lw_m9 166 rfl) rfl
theorem q2243 : (Jvm.Cond.methodLink "TinFenLaw" (229 : Nat) ({ cls := "TinFenModel", name := "mark", desc := "()I" } : Jvm.MethodName)) ∈ lw_all := lw_g (lw_at lw_m9 171 rfl) rfl
theorem q2247 : (Jvm.Cond.methodLink "TinFenLaw" (233 : Nat) ({ cls := "TinFenModel", name := "back", desc := "()I" } : Jvm.MethodName)) ∈ lw_all := lw_g (lw_at lw_m9 175 rfl) rfl
theorem q2251 : (Jvm.Cond.constantLong "TinFenLaw" (32 : Nat) (4294967295 : Int64)) ∈ lw_all := lw_g (lw_at lw_m9 179 rfl) rfl

theorem q170 : (Jvm.Cond.initialized "java/lang/System") ∈ lw_all := lw_g (lw_at lw_m1 18 rfl) rfl
set_option maxRecDepth 100000
theorem q658 : (Jvm.Cond.static ({ cls := "java/lang/System", name := "arraycopy", desc := "(Ljava/lang/Object;ILjava/lang/Object;II)V" } : Jvm.MethodName)) ∈ lw_all := lw_g (lw_at lw_m3 26 rfl) rfl
theorem q659 : (Jvm.Cond.native ({ cls := "java/lang/System", name := "arraycopy", desc := "(Ljava/lang/Object;ILjava/lang/Object;II)V" } : Jvm.MethodName)) ∈ lw_all := lw_g (lw_at lw_m3 27 rfl) rfl

theorem q188 : (Jvm.Cond.arrayOver (Jvm.ClassFile.FieldType.object "TinFen$Tray")) ∈ lw_tbl := lw_at lw_m1 36 rfl
set_option maxRecDepth 100000
theorem q295 : (Jvm.Cond.arrayClass Jvm.ClassFile.FieldType.byte) ∈ lw_all := lw_g (lw_at lw_m1 143 rfl) rfl
theorem q375 : (Jvm.Cond.arrayClass Jvm.ClassFile.FieldType.int) ∈ lw_all := lw_g (lw_at lw_m1 223 rfl) rfl
theorem q383 : (Jvm.Cond.arrayOver (Jvm.ClassFile.FieldType.object "TinFen$Person")) ∈ lw_tbl := lw_at lw_m1 231 rfl
theorem q385 : (Jvm.Cond.arrayOver (Jvm.ClassFile.FieldType.object "TinFen$Tin")) ∈ lw_tbl := lw_at lw_m1 233 rfl
theorem q434 : (Jvm.Cond.arrayClass Jvm.ClassFile.FieldType.long) ∈ lw_all := lw_g (lw_at lw_m2 42 rfl) rfl
theorem q435 : (Jvm.Cond.arrayOver (Jvm.ClassFile.FieldType.object "TinFen$Fen")) ∈ lw_tbl := lw_at lw_m2 43 rfl
theorem q437 : (Jvm.Cond.arrayOver (Jvm.ClassFile.FieldType.object "TinFen$Kept")) ∈ lw_tbl := lw_at lw_m2 45 rfl
theorem q582 : (Jvm.Cond.arrayClass Jvm.ClassFile.FieldType.short) ∈ lw_all := lw_g (lw_at lw_m2 190 rfl) rfl
theorem q995 : (Jvm.Cond.arrayOver (Jvm.ClassFile.FieldType.object "TinFen$Step")) ∈ lw_tbl := lw_at lw_m4 123 rfl
theorem q1635 : (Jvm.Cond.arrayClass Jvm.ClassFile.FieldType.boolean) ∈ lw_all := lw_g (lw_at lw_m7 43 rfl) rfl
