/-! Stenohall$Writer -/
set_option maxRecDepth 100000
def RX2 : String := "Stenohall$Writer"
def TX2 : u_T := fun k => match k with
  | 0 => ("Stenohall$Writer", "signs", "Ljava/util/ArrayList;", true)
  | 1 => ("Stenohall$Writer", "isCapitalDue", "Z", false)
  | 2 => ("Stenohall$Writer", "by", "I", false)
  | 3 => ("Stenohall$Writer", "time", "I", false)
  | 4 => ("Stenohall$Writer", "isJoined", "Z", false)
  | 5 => ("Stenohall$Writer", "hasWritten", "Z", false)
  | _ => ("Stenohall$Writer", "this$0", "LStenohall;", true)
def tyX2 : Nat → FieldType := fun k => match k with
  | 0 => .object "java/util/ArrayList"
  | 1 => .boolean
  | 2 => .int
  | 3 => .int
  | 4 => .boolean
  | 5 => .boolean
  | _ => .object "Stenohall"
abbrev wsX20 : List Cond := u_ws RX2 TX2 7
theorem nmX2 : ∀ a, a < 7 → ∀ b, b < 7 → a ≠ b → (TX2 a).2.1 ≠ (TX2 b).2.1 := by decide +kernel
theorem tyX2_ok : ∀ k, k < 7 → parseFieldDescriptor (TX2 k).2.2.1 = some (tyX2 k) := by decide +kernel
abbrev cX2_init : ByteArray := prog_14_method_1_code
def yX2_init : MethodName := ⟨RX2, "<init>", "(LStenohall;)V"⟩
def dkwX2_init_0 : List UInt8 := [42, 43, 181, 0, 1, 42, 183, 0, 7, 42, 187, 0, 13, 89, 183, 0, 15, 181, 0, 16, 177]
abbrev dktX2_init_0 : List UInt8 := dkwX2_init_0 ++ []
theorem dksX2_init_0 : cX2_init.data.toList.drop 0 = dktX2_init_0 := by decide +kernel
theorem dX2_init_0 : decode cX2_init 0 = .ok (.aload_n 0, 1) := dk_42 (dk_at dksX2_init_0 0 rfl rfl)
theorem dX2_init_1 : decode cX2_init 1 = .ok (.aload_n 1, 1) := dk_43 (dk_at dksX2_init_0 1 rfl rfl)
theorem dX2_init_2 : decode cX2_init 2 = .ok (.putfield 1, 3) := dk_181 0 1 (dk_at dksX2_init_0 2 rfl rfl)
theorem dX2_init_5 : decode cX2_init 5 = .ok (.aload_n 0, 1) := dk_42 (dk_at dksX2_init_0 5 rfl rfl)
theorem dX2_init_6 : decode cX2_init 6 = .ok (.invokespecial 7, 3) := dk_183 0 7 (dk_at dksX2_init_0 6 rfl rfl)
theorem dX2_init_9 : decode cX2_init 9 = .ok (.aload_n 0, 1) := dk_42 (dk_at dksX2_init_0 9 rfl rfl)
theorem dX2_init_10 : decode cX2_init 10 = .ok (.new 13, 3) := dk_187 0 13 (dk_at dksX2_init_0 10 rfl rfl)
theorem dX2_init_13 : decode cX2_init 13 = .ok (.dup, 1) := dk_89 (dk_at dksX2_init_0 13 rfl rfl)
theorem dX2_init_14 : decode cX2_init 14 = .ok (.invokespecial 15, 3) := dk_183 0 15 (dk_at dksX2_init_0 14 rfl rfl)
theorem dX2_init_17 : decode cX2_init 17 = .ok (.putfield 16, 3) := dk_181 0 16 (dk_at dksX2_init_0 17 rfl rfl)
theorem dX2_init_20 : decode cX2_init 20 = .ok (.return_, 1) := dk_177 (dk_at dksX2_init_0 20 rfl rfl)
abbrev cX2_writesAll : ByteArray := prog_14_method_2_code
def yX2_writesAll : MethodName := ⟨RX2, "writesAll", "()V"⟩
def dkwX2_writesAll_8 : List UInt8 := [181, 0, 22, 167, 255, 79, 177]
abbrev dktX2_writesAll_8 : List UInt8 := dkwX2_writesAll_8 ++ []
def dkwX2_writesAll_7 : List UInt8 := [16, 63, 182, 0, 84, 167, 0, 8, 42, 45, 182, 0, 88, 45, 76, 42, 89, 180, 0, 22, 4, 96]
abbrev dktX2_writesAll_7 : List UInt8 := dkwX2_writesAll_7 ++ dktX2_writesAll_8
def dkwX2_writesAll_6 : List UInt8 := [167, 0, 4, 3, 181, 0, 77, 42, 3, 181, 0, 81, 21, 4, 153, 0, 18, 42, 16, 63, 182, 0, 84, 42]
abbrev dktX2_writesAll_6 : List UInt8 := dkwX2_writesAll_6 ++ dktX2_writesAll_7
def dkwX2_writesAll_5 : List UInt8 := [182, 0, 74, 158, 0, 22, 43, 43, 182, 0, 74, 4, 100, 182, 0, 64, 16, 94, 160, 0, 7, 4]
abbrev dktX2_writesAll_5 : List UInt8 := dkwX2_writesAll_5 ++ dktX2_writesAll_6
def dkwX2_writesAll_4 : List UInt8 := [182, 0, 64, 182, 0, 70, 155, 0, 7, 4, 167, 0, 4, 3, 54, 5, 42, 21, 5, 154, 0, 25, 43]
abbrev dktX2_writesAll_4 : List UInt8 := dkwX2_writesAll_4 ++ dktX2_writesAll_5
def dkwX2_writesAll_3 : List UInt8 := [44, 184, 0, 53, 181, 0, 57, 44, 193, 0, 60, 54, 4, 21, 4, 154, 0, 20, 18, 62, 45, 3]
abbrev dktX2_writesAll_3 : List UInt8 := dkwX2_writesAll_3 ++ dktX2_writesAll_4
def dkwX2_writesAll_2 : List UInt8 := [180, 0, 1, 180, 0, 41, 42, 180, 0, 22, 182, 0, 35, 192, 0, 44, 182, 0, 46, 184, 0, 49, 78, 42]
abbrev dktX2_writesAll_2 : List UInt8 := dkwX2_writesAll_2 ++ dktX2_writesAll_3
def dkwX2_writesAll_1 : List UInt8 := [162, 0, 166, 42, 180, 0, 1, 180, 0, 26, 42, 180, 0, 22, 182, 0, 35, 192, 0, 39, 77, 44, 42]
abbrev dktX2_writesAll_1 : List UInt8 := dkwX2_writesAll_1 ++ dktX2_writesAll_2
def dkwX2_writesAll_0 : List UInt8 := [18, 20, 76, 42, 3, 181, 0, 22, 42, 180, 0, 22, 42, 180, 0, 1, 180, 0, 26, 182, 0, 31]
abbrev dktX2_writesAll_0 : List UInt8 := dkwX2_writesAll_0 ++ dktX2_writesAll_1
theorem dksX2_writesAll_0 : cX2_writesAll.data.toList.drop 0 = dktX2_writesAll_0 := by decide +kernel
theorem dksX2_writesAll_1 : cX2_writesAll.data.toList.drop 22 = dktX2_writesAll_1 := dk_seg dksX2_writesAll_0 22 rfl rfl
theorem dksX2_writesAll_2 : cX2_writesAll.data.toList.drop 45 = dktX2_writesAll_2 := dk_seg dksX2_writesAll_1 23 rfl rfl
theorem dksX2_writesAll_3 : cX2_writesAll.data.toList.drop 69 = dktX2_writesAll_3 := dk_seg dksX2_writesAll_2 24 rfl rfl
theorem dksX2_writesAll_4 : cX2_writesAll.data.toList.drop 91 = dktX2_writesAll_4 := dk_seg dksX2_writesAll_3 22 rfl rfl
theorem dksX2_writesAll_5 : cX2_writesAll.data.toList.drop 114 = dktX2_writesAll_5 := dk_seg dksX2_writesAll_4 23 rfl rfl
theorem dksX2_writesAll_6 : cX2_writesAll.data.toList.drop 136 = dktX2_writesAll_6 := dk_seg dksX2_writesAll_5 22 rfl rfl
theorem dksX2_writesAll_7 : cX2_writesAll.data.toList.drop 160 = dktX2_writesAll_7 := dk_seg dksX2_writesAll_6 24 rfl rfl
theorem dksX2_writesAll_8 : cX2_writesAll.data.toList.drop 182 = dktX2_writesAll_8 := dk_seg dksX2_writesAll_7 22 rfl rfl
theorem dX2_writesAll_0 : decode cX2_writesAll 0 = .ok (.ldc 20, 2) := dk_18 20 (dk_at dksX2_writesAll_0 0 rfl rfl)
theorem dX2_writesAll_2 : decode cX2_writesAll 2 = .ok (.astore_n 1, 1) := dk_76 (dk_at dksX2_writesAll_0 2 rfl rfl)
theorem dX2_writesAll_3 : decode cX2_writesAll 3 = .ok (.aload_n 0, 1) := dk_42 (dk_at dksX2_writesAll_0 3 rfl rfl)
theorem dX2_writesAll_4 : decode cX2_writesAll 4 = .ok (.iconst 0, 1) := dk_3 (dk_at dksX2_writesAll_0 4 rfl rfl)
theorem dX2_writesAll_5 : decode cX2_writesAll 5 = .ok (.putfield 22, 3) := dk_181 0 22 (dk_at dksX2_writesAll_0 5 rfl rfl)
theorem dX2_writesAll_8 : decode cX2_writesAll 8 = .ok (.aload_n 0, 1) := dk_42 (dk_at dksX2_writesAll_0 8 rfl rfl)
theorem dX2_writesAll_9 : decode cX2_writesAll 9 = .ok (.getfield 22, 3) := dk_180 0 22 (dk_at dksX2_writesAll_0 9 rfl rfl)
theorem dX2_writesAll_12 : decode cX2_writesAll 12 = .ok (.aload_n 0, 1) := dk_42 (dk_at dksX2_writesAll_0 12 rfl rfl)
theorem dX2_writesAll_13 : decode cX2_writesAll 13 = .ok (.getfield 1, 3) := dk_180 0 1 (dk_at dksX2_writesAll_0 13 rfl rfl)
theorem dX2_writesAll_16 : decode cX2_writesAll 16 = .ok (.getfield 26, 3) := dk_180 0 26 (dk_at dksX2_writesAll_0 16 rfl rfl)
theorem dX2_writesAll_19 : decode cX2_writesAll 19 = .ok (.invokevirtual 31, 3) := dk_182 0 31 (dk_at dksX2_writesAll_0 19 rfl rfl)
theorem dX2_writesAll_22 : decode cX2_writesAll 22 = .ok (.if_icmp .ge 166, 3) := dk_162 0 166 (dk_at dksX2_writesAll_1 0 rfl rfl)
theorem dX2_writesAll_25 : decode cX2_writesAll 25 = .ok (.aload_n 0, 1) := dk_42 (dk_at dksX2_writesAll_1 3 rfl rfl)
theorem dX2_writesAll_26 : decode cX2_writesAll 26 = .ok (.getfield 1, 3) := dk_180 0 1 (dk_at dksX2_writesAll_1 4 rfl rfl)
theorem dX2_writesAll_29 : decode cX2_writesAll 29 = .ok (.getfield 26, 3) := dk_180 0 26 (dk_at dksX2_writesAll_1 7 rfl rfl)
theorem dX2_writesAll_32 : decode cX2_writesAll 32 = .ok (.aload_n 0, 1) := dk_42 (dk_at dksX2_writesAll_1 10 rfl rfl)
theorem dX2_writesAll_33 : decode cX2_writesAll 33 = .ok (.getfield 22, 3) := dk_180 0 22 (dk_at dksX2_writesAll_1 11 rfl rfl)
theorem dX2_writesAll_36 : decode cX2_writesAll 36 = .ok (.invokevirtual 35, 3) := dk_182 0 35 (dk_at dksX2_writesAll_1 14 rfl rfl)
theorem dX2_writesAll_39 : decode cX2_writesAll 39 = .ok (.checkcast 39, 3) := dk_192 0 39 (dk_at dksX2_writesAll_1 17 rfl rfl)
theorem dX2_writesAll_42 : decode cX2_writesAll 42 = .ok (.astore_n 2, 1) := dk_77 (dk_at dksX2_writesAll_1 20 rfl rfl)
theorem dX2_writesAll_43 : decode cX2_writesAll 43 = .ok (.aload_n 2, 1) := dk_44 (dk_at dksX2_writesAll_1 21 rfl rfl)
theorem dX2_writesAll_44 : decode cX2_writesAll 44 = .ok (.aload_n 0, 1) := dk_42 (dk_at dksX2_writesAll_1 22 rfl rfl)
theorem dX2_writesAll_45 : decode cX2_writesAll 45 = .ok (.getfield 1, 3) := dk_180 0 1 (dk_at dksX2_writesAll_2 0 rfl rfl)
theorem dX2_writesAll_48 : decode cX2_writesAll 48 = .ok (.getfield 41, 3) := dk_180 0 41 (dk_at dksX2_writesAll_2 3 rfl rfl)
theorem dX2_writesAll_51 : decode cX2_writesAll 51 = .ok (.aload_n 0, 1) := dk_42 (dk_at dksX2_writesAll_2 6 rfl rfl)
theorem dX2_writesAll_52 : decode cX2_writesAll 52 = .ok (.getfield 22, 3) := dk_180 0 22 (dk_at dksX2_writesAll_2 7 rfl rfl)
theorem dX2_writesAll_55 : decode cX2_writesAll 55 = .ok (.invokevirtual 35, 3) := dk_182 0 35 (dk_at dksX2_writesAll_2 10 rfl rfl)
theorem dX2_writesAll_58 : decode cX2_writesAll 58 = .ok (.checkcast 44, 3) := dk_192 0 44 (dk_at dksX2_writesAll_2 13 rfl rfl)
theorem dX2_writesAll_61 : decode cX2_writesAll 61 = .ok (.invokevirtual 46, 3) := dk_182 0 46 (dk_at dksX2_writesAll_2 16 rfl rfl)
theorem dX2_writesAll_64 : decode cX2_writesAll 64 = .ok (.invokestatic 49, 3) := dk_184 0 49 (dk_at dksX2_writesAll_2 19 rfl rfl)
theorem dX2_writesAll_67 : decode cX2_writesAll 67 = .ok (.astore_n 3, 1) := dk_78 (dk_at dksX2_writesAll_2 22 rfl rfl)
theorem dX2_writesAll_68 : decode cX2_writesAll 68 = .ok (.aload_n 0, 1) := dk_42 (dk_at dksX2_writesAll_2 23 rfl rfl)
theorem dX2_writesAll_69 : decode cX2_writesAll 69 = .ok (.aload_n 2, 1) := dk_44 (dk_at dksX2_writesAll_3 0 rfl rfl)
theorem dX2_writesAll_70 : decode cX2_writesAll 70 = .ok (.invokestatic 53, 3) := dk_184 0 53 (dk_at dksX2_writesAll_3 1 rfl rfl)
theorem dX2_writesAll_73 : decode cX2_writesAll 73 = .ok (.putfield 57, 3) := dk_181 0 57 (dk_at dksX2_writesAll_3 4 rfl rfl)
theorem dX2_writesAll_76 : decode cX2_writesAll 76 = .ok (.aload_n 2, 1) := dk_44 (dk_at dksX2_writesAll_3 7 rfl rfl)
theorem dX2_writesAll_77 : decode cX2_writesAll 77 = .ok (.instanceof 60, 3) := dk_193 0 60 (dk_at dksX2_writesAll_3 8 rfl rfl)
theorem dX2_writesAll_80 : decode cX2_writesAll 80 = .ok (.istore 4, 2) := dk_54 4 (dk_at dksX2_writesAll_3 11 rfl rfl)
theorem dX2_writesAll_82 : decode cX2_writesAll 82 = .ok (.iload 4, 2) := dk_21 4 (dk_at dksX2_writesAll_3 13 rfl rfl)
theorem dX2_writesAll_84 : decode cX2_writesAll 84 = .ok (.ifCond .ne 20, 3) := dk_154 0 20 (dk_at dksX2_writesAll_3 15 rfl rfl)
theorem dX2_writesAll_87 : decode cX2_writesAll 87 = .ok (.ldc 62, 2) := dk_18 62 (dk_at dksX2_writesAll_3 18 rfl rfl)
theorem dX2_writesAll_89 : decode cX2_writesAll 89 = .ok (.aload_n 3, 1) := dk_45 (dk_at dksX2_writesAll_3 20 rfl rfl)
theorem dX2_writesAll_90 : decode cX2_writesAll 90 = .ok (.iconst 0, 1) := dk_3 (dk_at dksX2_writesAll_3 21 rfl rfl)
theorem dX2_writesAll_91 : decode cX2_writesAll 91 = .ok (.invokevirtual 64, 3) := dk_182 0 64 (dk_at dksX2_writesAll_4 0 rfl rfl)
theorem dX2_writesAll_94 : decode cX2_writesAll 94 = .ok (.invokevirtual 70, 3) := dk_182 0 70 (dk_at dksX2_writesAll_4 3 rfl rfl)
theorem dX2_writesAll_97 : decode cX2_writesAll 97 = .ok (.ifCond .lt 7, 3) := dk_155 0 7 (dk_at dksX2_writesAll_4 6 rfl rfl)
theorem dX2_writesAll_100 : decode cX2_writesAll 100 = .ok (.iconst 1, 1) := dk_4 (dk_at dksX2_writesAll_4 9 rfl rfl)
theorem dX2_writesAll_101 : decode cX2_writesAll 101 = .ok (.goto 4, 3) := dk_167 0 4 (dk_at dksX2_writesAll_4 10 rfl rfl)
theorem dX2_writesAll_104 : decode cX2_writesAll 104 = .ok (.iconst 0, 1) := dk_3 (dk_at dksX2_writesAll_4 13 rfl rfl)
theorem dX2_writesAll_105 : decode cX2_writesAll 105 = .ok (.istore 5, 2) := dk_54 5 (dk_at dksX2_writesAll_4 14 rfl rfl)
theorem dX2_writesAll_107 : decode cX2_writesAll 107 = .ok (.aload_n 0, 1) := dk_42 (dk_at dksX2_writesAll_4 16 rfl rfl)
theorem dX2_writesAll_108 : decode cX2_writesAll 108 = .ok (.iload 5, 2) := dk_21 5 (dk_at dksX2_writesAll_4 17 rfl rfl)
theorem dX2_writesAll_110 : decode cX2_writesAll 110 = .ok (.ifCond .ne 25, 3) := dk_154 0 25 (dk_at dksX2_writesAll_4 19 rfl rfl)
theorem dX2_writesAll_113 : decode cX2_writesAll 113 = .ok (.aload_n 1, 1) := dk_43 (dk_at dksX2_writesAll_4 22 rfl rfl)
theorem dX2_writesAll_114 : decode cX2_writesAll 114 = .ok (.invokevirtual 74, 3) := dk_182 0 74 (dk_at dksX2_writesAll_5 0 rfl rfl)
theorem dX2_writesAll_117 : decode cX2_writesAll 117 = .ok (.ifCond .le 22, 3) := dk_158 0 22 (dk_at dksX2_writesAll_5 3 rfl rfl)
theorem dX2_writesAll_120 : decode cX2_writesAll 120 = .ok (.aload_n 1, 1) := dk_43 (dk_at dksX2_writesAll_5 6 rfl rfl)
theorem dX2_writesAll_121 : decode cX2_writesAll 121 = .ok (.aload_n 1, 1) := dk_43 (dk_at dksX2_writesAll_5 7 rfl rfl)
theorem dX2_writesAll_122 : decode cX2_writesAll 122 = .ok (.invokevirtual 74, 3) := dk_182 0 74 (dk_at dksX2_writesAll_5 8 rfl rfl)
theorem dX2_writesAll_125 : decode cX2_writesAll 125 = .ok (.iconst 1, 1) := dk_4 (dk_at dksX2_writesAll_5 11 rfl rfl)
theorem dX2_writesAll_126 : decode cX2_writesAll 126 = .ok (.isub, 1) := dk_100 (dk_at dksX2_writesAll_5 12 rfl rfl)
theorem dX2_writesAll_127 : decode cX2_writesAll 127 = .ok (.invokevirtual 64, 3) := dk_182 0 64 (dk_at dksX2_writesAll_5 13 rfl rfl)
theorem dX2_writesAll_130 : decode cX2_writesAll 130 = .ok (.bipush 94, 2) := dk_16 94 (dk_at dksX2_writesAll_5 16 rfl rfl)
theorem dX2_writesAll_132 : decode cX2_writesAll 132 = .ok (.if_icmp .ne 7, 3) := dk_160 0 7 (dk_at dksX2_writesAll_5 18 rfl rfl)
theorem dX2_writesAll_135 : decode cX2_writesAll 135 = .ok (.iconst 1, 1) := dk_4 (dk_at dksX2_writesAll_5 21 rfl rfl)
theorem dX2_writesAll_136 : decode cX2_writesAll 136 = .ok (.goto 4, 3) := dk_167 0 4 (dk_at dksX2_writesAll_6 0 rfl rfl)
theorem dX2_writesAll_139 : decode cX2_writesAll 139 = .ok (.iconst 0, 1) := dk_3 (dk_at dksX2_writesAll_6 3 rfl rfl)
theorem dX2_writesAll_140 : decode cX2_writesAll 140 = .ok (.putfield 77, 3) := dk_181 0 77 (dk_at dksX2_writesAll_6 4 rfl rfl)
theorem dX2_writesAll_143 : decode cX2_writesAll 143 = .ok (.aload_n 0, 1) := dk_42 (dk_at dksX2_writesAll_6 7 rfl rfl)
theorem dX2_writesAll_144 : decode cX2_writesAll 144 = .ok (.iconst 0, 1) := dk_3 (dk_at dksX2_writesAll_6 8 rfl rfl)
theorem dX2_writesAll_145 : decode cX2_writesAll 145 = .ok (.putfield 81, 3) := dk_181 0 81 (dk_at dksX2_writesAll_6 9 rfl rfl)
theorem dX2_writesAll_148 : decode cX2_writesAll 148 = .ok (.iload 4, 2) := dk_21 4 (dk_at dksX2_writesAll_6 12 rfl rfl)
theorem dX2_writesAll_150 : decode cX2_writesAll 150 = .ok (.ifCond .eq 18, 3) := dk_153 0 18 (dk_at dksX2_writesAll_6 14 rfl rfl)
theorem dX2_writesAll_153 : decode cX2_writesAll 153 = .ok (.aload_n 0, 1) := dk_42 (dk_at dksX2_writesAll_6 17 rfl rfl)
theorem dX2_writesAll_154 : decode cX2_writesAll 154 = .ok (.bipush 63, 2) := dk_16 63 (dk_at dksX2_writesAll_6 18 rfl rfl)
theorem dX2_writesAll_156 : decode cX2_writesAll 156 = .ok (.invokevirtual 84, 3) := dk_182 0 84 (dk_at dksX2_writesAll_6 20 rfl rfl)
theorem dX2_writesAll_159 : decode cX2_writesAll 159 = .ok (.aload_n 0, 1) := dk_42 (dk_at dksX2_writesAll_6 23 rfl rfl)
theorem dX2_writesAll_160 : decode cX2_writesAll 160 = .ok (.bipush 63, 2) := dk_16 63 (dk_at dksX2_writesAll_7 0 rfl rfl)
theorem dX2_writesAll_162 : decode cX2_writesAll 162 = .ok (.invokevirtual 84, 3) := dk_182 0 84 (dk_at dksX2_writesAll_7 2 rfl rfl)
theorem dX2_writesAll_165 : decode cX2_writesAll 165 = .ok (.goto 8, 3) := dk_167 0 8 (dk_at dksX2_writesAll_7 5 rfl rfl)
theorem dX2_writesAll_168 : decode cX2_writesAll 168 = .ok (.aload_n 0, 1) := dk_42 (dk_at dksX2_writesAll_7 8 rfl rfl)
theorem dX2_writesAll_169 : decode cX2_writesAll 169 = .ok (.aload_n 3, 1) := dk_45 (dk_at dksX2_writesAll_7 9 rfl rfl)
theorem dX2_writesAll_170 : decode cX2_writesAll 170 = .ok (.invokevirtual 88, 3) := dk_182 0 88 (dk_at dksX2_writesAll_7 10 rfl rfl)
theorem dX2_writesAll_173 : decode cX2_writesAll 173 = .ok (.aload_n 3, 1) := dk_45 (dk_at dksX2_writesAll_7 13 rfl rfl)
theorem dX2_writesAll_174 : decode cX2_writesAll 174 = .ok (.astore_n 1, 1) := dk_76 (dk_at dksX2_writesAll_7 14 rfl rfl)
theorem dX2_writesAll_175 : decode cX2_writesAll 175 = .ok (.aload_n 0, 1) := dk_42 (dk_at dksX2_writesAll_7 15 rfl rfl)
theorem dX2_writesAll_176 : decode cX2_writesAll 176 = .ok (.dup, 1) := dk_89 (dk_at dksX2_writesAll_7 16 rfl rfl)
theorem dX2_writesAll_177 : decode cX2_writesAll 177 = .ok (.getfield 22, 3) := dk_180 0 22 (dk_at dksX2_writesAll_7 17 rfl rfl)
theorem dX2_writesAll_180 : decode cX2_writesAll 180 = .ok (.iconst 1, 1) := dk_4 (dk_at dksX2_writesAll_7 20 rfl rfl)
theorem dX2_writesAll_181 : decode cX2_writesAll 181 = .ok (.iadd, 1) := dk_96 (dk_at dksX2_writesAll_7 21 rfl rfl)
theorem dX2_writesAll_182 : decode cX2_writesAll 182 = .ok (.putfield 22, 3) := dk_181 0 22 (dk_at dksX2_writesAll_8 0 rfl rfl)
theorem dX2_writesAll_185 : decode cX2_writesAll 185 = .ok (.goto (-177), 3) := dk_167 255 79 (dk_at dksX2_writesAll_8 3 rfl rfl)
theorem dX2_writesAll_188 : decode cX2_writesAll 188 = .ok (.return_, 1) := dk_177 (dk_at dksX2_writesAll_8 6 rfl rfl)
abbrev cX2_writes : ByteArray := prog_14_method_7_code
def yX2_writes : MethodName := ⟨RX2, "writes", "(C)V"⟩
def dkwX2_writes_3 : List UInt8 := [27, 182, 0, 155, 42, 89, 180, 0, 128, 28, 154, 0, 7, 4, 167, 0, 4, 3, 126, 181, 0, 128, 177]
abbrev dktX2_writes_3 : List UInt8 := dkwX2_writes_3 ++ []
def dkwX2_writes_2 : List UInt8 := [180, 0, 128, 153, 0, 7, 4, 167, 0, 4, 3, 61, 42, 28, 153, 0, 10, 27, 184, 0, 162, 167, 0, 4]
abbrev dktX2_writes_2 : List UInt8 := dkwX2_writes_2 ++ dktX2_writes_3
def dkwX2_writes_1 : List UInt8 := [16, 124, 159, 0, 9, 42, 16, 32, 182, 0, 155, 42, 4, 181, 0, 81, 27, 184, 0, 158, 153, 0, 14, 42]
abbrev dktX2_writes_1 : List UInt8 := dkwX2_writes_1 ++ dktX2_writes_2
def dkwX2_writes_0 : List UInt8 := [42, 180, 0, 81, 154, 0, 31, 42, 180, 0, 77, 154, 0, 24, 27, 16, 124, 159, 0, 18, 42, 182, 0, 152]
abbrev dktX2_writes_0 : List UInt8 := dkwX2_writes_0 ++ dktX2_writes_1
theorem dksX2_writes_0 : cX2_writes.data.toList.drop 0 = dktX2_writes_0 := by decide +kernel
theorem dksX2_writes_1 : cX2_writes.data.toList.drop 24 = dktX2_writes_1 := dk_seg dksX2_writes_0 24 rfl rfl
theorem dksX2_writes_2 : cX2_writes.data.toList.drop 48 = dktX2_writes_2 := dk_seg dksX2_writes_1 24 rfl rfl
theorem dksX2_writes_3 : cX2_writes.data.toList.drop 72 = dktX2_writes_3 := dk_seg dksX2_writes_2 24 rfl rfl
theorem dX2_writes_0 : decode cX2_writes 0 = .ok (.aload_n 0, 1) := dk_42 (dk_at dksX2_writes_0 0 rfl rfl)
theorem dX2_writes_1 : decode cX2_writes 1 = .ok (.getfield 81, 3) := dk_180 0 81 (dk_at dksX2_writes_0 1 rfl rfl)
theorem dX2_writes_4 : decode cX2_writes 4 = .ok (.ifCond .ne 31, 3) := dk_154 0 31 (dk_at dksX2_writes_0 4 rfl rfl)
theorem dX2_writes_7 : decode cX2_writes 7 = .ok (.aload_n 0, 1) := dk_42 (dk_at dksX2_writes_0 7 rfl rfl)
theorem dX2_writes_8 : decode cX2_writes 8 = .ok (.getfield 77, 3) := dk_180 0 77 (dk_at dksX2_writes_0 8 rfl rfl)
theorem dX2_writes_11 : decode cX2_writes 11 = .ok (.ifCond .ne 24, 3) := dk_154 0 24 (dk_at dksX2_writes_0 11 rfl rfl)
theorem dX2_writes_14 : decode cX2_writes 14 = .ok (.iload_n 1, 1) := dk_27 (dk_at dksX2_writes_0 14 rfl rfl)
theorem dX2_writes_15 : decode cX2_writes 15 = .ok (.bipush 124, 2) := dk_16 124 (dk_at dksX2_writes_0 15 rfl rfl)
theorem dX2_writes_17 : decode cX2_writes 17 = .ok (.if_icmp .eq 18, 3) := dk_159 0 18 (dk_at dksX2_writes_0 17 rfl rfl)
theorem dX2_writes_20 : decode cX2_writes 20 = .ok (.aload_n 0, 1) := dk_42 (dk_at dksX2_writes_0 20 rfl rfl)
theorem dX2_writes_21 : decode cX2_writes 21 = .ok (.invokevirtual 152, 3) := dk_182 0 152 (dk_at dksX2_writes_0 21 rfl rfl)
theorem dX2_writes_24 : decode cX2_writes 24 = .ok (.bipush 124, 2) := dk_16 124 (dk_at dksX2_writes_1 0 rfl rfl)
theorem dX2_writes_26 : decode cX2_writes 26 = .ok (.if_icmp .eq 9, 3) := dk_159 0 9 (dk_at dksX2_writes_1 2 rfl rfl)
theorem dX2_writes_29 : decode cX2_writes 29 = .ok (.aload_n 0, 1) := dk_42 (dk_at dksX2_writes_1 5 rfl rfl)
theorem dX2_writes_30 : decode cX2_writes 30 = .ok (.bipush 32, 2) := dk_16 32 (dk_at dksX2_writes_1 6 rfl rfl)
theorem dX2_writes_32 : decode cX2_writes 32 = .ok (.invokevirtual 155, 3) := dk_182 0 155 (dk_at dksX2_writes_1 8 rfl rfl)
theorem dX2_writes_35 : decode cX2_writes 35 = .ok (.aload_n 0, 1) := dk_42 (dk_at dksX2_writes_1 11 rfl rfl)
theorem dX2_writes_36 : decode cX2_writes 36 = .ok (.iconst 1, 1) := dk_4 (dk_at dksX2_writes_1 12 rfl rfl)
theorem dX2_writes_37 : decode cX2_writes 37 = .ok (.putfield 81, 3) := dk_181 0 81 (dk_at dksX2_writes_1 13 rfl rfl)
theorem dX2_writes_40 : decode cX2_writes 40 = .ok (.iload_n 1, 1) := dk_27 (dk_at dksX2_writes_1 16 rfl rfl)
theorem dX2_writes_41 : decode cX2_writes 41 = .ok (.invokestatic 158, 3) := dk_184 0 158 (dk_at dksX2_writes_1 17 rfl rfl)
theorem dX2_writes_44 : decode cX2_writes 44 = .ok (.ifCond .eq 14, 3) := dk_153 0 14 (dk_at dksX2_writes_1 20 rfl rfl)
theorem dX2_writes_47 : decode cX2_writes 47 = .ok (.aload_n 0, 1) := dk_42 (dk_at dksX2_writes_1 23 rfl rfl)
theorem dX2_writes_48 : decode cX2_writes 48 = .ok (.getfield 128, 3) := dk_180 0 128 (dk_at dksX2_writes_2 0 rfl rfl)
theorem dX2_writes_51 : decode cX2_writes 51 = .ok (.ifCond .eq 7, 3) := dk_153 0 7 (dk_at dksX2_writes_2 3 rfl rfl)
theorem dX2_writes_54 : decode cX2_writes 54 = .ok (.iconst 1, 1) := dk_4 (dk_at dksX2_writes_2 6 rfl rfl)
theorem dX2_writes_55 : decode cX2_writes 55 = .ok (.goto 4, 3) := dk_167 0 4 (dk_at dksX2_writes_2 7 rfl rfl)
theorem dX2_writes_58 : decode cX2_writes 58 = .ok (.iconst 0, 1) := dk_3 (dk_at dksX2_writes_2 10 rfl rfl)
theorem dX2_writes_59 : decode cX2_writes 59 = .ok (.istore_n 2, 1) := dk_61 (dk_at dksX2_writes_2 11 rfl rfl)
theorem dX2_writes_60 : decode cX2_writes 60 = .ok (.aload_n 0, 1) := dk_42 (dk_at dksX2_writes_2 12 rfl rfl)
theorem dX2_writes_61 : decode cX2_writes 61 = .ok (.iload_n 2, 1) := dk_28 (dk_at dksX2_writes_2 13 rfl rfl)
theorem dX2_writes_62 : decode cX2_writes 62 = .ok (.ifCond .eq 10, 3) := dk_153 0 10 (dk_at dksX2_writes_2 14 rfl rfl)
theorem dX2_writes_65 : decode cX2_writes 65 = .ok (.iload_n 1, 1) := dk_27 (dk_at dksX2_writes_2 17 rfl rfl)
theorem dX2_writes_66 : decode cX2_writes 66 = .ok (.invokestatic 162, 3) := dk_184 0 162 (dk_at dksX2_writes_2 18 rfl rfl)
theorem dX2_writes_69 : decode cX2_writes 69 = .ok (.goto 4, 3) := dk_167 0 4 (dk_at dksX2_writes_2 21 rfl rfl)
theorem dX2_writes_72 : decode cX2_writes 72 = .ok (.iload_n 1, 1) := dk_27 (dk_at dksX2_writes_3 0 rfl rfl)
theorem dX2_writes_73 : decode cX2_writes 73 = .ok (.invokevirtual 155, 3) := dk_182 0 155 (dk_at dksX2_writes_3 1 rfl rfl)
theorem dX2_writes_76 : decode cX2_writes 76 = .ok (.aload_n 0, 1) := dk_42 (dk_at dksX2_writes_3 4 rfl rfl)
theorem dX2_writes_77 : decode cX2_writes 77 = .ok (.dup, 1) := dk_89 (dk_at dksX2_writes_3 5 rfl rfl)
theorem dX2_writes_78 : decode cX2_writes 78 = .ok (.getfield 128, 3) := dk_180 0 128 (dk_at dksX2_writes_3 6 rfl rfl)
theorem dX2_writes_81 : decode cX2_writes 81 = .ok (.iload_n 2, 1) := dk_28 (dk_at dksX2_writes_3 9 rfl rfl)
theorem dX2_writes_82 : decode cX2_writes 82 = .ok (.ifCond .ne 7, 3) := dk_154 0 7 (dk_at dksX2_writes_3 10 rfl rfl)
theorem dX2_writes_85 : decode cX2_writes 85 = .ok (.iconst 1, 1) := dk_4 (dk_at dksX2_writes_3 13 rfl rfl)
theorem dX2_writes_86 : decode cX2_writes 86 = .ok (.goto 4, 3) := dk_167 0 4 (dk_at dksX2_writes_3 14 rfl rfl)
theorem dX2_writes_89 : decode cX2_writes 89 = .ok (.iconst 0, 1) := dk_3 (dk_at dksX2_writes_3 17 rfl rfl)
theorem dX2_writes_90 : decode cX2_writes 90 = .ok (.iand, 1) := dk_126 (dk_at dksX2_writes_3 18 rfl rfl)
theorem dX2_writes_91 : decode cX2_writes 91 = .ok (.putfield 128, 3) := dk_181 0 128 (dk_at dksX2_writes_3 19 rfl rfl)
theorem dX2_writes_94 : decode cX2_writes 94 = .ok (.return_, 1) := dk_177 (dk_at dksX2_writes_3 22 rfl rfl)
abbrev cX2_last : ByteArray := prog_14_method_5_code
def yX2_last : MethodName := ⟨RX2, "last", "()C"⟩
def dkwX2_last_1 : List UInt8 := [182, 0, 31, 4, 100, 182, 0, 35, 192, 0, 140, 182, 0, 142, 172]
abbrev dktX2_last_1 : List UInt8 := dkwX2_last_1 ++ []
def dkwX2_last_0 : List UInt8 := [42, 180, 0, 16, 182, 0, 137, 153, 0, 8, 16, 124, 167, 0, 25, 42, 180, 0, 16, 42, 180, 0, 16]
abbrev dktX2_last_0 : List UInt8 := dkwX2_last_0 ++ dktX2_last_1
theorem dksX2_last_0 : cX2_last.data.toList.drop 0 = dktX2_last_0 := by decide +kernel
theorem dksX2_last_1 : cX2_last.data.toList.drop 23 = dktX2_last_1 := dk_seg dksX2_last_0 23 rfl rfl
theorem dX2_last_0 : decode cX2_last 0 = .ok (.aload_n 0, 1) := dk_42 (dk_at dksX2_last_0 0 rfl rfl)
theorem dX2_last_1 : decode cX2_last 1 = .ok (.getfield 16, 3) := dk_180 0 16 (dk_at dksX2_last_0 1 rfl rfl)
theorem dX2_last_4 : decode cX2_last 4 = .ok (.invokevirtual 137, 3) := dk_182 0 137 (dk_at dksX2_last_0 4 rfl rfl)
theorem dX2_last_7 : decode cX2_last 7 = .ok (.ifCond .eq 8, 3) := dk_153 0 8 (dk_at dksX2_last_0 7 rfl rfl)
theorem dX2_last_10 : decode cX2_last 10 = .ok (.bipush 124, 2) := dk_16 124 (dk_at dksX2_last_0 10 rfl rfl)
theorem dX2_last_12 : decode cX2_last 12 = .ok (.goto 25, 3) := dk_167 0 25 (dk_at dksX2_last_0 12 rfl rfl)
theorem dX2_last_15 : decode cX2_last 15 = .ok (.aload_n 0, 1) := dk_42 (dk_at dksX2_last_0 15 rfl rfl)
theorem dX2_last_16 : decode cX2_last 16 = .ok (.getfield 16, 3) := dk_180 0 16 (dk_at dksX2_last_0 16 rfl rfl)
theorem dX2_last_19 : decode cX2_last 19 = .ok (.aload_n 0, 1) := dk_42 (dk_at dksX2_last_0 19 rfl rfl)
theorem dX2_last_20 : decode cX2_last 20 = .ok (.getfield 16, 3) := dk_180 0 16 (dk_at dksX2_last_0 20 rfl rfl)
theorem dX2_last_23 : decode cX2_last 23 = .ok (.invokevirtual 31, 3) := dk_182 0 31 (dk_at dksX2_last_1 0 rfl rfl)
theorem dX2_last_26 : decode cX2_last 26 = .ok (.iconst 1, 1) := dk_4 (dk_at dksX2_last_1 3 rfl rfl)
theorem dX2_last_27 : decode cX2_last 27 = .ok (.isub, 1) := dk_100 (dk_at dksX2_last_1 4 rfl rfl)
theorem dX2_last_28 : decode cX2_last 28 = .ok (.invokevirtual 35, 3) := dk_182 0 35 (dk_at dksX2_last_1 5 rfl rfl)
theorem dX2_last_31 : decode cX2_last 31 = .ok (.checkcast 140, 3) := dk_192 0 140 (dk_at dksX2_last_1 8 rfl rfl)
theorem dX2_last_34 : decode cX2_last 34 = .ok (.invokevirtual 142, 3) := dk_182 0 142 (dk_at dksX2_last_1 11 rfl rfl)
theorem dX2_last_37 : decode cX2_last 37 = .ok (.ireturn, 1) := dk_172 (dk_at dksX2_last_1 14 rfl rfl)
abbrev cX2_adds : ByteArray := prog_14_method_6_code
def yX2_adds : MethodName := ⟨RX2, "adds", "(C)V"⟩
def dkwX2_adds_1 : List UInt8 := [177]
abbrev dktX2_adds_1 : List UInt8 := dkwX2_adds_1 ++ []
def dkwX2_adds_0 : List UInt8 := [42, 180, 0, 16, 187, 0, 140, 89, 27, 42, 180, 0, 57, 42, 180, 0, 22, 183, 0, 145, 182, 0, 148, 87]
abbrev dktX2_adds_0 : List UInt8 := dkwX2_adds_0 ++ dktX2_adds_1
theorem dksX2_adds_0 : cX2_adds.data.toList.drop 0 = dktX2_adds_0 := by decide +kernel
theorem dksX2_adds_1 : cX2_adds.data.toList.drop 24 = dktX2_adds_1 := dk_seg dksX2_adds_0 24 rfl rfl
theorem dX2_adds_0 : decode cX2_adds 0 = .ok (.aload_n 0, 1) := dk_42 (dk_at dksX2_adds_0 0 rfl rfl)
theorem dX2_adds_1 : decode cX2_adds 1 = .ok (.getfield 16, 3) := dk_180 0 16 (dk_at dksX2_adds_0 1 rfl rfl)
theorem dX2_adds_4 : decode cX2_adds 4 = .ok (.new 140, 3) := dk_187 0 140 (dk_at dksX2_adds_0 4 rfl rfl)
theorem dX2_adds_7 : decode cX2_adds 7 = .ok (.dup, 1) := dk_89 (dk_at dksX2_adds_0 7 rfl rfl)
theorem dX2_adds_8 : decode cX2_adds 8 = .ok (.iload_n 1, 1) := dk_27 (dk_at dksX2_adds_0 8 rfl rfl)
theorem dX2_adds_9 : decode cX2_adds 9 = .ok (.aload_n 0, 1) := dk_42 (dk_at dksX2_adds_0 9 rfl rfl)
theorem dX2_adds_10 : decode cX2_adds 10 = .ok (.getfield 57, 3) := dk_180 0 57 (dk_at dksX2_adds_0 10 rfl rfl)
theorem dX2_adds_13 : decode cX2_adds 13 = .ok (.aload_n 0, 1) := dk_42 (dk_at dksX2_adds_0 13 rfl rfl)
theorem dX2_adds_14 : decode cX2_adds 14 = .ok (.getfield 22, 3) := dk_180 0 22 (dk_at dksX2_adds_0 14 rfl rfl)
theorem dX2_adds_17 : decode cX2_adds 17 = .ok (.invokespecial 145, 3) := dk_183 0 145 (dk_at dksX2_adds_0 17 rfl rfl)
theorem dX2_adds_20 : decode cX2_adds 20 = .ok (.invokevirtual 148, 3) := dk_182 0 148 (dk_at dksX2_adds_0 20 rfl rfl)
theorem dX2_adds_23 : decode cX2_adds 23 = .ok (.pop, 1) := dk_87 (dk_at dksX2_adds_0 23 rfl rfl)
theorem dX2_adds_24 : decode cX2_adds 24 = .ok (.return_, 1) := dk_177 (dk_at dksX2_adds_1 0 rfl rfl)
abbrev cX2_writes_2 : ByteArray := prog_14_method_3_code
def yX2_writes_2 : MethodName := ⟨RX2, "writes", "(Ljava/lang/String;)V"⟩
def dkwX2_writes_2_3 : List UInt8 := [182, 0, 74, 162, 0, 18, 42, 43, 28, 182, 0, 64, 182, 0, 125, 132, 2, 1, 167, 255, 236, 177]
abbrev dktX2_writes_2_3 : List UInt8 := dkwX2_writes_2_3 ++ []
def dkwX2_writes_2_2 : List UInt8 := [182, 0, 113, 87, 167, 255, 235, 42, 45, 182, 0, 117, 182, 0, 121, 4, 45, 182, 0, 124, 96, 61, 28, 43]
abbrev dktX2_writes_2_2 : List UInt8 := dkwX2_writes_2_2 ++ dktX2_writes_2_3
def dkwX2_writes_2_1 : List UInt8 := [43, 4, 183, 0, 96, 58, 4, 25, 4, 182, 0, 99, 153, 0, 19, 45, 25, 4, 182, 0, 103, 182, 0, 107]
abbrev dktX2_writes_2_1 : List UInt8 := dkwX2_writes_2_1 ++ dktX2_writes_2_2
def dkwX2_writes_2_0 : List UInt8 := [3, 61, 43, 3, 182, 0, 64, 16, 94, 160, 0, 61, 187, 0, 91, 89, 183, 0, 93, 78, 187, 0, 94, 89]
abbrev dktX2_writes_2_0 : List UInt8 := dkwX2_writes_2_0 ++ dktX2_writes_2_1
theorem dksX2_writes_2_0 : cX2_writes_2.data.toList.drop 0 = dktX2_writes_2_0 := by decide +kernel
theorem dksX2_writes_2_1 : cX2_writes_2.data.toList.drop 24 = dktX2_writes_2_1 := dk_seg dksX2_writes_2_0 24 rfl rfl
theorem dksX2_writes_2_2 : cX2_writes_2.data.toList.drop 48 = dktX2_writes_2_2 := dk_seg dksX2_writes_2_1 24 rfl rfl
theorem dksX2_writes_2_3 : cX2_writes_2.data.toList.drop 72 = dktX2_writes_2_3 := dk_seg dksX2_writes_2_2 24 rfl rfl
theorem dX2_writes_2_0 : decode cX2_writes_2 0 = .ok (.iconst 0, 1) := dk_3 (dk_at dksX2_writes_2_0 0 rfl rfl)
theorem dX2_writes_2_1 : decode cX2_writes_2 1 = .ok (.istore_n 2, 1) := dk_61 (dk_at dksX2_writes_2_0 1 rfl rfl)
theorem dX2_writes_2_2 : decode cX2_writes_2 2 = .ok (.aload_n 1, 1) := dk_43 (dk_at dksX2_writes_2_0 2 rfl rfl)
theorem dX2_writes_2_3 : decode cX2_writes_2 3 = .ok (.iconst 0, 1) := dk_3 (dk_at dksX2_writes_2_0 3 rfl rfl)
theorem dX2_writes_2_4 : decode cX2_writes_2 4 = .ok (.invokevirtual 64, 3) := dk_182 0 64 (dk_at dksX2_writes_2_0 4 rfl rfl)
theorem dX2_writes_2_7 : decode cX2_writes_2 7 = .ok (.bipush 94, 2) := dk_16 94 (dk_at dksX2_writes_2_0 7 rfl rfl)
theorem dX2_writes_2_9 : decode cX2_writes_2 9 = .ok (.if_icmp .ne 61, 3) := dk_160 0 61 (dk_at dksX2_writes_2_0 9 rfl rfl)
theorem dX2_writes_2_12 : decode cX2_writes_2 12 = .ok (.new 91, 3) := dk_187 0 91 (dk_at dksX2_writes_2_0 12 rfl rfl)
theorem dX2_writes_2_15 : decode cX2_writes_2 15 = .ok (.dup, 1) := dk_89 (dk_at dksX2_writes_2_0 15 rfl rfl)
theorem dX2_writes_2_16 : decode cX2_writes_2 16 = .ok (.invokespecial 93, 3) := dk_183 0 93 (dk_at dksX2_writes_2_0 16 rfl rfl)
theorem dX2_writes_2_19 : decode cX2_writes_2 19 = .ok (.astore_n 3, 1) := dk_78 (dk_at dksX2_writes_2_0 19 rfl rfl)
theorem dX2_writes_2_20 : decode cX2_writes_2 20 = .ok (.new 94, 3) := dk_187 0 94 (dk_at dksX2_writes_2_0 20 rfl rfl)
theorem dX2_writes_2_23 : decode cX2_writes_2 23 = .ok (.dup, 1) := dk_89 (dk_at dksX2_writes_2_0 23 rfl rfl)
theorem dX2_writes_2_24 : decode cX2_writes_2 24 = .ok (.aload_n 1, 1) := dk_43 (dk_at dksX2_writes_2_1 0 rfl rfl)
theorem dX2_writes_2_25 : decode cX2_writes_2 25 = .ok (.iconst 1, 1) := dk_4 (dk_at dksX2_writes_2_1 1 rfl rfl)
theorem dX2_writes_2_26 : decode cX2_writes_2 26 = .ok (.invokespecial 96, 3) := dk_183 0 96 (dk_at dksX2_writes_2_1 2 rfl rfl)
theorem dX2_writes_2_29 : decode cX2_writes_2 29 = .ok (.astore 4, 2) := dk_58 4 (dk_at dksX2_writes_2_1 5 rfl rfl)
theorem dX2_writes_2_31 : decode cX2_writes_2 31 = .ok (.aload 4, 2) := dk_25 4 (dk_at dksX2_writes_2_1 7 rfl rfl)
theorem dX2_writes_2_33 : decode cX2_writes_2 33 = .ok (.invokevirtual 99, 3) := dk_182 0 99 (dk_at dksX2_writes_2_1 9 rfl rfl)
theorem dX2_writes_2_36 : decode cX2_writes_2 36 = .ok (.ifCond .eq 19, 3) := dk_153 0 19 (dk_at dksX2_writes_2_1 12 rfl rfl)
theorem dX2_writes_2_39 : decode cX2_writes_2 39 = .ok (.aload_n 3, 1) := dk_45 (dk_at dksX2_writes_2_1 15 rfl rfl)
theorem dX2_writes_2_40 : decode cX2_writes_2 40 = .ok (.aload 4, 2) := dk_25 4 (dk_at dksX2_writes_2_1 16 rfl rfl)
theorem dX2_writes_2_42 : decode cX2_writes_2 42 = .ok (.invokevirtual 103, 3) := dk_182 0 103 (dk_at dksX2_writes_2_1 18 rfl rfl)
theorem dX2_writes_2_45 : decode cX2_writes_2 45 = .ok (.invokevirtual 107, 3) := dk_182 0 107 (dk_at dksX2_writes_2_1 21 rfl rfl)
theorem dX2_writes_2_48 : decode cX2_writes_2 48 = .ok (.invokevirtual 113, 3) := dk_182 0 113 (dk_at dksX2_writes_2_2 0 rfl rfl)
theorem dX2_writes_2_51 : decode cX2_writes_2 51 = .ok (.pop, 1) := dk_87 (dk_at dksX2_writes_2_2 3 rfl rfl)
theorem dX2_writes_2_52 : decode cX2_writes_2 52 = .ok (.goto (-21), 3) := dk_167 255 235 (dk_at dksX2_writes_2_2 4 rfl rfl)
theorem dX2_writes_2_55 : decode cX2_writes_2 55 = .ok (.aload_n 0, 1) := dk_42 (dk_at dksX2_writes_2_2 7 rfl rfl)
theorem dX2_writes_2_56 : decode cX2_writes_2 56 = .ok (.aload_n 3, 1) := dk_45 (dk_at dksX2_writes_2_2 8 rfl rfl)
theorem dX2_writes_2_57 : decode cX2_writes_2 57 = .ok (.invokevirtual 117, 3) := dk_182 0 117 (dk_at dksX2_writes_2_2 9 rfl rfl)
theorem dX2_writes_2_60 : decode cX2_writes_2 60 = .ok (.invokevirtual 121, 3) := dk_182 0 121 (dk_at dksX2_writes_2_2 12 rfl rfl)
theorem dX2_writes_2_63 : decode cX2_writes_2 63 = .ok (.iconst 1, 1) := dk_4 (dk_at dksX2_writes_2_2 15 rfl rfl)
theorem dX2_writes_2_64 : decode cX2_writes_2 64 = .ok (.aload_n 3, 1) := dk_45 (dk_at dksX2_writes_2_2 16 rfl rfl)
theorem dX2_writes_2_65 : decode cX2_writes_2 65 = .ok (.invokevirtual 124, 3) := dk_182 0 124 (dk_at dksX2_writes_2_2 17 rfl rfl)
theorem dX2_writes_2_68 : decode cX2_writes_2 68 = .ok (.iadd, 1) := dk_96 (dk_at dksX2_writes_2_2 20 rfl rfl)
theorem dX2_writes_2_69 : decode cX2_writes_2 69 = .ok (.istore_n 2, 1) := dk_61 (dk_at dksX2_writes_2_2 21 rfl rfl)
theorem dX2_writes_2_70 : decode cX2_writes_2 70 = .ok (.iload_n 2, 1) := dk_28 (dk_at dksX2_writes_2_2 22 rfl rfl)
theorem dX2_writes_2_71 : decode cX2_writes_2 71 = .ok (.aload_n 1, 1) := dk_43 (dk_at dksX2_writes_2_2 23 rfl rfl)
theorem dX2_writes_2_72 : decode cX2_writes_2 72 = .ok (.invokevirtual 74, 3) := dk_182 0 74 (dk_at dksX2_writes_2_3 0 rfl rfl)
theorem dX2_writes_2_75 : decode cX2_writes_2 75 = .ok (.if_icmp .ge 18, 3) := dk_162 0 18 (dk_at dksX2_writes_2_3 3 rfl rfl)
theorem dX2_writes_2_78 : decode cX2_writes_2 78 = .ok (.aload_n 0, 1) := dk_42 (dk_at dksX2_writes_2_3 6 rfl rfl)
theorem dX2_writes_2_79 : decode cX2_writes_2 79 = .ok (.aload_n 1, 1) := dk_43 (dk_at dksX2_writes_2_3 7 rfl rfl)
theorem dX2_writes_2_80 : decode cX2_writes_2 80 = .ok (.iload_n 2, 1) := dk_28 (dk_at dksX2_writes_2_3 8 rfl rfl)
theorem dX2_writes_2_81 : decode cX2_writes_2 81 = .ok (.invokevirtual 64, 3) := dk_182 0 64 (dk_at dksX2_writes_2_3 9 rfl rfl)
theorem dX2_writes_2_84 : decode cX2_writes_2 84 = .ok (.invokevirtual 125, 3) := dk_182 0 125 (dk_at dksX2_writes_2_3 12 rfl rfl)
theorem dX2_writes_2_87 : decode cX2_writes_2 87 = .ok (.iinc 2 1, 3) := dk_132 2 1 (dk_at dksX2_writes_2_3 15 rfl rfl)
theorem dX2_writes_2_90 : decode cX2_writes_2 90 = .ok (.goto (-20), 3) := dk_167 255 236 (dk_at dksX2_writes_2_3 18 rfl rfl)
theorem dX2_writes_2_93 : decode cX2_writes_2 93 = .ok (.return_, 1) := dk_177 (dk_at dksX2_writes_2_3 21 rfl rfl)
abbrev cX2_joins : ByteArray := prog_14_method_13_code
def yX2_joins : MethodName := ⟨RX2, "joins", "(Ljava/lang/String;)V"⟩
def dkwX2_joins_8 : List UInt8 := [167, 255, 234, 177]
abbrev dktX2_joins_8 : List UInt8 := dkwX2_joins_8 ++ []
def dkwX2_joins_7 : List UInt8 := [54, 6, 21, 6, 43, 182, 0, 74, 162, 0, 19, 42, 43, 21, 6, 182, 0, 64, 182, 0, 84, 132, 6, 1]
abbrev dktX2_joins_7 : List UInt8 := dkwX2_joins_7 ++ dktX2_joins_8
def dkwX2_joins_6 : List UInt8 := [42, 25, 4, 21, 6, 182, 0, 64, 182, 0, 155, 132, 6, 1, 167, 255, 232, 42, 4, 181, 0, 81, 3]
abbrev dktX2_joins_6 : List UInt8 := dkwX2_joins_6 ++ dktX2_joins_7
def dkwX2_joins_5 : List UInt8 := [96, 28, 182, 0, 179, 185, 0, 183, 1, 0, 21, 5, 54, 6, 21, 6, 25, 4, 182, 0, 74, 162, 0, 20]
abbrev dktX2_joins_5 : List UInt8 := dkwX2_joins_5 ++ dktX2_joins_6
def dkwX2_joins_4 : List UInt8 := [184, 0, 188, 160, 0, 9, 132, 5, 1, 167, 255, 200, 29, 28, 162, 0, 51, 42, 180, 0, 16, 29, 21, 5]
abbrev dktX2_joins_4 : List UInt8 := dkwX2_joins_4 ++ dktX2_joins_5
def dkwX2_joins_3 : List UInt8 := [25, 4, 21, 5, 182, 0, 64, 42, 180, 0, 16, 29, 21, 5, 96, 182, 0, 35, 192, 0, 140, 182, 0, 142]
abbrev dktX2_joins_3 : List UInt8 := dkwX2_joins_3 ++ dktX2_joins_4
def dkwX2_joins_2 : List UInt8 := [29, 28, 162, 0, 57, 21, 5, 25, 4, 182, 0, 74, 162, 0, 47, 29, 21, 5, 96, 28, 162, 0, 39]
abbrev dktX2_joins_2 : List UInt8 := dkwX2_joins_2 ++ dktX2_joins_3
def dkwX2_joins_1 : List UInt8 := [162, 0, 17, 42, 42, 29, 28, 182, 0, 192, 43, 182, 0, 196, 167, 0, 5, 18, 20, 58, 4, 3, 54, 5]
abbrev dktX2_joins_1 : List UInt8 := dkwX2_joins_1 ++ dktX2_joins_2
def dkwX2_joins_0 : List UInt8 := [43, 182, 0, 191, 153, 0, 4, 177, 42, 180, 0, 16, 182, 0, 31, 61, 42, 28, 182, 0, 172, 62, 29, 28]
abbrev dktX2_joins_0 : List UInt8 := dkwX2_joins_0 ++ dktX2_joins_1
theorem dksX2_joins_0 : cX2_joins.data.toList.drop 0 = dktX2_joins_0 := by decide +kernel
theorem dksX2_joins_1 : cX2_joins.data.toList.drop 24 = dktX2_joins_1 := dk_seg dksX2_joins_0 24 rfl rfl
theorem dksX2_joins_2 : cX2_joins.data.toList.drop 48 = dktX2_joins_2 := dk_seg dksX2_joins_1 24 rfl rfl
theorem dksX2_joins_3 : cX2_joins.data.toList.drop 71 = dktX2_joins_3 := dk_seg dksX2_joins_2 23 rfl rfl
theorem dksX2_joins_4 : cX2_joins.data.toList.drop 95 = dktX2_joins_4 := dk_seg dksX2_joins_3 24 rfl rfl
theorem dksX2_joins_5 : cX2_joins.data.toList.drop 119 = dktX2_joins_5 := dk_seg dksX2_joins_4 24 rfl rfl
theorem dksX2_joins_6 : cX2_joins.data.toList.drop 143 = dktX2_joins_6 := dk_seg dksX2_joins_5 24 rfl rfl
theorem dksX2_joins_7 : cX2_joins.data.toList.drop 166 = dktX2_joins_7 := dk_seg dksX2_joins_6 23 rfl rfl
theorem dksX2_joins_8 : cX2_joins.data.toList.drop 190 = dktX2_joins_8 := dk_seg dksX2_joins_7 24 rfl rfl
theorem dX2_joins_0 : decode cX2_joins 0 = .ok (.aload_n 1, 1) := dk_43 (dk_at dksX2_joins_0 0 rfl rfl)
theorem dX2_joins_1 : decode cX2_joins 1 = .ok (.invokevirtual 191, 3) := dk_182 0 191 (dk_at dksX2_joins_0 1 rfl rfl)
theorem dX2_joins_4 : decode cX2_joins 4 = .ok (.ifCond .eq 4, 3) := dk_153 0 4 (dk_at dksX2_joins_0 4 rfl rfl)
theorem dX2_joins_7 : decode cX2_joins 7 = .ok (.return_, 1) := dk_177 (dk_at dksX2_joins_0 7 rfl rfl)
theorem dX2_joins_8 : decode cX2_joins 8 = .ok (.aload_n 0, 1) := dk_42 (dk_at dksX2_joins_0 8 rfl rfl)
theorem dX2_joins_9 : decode cX2_joins 9 = .ok (.getfield 16, 3) := dk_180 0 16 (dk_at dksX2_joins_0 9 rfl rfl)
theorem dX2_joins_12 : decode cX2_joins 12 = .ok (.invokevirtual 31, 3) := dk_182 0 31 (dk_at dksX2_joins_0 12 rfl rfl)
theorem dX2_joins_15 : decode cX2_joins 15 = .ok (.istore_n 2, 1) := dk_61 (dk_at dksX2_joins_0 15 rfl rfl)
theorem dX2_joins_16 : decode cX2_joins 16 = .ok (.aload_n 0, 1) := dk_42 (dk_at dksX2_joins_0 16 rfl rfl)
theorem dX2_joins_17 : decode cX2_joins 17 = .ok (.iload_n 2, 1) := dk_28 (dk_at dksX2_joins_0 17 rfl rfl)
theorem dX2_joins_18 : decode cX2_joins 18 = .ok (.invokevirtual 172, 3) := dk_182 0 172 (dk_at dksX2_joins_0 18 rfl rfl)
theorem dX2_joins_21 : decode cX2_joins 21 = .ok (.istore_n 3, 1) := dk_62 (dk_at dksX2_joins_0 21 rfl rfl)
theorem dX2_joins_22 : decode cX2_joins 22 = .ok (.iload_n 3, 1) := dk_29 (dk_at dksX2_joins_0 22 rfl rfl)
theorem dX2_joins_23 : decode cX2_joins 23 = .ok (.iload_n 2, 1) := dk_28 (dk_at dksX2_joins_0 23 rfl rfl)
theorem dX2_joins_24 : decode cX2_joins 24 = .ok (.if_icmp .ge 17, 3) := dk_162 0 17 (dk_at dksX2_joins_1 0 rfl rfl)
theorem dX2_joins_27 : decode cX2_joins 27 = .ok (.aload_n 0, 1) := dk_42 (dk_at dksX2_joins_1 3 rfl rfl)
theorem dX2_joins_28 : decode cX2_joins 28 = .ok (.aload_n 0, 1) := dk_42 (dk_at dksX2_joins_1 4 rfl rfl)
theorem dX2_joins_29 : decode cX2_joins 29 = .ok (.iload_n 3, 1) := dk_29 (dk_at dksX2_joins_1 5 rfl rfl)
theorem dX2_joins_30 : decode cX2_joins 30 = .ok (.iload_n 2, 1) := dk_28 (dk_at dksX2_joins_1 6 rfl rfl)
theorem dX2_joins_31 : decode cX2_joins 31 = .ok (.invokevirtual 192, 3) := dk_182 0 192 (dk_at dksX2_joins_1 7 rfl rfl)
theorem dX2_joins_34 : decode cX2_joins 34 = .ok (.aload_n 1, 1) := dk_43 (dk_at dksX2_joins_1 10 rfl rfl)
theorem dX2_joins_35 : decode cX2_joins 35 = .ok (.invokevirtual 196, 3) := dk_182 0 196 (dk_at dksX2_joins_1 11 rfl rfl)
theorem dX2_joins_38 : decode cX2_joins 38 = .ok (.goto 5, 3) := dk_167 0 5 (dk_at dksX2_joins_1 14 rfl rfl)
theorem dX2_joins_41 : decode cX2_joins 41 = .ok (.ldc 20, 2) := dk_18 20 (dk_at dksX2_joins_1 17 rfl rfl)
theorem dX2_joins_43 : decode cX2_joins 43 = .ok (.astore 4, 2) := dk_58 4 (dk_at dksX2_joins_1 19 rfl rfl)
theorem dX2_joins_45 : decode cX2_joins 45 = .ok (.iconst 0, 1) := dk_3 (dk_at dksX2_joins_1 21 rfl rfl)
theorem dX2_joins_46 : decode cX2_joins 46 = .ok (.istore 5, 2) := dk_54 5 (dk_at dksX2_joins_1 22 rfl rfl)
theorem dX2_joins_48 : decode cX2_joins 48 = .ok (.iload_n 3, 1) := dk_29 (dk_at dksX2_joins_2 0 rfl rfl)
theorem dX2_joins_49 : decode cX2_joins 49 = .ok (.iload_n 2, 1) := dk_28 (dk_at dksX2_joins_2 1 rfl rfl)
theorem dX2_joins_50 : decode cX2_joins 50 = .ok (.if_icmp .ge 57, 3) := dk_162 0 57 (dk_at dksX2_joins_2 2 rfl rfl)
theorem dX2_joins_53 : decode cX2_joins 53 = .ok (.iload 5, 2) := dk_21 5 (dk_at dksX2_joins_2 5 rfl rfl)
theorem dX2_joins_55 : decode cX2_joins 55 = .ok (.aload 4, 2) := dk_25 4 (dk_at dksX2_joins_2 7 rfl rfl)
theorem dX2_joins_57 : decode cX2_joins 57 = .ok (.invokevirtual 74, 3) := dk_182 0 74 (dk_at dksX2_joins_2 9 rfl rfl)
theorem dX2_joins_60 : decode cX2_joins 60 = .ok (.if_icmp .ge 47, 3) := dk_162 0 47 (dk_at dksX2_joins_2 12 rfl rfl)
theorem dX2_joins_63 : decode cX2_joins 63 = .ok (.iload_n 3, 1) := dk_29 (dk_at dksX2_joins_2 15 rfl rfl)
theorem dX2_joins_64 : decode cX2_joins 64 = .ok (.iload 5, 2) := dk_21 5 (dk_at dksX2_joins_2 16 rfl rfl)
theorem dX2_joins_66 : decode cX2_joins 66 = .ok (.iadd, 1) := dk_96 (dk_at dksX2_joins_2 18 rfl rfl)
theorem dX2_joins_67 : decode cX2_joins 67 = .ok (.iload_n 2, 1) := dk_28 (dk_at dksX2_joins_2 19 rfl rfl)
theorem dX2_joins_68 : decode cX2_joins 68 = .ok (.if_icmp .ge 39, 3) := dk_162 0 39 (dk_at dksX2_joins_2 20 rfl rfl)
theorem dX2_joins_71 : decode cX2_joins 71 = .ok (.aload 4, 2) := dk_25 4 (dk_at dksX2_joins_3 0 rfl rfl)
theorem dX2_joins_73 : decode cX2_joins 73 = .ok (.iload 5, 2) := dk_21 5 (dk_at dksX2_joins_3 2 rfl rfl)
theorem dX2_joins_75 : decode cX2_joins 75 = .ok (.invokevirtual 64, 3) := dk_182 0 64 (dk_at dksX2_joins_3 4 rfl rfl)
theorem dX2_joins_78 : decode cX2_joins 78 = .ok (.aload_n 0, 1) := dk_42 (dk_at dksX2_joins_3 7 rfl rfl)
theorem dX2_joins_79 : decode cX2_joins 79 = .ok (.getfield 16, 3) := dk_180 0 16 (dk_at dksX2_joins_3 8 rfl rfl)
theorem dX2_joins_82 : decode cX2_joins 82 = .ok (.iload_n 3, 1) := dk_29 (dk_at dksX2_joins_3 11 rfl rfl)
theorem dX2_joins_83 : decode cX2_joins 83 = .ok (.iload 5, 2) := dk_21 5 (dk_at dksX2_joins_3 12 rfl rfl)
theorem dX2_joins_85 : decode cX2_joins 85 = .ok (.iadd, 1) := dk_96 (dk_at dksX2_joins_3 14 rfl rfl)
theorem dX2_joins_86 : decode cX2_joins 86 = .ok (.invokevirtual 35, 3) := dk_182 0 35 (dk_at dksX2_joins_3 15 rfl rfl)
theorem dX2_joins_89 : decode cX2_joins 89 = .ok (.checkcast 140, 3) := dk_192 0 140 (dk_at dksX2_joins_3 18 rfl rfl)
theorem dX2_joins_92 : decode cX2_joins 92 = .ok (.invokevirtual 142, 3) := dk_182 0 142 (dk_at dksX2_joins_3 21 rfl rfl)
theorem dX2_joins_95 : decode cX2_joins 95 = .ok (.invokestatic 188, 3) := dk_184 0 188 (dk_at dksX2_joins_4 0 rfl rfl)
theorem dX2_joins_98 : decode cX2_joins 98 = .ok (.if_icmp .ne 9, 3) := dk_160 0 9 (dk_at dksX2_joins_4 3 rfl rfl)
theorem dX2_joins_101 : decode cX2_joins 101 = .ok (.iinc 5 1, 3) := dk_132 5 1 (dk_at dksX2_joins_4 6 rfl rfl)
theorem dX2_joins_104 : decode cX2_joins 104 = .ok (.goto (-56), 3) := dk_167 255 200 (dk_at dksX2_joins_4 9 rfl rfl)
theorem dX2_joins_107 : decode cX2_joins 107 = .ok (.iload_n 3, 1) := dk_29 (dk_at dksX2_joins_4 12 rfl rfl)
theorem dX2_joins_108 : decode cX2_joins 108 = .ok (.iload_n 2, 1) := dk_28 (dk_at dksX2_joins_4 13 rfl rfl)
theorem dX2_joins_109 : decode cX2_joins 109 = .ok (.if_icmp .ge 51, 3) := dk_162 0 51 (dk_at dksX2_joins_4 14 rfl rfl)
theorem dX2_joins_112 : decode cX2_joins 112 = .ok (.aload_n 0, 1) := dk_42 (dk_at dksX2_joins_4 17 rfl rfl)
theorem dX2_joins_113 : decode cX2_joins 113 = .ok (.getfield 16, 3) := dk_180 0 16 (dk_at dksX2_joins_4 18 rfl rfl)
theorem dX2_joins_116 : decode cX2_joins 116 = .ok (.iload_n 3, 1) := dk_29 (dk_at dksX2_joins_4 21 rfl rfl)
theorem dX2_joins_117 : decode cX2_joins 117 = .ok (.iload 5, 2) := dk_21 5 (dk_at dksX2_joins_4 22 rfl rfl)
theorem dX2_joins_119 : decode cX2_joins 119 = .ok (.iadd, 1) := dk_96 (dk_at dksX2_joins_5 0 rfl rfl)
theorem dX2_joins_120 : decode cX2_joins 120 = .ok (.iload_n 2, 1) := dk_28 (dk_at dksX2_joins_5 1 rfl rfl)
theorem dX2_joins_121 : decode cX2_joins 121 = .ok (.invokevirtual 179, 3) := dk_182 0 179 (dk_at dksX2_joins_5 2 rfl rfl)
theorem dX2_joins_124 : decode cX2_joins 124 = .ok (.invokeinterface 183 1, 5) := by decide +kernel
theorem dX2_joins_129 : decode cX2_joins 129 = .ok (.iload 5, 2) := dk_21 5 (dk_at dksX2_joins_5 10 rfl rfl)
theorem dX2_joins_131 : decode cX2_joins 131 = .ok (.istore 6, 2) := dk_54 6 (dk_at dksX2_joins_5 12 rfl rfl)
theorem dX2_joins_133 : decode cX2_joins 133 = .ok (.iload 6, 2) := dk_21 6 (dk_at dksX2_joins_5 14 rfl rfl)
theorem dX2_joins_135 : decode cX2_joins 135 = .ok (.aload 4, 2) := dk_25 4 (dk_at dksX2_joins_5 16 rfl rfl)
theorem dX2_joins_137 : decode cX2_joins 137 = .ok (.invokevirtual 74, 3) := dk_182 0 74 (dk_at dksX2_joins_5 18 rfl rfl)
theorem dX2_joins_140 : decode cX2_joins 140 = .ok (.if_icmp .ge 20, 3) := dk_162 0 20 (dk_at dksX2_joins_5 21 rfl rfl)
theorem dX2_joins_143 : decode cX2_joins 143 = .ok (.aload_n 0, 1) := dk_42 (dk_at dksX2_joins_6 0 rfl rfl)
theorem dX2_joins_144 : decode cX2_joins 144 = .ok (.aload 4, 2) := dk_25 4 (dk_at dksX2_joins_6 1 rfl rfl)
theorem dX2_joins_146 : decode cX2_joins 146 = .ok (.iload 6, 2) := dk_21 6 (dk_at dksX2_joins_6 3 rfl rfl)
theorem dX2_joins_148 : decode cX2_joins 148 = .ok (.invokevirtual 64, 3) := dk_182 0 64 (dk_at dksX2_joins_6 5 rfl rfl)
theorem dX2_joins_151 : decode cX2_joins 151 = .ok (.invokevirtual 155, 3) := dk_182 0 155 (dk_at dksX2_joins_6 8 rfl rfl)
theorem dX2_joins_154 : decode cX2_joins 154 = .ok (.iinc 6 1, 3) := dk_132 6 1 (dk_at dksX2_joins_6 11 rfl rfl)
theorem dX2_joins_157 : decode cX2_joins 157 = .ok (.goto (-24), 3) := dk_167 255 232 (dk_at dksX2_joins_6 14 rfl rfl)
theorem dX2_joins_160 : decode cX2_joins 160 = .ok (.aload_n 0, 1) := dk_42 (dk_at dksX2_joins_6 17 rfl rfl)
theorem dX2_joins_161 : decode cX2_joins 161 = .ok (.iconst 1, 1) := dk_4 (dk_at dksX2_joins_6 18 rfl rfl)
theorem dX2_joins_162 : decode cX2_joins 162 = .ok (.putfield 81, 3) := dk_181 0 81 (dk_at dksX2_joins_6 19 rfl rfl)
theorem dX2_joins_165 : decode cX2_joins 165 = .ok (.iconst 0, 1) := dk_3 (dk_at dksX2_joins_6 22 rfl rfl)
theorem dX2_joins_166 : decode cX2_joins 166 = .ok (.istore 6, 2) := dk_54 6 (dk_at dksX2_joins_7 0 rfl rfl)
theorem dX2_joins_168 : decode cX2_joins 168 = .ok (.iload 6, 2) := dk_21 6 (dk_at dksX2_joins_7 2 rfl rfl)
theorem dX2_joins_170 : decode cX2_joins 170 = .ok (.aload_n 1, 1) := dk_43 (dk_at dksX2_joins_7 4 rfl rfl)
theorem dX2_joins_171 : decode cX2_joins 171 = .ok (.invokevirtual 74, 3) := dk_182 0 74 (dk_at dksX2_joins_7 5 rfl rfl)
theorem dX2_joins_174 : decode cX2_joins 174 = .ok (.if_icmp .ge 19, 3) := dk_162 0 19 (dk_at dksX2_joins_7 8 rfl rfl)
theorem dX2_joins_177 : decode cX2_joins 177 = .ok (.aload_n 0, 1) := dk_42 (dk_at dksX2_joins_7 11 rfl rfl)
theorem dX2_joins_178 : decode cX2_joins 178 = .ok (.aload_n 1, 1) := dk_43 (dk_at dksX2_joins_7 12 rfl rfl)
theorem dX2_joins_179 : decode cX2_joins 179 = .ok (.iload 6, 2) := dk_21 6 (dk_at dksX2_joins_7 13 rfl rfl)
theorem dX2_joins_181 : decode cX2_joins 181 = .ok (.invokevirtual 64, 3) := dk_182 0 64 (dk_at dksX2_joins_7 15 rfl rfl)
theorem dX2_joins_184 : decode cX2_joins 184 = .ok (.invokevirtual 84, 3) := dk_182 0 84 (dk_at dksX2_joins_7 18 rfl rfl)
theorem dX2_joins_187 : decode cX2_joins 187 = .ok (.iinc 6 1, 3) := dk_132 6 1 (dk_at dksX2_joins_7 21 rfl rfl)
theorem dX2_joins_190 : decode cX2_joins 190 = .ok (.goto (-22), 3) := dk_167 255 234 (dk_at dksX2_joins_8 0 rfl rfl)
theorem dX2_joins_193 : decode cX2_joins 193 = .ok (.return_, 1) := dk_177 (dk_at dksX2_joins_8 3 rfl rfl)
abbrev cX2_wordBefore : ByteArray := prog_14_method_8_code
def yX2_wordBefore : MethodName := ⟨RX2, "wordBefore", "(I)I"⟩
def dkwX2_wordBefore_1 : List UInt8 := [184, 0, 166, 153, 0, 9, 132, 2, 255, 167, 255, 227, 28, 172]
abbrev dktX2_wordBefore_1 : List UInt8 := dkwX2_wordBefore_1 ++ []
def dkwX2_wordBefore_0 : List UInt8 := [27, 61, 28, 158, 0, 31, 42, 180, 0, 16, 28, 4, 100, 182, 0, 35, 192, 0, 140, 182, 0, 142]
abbrev dktX2_wordBefore_0 : List UInt8 := dkwX2_wordBefore_0 ++ dktX2_wordBefore_1
theorem dksX2_wordBefore_0 : cX2_wordBefore.data.toList.drop 0 = dktX2_wordBefore_0 := by decide +kernel
theorem dksX2_wordBefore_1 : cX2_wordBefore.data.toList.drop 22 = dktX2_wordBefore_1 := dk_seg dksX2_wordBefore_0 22 rfl rfl
theorem dX2_wordBefore_0 : decode cX2_wordBefore 0 = .ok (.iload_n 1, 1) := dk_27 (dk_at dksX2_wordBefore_0 0 rfl rfl)
theorem dX2_wordBefore_1 : decode cX2_wordBefore 1 = .ok (.istore_n 2, 1) := dk_61 (dk_at dksX2_wordBefore_0 1 rfl rfl)
theorem dX2_wordBefore_2 : decode cX2_wordBefore 2 = .ok (.iload_n 2, 1) := dk_28 (dk_at dksX2_wordBefore_0 2 rfl rfl)
theorem dX2_wordBefore_3 : decode cX2_wordBefore 3 = .ok (.ifCond .le 31, 3) := dk_158 0 31 (dk_at dksX2_wordBefore_0 3 rfl rfl)
theorem dX2_wordBefore_6 : decode cX2_wordBefore 6 = .ok (.aload_n 0, 1) := dk_42 (dk_at dksX2_wordBefore_0 6 rfl rfl)
theorem dX2_wordBefore_7 : decode cX2_wordBefore 7 = .ok (.getfield 16, 3) := dk_180 0 16 (dk_at dksX2_wordBefore_0 7 rfl rfl)
theorem dX2_wordBefore_10 : decode cX2_wordBefore 10 = .ok (.iload_n 2, 1) := dk_28 (dk_at dksX2_wordBefore_0 10 rfl rfl)
theorem dX2_wordBefore_11 : decode cX2_wordBefore 11 = .ok (.iconst 1, 1) := dk_4 (dk_at dksX2_wordBefore_0 11 rfl rfl)
theorem dX2_wordBefore_12 : decode cX2_wordBefore 12 = .ok (.isub, 1) := dk_100 (dk_at dksX2_wordBefore_0 12 rfl rfl)
theorem dX2_wordBefore_13 : decode cX2_wordBefore 13 = .ok (.invokevirtual 35, 3) := dk_182 0 35 (dk_at dksX2_wordBefore_0 13 rfl rfl)
theorem dX2_wordBefore_16 : decode cX2_wordBefore 16 = .ok (.checkcast 140, 3) := dk_192 0 140 (dk_at dksX2_wordBefore_0 16 rfl rfl)
theorem dX2_wordBefore_19 : decode cX2_wordBefore 19 = .ok (.invokevirtual 142, 3) := dk_182 0 142 (dk_at dksX2_wordBefore_0 19 rfl rfl)
theorem dX2_wordBefore_22 : decode cX2_wordBefore 22 = .ok (.invokestatic 166, 3) := dk_184 0 166 (dk_at dksX2_wordBefore_1 0 rfl rfl)
theorem dX2_wordBefore_25 : decode cX2_wordBefore 25 = .ok (.ifCond .eq 9, 3) := dk_153 0 9 (dk_at dksX2_wordBefore_1 3 rfl rfl)
theorem dX2_wordBefore_28 : decode cX2_wordBefore 28 = .ok (.iinc 2 (-1), 3) := dk_132 2 255 (dk_at dksX2_wordBefore_1 6 rfl rfl)
theorem dX2_wordBefore_31 : decode cX2_wordBefore 31 = .ok (.goto (-29), 3) := dk_167 255 227 (dk_at dksX2_wordBefore_1 9 rfl rfl)
theorem dX2_wordBefore_34 : decode cX2_wordBefore 34 = .ok (.iload_n 2, 1) := dk_28 (dk_at dksX2_wordBefore_1 12 rfl rfl)
theorem dX2_wordBefore_35 : decode cX2_wordBefore 35 = .ok (.ireturn, 1) := dk_172 (dk_at dksX2_wordBefore_1 13 rfl rfl)
abbrev cX2_wordOf : ByteArray := prog_14_method_12_code
def yX2_wordOf : MethodName := ⟨RX2, "wordOf", "(II)Ljava/lang/String;"⟩
def dkwX2_wordOf_2 : List UInt8 := [182, 0, 117, 176]
abbrev dktX2_wordOf_2 : List UInt8 := dkwX2_wordOf_2 ++ []
def dkwX2_wordOf_1 : List UInt8 := [182, 0, 35, 192, 0, 140, 182, 0, 142, 184, 0, 188, 182, 0, 113, 87, 132, 4, 1, 167, 255, 224, 45]
abbrev dktX2_wordOf_1 : List UInt8 := dkwX2_wordOf_1 ++ dktX2_wordOf_2
def dkwX2_wordOf_0 : List UInt8 := [187, 0, 91, 89, 183, 0, 93, 78, 27, 54, 4, 21, 4, 28, 162, 0, 32, 45, 42, 180, 0, 16, 21, 4]
abbrev dktX2_wordOf_0 : List UInt8 := dkwX2_wordOf_0 ++ dktX2_wordOf_1
theorem dksX2_wordOf_0 : cX2_wordOf.data.toList.drop 0 = dktX2_wordOf_0 := by decide +kernel
theorem dksX2_wordOf_1 : cX2_wordOf.data.toList.drop 24 = dktX2_wordOf_1 := dk_seg dksX2_wordOf_0 24 rfl rfl
theorem dksX2_wordOf_2 : cX2_wordOf.data.toList.drop 47 = dktX2_wordOf_2 := dk_seg dksX2_wordOf_1 23 rfl rfl
theorem dX2_wordOf_0 : decode cX2_wordOf 0 = .ok (.new 91, 3) := dk_187 0 91 (dk_at dksX2_wordOf_0 0 rfl rfl)
theorem dX2_wordOf_3 : decode cX2_wordOf 3 = .ok (.dup, 1) := dk_89 (dk_at dksX2_wordOf_0 3 rfl rfl)
theorem dX2_wordOf_4 : decode cX2_wordOf 4 = .ok (.invokespecial 93, 3) := dk_183 0 93 (dk_at dksX2_wordOf_0 4 rfl rfl)
theorem dX2_wordOf_7 : decode cX2_wordOf 7 = .ok (.astore_n 3, 1) := dk_78 (dk_at dksX2_wordOf_0 7 rfl rfl)
theorem dX2_wordOf_8 : decode cX2_wordOf 8 = .ok (.iload_n 1, 1) := dk_27 (dk_at dksX2_wordOf_0 8 rfl rfl)
theorem dX2_wordOf_9 : decode cX2_wordOf 9 = .ok (.istore 4, 2) := dk_54 4 (dk_at dksX2_wordOf_0 9 rfl rfl)
theorem dX2_wordOf_11 : decode cX2_wordOf 11 = .ok (.iload 4, 2) := dk_21 4 (dk_at dksX2_wordOf_0 11 rfl rfl)
theorem dX2_wordOf_13 : decode cX2_wordOf 13 = .ok (.iload_n 2, 1) := dk_28 (dk_at dksX2_wordOf_0 13 rfl rfl)
theorem dX2_wordOf_14 : decode cX2_wordOf 14 = .ok (.if_icmp .ge 32, 3) := dk_162 0 32 (dk_at dksX2_wordOf_0 14 rfl rfl)
theorem dX2_wordOf_17 : decode cX2_wordOf 17 = .ok (.aload_n 3, 1) := dk_45 (dk_at dksX2_wordOf_0 17 rfl rfl)
theorem dX2_wordOf_18 : decode cX2_wordOf 18 = .ok (.aload_n 0, 1) := dk_42 (dk_at dksX2_wordOf_0 18 rfl rfl)
theorem dX2_wordOf_19 : decode cX2_wordOf 19 = .ok (.getfield 16, 3) := dk_180 0 16 (dk_at dksX2_wordOf_0 19 rfl rfl)
theorem dX2_wordOf_22 : decode cX2_wordOf 22 = .ok (.iload 4, 2) := dk_21 4 (dk_at dksX2_wordOf_0 22 rfl rfl)
theorem dX2_wordOf_24 : decode cX2_wordOf 24 = .ok (.invokevirtual 35, 3) := dk_182 0 35 (dk_at dksX2_wordOf_1 0 rfl rfl)
theorem dX2_wordOf_27 : decode cX2_wordOf 27 = .ok (.checkcast 140, 3) := dk_192 0 140 (dk_at dksX2_wordOf_1 3 rfl rfl)
theorem dX2_wordOf_30 : decode cX2_wordOf 30 = .ok (.invokevirtual 142, 3) := dk_182 0 142 (dk_at dksX2_wordOf_1 6 rfl rfl)
theorem dX2_wordOf_33 : decode cX2_wordOf 33 = .ok (.invokestatic 188, 3) := dk_184 0 188 (dk_at dksX2_wordOf_1 9 rfl rfl)
theorem dX2_wordOf_36 : decode cX2_wordOf 36 = .ok (.invokevirtual 113, 3) := dk_182 0 113 (dk_at dksX2_wordOf_1 12 rfl rfl)
theorem dX2_wordOf_39 : decode cX2_wordOf 39 = .ok (.pop, 1) := dk_87 (dk_at dksX2_wordOf_1 15 rfl rfl)
theorem dX2_wordOf_40 : decode cX2_wordOf 40 = .ok (.iinc 4 1, 3) := dk_132 4 1 (dk_at dksX2_wordOf_1 16 rfl rfl)
theorem dX2_wordOf_43 : decode cX2_wordOf 43 = .ok (.goto (-32), 3) := dk_167 255 224 (dk_at dksX2_wordOf_1 19 rfl rfl)
theorem dX2_wordOf_46 : decode cX2_wordOf 46 = .ok (.aload_n 3, 1) := dk_45 (dk_at dksX2_wordOf_1 22 rfl rfl)
theorem dX2_wordOf_47 : decode cX2_wordOf 47 = .ok (.invokevirtual 117, 3) := dk_182 0 117 (dk_at dksX2_wordOf_2 0 rfl rfl)
theorem dX2_wordOf_50 : decode cX2_wordOf 50 = .ok (.areturn, 1) := dk_176 (dk_at dksX2_wordOf_2 3 rfl rfl)
abbrev cX2_joined : ByteArray := prog_14_method_14_code
def yX2_joined : MethodName := ⟨RX2, "joined", "(Ljava/lang/String;Ljava/lang/String;)Ljava/lang/String;"⟩
def dkwX2_joined_5 : List UInt8 := [176]
abbrev dktX2_joined_5 : List UInt8 := dkwX2_joined_5 ++ []
def dkwX2_joined_4 : List UInt8 := [153, 0, 6, 25, 5, 176, 45, 199, 0, 8, 25, 5, 167, 0, 4, 45, 78, 132, 4, 1, 167, 255, 149, 45]
abbrev dktX2_joined_4 : List UInt8 := dkwX2_joined_4 ++ dktX2_joined_5
def dkwX2_joined_3 : List UInt8 := [187, 0, 91, 89, 183, 0, 93, 25, 5, 182, 0, 212, 44, 182, 0, 212, 182, 0, 117, 182, 0, 215]
abbrev dktX2_joined_3 : List UInt8 := dkwX2_joined_3 ++ dktX2_joined_4
def dkwX2_joined_2 : List UInt8 := [21, 4, 182, 0, 204, 43, 44, 184, 0, 205, 58, 5, 25, 5, 198, 0, 38, 42, 180, 0, 1, 180, 0, 209]
abbrev dktX2_joined_2 : List UInt8 := dkwX2_joined_2 ++ dktX2_joined_3
def dkwX2_joined_1 : List UInt8 := [180, 0, 1, 180, 0, 200, 182, 0, 124, 160, 0, 7, 43, 167, 0, 20, 42, 180, 0, 1, 180, 0, 200]
abbrev dktX2_joined_1 : List UInt8 := dkwX2_joined_1 ++ dktX2_joined_2
def dkwX2_joined_0 : List UInt8 := [1, 78, 3, 54, 4, 21, 4, 42, 180, 0, 1, 180, 0, 200, 182, 0, 124, 163, 0, 98, 21, 4, 42]
abbrev dktX2_joined_0 : List UInt8 := dkwX2_joined_0 ++ dktX2_joined_1
theorem dksX2_joined_0 : cX2_joined.data.toList.drop 0 = dktX2_joined_0 := by decide +kernel
theorem dksX2_joined_1 : cX2_joined.data.toList.drop 23 = dktX2_joined_1 := dk_seg dksX2_joined_0 23 rfl rfl
theorem dksX2_joined_2 : cX2_joined.data.toList.drop 46 = dktX2_joined_2 := dk_seg dksX2_joined_1 23 rfl rfl
theorem dksX2_joined_3 : cX2_joined.data.toList.drop 70 = dktX2_joined_3 := dk_seg dksX2_joined_2 24 rfl rfl
theorem dksX2_joined_4 : cX2_joined.data.toList.drop 92 = dktX2_joined_4 := dk_seg dksX2_joined_3 22 rfl rfl
theorem dksX2_joined_5 : cX2_joined.data.toList.drop 116 = dktX2_joined_5 := dk_seg dksX2_joined_4 24 rfl rfl
theorem dX2_joined_0 : decode cX2_joined 0 = .ok (.aconst_null, 1) := dk_1 (dk_at dksX2_joined_0 0 rfl rfl)
theorem dX2_joined_1 : decode cX2_joined 1 = .ok (.astore_n 3, 1) := dk_78 (dk_at dksX2_joined_0 1 rfl rfl)
theorem dX2_joined_2 : decode cX2_joined 2 = .ok (.iconst 0, 1) := dk_3 (dk_at dksX2_joined_0 2 rfl rfl)
theorem dX2_joined_3 : decode cX2_joined 3 = .ok (.istore 4, 2) := dk_54 4 (dk_at dksX2_joined_0 3 rfl rfl)
theorem dX2_joined_5 : decode cX2_joined 5 = .ok (.iload 4, 2) := dk_21 4 (dk_at dksX2_joined_0 5 rfl rfl)
theorem dX2_joined_7 : decode cX2_joined 7 = .ok (.aload_n 0, 1) := dk_42 (dk_at dksX2_joined_0 7 rfl rfl)
theorem dX2_joined_8 : decode cX2_joined 8 = .ok (.getfield 1, 3) := dk_180 0 1 (dk_at dksX2_joined_0 8 rfl rfl)
theorem dX2_joined_11 : decode cX2_joined 11 = .ok (.getfield 200, 3) := dk_180 0 200 (dk_at dksX2_joined_0 11 rfl rfl)
theorem dX2_joined_14 : decode cX2_joined 14 = .ok (.invokevirtual 124, 3) := dk_182 0 124 (dk_at dksX2_joined_0 14 rfl rfl)
theorem dX2_joined_17 : decode cX2_joined 17 = .ok (.if_icmp .gt 98, 3) := dk_163 0 98 (dk_at dksX2_joined_0 17 rfl rfl)
theorem dX2_joined_20 : decode cX2_joined 20 = .ok (.iload 4, 2) := dk_21 4 (dk_at dksX2_joined_0 20 rfl rfl)
theorem dX2_joined_22 : decode cX2_joined 22 = .ok (.aload_n 0, 1) := dk_42 (dk_at dksX2_joined_0 22 rfl rfl)
theorem dX2_joined_23 : decode cX2_joined 23 = .ok (.getfield 1, 3) := dk_180 0 1 (dk_at dksX2_joined_1 0 rfl rfl)
theorem dX2_joined_26 : decode cX2_joined 26 = .ok (.getfield 200, 3) := dk_180 0 200 (dk_at dksX2_joined_1 3 rfl rfl)
theorem dX2_joined_29 : decode cX2_joined 29 = .ok (.invokevirtual 124, 3) := dk_182 0 124 (dk_at dksX2_joined_1 6 rfl rfl)
theorem dX2_joined_32 : decode cX2_joined 32 = .ok (.if_icmp .ne 7, 3) := dk_160 0 7 (dk_at dksX2_joined_1 9 rfl rfl)
theorem dX2_joined_35 : decode cX2_joined 35 = .ok (.aload_n 1, 1) := dk_43 (dk_at dksX2_joined_1 12 rfl rfl)
theorem dX2_joined_36 : decode cX2_joined 36 = .ok (.goto 20, 3) := dk_167 0 20 (dk_at dksX2_joined_1 13 rfl rfl)
theorem dX2_joined_39 : decode cX2_joined 39 = .ok (.aload_n 0, 1) := dk_42 (dk_at dksX2_joined_1 16 rfl rfl)
theorem dX2_joined_40 : decode cX2_joined 40 = .ok (.getfield 1, 3) := dk_180 0 1 (dk_at dksX2_joined_1 17 rfl rfl)
theorem dX2_joined_43 : decode cX2_joined 43 = .ok (.getfield 200, 3) := dk_180 0 200 (dk_at dksX2_joined_1 20 rfl rfl)
theorem dX2_joined_46 : decode cX2_joined 46 = .ok (.iload 4, 2) := dk_21 4 (dk_at dksX2_joined_2 0 rfl rfl)
theorem dX2_joined_48 : decode cX2_joined 48 = .ok (.invokevirtual 204, 3) := dk_182 0 204 (dk_at dksX2_joined_2 2 rfl rfl)
theorem dX2_joined_51 : decode cX2_joined 51 = .ok (.aload_n 1, 1) := dk_43 (dk_at dksX2_joined_2 5 rfl rfl)
theorem dX2_joined_52 : decode cX2_joined 52 = .ok (.aload_n 2, 1) := dk_44 (dk_at dksX2_joined_2 6 rfl rfl)
theorem dX2_joined_53 : decode cX2_joined 53 = .ok (.invokestatic 205, 3) := dk_184 0 205 (dk_at dksX2_joined_2 7 rfl rfl)
theorem dX2_joined_56 : decode cX2_joined 56 = .ok (.astore 5, 2) := dk_58 5 (dk_at dksX2_joined_2 10 rfl rfl)
theorem dX2_joined_58 : decode cX2_joined 58 = .ok (.aload 5, 2) := dk_25 5 (dk_at dksX2_joined_2 12 rfl rfl)
theorem dX2_joined_60 : decode cX2_joined 60 = .ok (.ifnull 38, 3) := dk_198 0 38 (dk_at dksX2_joined_2 14 rfl rfl)
theorem dX2_joined_63 : decode cX2_joined 63 = .ok (.aload_n 0, 1) := dk_42 (dk_at dksX2_joined_2 17 rfl rfl)
theorem dX2_joined_64 : decode cX2_joined 64 = .ok (.getfield 1, 3) := dk_180 0 1 (dk_at dksX2_joined_2 18 rfl rfl)
theorem dX2_joined_67 : decode cX2_joined 67 = .ok (.getfield 209, 3) := dk_180 0 209 (dk_at dksX2_joined_2 21 rfl rfl)
theorem dX2_joined_70 : decode cX2_joined 70 = .ok (.new 91, 3) := dk_187 0 91 (dk_at dksX2_joined_3 0 rfl rfl)
theorem dX2_joined_73 : decode cX2_joined 73 = .ok (.dup, 1) := dk_89 (dk_at dksX2_joined_3 3 rfl rfl)
theorem dX2_joined_74 : decode cX2_joined 74 = .ok (.invokespecial 93, 3) := dk_183 0 93 (dk_at dksX2_joined_3 4 rfl rfl)
theorem dX2_joined_77 : decode cX2_joined 77 = .ok (.aload 5, 2) := dk_25 5 (dk_at dksX2_joined_3 7 rfl rfl)
theorem dX2_joined_79 : decode cX2_joined 79 = .ok (.invokevirtual 212, 3) := dk_182 0 212 (dk_at dksX2_joined_3 9 rfl rfl)
theorem dX2_joined_82 : decode cX2_joined 82 = .ok (.aload_n 2, 1) := dk_44 (dk_at dksX2_joined_3 12 rfl rfl)
theorem dX2_joined_83 : decode cX2_joined 83 = .ok (.invokevirtual 212, 3) := dk_182 0 212 (dk_at dksX2_joined_3 13 rfl rfl)
theorem dX2_joined_86 : decode cX2_joined 86 = .ok (.invokevirtual 117, 3) := dk_182 0 117 (dk_at dksX2_joined_3 16 rfl rfl)
theorem dX2_joined_89 : decode cX2_joined 89 = .ok (.invokevirtual 215, 3) := dk_182 0 215 (dk_at dksX2_joined_3 19 rfl rfl)
theorem dX2_joined_92 : decode cX2_joined 92 = .ok (.ifCond .eq 6, 3) := dk_153 0 6 (dk_at dksX2_joined_4 0 rfl rfl)
theorem dX2_joined_95 : decode cX2_joined 95 = .ok (.aload 5, 2) := dk_25 5 (dk_at dksX2_joined_4 3 rfl rfl)
theorem dX2_joined_97 : decode cX2_joined 97 = .ok (.areturn, 1) := dk_176 (dk_at dksX2_joined_4 5 rfl rfl)
theorem dX2_joined_98 : decode cX2_joined 98 = .ok (.aload_n 3, 1) := dk_45 (dk_at dksX2_joined_4 6 rfl rfl)
theorem dX2_joined_99 : decode cX2_joined 99 = .ok (.ifnonnull 8, 3) := dk_199 0 8 (dk_at dksX2_joined_4 7 rfl rfl)
theorem dX2_joined_102 : decode cX2_joined 102 = .ok (.aload 5, 2) := dk_25 5 (dk_at dksX2_joined_4 10 rfl rfl)
theorem dX2_joined_104 : decode cX2_joined 104 = .ok (.goto 4, 3) := dk_167 0 4 (dk_at dksX2_joined_4 12 rfl rfl)
theorem dX2_joined_107 : decode cX2_joined 107 = .ok (.aload_n 3, 1) := dk_45 (dk_at dksX2_joined_4 15 rfl rfl)
theorem dX2_joined_108 : decode cX2_joined 108 = .ok (.astore_n 3, 1) := dk_78 (dk_at dksX2_joined_4 16 rfl rfl)
theorem dX2_joined_109 : decode cX2_joined 109 = .ok (.iinc 4 1, 3) := dk_132 4 1 (dk_at dksX2_joined_4 17 rfl rfl)
theorem dX2_joined_112 : decode cX2_joined 112 = .ok (.goto (-107), 3) := dk_167 255 149 (dk_at dksX2_joined_4 20 rfl rfl)
theorem dX2_joined_115 : decode cX2_joined 115 = .ok (.aload_n 3, 1) := dk_45 (dk_at dksX2_joined_4 23 rfl rfl)
theorem dX2_joined_116 : decode cX2_joined 116 = .ok (.areturn, 1) := dk_176 (dk_at dksX2_joined_5 0 rfl rfl)
abbrev cX2_does : ByteArray := prog_14_method_4_code
def yX2_does : MethodName := ⟨RX2, "does", "(C)V"⟩
def dkwX2_does_4 : List UInt8 := [16, 124, 182, 0, 84, 167, 0, 11, 167, 0, 8, 42, 27, 182, 0, 84, 177]
abbrev dktX2_does_4 : List UInt8 := dkwX2_does_4 ++ []
def dkwX2_does_3 : List UInt8 := [181, 0, 128, 167, 0, 36, 42, 16, 44, 182, 0, 84, 167, 0, 27, 42, 182, 0, 134, 167, 0, 20, 42]
abbrev dktX2_does_3 : List UInt8 := dkwX2_does_3 ++ dktX2_does_4
def dkwX2_does_2 : List UInt8 := [42, 4, 181, 0, 128, 167, 0, 57, 42, 182, 0, 131, 167, 0, 50, 42, 16, 46, 182, 0, 84, 42, 4]
abbrev dktX2_does_2 : List UInt8 := dkwX2_does_2 ++ dktX2_does_3
def dkwX2_does_1 : List UInt8 := [171, 0, 0, 0, 0, 0, 132, 0, 0, 0, 8, 0, 0, 0, 35, 0, 0, 0, 113, 0, 0, 0, 44, 0, 0, 0, 104, 0, 0, 0, 45, 0, 0, 0, 75, 0, 0, 0, 46, 0, 0, 0, 90, 0, 0, 0, 60, 0, 0, 0, 83, 0, 0, 0, 61, 0, 0, 0, 129, 0, 0, 0, 94, 0, 0, 0, 129, 0, 0, 0, 124, 0, 0, 0, 120]
abbrev dktX2_does_1 : List UInt8 := dkwX2_does_1 ++ dktX2_does_2
def dkwX2_does_0 : List UInt8 := [27]
abbrev dktX2_does_0 : List UInt8 := dkwX2_does_0 ++ dktX2_does_1
theorem dksX2_does_0 : cX2_does.data.toList.drop 0 = dktX2_does_0 := by decide +kernel
theorem dksX2_does_1 : cX2_does.data.toList.drop 1 = dktX2_does_1 := dk_seg dksX2_does_0 1 rfl rfl
theorem dksX2_does_2 : cX2_does.data.toList.drop 76 = dktX2_does_2 := dk_seg dksX2_does_1 75 rfl rfl
theorem dksX2_does_3 : cX2_does.data.toList.drop 99 = dktX2_does_3 := dk_seg dksX2_does_2 23 rfl rfl
theorem dksX2_does_4 : cX2_does.data.toList.drop 122 = dktX2_does_4 := dk_seg dksX2_does_3 23 rfl rfl
theorem dX2_does_0 : decode cX2_does 0 = .ok (.iload_n 1, 1) := dk_27 (dk_at dksX2_does_0 0 rfl rfl)
theorem dX2_does_1 : decode cX2_does 1 = .ok (.lookupswitch 132 #[(35, 113), (44, 104), (45, 75), (46, 90), (60, 83), (61, 129), (94, 129), (124, 120)], 75) := by decide +kernel
theorem dX2_does_76 : decode cX2_does 76 = .ok (.aload_n 0, 1) := dk_42 (dk_at dksX2_does_2 0 rfl rfl)
theorem dX2_does_77 : decode cX2_does 77 = .ok (.iconst 1, 1) := dk_4 (dk_at dksX2_does_2 1 rfl rfl)
theorem dX2_does_78 : decode cX2_does 78 = .ok (.putfield 128, 3) := dk_181 0 128 (dk_at dksX2_does_2 2 rfl rfl)
theorem dX2_does_81 : decode cX2_does 81 = .ok (.goto 57, 3) := dk_167 0 57 (dk_at dksX2_does_2 5 rfl rfl)
theorem dX2_does_84 : decode cX2_does 84 = .ok (.aload_n 0, 1) := dk_42 (dk_at dksX2_does_2 8 rfl rfl)
theorem dX2_does_85 : decode cX2_does 85 = .ok (.invokevirtual 131, 3) := dk_182 0 131 (dk_at dksX2_does_2 9 rfl rfl)
theorem dX2_does_88 : decode cX2_does 88 = .ok (.goto 50, 3) := dk_167 0 50 (dk_at dksX2_does_2 12 rfl rfl)
theorem dX2_does_91 : decode cX2_does 91 = .ok (.aload_n 0, 1) := dk_42 (dk_at dksX2_does_2 15 rfl rfl)
theorem dX2_does_92 : decode cX2_does 92 = .ok (.bipush 46, 2) := dk_16 46 (dk_at dksX2_does_2 16 rfl rfl)
theorem dX2_does_94 : decode cX2_does 94 = .ok (.invokevirtual 84, 3) := dk_182 0 84 (dk_at dksX2_does_2 18 rfl rfl)
theorem dX2_does_97 : decode cX2_does 97 = .ok (.aload_n 0, 1) := dk_42 (dk_at dksX2_does_2 21 rfl rfl)
theorem dX2_does_98 : decode cX2_does 98 = .ok (.iconst 1, 1) := dk_4 (dk_at dksX2_does_2 22 rfl rfl)
theorem dX2_does_99 : decode cX2_does 99 = .ok (.putfield 128, 3) := dk_181 0 128 (dk_at dksX2_does_3 0 rfl rfl)
theorem dX2_does_102 : decode cX2_does 102 = .ok (.goto 36, 3) := dk_167 0 36 (dk_at dksX2_does_3 3 rfl rfl)
theorem dX2_does_105 : decode cX2_does 105 = .ok (.aload_n 0, 1) := dk_42 (dk_at dksX2_does_3 6 rfl rfl)
theorem dX2_does_106 : decode cX2_does 106 = .ok (.bipush 44, 2) := dk_16 44 (dk_at dksX2_does_3 7 rfl rfl)
theorem dX2_does_108 : decode cX2_does 108 = .ok (.invokevirtual 84, 3) := dk_182 0 84 (dk_at dksX2_does_3 9 rfl rfl)
theorem dX2_does_111 : decode cX2_does 111 = .ok (.goto 27, 3) := dk_167 0 27 (dk_at dksX2_does_3 12 rfl rfl)
theorem dX2_does_114 : decode cX2_does 114 = .ok (.aload_n 0, 1) := dk_42 (dk_at dksX2_does_3 15 rfl rfl)
theorem dX2_does_115 : decode cX2_does 115 = .ok (.invokevirtual 134, 3) := dk_182 0 134 (dk_at dksX2_does_3 16 rfl rfl)
theorem dX2_does_118 : decode cX2_does 118 = .ok (.goto 20, 3) := dk_167 0 20 (dk_at dksX2_does_3 19 rfl rfl)
theorem dX2_does_121 : decode cX2_does 121 = .ok (.aload_n 0, 1) := dk_42 (dk_at dksX2_does_3 22 rfl rfl)
theorem dX2_does_122 : decode cX2_does 122 = .ok (.bipush 124, 2) := dk_16 124 (dk_at dksX2_does_4 0 rfl rfl)
theorem dX2_does_124 : decode cX2_does 124 = .ok (.invokevirtual 84, 3) := dk_182 0 84 (dk_at dksX2_does_4 2 rfl rfl)
theorem dX2_does_127 : decode cX2_does 127 = .ok (.goto 11, 3) := dk_167 0 11 (dk_at dksX2_does_4 5 rfl rfl)
theorem dX2_does_130 : decode cX2_does 130 = .ok (.goto 8, 3) := dk_167 0 8 (dk_at dksX2_does_4 8 rfl rfl)
theorem dX2_does_133 : decode cX2_does 133 = .ok (.aload_n 0, 1) := dk_42 (dk_at dksX2_does_4 11 rfl rfl)
theorem dX2_does_134 : decode cX2_does 134 = .ok (.iload_n 1, 1) := dk_27 (dk_at dksX2_does_4 12 rfl rfl)
theorem dX2_does_135 : decode cX2_does 135 = .ok (.invokevirtual 84, 3) := dk_182 0 84 (dk_at dksX2_does_4 13 rfl rfl)
theorem dX2_does_138 : decode cX2_does 138 = .ok (.return_, 1) := dk_177 (dk_at dksX2_does_4 16 rfl rfl)
abbrev cX2_raises : ByteArray := prog_14_method_10_code
def yX2_raises : MethodName := ⟨RX2, "raises", "()V"⟩
def dkwX2_raises_2 : List UInt8 := [184, 0, 162, 42, 180, 0, 57, 42, 180, 0, 22, 183, 0, 145, 182, 0, 175, 87, 177]
abbrev dktX2_raises_2 : List UInt8 := dkwX2_raises_2 ++ []
def dkwX2_raises_1 : List UInt8 := [192, 0, 140, 182, 0, 142, 62, 29, 184, 0, 158, 153, 0, 31, 42, 180, 0, 16, 28, 187, 0, 140, 89, 29]
abbrev dktX2_raises_1 : List UInt8 := dkwX2_raises_1 ++ dktX2_raises_2
def dkwX2_raises_0 : List UInt8 := [42, 182, 0, 169, 60, 27, 158, 0, 59, 42, 27, 182, 0, 172, 61, 42, 180, 0, 16, 28, 182, 0, 35]
abbrev dktX2_raises_0 : List UInt8 := dkwX2_raises_0 ++ dktX2_raises_1
theorem dksX2_raises_0 : cX2_raises.data.toList.drop 0 = dktX2_raises_0 := by decide +kernel
theorem dksX2_raises_1 : cX2_raises.data.toList.drop 23 = dktX2_raises_1 := dk_seg dksX2_raises_0 23 rfl rfl
theorem dksX2_raises_2 : cX2_raises.data.toList.drop 47 = dktX2_raises_2 := dk_seg dksX2_raises_1 24 rfl rfl
theorem dX2_raises_0 : decode cX2_raises 0 = .ok (.aload_n 0, 1) := dk_42 (dk_at dksX2_raises_0 0 rfl rfl)
theorem dX2_raises_1 : decode cX2_raises 1 = .ok (.invokevirtual 169, 3) := dk_182 0 169 (dk_at dksX2_raises_0 1 rfl rfl)
theorem dX2_raises_4 : decode cX2_raises 4 = .ok (.istore_n 1, 1) := dk_60 (dk_at dksX2_raises_0 4 rfl rfl)
theorem dX2_raises_5 : decode cX2_raises 5 = .ok (.iload_n 1, 1) := dk_27 (dk_at dksX2_raises_0 5 rfl rfl)
theorem dX2_raises_6 : decode cX2_raises 6 = .ok (.ifCond .le 59, 3) := dk_158 0 59 (dk_at dksX2_raises_0 6 rfl rfl)
theorem dX2_raises_9 : decode cX2_raises 9 = .ok (.aload_n 0, 1) := dk_42 (dk_at dksX2_raises_0 9 rfl rfl)
theorem dX2_raises_10 : decode cX2_raises 10 = .ok (.iload_n 1, 1) := dk_27 (dk_at dksX2_raises_0 10 rfl rfl)
theorem dX2_raises_11 : decode cX2_raises 11 = .ok (.invokevirtual 172, 3) := dk_182 0 172 (dk_at dksX2_raises_0 11 rfl rfl)
theorem dX2_raises_14 : decode cX2_raises 14 = .ok (.istore_n 2, 1) := dk_61 (dk_at dksX2_raises_0 14 rfl rfl)
theorem dX2_raises_15 : decode cX2_raises 15 = .ok (.aload_n 0, 1) := dk_42 (dk_at dksX2_raises_0 15 rfl rfl)
theorem dX2_raises_16 : decode cX2_raises 16 = .ok (.getfield 16, 3) := dk_180 0 16 (dk_at dksX2_raises_0 16 rfl rfl)
theorem dX2_raises_19 : decode cX2_raises 19 = .ok (.iload_n 2, 1) := dk_28 (dk_at dksX2_raises_0 19 rfl rfl)
theorem dX2_raises_20 : decode cX2_raises 20 = .ok (.invokevirtual 35, 3) := dk_182 0 35 (dk_at dksX2_raises_0 20 rfl rfl)
theorem dX2_raises_23 : decode cX2_raises 23 = .ok (.checkcast 140, 3) := dk_192 0 140 (dk_at dksX2_raises_1 0 rfl rfl)
theorem dX2_raises_26 : decode cX2_raises 26 = .ok (.invokevirtual 142, 3) := dk_182 0 142 (dk_at dksX2_raises_1 3 rfl rfl)
theorem dX2_raises_29 : decode cX2_raises 29 = .ok (.istore_n 3, 1) := dk_62 (dk_at dksX2_raises_1 6 rfl rfl)
theorem dX2_raises_30 : decode cX2_raises 30 = .ok (.iload_n 3, 1) := dk_29 (dk_at dksX2_raises_1 7 rfl rfl)
theorem dX2_raises_31 : decode cX2_raises 31 = .ok (.invokestatic 158, 3) := dk_184 0 158 (dk_at dksX2_raises_1 8 rfl rfl)
theorem dX2_raises_34 : decode cX2_raises 34 = .ok (.ifCond .eq 31, 3) := dk_153 0 31 (dk_at dksX2_raises_1 11 rfl rfl)
theorem dX2_raises_37 : decode cX2_raises 37 = .ok (.aload_n 0, 1) := dk_42 (dk_at dksX2_raises_1 14 rfl rfl)
theorem dX2_raises_38 : decode cX2_raises 38 = .ok (.getfield 16, 3) := dk_180 0 16 (dk_at dksX2_raises_1 15 rfl rfl)
theorem dX2_raises_41 : decode cX2_raises 41 = .ok (.iload_n 2, 1) := dk_28 (dk_at dksX2_raises_1 18 rfl rfl)
theorem dX2_raises_42 : decode cX2_raises 42 = .ok (.new 140, 3) := dk_187 0 140 (dk_at dksX2_raises_1 19 rfl rfl)
theorem dX2_raises_45 : decode cX2_raises 45 = .ok (.dup, 1) := dk_89 (dk_at dksX2_raises_1 22 rfl rfl)
theorem dX2_raises_46 : decode cX2_raises 46 = .ok (.iload_n 3, 1) := dk_29 (dk_at dksX2_raises_1 23 rfl rfl)
theorem dX2_raises_47 : decode cX2_raises 47 = .ok (.invokestatic 162, 3) := dk_184 0 162 (dk_at dksX2_raises_2 0 rfl rfl)
theorem dX2_raises_50 : decode cX2_raises 50 = .ok (.aload_n 0, 1) := dk_42 (dk_at dksX2_raises_2 3 rfl rfl)
theorem dX2_raises_51 : decode cX2_raises 51 = .ok (.getfield 57, 3) := dk_180 0 57 (dk_at dksX2_raises_2 4 rfl rfl)
theorem dX2_raises_54 : decode cX2_raises 54 = .ok (.aload_n 0, 1) := dk_42 (dk_at dksX2_raises_2 7 rfl rfl)
theorem dX2_raises_55 : decode cX2_raises 55 = .ok (.getfield 22, 3) := dk_180 0 22 (dk_at dksX2_raises_2 8 rfl rfl)
theorem dX2_raises_58 : decode cX2_raises 58 = .ok (.invokespecial 145, 3) := dk_183 0 145 (dk_at dksX2_raises_2 11 rfl rfl)
theorem dX2_raises_61 : decode cX2_raises 61 = .ok (.invokevirtual 175, 3) := dk_182 0 175 (dk_at dksX2_raises_2 14 rfl rfl)
theorem dX2_raises_64 : decode cX2_raises 64 = .ok (.pop, 1) := dk_87 (dk_at dksX2_raises_2 17 rfl rfl)
theorem dX2_raises_65 : decode cX2_raises 65 = .ok (.return_, 1) := dk_177 (dk_at dksX2_raises_2 18 rfl rfl)
abbrev cX2_behindLastLetter : ByteArray := prog_14_method_9_code
def yX2_behindLastLetter : MethodName := ⟨RX2, "behindLastLetter", "()I"⟩
def dkwX2_behindLastLetter_1 : List UInt8 := [192, 0, 140, 182, 0, 142, 184, 0, 166, 154, 0, 9, 132, 1, 255, 167, 255, 227, 27, 172]
abbrev dktX2_behindLastLetter_1 : List UInt8 := dkwX2_behindLastLetter_1 ++ []
def dkwX2_behindLastLetter_0 : List UInt8 := [42, 180, 0, 16, 182, 0, 31, 60, 27, 158, 0, 31, 42, 180, 0, 16, 27, 4, 100, 182, 0, 35]
abbrev dktX2_behindLastLetter_0 : List UInt8 := dkwX2_behindLastLetter_0 ++ dktX2_behindLastLetter_1
theorem dksX2_behindLastLetter_0 : cX2_behindLastLetter.data.toList.drop 0 = dktX2_behindLastLetter_0 := by decide +kernel
theorem dksX2_behindLastLetter_1 : cX2_behindLastLetter.data.toList.drop 22 = dktX2_behindLastLetter_1 := dk_seg dksX2_behindLastLetter_0 22 rfl rfl
theorem dX2_behindLastLetter_0 : decode cX2_behindLastLetter 0 = .ok (.aload_n 0, 1) := dk_42 (dk_at dksX2_behindLastLetter_0 0 rfl rfl)
theorem dX2_behindLastLetter_1 : decode cX2_behindLastLetter 1 = .ok (.getfield 16, 3) := dk_180 0 16 (dk_at dksX2_behindLastLetter_0 1 rfl rfl)
theorem dX2_behindLastLetter_4 : decode cX2_behindLastLetter 4 = .ok (.invokevirtual 31, 3) := dk_182 0 31 (dk_at dksX2_behindLastLetter_0 4 rfl rfl)
theorem dX2_behindLastLetter_7 : decode cX2_behindLastLetter 7 = .ok (.istore_n 1, 1) := dk_60 (dk_at dksX2_behindLastLetter_0 7 rfl rfl)
theorem dX2_behindLastLetter_8 : decode cX2_behindLastLetter 8 = .ok (.iload_n 1, 1) := dk_27 (dk_at dksX2_behindLastLetter_0 8 rfl rfl)
theorem dX2_behindLastLetter_9 : decode cX2_behindLastLetter 9 = .ok (.ifCond .le 31, 3) := dk_158 0 31 (dk_at dksX2_behindLastLetter_0 9 rfl rfl)
theorem dX2_behindLastLetter_12 : decode cX2_behindLastLetter 12 = .ok (.aload_n 0, 1) := dk_42 (dk_at dksX2_behindLastLetter_0 12 rfl rfl)
theorem dX2_behindLastLetter_13 : decode cX2_behindLastLetter 13 = .ok (.getfield 16, 3) := dk_180 0 16 (dk_at dksX2_behindLastLetter_0 13 rfl rfl)
theorem dX2_behindLastLetter_16 : decode cX2_behindLastLetter 16 = .ok (.iload_n 1, 1) := dk_27 (dk_at dksX2_behindLastLetter_0 16 rfl rfl)
theorem dX2_behindLastLetter_17 : decode cX2_behindLastLetter 17 = .ok (.iconst 1, 1) := dk_4 (dk_at dksX2_behindLastLetter_0 17 rfl rfl)
theorem dX2_behindLastLetter_18 : decode cX2_behindLastLetter 18 = .ok (.isub, 1) := dk_100 (dk_at dksX2_behindLastLetter_0 18 rfl rfl)
theorem dX2_behindLastLetter_19 : decode cX2_behindLastLetter 19 = .ok (.invokevirtual 35, 3) := dk_182 0 35 (dk_at dksX2_behindLastLetter_0 19 rfl rfl)
theorem dX2_behindLastLetter_22 : decode cX2_behindLastLetter 22 = .ok (.checkcast 140, 3) := dk_192 0 140 (dk_at dksX2_behindLastLetter_1 0 rfl rfl)
theorem dX2_behindLastLetter_25 : decode cX2_behindLastLetter 25 = .ok (.invokevirtual 142, 3) := dk_182 0 142 (dk_at dksX2_behindLastLetter_1 3 rfl rfl)
theorem dX2_behindLastLetter_28 : decode cX2_behindLastLetter 28 = .ok (.invokestatic 166, 3) := dk_184 0 166 (dk_at dksX2_behindLastLetter_1 6 rfl rfl)
theorem dX2_behindLastLetter_31 : decode cX2_behindLastLetter 31 = .ok (.ifCond .ne 9, 3) := dk_154 0 9 (dk_at dksX2_behindLastLetter_1 9 rfl rfl)
theorem dX2_behindLastLetter_34 : decode cX2_behindLastLetter 34 = .ok (.iinc 1 (-1), 3) := dk_132 1 255 (dk_at dksX2_behindLastLetter_1 12 rfl rfl)
theorem dX2_behindLastLetter_37 : decode cX2_behindLastLetter 37 = .ok (.goto (-29), 3) := dk_167 255 227 (dk_at dksX2_behindLastLetter_1 15 rfl rfl)
theorem dX2_behindLastLetter_40 : decode cX2_behindLastLetter 40 = .ok (.iload_n 1, 1) := dk_27 (dk_at dksX2_behindLastLetter_1 18 rfl rfl)
theorem dX2_behindLastLetter_41 : decode cX2_behindLastLetter 41 = .ok (.ireturn, 1) := dk_172 (dk_at dksX2_behindLastLetter_1 19 rfl rfl)
abbrev cX2_takesBack : ByteArray := prog_14_method_11_code
def yX2_takesBack : MethodName := ⟨RX2, "takesBack", "()V"⟩
def dkwX2_takesBack_2 : List UInt8 := [3, 100, 61, 42, 180, 0, 16, 28, 42, 180, 0, 16, 182, 0, 31, 182, 0, 179, 185, 0, 183, 1, 0, 177]
abbrev dktX2_takesBack_2 : List UInt8 := dkwX2_takesBack_2 ++ []
def dkwX2_takesBack_1 : List UInt8 := [180, 0, 16, 28, 4, 100, 182, 0, 35, 192, 0, 140, 182, 0, 142, 16, 32, 160, 0, 7, 4, 167, 0, 4]
abbrev dktX2_takesBack_1 : List UInt8 := dkwX2_takesBack_1 ++ dktX2_takesBack_2
def dkwX2_takesBack_0 : List UInt8 := [42, 182, 0, 169, 60, 27, 154, 0, 4, 177, 42, 27, 182, 0, 172, 61, 28, 28, 158, 0, 28, 42]
abbrev dktX2_takesBack_0 : List UInt8 := dkwX2_takesBack_0 ++ dktX2_takesBack_1
theorem dksX2_takesBack_0 : cX2_takesBack.data.toList.drop 0 = dktX2_takesBack_0 := by decide +kernel
theorem dksX2_takesBack_1 : cX2_takesBack.data.toList.drop 22 = dktX2_takesBack_1 := dk_seg dksX2_takesBack_0 22 rfl rfl
theorem dksX2_takesBack_2 : cX2_takesBack.data.toList.drop 46 = dktX2_takesBack_2 := dk_seg dksX2_takesBack_1 24 rfl rfl
theorem dX2_takesBack_0 : decode cX2_takesBack 0 = .ok (.aload_n 0, 1) := dk_42 (dk_at dksX2_takesBack_0 0 rfl rfl)
theorem dX2_takesBack_1 : decode cX2_takesBack 1 = .ok (.invokevirtual 169, 3) := dk_182 0 169 (dk_at dksX2_takesBack_0 1 rfl rfl)
theorem dX2_takesBack_4 : decode cX2_takesBack 4 = .ok (.istore_n 1, 1) := dk_60 (dk_at dksX2_takesBack_0 4 rfl rfl)
theorem dX2_takesBack_5 : decode cX2_takesBack 5 = .ok (.iload_n 1, 1) := dk_27 (dk_at dksX2_takesBack_0 5 rfl rfl)
theorem dX2_takesBack_6 : decode cX2_takesBack 6 = .ok (.ifCond .ne 4, 3) := dk_154 0 4 (dk_at dksX2_takesBack_0 6 rfl rfl)
theorem dX2_takesBack_9 : decode cX2_takesBack 9 = .ok (.return_, 1) := dk_177 (dk_at dksX2_takesBack_0 9 rfl rfl)
theorem dX2_takesBack_10 : decode cX2_takesBack 10 = .ok (.aload_n 0, 1) := dk_42 (dk_at dksX2_takesBack_0 10 rfl rfl)
theorem dX2_takesBack_11 : decode cX2_takesBack 11 = .ok (.iload_n 1, 1) := dk_27 (dk_at dksX2_takesBack_0 11 rfl rfl)
theorem dX2_takesBack_12 : decode cX2_takesBack 12 = .ok (.invokevirtual 172, 3) := dk_182 0 172 (dk_at dksX2_takesBack_0 12 rfl rfl)
theorem dX2_takesBack_15 : decode cX2_takesBack 15 = .ok (.istore_n 2, 1) := dk_61 (dk_at dksX2_takesBack_0 15 rfl rfl)
theorem dX2_takesBack_16 : decode cX2_takesBack 16 = .ok (.iload_n 2, 1) := dk_28 (dk_at dksX2_takesBack_0 16 rfl rfl)
theorem dX2_takesBack_17 : decode cX2_takesBack 17 = .ok (.iload_n 2, 1) := dk_28 (dk_at dksX2_takesBack_0 17 rfl rfl)
theorem dX2_takesBack_18 : decode cX2_takesBack 18 = .ok (.ifCond .le 28, 3) := dk_158 0 28 (dk_at dksX2_takesBack_0 18 rfl rfl)
theorem dX2_takesBack_21 : decode cX2_takesBack 21 = .ok (.aload_n 0, 1) := dk_42 (dk_at dksX2_takesBack_0 21 rfl rfl)
theorem dX2_takesBack_22 : decode cX2_takesBack 22 = .ok (.getfield 16, 3) := dk_180 0 16 (dk_at dksX2_takesBack_1 0 rfl rfl)
theorem dX2_takesBack_25 : decode cX2_takesBack 25 = .ok (.iload_n 2, 1) := dk_28 (dk_at dksX2_takesBack_1 3 rfl rfl)
theorem dX2_takesBack_26 : decode cX2_takesBack 26 = .ok (.iconst 1, 1) := dk_4 (dk_at dksX2_takesBack_1 4 rfl rfl)
theorem dX2_takesBack_27 : decode cX2_takesBack 27 = .ok (.isub, 1) := dk_100 (dk_at dksX2_takesBack_1 5 rfl rfl)
theorem dX2_takesBack_28 : decode cX2_takesBack 28 = .ok (.invokevirtual 35, 3) := dk_182 0 35 (dk_at dksX2_takesBack_1 6 rfl rfl)
theorem dX2_takesBack_31 : decode cX2_takesBack 31 = .ok (.checkcast 140, 3) := dk_192 0 140 (dk_at dksX2_takesBack_1 9 rfl rfl)
theorem dX2_takesBack_34 : decode cX2_takesBack 34 = .ok (.invokevirtual 142, 3) := dk_182 0 142 (dk_at dksX2_takesBack_1 12 rfl rfl)
theorem dX2_takesBack_37 : decode cX2_takesBack 37 = .ok (.bipush 32, 2) := dk_16 32 (dk_at dksX2_takesBack_1 15 rfl rfl)
theorem dX2_takesBack_39 : decode cX2_takesBack 39 = .ok (.if_icmp .ne 7, 3) := dk_160 0 7 (dk_at dksX2_takesBack_1 17 rfl rfl)
theorem dX2_takesBack_42 : decode cX2_takesBack 42 = .ok (.iconst 1, 1) := dk_4 (dk_at dksX2_takesBack_1 20 rfl rfl)
theorem dX2_takesBack_43 : decode cX2_takesBack 43 = .ok (.goto 4, 3) := dk_167 0 4 (dk_at dksX2_takesBack_1 21 rfl rfl)
theorem dX2_takesBack_46 : decode cX2_takesBack 46 = .ok (.iconst 0, 1) := dk_3 (dk_at dksX2_takesBack_2 0 rfl rfl)
theorem dX2_takesBack_47 : decode cX2_takesBack 47 = .ok (.isub, 1) := dk_100 (dk_at dksX2_takesBack_2 1 rfl rfl)
theorem dX2_takesBack_48 : decode cX2_takesBack 48 = .ok (.istore_n 2, 1) := dk_61 (dk_at dksX2_takesBack_2 2 rfl rfl)
theorem dX2_takesBack_49 : decode cX2_takesBack 49 = .ok (.aload_n 0, 1) := dk_42 (dk_at dksX2_takesBack_2 3 rfl rfl)
theorem dX2_takesBack_50 : decode cX2_takesBack 50 = .ok (.getfield 16, 3) := dk_180 0 16 (dk_at dksX2_takesBack_2 4 rfl rfl)
theorem dX2_takesBack_53 : decode cX2_takesBack 53 = .ok (.iload_n 2, 1) := dk_28 (dk_at dksX2_takesBack_2 7 rfl rfl)
theorem dX2_takesBack_54 : decode cX2_takesBack 54 = .ok (.aload_n 0, 1) := dk_42 (dk_at dksX2_takesBack_2 8 rfl rfl)
theorem dX2_takesBack_55 : decode cX2_takesBack 55 = .ok (.getfield 16, 3) := dk_180 0 16 (dk_at dksX2_takesBack_2 9 rfl rfl)
theorem dX2_takesBack_58 : decode cX2_takesBack 58 = .ok (.invokevirtual 31, 3) := dk_182 0 31 (dk_at dksX2_takesBack_2 12 rfl rfl)
theorem dX2_takesBack_61 : decode cX2_takesBack 61 = .ok (.invokevirtual 179, 3) := dk_182 0 179 (dk_at dksX2_takesBack_2 15 rfl rfl)
theorem dX2_takesBack_64 : decode cX2_takesBack 64 = .ok (.invokeinterface 183 1, 5) := by decide +kernel
theorem dX2_takesBack_69 : decode cX2_takesBack 69 = .ok (.return_, 1) := dk_177 (dk_at dksX2_takesBack_2 23 rfl rfl)
theorem q83 : (Jvm.Cond.initialized "Stenohall$Writer") ∈ lw_all := lw_g (lw_at lw_m1 9 rfl) rfl
theorem q235 : (Jvm.Cond.instantiable "Stenohall$Writer" (7 : Nat)) ∈ lw_all := lw_g (lw_at lw_m1 161 rfl) rfl
theorem q237 : (Jvm.Cond.instanceMethod ({ cls := "Stenohall$Writer", name := "<init>", desc := "(LStenohall;)V" } : Jvm.MethodName)) ∈ lw_all := lw_g (lw_at lw_m1 163 rfl) rfl
theorem q238 : (Jvm.Cond.code ({ cls := "Stenohall$Writer", name := "<init>", desc := "(LStenohall;)V" } : Jvm.MethodName) prog_14_method_1_code (2 : Nat) (Option.none : Option Jvm.ClassFile.FieldType)) ∈ lw_all := lw_g (lw_at lw_m1 164 rfl) rfl
theorem q239 : (Jvm.Cond.methodLink "Stenohall$Writer" (7 : Nat) ({ cls := "java/lang/Object", name := "<init>", desc := "()V" } : Jvm.MethodName)) ∈ lw_all := lw_g (lw_at lw_m1 165 rfl) rfl
theorem q240 : (Jvm.Cond.classLink "Stenohall$Writer" (13 : Nat) "java/util/ArrayList") ∈ lw_all := lw_g (lw_at lw_m1 166 rfl) rfl
theorem q241 : (Jvm.Cond.methodLink "Stenohall$Writer" (15 : Nat) ({ cls := "java/util/ArrayList", name := "<init>", desc := "()V" } : Jvm.MethodName)) ∈ lw_all := lw_g (lw_at lw_m1 167 rfl) rfl
theorem q242 : (Jvm.Cond.fieldLink "Stenohall$Writer" (16 : Nat) "Stenohall$Writer" "signs" "Ljava/util/ArrayList;") ∈ lw_all := lw_g (lw_at lw_m1 168 rfl) rfl
theorem q244 : (Jvm.Cond.fieldLink "Stenohall$Writer" (128 : Nat) "Stenohall$Writer" "isCapitalDue" "Z") ∈ lw_all := lw_g (lw_at lw_m1 170 rfl) rfl
theorem q245 : (Jvm.Cond.fieldLink "Stenohall$Writer" (22 : Nat) "Stenohall$Writer" "by" "I") ∈ lw_all := lw_g (lw_at lw_m1 171 rfl) rfl
theorem q246 : (Jvm.Cond.fieldLink "Stenohall$Writer" (57 : Nat) "Stenohall$Writer" "time" "I") ∈ lw_all := lw_g (lw_at lw_m1 172 rfl) rfl
theorem q247 : (Jvm.Cond.fieldLink "Stenohall$Writer" (77 : Nat) "Stenohall$Writer" "isJoined" "Z") ∈ lw_all := lw_g (lw_at lw_m1 173 rfl) rfl
theorem q248 : (Jvm.Cond.fieldLink "Stenohall$Writer" (81 : Nat) "Stenohall$Writer" "hasWritten" "Z") ∈ lw_all := lw_g (lw_at lw_m1 174 rfl) rfl
theorem q249 : (Jvm.Cond.fieldLink "Stenohall$Writer" (1 : Nat) "Stenohall$Writer" "this$0" "LStenohall;") ∈ lw_all := lw_g (lw_at lw_m1 175 rfl) rfl
theorem q250 : (Jvm.Cond.laysFinal "Stenohall$Writer" "Stenohall$Writer" "signs" "Ljava/util/ArrayList;") ∈ lw_all := lw_g (lw_at lw_m1 176 rfl) rfl
theorem q251 : (Jvm.Cond.soleField "Stenohall$Writer" "signs") ∈ lw_all := lw_g (lw_at lw_m1 177 rfl) rfl
theorem q252 : (Jvm.Cond.lays "Stenohall$Writer" "Stenohall$Writer" "isCapitalDue" "Z") ∈ lw_all := lw_g (lw_at lw_m1 178 rfl) rfl
theorem q253 : (Jvm.Cond.soleField "Stenohall$Writer" "isCapitalDue") ∈ lw_all := lw_g (lw_at lw_m1 179 rfl) rfl
theorem q254 : (Jvm.Cond.lays "Stenohall$Writer" "Stenohall$Writer" "by" "I") ∈ lw_all := lw_g (lw_at lw_m1 180 rfl) rfl
theorem q255 : (Jvm.Cond.soleField "Stenohall$Writer" "by") ∈ lw_all := lw_g (lw_at lw_m1 181 rfl) rfl
theorem q256 : (Jvm.Cond.lays "Stenohall$Writer" "Stenohall$Writer" "time" "I") ∈ lw_all := lw_g (lw_at lw_m1 182 rfl) rfl
theorem q257 : (Jvm.Cond.soleField "Stenohall$Writer" "time") ∈ lw_all := lw_g (lw_at lw_m1 183 rfl) rfl
theorem q258 : (Jvm.Cond.lays "Stenohall$Writer" "Stenohall$Writer" "isJoined" "Z") ∈ lw_all := lw_g (lw_at lw_m1 184 rfl) rfl
theorem q259 : (Jvm.Cond.soleField "Stenohall$Writer" "isJoined") ∈ lw_all := lw_g (lw_at lw_m1 185 rfl) rfl
theorem q260 : (Jvm.Cond.lays "Stenohall$Writer" "Stenohall$Writer" "hasWritten" "Z") ∈ lw_all := lw_g (lw_at lw_m1 186 rfl) rfl
theorem q261 : (Jvm.Cond.soleField "Stenohall$Writer" "hasWritten") ∈ lw_all := lw_g (lw_at lw_m1 187 rfl) rfl
theorem q262 : (Jvm.Cond.laysFinal "Stenohall$Writer" "Stenohall$Writer" "this$0" "LStenohall;") ∈ lw_all := lw_g (lw_at lw_m1 188 rfl) rfl
theorem q263 : (Jvm.Cond.soleField "Stenohall$Writer" "this$0") ∈ lw_all := lw_g (lw_at lw_m1 189 rfl) rfl
theorem q264 : (Jvm.Cond.superclass "Stenohall$Writer" "java/lang/Object") ∈ lw_all := lw_g (lw_at lw_m1 190 rfl) rfl
theorem q315 : (Jvm.Cond.selects "Stenohall$Writer" ({ cls := "java/lang/Object", name := "getClass", desc := "()Ljava/lang/Class;" } : Jvm.MethodName) ({ cls := "java/lang/Object", name := "getClass", desc := "()Ljava/lang/Class;" } : Jvm.MethodName)) ∈ lw_all := lw_g (lw_at lw_m2 1 rfl) rfl
theorem q760 : (Jvm.Cond.fieldLinkNest "Stenohall$Writer" (209 : Nat) "Stenohall" "words" "Ljava/util/ArrayList;" "Stenohall") ∈ lw_tbl := lw_at lw_m3 206 rfl
theorem q762 : (Jvm.Cond.fieldLinkNest "Stenohall$Writer" (200 : Nat) "Stenohall" "rules" "Ljava/lang/StringBuilder;" "Stenohall") ∈ lw_tbl := lw_at lw_m3 208 rfl
theorem q764 : (Jvm.Cond.fieldLinkNest "Stenohall$Writer" (26 : Nat) "Stenohall" "translations" "Ljava/util/ArrayList;" "Stenohall") ∈ lw_tbl := lw_at lw_m3 210 rfl
theorem q766 : (Jvm.Cond.fieldLinkNest "Stenohall$Writer" (41 : Nat) "Stenohall" "choices" "Ljava/util/ArrayList;" "Stenohall") ∈ lw_tbl := lw_at lw_m3 212 rfl
theorem q968 : (Jvm.Cond.selects "Stenohall$Writer" ({ cls := "java/lang/Object", name := "equals", desc := "(Ljava/lang/Object;)Z" } : Jvm.MethodName) ({ cls := "java/lang/Object", name := "equals", desc := "(Ljava/lang/Object;)Z" } : Jvm.MethodName)) ∈ lw_all := lw_g (lw_at lw_m4 174 rfl) rfl
theorem q2096 : (Jvm.Cond.instanceMethod ({ cls := "Stenohall$Writer", name := "writesAll", desc := "()V" } : Jvm.MethodName)) ∈ lw_all := lw_g (lw_at lw_m9 102 rfl) rfl
theorem q2097 : (Jvm.Cond.selects "Stenohall$Writer" ({ cls := "Stenohall$Writer", name := "writesAll", desc := "()V" } : Jvm.MethodName) ({ cls := "Stenohall$Writer", name := "writesAll", desc := "()V" } : Jvm.MethodName)) ∈ lw_all := lw_g (lw_at lw_m9 103 rfl) rfl
theorem q2098 : (Jvm.Cond.code ({ cls := "Stenohall$Writer", name := "writesAll", desc := "()V" } : Jvm.MethodName) prog_14_method_2_code (6 : Nat) (Option.none : Option Jvm.ClassFile.FieldType)) ∈ lw_all := lw_g (lw_at lw_m9 104 rfl) rfl
theorem q2099 : (Jvm.Cond.stringRef "Stenohall$Writer" (20 : Nat) "") ∈ lw_tbl := lw_at lw_m9 105 rfl
theorem q2100 : (Jvm.Cond.methodLink "Stenohall$Writer" (31 : Nat) ({ cls := "java/util/ArrayList", name := "size", desc := "()I" } : Jvm.MethodName)) ∈ lw_all := lw_g (lw_at lw_m9 106 rfl) rfl
theorem q2101 : (Jvm.Cond.methodLink "Stenohall$Writer" (35 : Nat) ({ cls := "java/util/ArrayList", name := "get", desc := "(I)Ljava/lang/Object;" } : Jvm.MethodName)) ∈ lw_all := lw_g (lw_at lw_m9 107 rfl) rfl
theorem q2102 : (Jvm.Cond.classLink "Stenohall$Writer" (39 : Nat) "Stenohall$Translation") ∈ lw_all := lw_g (lw_at lw_m9 108 rfl) rfl
theorem q2103 : (Jvm.Cond.classLink "Stenohall$Writer" (44 : Nat) "java/lang/Integer") ∈ lw_all := lw_g (lw_at lw_m9 109 rfl) rfl
theorem q2104 : (Jvm.Cond.methodLink "Stenohall$Writer" (46 : Nat) ({ cls := "java/lang/Integer", name := "intValue", desc := "()I" } : Jvm.MethodName)) ∈ lw_all := lw_g (lw_at lw_m9 110 rfl) rfl
theorem q2105 : (Jvm.Cond.methodLinkNest "Stenohall$Writer" (49 : Nat) ({ cls := "Stenohall", name := "contentOf", desc := "(LStenohall$Translation;I)Ljava/lang/String;" } : Jvm.MethodName) "Stenohall") ∈ lw_tbl := lw_at lw_m9 111 rfl
theorem q2113 : (Jvm.Cond.methodLinkNest "Stenohall$Writer" (53 : Nat) ({ cls := "Stenohall", name := "tickOf", desc := "(LStenohall$Translation;)I" } : Jvm.MethodName) "Stenohall") ∈ lw_tbl := lw_at lw_m9 119 rfl
theorem q2124 : (Jvm.Cond.classLink "Stenohall$Writer" (60 : Nat) "Stenohall$Miss") ∈ lw_all := lw_g (lw_at lw_m9 130 rfl) rfl
theorem q2125 : (Jvm.Cond.stringRef "Stenohall$Writer" (62 : Nat) "^.,") ∈ lw_tbl := lw_at lw_m9 131 rfl
theorem q2126 : (Jvm.Cond.methodLink "Stenohall$Writer" (64 : Nat) ({ cls := "java/lang/String", name := "charAt", desc := "(I)C" } : Jvm.MethodName)) ∈ lw_all := lw_g (lw_at lw_m9 132 rfl) rfl
theorem q2127 : (Jvm.Cond.methodLink "Stenohall$Writer" (70 : Nat) ({ cls := "java/lang/String", name := "indexOf", desc := "(I)I" } : Jvm.MethodName)) ∈ lw_all := lw_g (lw_at lw_m9 133 rfl) rfl
theorem q2173 : (Jvm.Cond.methodLink "Stenohall$Writer" (74 : Nat) ({ cls := "java/lang/String", name := "length", desc := "()I" } : Jvm.MethodName)) ∈ lw_all := lw_g (lw_at lw_m9 179 rfl) rfl
theorem q2174 : (Jvm.Cond.methodLink "Stenohall$Writer" (84 : Nat) ({ cls := "Stenohall$Writer", name := "writes", desc := "(C)V" } : Jvm.MethodName)) ∈ lw_all := lw_g (lw_at lw_m9 180 rfl) rfl
theorem q2175 : (Jvm.Cond.privateMethod ({ cls := "Stenohall$Writer", name := "writes", desc := "(C)V" } : Jvm.MethodName)) ∈ lw_tbl := lw_at lw_m9 181 rfl
theorem q2176 : (Jvm.Cond.instanceMethod ({ cls := "Stenohall$Writer", name := "writes", desc := "(C)V" } : Jvm.MethodName)) ∈ lw_all := lw_g (lw_at lw_m9 182 rfl) rfl
theorem q2177 : (Jvm.Cond.code ({ cls := "Stenohall$Writer", name := "writes", desc := "(C)V" } : Jvm.MethodName) prog_14_method_7_code (3 : Nat) (Option.none : Option Jvm.ClassFile.FieldType)) ∈ lw_all := lw_g (lw_at lw_m9 183 rfl) rfl
theorem q2178 : (Jvm.Cond.methodLink "Stenohall$Writer" (152 : Nat) ({ cls := "Stenohall$Writer", name := "last", desc := "()C" } : Jvm.MethodName)) ∈ lw_all := lw_g (lw_at lw_m9 184 rfl) rfl
theorem q2179 : (Jvm.Cond.privateMethod ({ cls := "Stenohall$Writer", name := "last", desc := "()C" } : Jvm.MethodName)) ∈ lw_tbl := lw_at lw_m9 185 rfl
theorem q2180 : (Jvm.Cond.instanceMethod ({ cls := "Stenohall$Writer", name := "last", desc := "()C" } : Jvm.MethodName)) ∈ lw_all := lw_g (lw_at lw_m9 186 rfl) rfl
theorem q2181 : (Jvm.Cond.code ({ cls := "Stenohall$Writer", name := "last", desc := "()C" } : Jvm.MethodName) prog_14_method_5_code (1 : Nat) (Option.some Jvm.ClassFile.FieldType.char)) ∈ lw_all := lw_g (lw_at lw_m9 187 rfl) rfl
theorem q2182 : (Jvm.Cond.methodLink "Stenohall$Writer" (137 : Nat) ({ cls := "java/util/ArrayList", name := "isEmpty", desc := "()Z" } : Jvm.MethodName)) ∈ lw_all := lw_g (lw_at lw_m9 188 rfl) rfl
theorem q2183 : (Jvm.Cond.classLink "Stenohall$Writer" (140 : Nat) "Stenohall$Sign") ∈ lw_all := lw_g (lw_at lw_m9 189 rfl) rfl
theorem q2184 : (Jvm.Cond.methodLink "Stenohall$Writer" (142 : Nat) ({ cls := "Stenohall$Sign", name := "sign", desc := "()C" } : Jvm.MethodName)) ∈ lw_all := lw_g (lw_at lw_m9 190 rfl) rfl
theorem q2188 : (Jvm.Cond.methodLink "Stenohall$Writer" (155 : Nat) ({ cls := "Stenohall$Writer", name := "adds", desc := "(C)V" } : Jvm.MethodName)) ∈ lw_all := lw_g (lw_at lw_m9 194 rfl) rfl
theorem q2189 : (Jvm.Cond.privateMethod ({ cls := "Stenohall$Writer", name := "adds", desc := "(C)V" } : Jvm.MethodName)) ∈ lw_tbl := lw_at lw_m9 195 rfl
theorem q2190 : (Jvm.Cond.instanceMethod ({ cls := "Stenohall$Writer", name := "adds", desc := "(C)V" } : Jvm.MethodName)) ∈ lw_all := lw_g (lw_at lw_m9 196 rfl) rfl
theorem q2191 : (Jvm.Cond.code ({ cls := "Stenohall$Writer", name := "adds", desc := "(C)V" } : Jvm.MethodName) prog_14_method_6_code (2 : Nat) (Option.none : Option Jvm.ClassFile.FieldType)) ∈ lw_all := lw_g (lw_at lw_m9 197 rfl) rfl
theorem q2193 : (Jvm.Cond.methodLinkNest "Stenohall$Writer" (145 : Nat) ({ cls := "Stenohall$Sign", name := "<init>", desc := "(CII)V" } : Jvm.MethodName) "Stenohall") ∈ lw_tbl := lw_at lw_m9 199 rfl
theorem q2207 : (Jvm.Cond.methodLink "Stenohall$Writer" (148 : Nat) ({ cls := "java/util/ArrayList", name := "add", desc := "(Ljava/lang/Object;)Z" } : Jvm.MethodName)) ∈ lw_all := lw_g (lw_at lw_m9 213 rfl) rfl
theorem q2208 : (Jvm.Cond.methodLinkNest "Stenohall$Writer" (158 : Nat) ({ cls := "Stenohall", name := "isSmall", desc := "(C)Z" } : Jvm.MethodName) "Stenohall") ∈ lw_tbl := lw_at lw_m9 214 rfl
theorem q2209 : (Jvm.Cond.methodLinkNest "Stenohall$Writer" (162 : Nat) ({ cls := "Stenohall", name := "capital", desc := "(C)C" } : Jvm.MethodName) "Stenohall") ∈ lw_tbl := lw_at lw_m9 215 rfl
theorem q2213 : (Jvm.Cond.methodLink "Stenohall$Writer" (88 : Nat) ({ cls := "Stenohall$Writer", name := "writes", desc := "(Ljava/lang/String;)V" } : Jvm.MethodName)) ∈ lw_all := lw_g (lw_at lw_m9 219 rfl) rfl
theorem q2214 : (Jvm.Cond.privateMethod ({ cls := "Stenohall$Writer", name := "writes", desc := "(Ljava/lang/String;)V" } : Jvm.MethodName)) ∈ lw_tbl := lw_at lw_m9 220 rfl
theorem q2215 : (Jvm.Cond.instanceMethod ({ cls := "Stenohall$Writer", name := "writes", desc := "(Ljava/lang/String;)V" } : Jvm.MethodName)) ∈ lw_all := lw_g (lw_at lw_m9 221 rfl) rfl
theorem q2216 : (Jvm.Cond.code ({ cls := "Stenohall$Writer", name := "writes", desc := "(Ljava/lang/String;)V" } : Jvm.MethodName) prog_14_method_3_code (5 : Nat) (Option.none : Option Jvm.ClassFile.FieldType)) ∈ lw_all := lw_g (lw_at lw_m9 222 rfl) rfl
theorem q2217 : (Jvm.Cond.classLink "Stenohall$Writer" (91 : Nat) "java/lang/StringBuilder") ∈ lw_all := lw_g (lw_at lw_m9 223 rfl) rfl
theorem q2218 : (Jvm.Cond.methodLink "Stenohall$Writer" (93 : Nat) ({ cls := "java/lang/StringBuilder", name := "<init>", desc := "()V" } : Jvm.MethodName)) ∈ lw_all := lw_g (lw_at lw_m9 224 rfl) rfl
theorem q2219 : (Jvm.Cond.classLink "Stenohall$Writer" (94 : Nat) "Stenohall$Letters") ∈ lw_all := lw_g (lw_at lw_m9 225 rfl) rfl
theorem q2221 : (Jvm.Cond.methodLink "Stenohall$Writer" (96 : Nat) ({ cls := "Stenohall$Letters", name := "<init>", desc := "(Ljava/lang/String;I)V" } : Jvm.MethodName)) ∈ lw_all := lw_g (lw_at lw_m9 227 rfl) rfl
theorem q2232 : (Jvm.Cond.methodLink "Stenohall$Writer" (99 : Nat) ({ cls := "Stenohall$Letters", name := "hasNext", desc := "()Z" } : Jvm.MethodName)) ∈ lw_all := lw_g (lw_at lw_m9 238 rfl) rfl
theorem q2233 : (Jvm.Cond.methodLink "Stenohall$Writer" (103 : Nat) ({ cls := "Stenohall$Letters", name := "next", desc := "()Ljava/lang/Character;" } : Jvm.MethodName)) ∈ lw_all := lw_g (lw_at lw_m9 239 rfl) rfl
theorem q2234 : (Jvm.Cond.methodLink "Stenohall$Writer" (107 : Nat) ({ cls := "java/lang/Character", name := "charValue", desc := "()C" } : Jvm.MethodName)) ∈ lw_all := lw_g (lw_at lw_m10 0 rfl) rfl
theorem q2235 : (Jvm.Cond.methodLink "Stenohall$Writer" (113 : Nat) ({ cls := "java/lang/StringBuilder", name := "append", desc := "(C)Ljava/lang/StringBuilder;" } : Jvm.MethodName)) ∈ lw_all := lw_g (lw_at lw_m10 1 rfl) rfl
theorem q2248 : (Jvm.Cond.methodLink "Stenohall$Writer" (117 : Nat) ({ cls := "java/lang/StringBuilder", name := "toString", desc := "()Ljava/lang/String;" } : Jvm.MethodName)) ∈ lw_all := lw_g (lw_at lw_m10 14 rfl) rfl
theorem q2249 : (Jvm.Cond.methodLink "Stenohall$Writer" (121 : Nat) ({ cls := "Stenohall$Writer", name := "joins", desc := "(Ljava/lang/String;)V" } : Jvm.MethodName)) ∈ lw_all := lw_g (lw_at lw_m10 15 rfl) rfl
theorem q2250 : (Jvm.Cond.privateMethod ({ cls := "Stenohall$Writer", name := "joins", desc := "(Ljava/lang/String;)V" } : Jvm.MethodName)) ∈ lw_tbl := lw_at lw_m10 16 rfl
theorem q2251 : (Jvm.Cond.instanceMethod ({ cls := "Stenohall$Writer", name := "joins", desc := "(Ljava/lang/String;)V" } : Jvm.MethodName)) ∈ lw_all := lw_g (lw_at lw_m10 17 rfl) rfl
theorem q2252 : (Jvm.Cond.code ({ cls := "Stenohall$Writer", name := "joins", desc := "(Ljava/lang/String;)V" } : Jvm.MethodName) prog_14_method_13_code (7 : Nat) (Option.none : Option Jvm.ClassFile.FieldType)) ∈ lw_all := lw_g (lw_at lw_m10 18 rfl) rfl
theorem q2253 : (Jvm.Cond.methodLink "Stenohall$Writer" (191 : Nat) ({ cls := "java/lang/String", name := "isEmpty", desc := "()Z" } : Jvm.MethodName)) ∈ lw_all := lw_g (lw_at lw_m10 19 rfl) rfl
theorem q2257 : (Jvm.Cond.methodLink "Stenohall$Writer" (172 : Nat) ({ cls := "Stenohall$Writer", name := "wordBefore", desc := "(I)I" } : Jvm.MethodName)) ∈ lw_all := lw_g (lw_at lw_m10 23 rfl) rfl
theorem q2258 : (Jvm.Cond.privateMethod ({ cls := "Stenohall$Writer", name := "wordBefore", desc := "(I)I" } : Jvm.MethodName)) ∈ lw_tbl := lw_at lw_m10 24 rfl
theorem q2259 : (Jvm.Cond.instanceMethod ({ cls := "Stenohall$Writer", name := "wordBefore", desc := "(I)I" } : Jvm.MethodName)) ∈ lw_all := lw_g (lw_at lw_m10 25 rfl) rfl
theorem q2260 : (Jvm.Cond.code ({ cls := "Stenohall$Writer", name := "wordBefore", desc := "(I)I" } : Jvm.MethodName) prog_14_method_8_code (3 : Nat) (Option.some Jvm.ClassFile.FieldType.int)) ∈ lw_all := lw_g (lw_at lw_m10 26 rfl) rfl
theorem q2261 : (Jvm.Cond.methodLinkNest "Stenohall$Writer" (166 : Nat) ({ cls := "Stenohall", name := "isLetter", desc := "(C)Z" } : Jvm.MethodName) "Stenohall") ∈ lw_tbl := lw_at lw_m10 27 rfl
theorem q2267 : (Jvm.Cond.methodLink "Stenohall$Writer" (192 : Nat) ({ cls := "Stenohall$Writer", name := "wordOf", desc := "(II)Ljava/lang/String;" } : Jvm.MethodName)) ∈ lw_all := lw_g (lw_at lw_m10 33 rfl) rfl
theorem q2268 : (Jvm.Cond.privateMethod ({ cls := "Stenohall$Writer", name := "wordOf", desc := "(II)Ljava/lang/String;" } : Jvm.MethodName)) ∈ lw_tbl := lw_at lw_m10 34 rfl
theorem q2269 : (Jvm.Cond.instanceMethod ({ cls := "Stenohall$Writer", name := "wordOf", desc := "(II)Ljava/lang/String;" } : Jvm.MethodName)) ∈ lw_all := lw_g (lw_at lw_m10 35 rfl) rfl
theorem q2270 : (Jvm.Cond.code ({ cls := "Stenohall$Writer", name := "wordOf", desc := "(II)Ljava/lang/String;" } : Jvm.MethodName) prog_14_method_12_code (5 : Nat) (Option.some (Jvm.ClassFile.FieldType.object "java/lang/String"))) ∈ lw_all := lw_g (lw_at lw_m10 36 rfl) rfl
theorem q2271 : (Jvm.Cond.methodLinkNest "Stenohall$Writer" (188 : Nat) ({ cls := "Stenohall", name := "small", desc := "(C)C" } : Jvm.MethodName) "Stenohall") ∈ lw_tbl := lw_at lw_m10 37 rfl
theorem q2274 : (Jvm.Cond.methodLink "Stenohall$Writer" (196 : Nat) ({ cls := "Stenohall$Writer", name := "joined", desc := "(Ljava/lang/String;Ljava/lang/String;)Ljava/lang/String;" } : Jvm.MethodName)) ∈ lw_all := lw_g (lw_at lw_m10 40 rfl) rfl
theorem q2275 : (Jvm.Cond.privateMethod ({ cls := "Stenohall$Writer", name := "joined", desc := "(Ljava/lang/String;Ljava/lang/String;)Ljava/lang/String;" } : Jvm.MethodName)) ∈ lw_tbl := lw_at lw_m10 41 rfl
theorem q2276 : (Jvm.Cond.instanceMethod ({ cls := "Stenohall$Writer", name := "joined", desc := "(Ljava/lang/String;Ljava/lang/String;)Ljava/lang/String;" } : Jvm.MethodName)) ∈ lw_all := lw_g (lw_at lw_m10 42 rfl) rfl
theorem q2277 : (Jvm.Cond.code ({ cls := "Stenohall$Writer", name := "joined", desc := "(Ljava/lang/String;Ljava/lang/String;)Ljava/lang/String;" } : Jvm.MethodName) prog_14_method_14_code (6 : Nat) (Option.some (Jvm.ClassFile.FieldType.object "java/lang/String"))) ∈ lw_all := lw_g (lw_at lw_m10 43 rfl) rfl
theorem q2278 : (Jvm.Cond.methodLink "Stenohall$Writer" (124 : Nat) ({ cls := "java/lang/StringBuilder", name := "length", desc := "()I" } : Jvm.MethodName)) ∈ lw_all := lw_g (lw_at lw_m10 44 rfl) rfl
theorem q2279 : (Jvm.Cond.methodLink "Stenohall$Writer" (204 : Nat) ({ cls := "java/lang/StringBuilder", name := "charAt", desc := "(I)C" } : Jvm.MethodName)) ∈ lw_all := lw_g (lw_at lw_m10 45 rfl) rfl
theorem q2289 : (Jvm.Cond.methodLinkNest "Stenohall$Writer" (205 : Nat) ({ cls := "Stenohall", name := "ruled", desc := "(CLjava/lang/String;Ljava/lang/String;)Ljava/lang/String;" } : Jvm.MethodName) "Stenohall") ∈ lw_tbl := lw_at lw_m10 55 rfl
theorem q2327 : (Jvm.Cond.methodLink "Stenohall$Writer" (212 : Nat) ({ cls := "java/lang/StringBuilder", name := "append", desc := "(Ljava/lang/String;)Ljava/lang/StringBuilder;" } : Jvm.MethodName)) ∈ lw_all := lw_g (lw_at lw_m10 93 rfl) rfl
theorem q2328 : (Jvm.Cond.methodLink "Stenohall$Writer" (215 : Nat) ({ cls := "java/util/ArrayList", name := "contains", desc := "(Ljava/lang/Object;)Z" } : Jvm.MethodName)) ∈ lw_all := lw_g (lw_at lw_m10 94 rfl) rfl
theorem q2329 : (Jvm.Cond.methodLink "Stenohall$Writer" (179 : Nat) ({ cls := "java/util/ArrayList", name := "subList", desc := "(II)Ljava/util/List;" } : Jvm.MethodName)) ∈ lw_all := lw_g (lw_at lw_m10 95 rfl) rfl
theorem q2330 : (Jvm.Cond.interfaceEntry "Stenohall$Writer" (183 : Nat)) ∈ lw_tbl := lw_at lw_m10 96 rfl
theorem q2331 : (Jvm.Cond.methodLink "Stenohall$Writer" (183 : Nat) ({ cls := "java/util/List", name := "clear", desc := "()V" } : Jvm.MethodName)) ∈ lw_all := lw_g (lw_at lw_m10 97 rfl) rfl
theorem q2371 : (Jvm.Cond.methodLink "Stenohall$Writer" (125 : Nat) ({ cls := "Stenohall$Writer", name := "does", desc := "(C)V" } : Jvm.MethodName)) ∈ lw_all := lw_g (lw_at lw_m10 137 rfl) rfl
theorem q2372 : (Jvm.Cond.privateMethod ({ cls := "Stenohall$Writer", name := "does", desc := "(C)V" } : Jvm.MethodName)) ∈ lw_tbl := lw_at lw_m10 138 rfl
theorem q2373 : (Jvm.Cond.instanceMethod ({ cls := "Stenohall$Writer", name := "does", desc := "(C)V" } : Jvm.MethodName)) ∈ lw_all := lw_g (lw_at lw_m10 139 rfl) rfl
theorem q2374 : (Jvm.Cond.code ({ cls := "Stenohall$Writer", name := "does", desc := "(C)V" } : Jvm.MethodName) prog_14_method_4_code (2 : Nat) (Option.none : Option Jvm.ClassFile.FieldType)) ∈ lw_all := lw_g (lw_at lw_m10 140 rfl) rfl
theorem q2375 : (Jvm.Cond.methodLink "Stenohall$Writer" (131 : Nat) ({ cls := "Stenohall$Writer", name := "raises", desc := "()V" } : Jvm.MethodName)) ∈ lw_all := lw_g (lw_at lw_m10 141 rfl) rfl
theorem q2376 : (Jvm.Cond.privateMethod ({ cls := "Stenohall$Writer", name := "raises", desc := "()V" } : Jvm.MethodName)) ∈ lw_tbl := lw_at lw_m10 142 rfl
theorem q2377 : (Jvm.Cond.instanceMethod ({ cls := "Stenohall$Writer", name := "raises", desc := "()V" } : Jvm.MethodName)) ∈ lw_all := lw_g (lw_at lw_m10 143 rfl) rfl
theorem q2378 : (Jvm.Cond.code ({ cls := "Stenohall$Writer", name := "raises", desc := "()V" } : Jvm.MethodName) prog_14_method_10_code (4 : Nat) (Option.none : Option Jvm.ClassFile.FieldType)) ∈ lw_all := lw_g (lw_at lw_m10 144 rfl) rfl
theorem q2379 : (Jvm.Cond.methodLink "Stenohall$Writer" (169 : Nat) ({ cls := "Stenohall$Writer", name := "behindLastLetter", desc := "()I" } : Jvm.MethodName)) ∈ lw_all := lw_g (lw_at lw_m10 145 rfl) rfl
theorem q2380 : (Jvm.Cond.privateMethod ({ cls := "Stenohall$Writer", name := "behindLastLetter", desc := "()I" } : Jvm.MethodName)) ∈ lw_tbl := lw_at lw_m10 146 rfl
theorem q2381 : (Jvm.Cond.instanceMethod ({ cls := "Stenohall$Writer", name := "behindLastLetter", desc := "()I" } : Jvm.MethodName)) ∈ lw_all := lw_g (lw_at lw_m10 147 rfl) rfl
theorem q2382 : (Jvm.Cond.code ({ cls := "Stenohall$Writer", name := "behindLastLetter", desc := "()I" } : Jvm.MethodName) prog_14_method_9_code (2 : Nat) (Option.some Jvm.ClassFile.FieldType.int)) ∈ lw_all := lw_g (lw_at lw_m10 148 rfl) rfl
theorem q2383 : (Jvm.Cond.methodLink "Stenohall$Writer" (175 : Nat) ({ cls := "java/util/ArrayList", name := "set", desc := "(ILjava/lang/Object;)Ljava/lang/Object;" } : Jvm.MethodName)) ∈ lw_all := lw_g (lw_at lw_m10 149 rfl) rfl
theorem q2387 : (Jvm.Cond.methodLink "Stenohall$Writer" (134 : Nat) ({ cls := "Stenohall$Writer", name := "takesBack", desc := "()V" } : Jvm.MethodName)) ∈ lw_all := lw_g (lw_at lw_m10 153 rfl) rfl
theorem q2388 : (Jvm.Cond.privateMethod ({ cls := "Stenohall$Writer", name := "takesBack", desc := "()V" } : Jvm.MethodName)) ∈ lw_tbl := lw_at lw_m10 154 rfl
theorem q2389 : (Jvm.Cond.instanceMethod ({ cls := "Stenohall$Writer", name := "takesBack", desc := "()V" } : Jvm.MethodName)) ∈ lw_all := lw_g (lw_at lw_m10 155 rfl) rfl
theorem q2390 : (Jvm.Cond.code ({ cls := "Stenohall$Writer", name := "takesBack", desc := "()V" } : Jvm.MethodName) prog_14_method_11_code (3 : Nat) (Option.none : Option Jvm.ClassFile.FieldType)) ∈ lw_all := lw_g (lw_at lw_m10 156 rfl) rfl
theorem q4343 : (Jvm.Cond.castable "Stenohall$Writer" "java/lang/Object") ∈ lw_tbl := lw_at lw_m18 189 rfl
theorem in_X2 : ∀ w ∈ wsX20, w ∈ lw_all := lw_in wsX20 [250, 252, 254, 256, 258, 260, 262] (by decide +kernel) (by decide +kernel)
/-! StenohallModel -/
set_option maxRecDepth 100000
def RX3 : String := "StenohallModel"
def TX3 : u_T := fun k => match k with
  | 0 => ("StenohallModel", "thrown", "I", false)
  | 1 => ("StenohallModel", "isFirst", "Z", false)
  | 2 => ("StenohallModel", "down", "I", false)
  | 3 => ("StenohallModel", "went", "I", false)
  | 4 => ("StenohallModel", "isFresh", "Z", false)
  | 5 => ("StenohallModel", "strokes", "Ljava/util/ArrayList;", true)
  | 6 => ("StenohallModel", "chords", "Ljava/util/ArrayList;", true)
  | 7 => ("StenohallModel", "signs", "Ljava/lang/String;", false)
  | 8 => ("StenohallModel", "layers", "[LStenohallModel$Layer;", true)
  | 9 => ("StenohallModel", "words", "Ljava/util/TreeSet;", true)
  | 10 => ("StenohallModel", "rules", "Ljava/lang/String;", false)
  | 11 => ("StenohallModel", "translations", "Ljava/util/ArrayList;", false)
  | 12 => ("StenohallModel", "kept", "Ljava/util/ArrayList;", true)
  | 13 => ("StenohallModel", "sinks", "Ljava/util/ArrayList;", true)
  | 14 => ("StenohallModel", "width", "I", false)
  | 15 => ("StenohallModel", "lines", "I", false)
  | _ => ("StenohallModel", "contractions", "Ljava/util/TreeMap;", true)
def tyX3 : Nat → FieldType := fun k => match k with
  | 0 => .int
  | 1 => .boolean
  | 2 => .int
  | 3 => .int
  | 4 => .boolean
  | 5 => .object "java/util/ArrayList"
  | 6 => .object "java/util/ArrayList"
  | 7 => .object "java/lang/String"
  | 8 => .array (.object "StenohallModel$Layer")
  | 9 => .object "java/util/TreeSet"
  | 10 => .object "java/lang/String"
  | 11 => .object "java/util/ArrayList"
  | 12 => .object "java/util/ArrayList"
  | 13 => .object "java/util/ArrayList"
  | 14 => .int
  | 15 => .int
  | _ => .object "java/util/TreeMap"
abbrev wsX30 : List Cond := u_ws RX3 TX3 17
set_option maxRecDepth 100000 in
theorem nmX3 : ∀ a, a < 17 → ∀ b, b < 17 → a ≠ b → (TX3 a).2.1 ≠ (TX3 b).2.1 := by decide +kernel
set_option maxRecDepth 100000 in
theorem tyX3_ok : ∀ k, k < 17 → parseFieldDescriptor (TX3 k).2.2.1 = some (tyX3 k) := by decide +kernel
abbrev cX3_init : ByteArray := prog_16_method_9_code
def yX3_init : MethodName := ⟨RX3, "<init>", "()V"⟩
def dkwX3_init_6 : List UInt8 := [181, 0, 113, 42, 187, 0, 116, 89, 183, 0, 118, 181, 0, 119, 42, 3, 181, 0, 123, 177]
abbrev dktX3_init_6 : List UInt8 := dkwX3_init_6 ++ []
def dkwX3_init_5 : List UInt8 := [181, 0, 103, 42, 187, 0, 67, 89, 183, 0, 69, 181, 0, 106, 42, 16, 40, 181, 0, 109, 42, 16, 10]
abbrev dktX3_init_5 : List UInt8 := dkwX3_init_5 ++ dktX3_init_6
def dkwX3_init_4 : List UInt8 := [18, 77, 181, 0, 97, 42, 187, 0, 67, 89, 183, 0, 69, 181, 0, 100, 42, 187, 0, 67, 89, 183, 0, 69]
abbrev dktX3_init_4 : List UInt8 := dkwX3_init_4 ++ dktX3_init_5
def dkwX3_init_3 : List UInt8 := [187, 0, 83, 89, 183, 0, 85, 83, 181, 0, 86, 42, 187, 0, 90, 89, 183, 0, 92, 181, 0, 93, 42]
abbrev dktX3_init_3 : List UInt8 := dkwX3_init_3 ++ dktX3_init_4
def dkwX3_init_2 : List UInt8 := [89, 4, 187, 0, 83, 89, 183, 0, 85, 83, 89, 5, 187, 0, 83, 89, 183, 0, 85, 83, 89, 6]
abbrev dktX3_init_2 : List UInt8 := dkwX3_init_2 ++ dktX3_init_3
def dkwX3_init_1 : List UInt8 := [181, 0, 74, 42, 18, 77, 181, 0, 79, 42, 7, 189, 0, 83, 89, 3, 187, 0, 83, 89, 183, 0, 85, 83]
abbrev dktX3_init_1 : List UInt8 := dkwX3_init_1 ++ dktX3_init_2
def dkwX3_init_0 : List UInt8 := [42, 183, 0, 64, 42, 187, 0, 67, 89, 183, 0, 69, 181, 0, 70, 42, 187, 0, 67, 89, 183, 0, 69]
abbrev dktX3_init_0 : List UInt8 := dkwX3_init_0 ++ dktX3_init_1
theorem dksX3_init_0 : cX3_init.data.toList.drop 0 = dktX3_init_0 := by decide +kernel
theorem dksX3_init_1 : cX3_init.data.toList.drop 23 = dktX3_init_1 := dk_seg dksX3_init_0 23 rfl rfl
theorem dksX3_init_2 : cX3_init.data.toList.drop 47 = dktX3_init_2 := dk_seg dksX3_init_1 24 rfl rfl
theorem dksX3_init_3 : cX3_init.data.toList.drop 69 = dktX3_init_3 := dk_seg dksX3_init_2 22 rfl rfl
theorem dksX3_init_4 : cX3_init.data.toList.drop 92 = dktX3_init_4 := dk_seg dksX3_init_3 23 rfl rfl
theorem dksX3_init_5 : cX3_init.data.toList.drop 116 = dktX3_init_5 := dk_seg dksX3_init_4 24 rfl rfl
theorem dksX3_init_6 : cX3_init.data.toList.drop 139 = dktX3_init_6 := dk_seg dksX3_init_5 23 rfl rfl
theorem dX3_init_0 : decode cX3_init 0 = .ok (.aload_n 0, 1) := dk_42 (dk_at dksX3_init_0 0 rfl rfl)
theorem dX3_init_1 : decode cX3_init 1 = .ok (.invokespecial 64, 3) := dk_183 0 64 (dk_at dksX3_init_0 1 rfl rfl)
theorem dX3_init_4 : decode cX3_init 4 = .ok (.aload_n 0, 1) := dk_42 (dk_at dksX3_init_0 4 rfl rfl)
theorem dX3_init_5 : decode cX3_init 5 = .ok (.new 67, 3) := dk_187 0 67 (dk_at dksX3_init_0 5 rfl rfl)
theorem dX3_init_8 : decode cX3_init 8 = .ok (.dup, 1) := dk_89 (dk_at dksX3_init_0 8 rfl rfl)
theorem dX3_init_9 : decode cX3_init 9 = .ok (.invokespecial 69, 3) := dk_183 0 69 (dk_at dksX3_init_0 9 rfl rfl)
theorem dX3_init_12 : decode cX3_init 12 = .ok (.putfield 70, 3) := dk_181 0 70 (dk_at dksX3_init_0 12 rfl rfl)
theorem dX3_init_15 : decode cX3_init 15 = .ok (.aload_n 0, 1) := dk_42 (dk_at dksX3_init_0 15 rfl rfl)
theorem dX3_init_16 : decode cX3_init 16 = .ok (.new 67, 3) := dk_187 0 67 (dk_at dksX3_init_0 16 rfl rfl)
theorem dX3_init_19 : decode cX3_init 19 = .ok (.dup, 1) := dk_89 (dk_at dksX3_init_0 19 rfl rfl)
theorem dX3_init_20 : decode cX3_init 20 = .ok (.invokespecial 69, 3) := dk_183 0 69 (dk_at dksX3_init_0 20 rfl rfl)
theorem dX3_init_23 : decode cX3_init 23 = .ok (.putfield 74, 3) := dk_181 0 74 (dk_at dksX3_init_1 0 rfl rfl)
theorem dX3_init_26 : decode cX3_init 26 = .ok (.aload_n 0, 1) := dk_42 (dk_at dksX3_init_1 3 rfl rfl)
theorem dX3_init_27 : decode cX3_init 27 = .ok (.ldc 77, 2) := dk_18 77 (dk_at dksX3_init_1 4 rfl rfl)
theorem dX3_init_29 : decode cX3_init 29 = .ok (.putfield 79, 3) := dk_181 0 79 (dk_at dksX3_init_1 6 rfl rfl)
theorem dX3_init_32 : decode cX3_init 32 = .ok (.aload_n 0, 1) := dk_42 (dk_at dksX3_init_1 9 rfl rfl)
theorem dX3_init_33 : decode cX3_init 33 = .ok (.iconst 4, 1) := dk_7 (dk_at dksX3_init_1 10 rfl rfl)
theorem dX3_init_34 : decode cX3_init 34 = .ok (.anewarray 83, 3) := dk_189 0 83 (dk_at dksX3_init_1 11 rfl rfl)
theorem dX3_init_37 : decode cX3_init 37 = .ok (.dup, 1) := dk_89 (dk_at dksX3_init_1 14 rfl rfl)
theorem dX3_init_38 : decode cX3_init 38 = .ok (.iconst 0, 1) := dk_3 (dk_at dksX3_init_1 15 rfl rfl)
theorem dX3_init_39 : decode cX3_init 39 = .ok (.new 83, 3) := dk_187 0 83 (dk_at dksX3_init_1 16 rfl rfl)
theorem dX3_init_42 : decode cX3_init 42 = .ok (.dup, 1) := dk_89 (dk_at dksX3_init_1 19 rfl rfl)
theorem dX3_init_43 : decode cX3_init 43 = .ok (.invokespecial 85, 3) := dk_183 0 85 (dk_at dksX3_init_1 20 rfl rfl)
theorem dX3_init_46 : decode cX3_init 46 = .ok (.aastore, 1) := dk_83 (dk_at dksX3_init_1 23 rfl rfl)
theorem dX3_init_47 : decode cX3_init 47 = .ok (.dup, 1) := dk_89 (dk_at dksX3_init_2 0 rfl rfl)
theorem dX3_init_48 : decode cX3_init 48 = .ok (.iconst 1, 1) := dk_4 (dk_at dksX3_init_2 1 rfl rfl)
theorem dX3_init_49 : decode cX3_init 49 = .ok (.new 83, 3) := dk_187 0 83 (dk_at dksX3_init_2 2 rfl rfl)
theorem dX3_init_52 : decode cX3_init 52 = .ok (.dup, 1) := dk_89 (dk_at dksX3_init_2 5 rfl rfl)
theorem dX3_init_53 : decode cX3_init 53 = .ok (.invokespecial 85, 3) := dk_183 0 85 (dk_at dksX3_init_2 6 rfl rfl)
theorem dX3_init_56 : decode cX3_init 56 = .ok (.aastore, 1) := dk_83 (dk_at dksX3_init_2 9 rfl rfl)
theorem dX3_init_57 : decode cX3_init 57 = .ok (.dup, 1) := dk_89 (dk_at dksX3_init_2 10 rfl rfl)
theorem dX3_init_58 : decode cX3_init 58 = .ok (.iconst 2, 1) := dk_5 (dk_at dksX3_init_2 11 rfl rfl)
theorem dX3_init_59 : decode cX3_init 59 = .ok (.new 83, 3) := dk_187 0 83 (dk_at dksX3_init_2 12 rfl rfl)
theorem dX3_init_62 : decode cX3_init 62 = .ok (.dup, 1) := dk_89 (dk_at dksX3_init_2 15 rfl rfl)
theorem dX3_init_63 : decode cX3_init 63 = .ok (.invokespecial 85, 3) := dk_183 0 85 (dk_at dksX3_init_2 16 rfl rfl)
theorem dX3_init_66 : decode cX3_init 66 = .ok (.aastore, 1) := dk_83 (dk_at dksX3_init_2 19 rfl rfl)
theorem dX3_init_67 : decode cX3_init 67 = .ok (.dup, 1) := dk_89 (dk_at dksX3_init_2 20 rfl rfl)
theorem dX3_init_68 : decode cX3_init 68 = .ok (.iconst 3, 1) := dk_6 (dk_at dksX3_init_2 21 rfl rfl)
theorem dX3_init_69 : decode cX3_init 69 = .ok (.new 83, 3) := dk_187 0 83 (dk_at dksX3_init_3 0 rfl rfl)
theorem dX3_init_72 : decode cX3_init 72 = .ok (.dup, 1) := dk_89 (dk_at dksX3_init_3 3 rfl rfl)
theorem dX3_init_73 : decode cX3_init 73 = .ok (.invokespecial 85, 3) := dk_183 0 85 (dk_at dksX3_init_3 4 rfl rfl)
theorem dX3_init_76 : decode cX3_init 76 = .ok (.aastore, 1) := dk_83 (dk_at dksX3_init_3 7 rfl rfl)
theorem dX3_init_77 : decode cX3_init 77 = .ok (.putfield 86, 3) := dk_181 0 86 (dk_at dksX3_init_3 8 rfl rfl)
theorem dX3_init_80 : decode cX3_init 80 = .ok (.aload_n 0, 1) := dk_42 (dk_at dksX3_init_3 11 rfl rfl)
theorem dX3_init_81 : decode cX3_init 81 = .ok (.new 90, 3) := dk_187 0 90 (dk_at dksX3_init_3 12 rfl rfl)
theorem dX3_init_84 : decode cX3_init 84 = .ok (.dup, 1) := dk_89 (dk_at dksX3_init_3 15 rfl rfl)
theorem dX3_init_85 : decode cX3_init 85 = .ok (.invokespecial 92, 3) := dk_183 0 92 (dk_at dksX3_init_3 16 rfl rfl)
theorem dX3_init_88 : decode cX3_init 88 = .ok (.putfield 93, 3) := dk_181 0 93 (dk_at dksX3_init_3 19 rfl rfl)
theorem dX3_init_91 : decode cX3_init 91 = .ok (.aload_n 0, 1) := dk_42 (dk_at dksX3_init_3 22 rfl rfl)
theorem dX3_init_92 : decode cX3_init 92 = .ok (.ldc 77, 2) := dk_18 77 (dk_at dksX3_init_4 0 rfl rfl)
theorem dX3_init_94 : decode cX3_init 94 = .ok (.putfield 97, 3) := dk_181 0 97 (dk_at dksX3_init_4 2 rfl rfl)
theorem dX3_init_97 : decode cX3_init 97 = .ok (.aload_n 0, 1) := dk_42 (dk_at dksX3_init_4 5 rfl rfl)
theorem dX3_init_98 : decode cX3_init 98 = .ok (.new 67, 3) := dk_187 0 67 (dk_at dksX3_init_4 6 rfl rfl)
theorem dX3_init_101 : decode cX3_init 101 = .ok (.dup, 1) := dk_89 (dk_at dksX3_init_4 9 rfl rfl)
theorem dX3_init_102 : decode cX3_init 102 = .ok (.invokespecial 69, 3) := dk_183 0 69 (dk_at dksX3_init_4 10 rfl rfl)
theorem dX3_init_105 : decode cX3_init 105 = .ok (.putfield 100, 3) := dk_181 0 100 (dk_at dksX3_init_4 13 rfl rfl)
theorem dX3_init_108 : decode cX3_init 108 = .ok (.aload_n 0, 1) := dk_42 (dk_at dksX3_init_4 16 rfl rfl)
theorem dX3_init_109 : decode cX3_init 109 = .ok (.new 67, 3) := dk_187 0 67 (dk_at dksX3_init_4 17 rfl rfl)
theorem dX3_init_112 : decode cX3_init 112 = .ok (.dup, 1) := dk_89 (dk_at dksX3_init_4 20 rfl rfl)
theorem dX3_init_113 : decode cX3_init 113 = .ok (.invokespecial 69, 3) := dk_183 0 69 (dk_at dksX3_init_4 21 rfl rfl)
theorem dX3_init_116 : decode cX3_init 116 = .ok (.putfield 103, 3) := dk_181 0 103 (dk_at dksX3_init_5 0 rfl rfl)
theorem dX3_init_119 : decode cX3_init 119 = .ok (.aload_n 0, 1) := dk_42 (dk_at dksX3_init_5 3 rfl rfl)
theorem dX3_init_120 : decode cX3_init 120 = .ok (.new 67, 3) := dk_187 0 67 (dk_at dksX3_init_5 4 rfl rfl)
theorem dX3_init_123 : decode cX3_init 123 = .ok (.dup, 1) := dk_89 (dk_at dksX3_init_5 7 rfl rfl)
theorem dX3_init_124 : decode cX3_init 124 = .ok (.invokespecial 69, 3) := dk_183 0 69 (dk_at dksX3_init_5 8 rfl rfl)
theorem dX3_init_127 : decode cX3_init 127 = .ok (.putfield 106, 3) := dk_181 0 106 (dk_at dksX3_init_5 11 rfl rfl)
theorem dX3_init_130 : decode cX3_init 130 = .ok (.aload_n 0, 1) := dk_42 (dk_at dksX3_init_5 14 rfl rfl)
theorem dX3_init_131 : decode cX3_init 131 = .ok (.bipush 40, 2) := dk_16 40 (dk_at dksX3_init_5 15 rfl rfl)
theorem dX3_init_133 : decode cX3_init 133 = .ok (.putfield 109, 3) := dk_181 0 109 (dk_at dksX3_init_5 17 rfl rfl)
theorem dX3_init_136 : decode cX3_init 136 = .ok (.aload_n 0, 1) := dk_42 (dk_at dksX3_init_5 20 rfl rfl)
theorem dX3_init_137 : decode cX3_init 137 = .ok (.bipush 10, 2) := dk_16 10 (dk_at dksX3_init_5 21 rfl rfl)
theorem dX3_init_139 : decode cX3_init 139 = .ok (.putfield 113, 3) := dk_181 0 113 (dk_at dksX3_init_6 0 rfl rfl)
theorem dX3_init_142 : decode cX3_init 142 = .ok (.aload_n 0, 1) := dk_42 (dk_at dksX3_init_6 3 rfl rfl)
theorem dX3_init_143 : decode cX3_init 143 = .ok (.new 116, 3) := dk_187 0 116 (dk_at dksX3_init_6 4 rfl rfl)
theorem dX3_init_146 : decode cX3_init 146 = .ok (.dup, 1) := dk_89 (dk_at dksX3_init_6 7 rfl rfl)
theorem dX3_init_147 : decode cX3_init 147 = .ok (.invokespecial 118, 3) := dk_183 0 118 (dk_at dksX3_init_6 8 rfl rfl)
theorem dX3_init_150 : decode cX3_init 150 = .ok (.putfield 119, 3) := dk_181 0 119 (dk_at dksX3_init_6 11 rfl rfl)
theorem dX3_init_153 : decode cX3_init 153 = .ok (.aload_n 0, 1) := dk_42 (dk_at dksX3_init_6 14 rfl rfl)
theorem dX3_init_154 : decode cX3_init 154 = .ok (.iconst 0, 1) := dk_3 (dk_at dksX3_init_6 15 rfl rfl)
theorem dX3_init_155 : decode cX3_init 155 = .ok (.putfield 123, 3) := dk_181 0 123 (dk_at dksX3_init_6 16 rfl rfl)
theorem dX3_init_158 : decode cX3_init 158 = .ok (.return_, 1) := dk_177 (dk_at dksX3_init_6 19 rfl rfl)
abbrev cX3_thrown : ByteArray := prog_16_method_10_code
def yX3_thrown : MethodName := ⟨RX3, "thrown", "()I"⟩
theorem dX3_thrown_0 : decode cX3_thrown 0 = .ok (.aload_n 0, 1) := by decide +kernel
theorem dX3_thrown_1 : decode cX3_thrown 1 = .ok (.getfield 123, 3) := by decide +kernel
theorem dX3_thrown_4 : decode cX3_thrown 4 = .ok (.ireturn, 1) := by decide +kernel
abbrev cX3_mode : ByteArray := prog_16_method_17_code
def yX3_mode : MethodName := ⟨RX3, "mode", "(C)Z"⟩
def dkwX3_mode_3 : List UInt8 := [42, 180, 0, 211, 159, 0, 7, 4, 167, 0, 4, 3, 172]
abbrev dktX3_mode_3 : List UInt8 := dkwX3_mode_3 ++ []
def dkwX3_mode_2 : List UInt8 := [16, 102, 160, 0, 7, 4, 167, 0, 4, 3, 181, 0, 211, 42, 3, 181, 0, 214, 42, 3, 181, 0, 217, 28]
abbrev dktX3_mode_2 : List UInt8 := dkwX3_mode_2 ++ dktX3_mode_3
def dkwX3_mode_1 : List UInt8 := [5, 167, 0, 4, 3, 181, 0, 123, 42, 180, 0, 123, 158, 0, 5, 3, 172, 42, 180, 0, 211, 61, 42, 27]
abbrev dktX3_mode_1 : List UInt8 := dkwX3_mode_1 ++ dktX3_mode_2
def dkwX3_mode_0 : List UInt8 := [42, 27, 16, 108, 159, 0, 13, 27, 16, 102, 159, 0, 7, 4, 167, 0, 15, 42, 180, 0, 208, 153, 0, 7]
abbrev dktX3_mode_0 : List UInt8 := dkwX3_mode_0 ++ dktX3_mode_1
theorem dksX3_mode_0 : cX3_mode.data.toList.drop 0 = dktX3_mode_0 := by decide +kernel
theorem dksX3_mode_1 : cX3_mode.data.toList.drop 24 = dktX3_mode_1 := dk_seg dksX3_mode_0 24 rfl rfl
theorem dksX3_mode_2 : cX3_mode.data.toList.drop 48 = dktX3_mode_2 := dk_seg dksX3_mode_1 24 rfl rfl
theorem dksX3_mode_3 : cX3_mode.data.toList.drop 72 = dktX3_mode_3 := dk_seg dksX3_mode_2 24 rfl rfl
theorem dX3_mode_0 : decode cX3_mode 0 = .ok (.aload_n 0, 1) := dk_42 (dk_at dksX3_mode_0 0 rfl rfl)
theorem dX3_mode_1 : decode cX3_mode 1 = .ok (.iload_n 1, 1) := dk_27 (dk_at dksX3_mode_0 1 rfl rfl)
theorem dX3_mode_2 : decode cX3_mode 2 = .ok (.bipush 108, 2) := dk_16 108 (dk_at dksX3_mode_0 2 rfl rfl)
theorem dX3_mode_4 : decode cX3_mode 4 = .ok (.if_icmp .eq 13, 3) := dk_159 0 13 (dk_at dksX3_mode_0 4 rfl rfl)
theorem dX3_mode_7 : decode cX3_mode 7 = .ok (.iload_n 1, 1) := dk_27 (dk_at dksX3_mode_0 7 rfl rfl)
theorem dX3_mode_8 : decode cX3_mode 8 = .ok (.bipush 102, 2) := dk_16 102 (dk_at dksX3_mode_0 8 rfl rfl)
theorem dX3_mode_10 : decode cX3_mode 10 = .ok (.if_icmp .eq 7, 3) := dk_159 0 7 (dk_at dksX3_mode_0 10 rfl rfl)
theorem dX3_mode_13 : decode cX3_mode 13 = .ok (.iconst 1, 1) := dk_4 (dk_at dksX3_mode_0 13 rfl rfl)
theorem dX3_mode_14 : decode cX3_mode 14 = .ok (.goto 15, 3) := dk_167 0 15 (dk_at dksX3_mode_0 14 rfl rfl)
theorem dX3_mode_17 : decode cX3_mode 17 = .ok (.aload_n 0, 1) := dk_42 (dk_at dksX3_mode_0 17 rfl rfl)
theorem dX3_mode_18 : decode cX3_mode 18 = .ok (.getfield 208, 3) := dk_180 0 208 (dk_at dksX3_mode_0 18 rfl rfl)
theorem dX3_mode_21 : decode cX3_mode 21 = .ok (.ifCond .eq 7, 3) := dk_153 0 7 (dk_at dksX3_mode_0 21 rfl rfl)
theorem dX3_mode_24 : decode cX3_mode 24 = .ok (.iconst 2, 1) := dk_5 (dk_at dksX3_mode_1 0 rfl rfl)
theorem dX3_mode_25 : decode cX3_mode 25 = .ok (.goto 4, 3) := dk_167 0 4 (dk_at dksX3_mode_1 1 rfl rfl)
theorem dX3_mode_28 : decode cX3_mode 28 = .ok (.iconst 0, 1) := dk_3 (dk_at dksX3_mode_1 4 rfl rfl)
theorem dX3_mode_29 : decode cX3_mode 29 = .ok (.putfield 123, 3) := dk_181 0 123 (dk_at dksX3_mode_1 5 rfl rfl)
theorem dX3_mode_32 : decode cX3_mode 32 = .ok (.aload_n 0, 1) := dk_42 (dk_at dksX3_mode_1 8 rfl rfl)
theorem dX3_mode_33 : decode cX3_mode 33 = .ok (.getfield 123, 3) := dk_180 0 123 (dk_at dksX3_mode_1 9 rfl rfl)
theorem dX3_mode_36 : decode cX3_mode 36 = .ok (.ifCond .le 5, 3) := dk_158 0 5 (dk_at dksX3_mode_1 12 rfl rfl)
theorem dX3_mode_39 : decode cX3_mode 39 = .ok (.iconst 0, 1) := dk_3 (dk_at dksX3_mode_1 15 rfl rfl)
theorem dX3_mode_40 : decode cX3_mode 40 = .ok (.ireturn, 1) := dk_172 (dk_at dksX3_mode_1 16 rfl rfl)
theorem dX3_mode_41 : decode cX3_mode 41 = .ok (.aload_n 0, 1) := dk_42 (dk_at dksX3_mode_1 17 rfl rfl)
theorem dX3_mode_42 : decode cX3_mode 42 = .ok (.getfield 211, 3) := dk_180 0 211 (dk_at dksX3_mode_1 18 rfl rfl)
theorem dX3_mode_45 : decode cX3_mode 45 = .ok (.istore_n 2, 1) := dk_61 (dk_at dksX3_mode_1 21 rfl rfl)
theorem dX3_mode_46 : decode cX3_mode 46 = .ok (.aload_n 0, 1) := dk_42 (dk_at dksX3_mode_1 22 rfl rfl)
theorem dX3_mode_47 : decode cX3_mode 47 = .ok (.iload_n 1, 1) := dk_27 (dk_at dksX3_mode_1 23 rfl rfl)
theorem dX3_mode_48 : decode cX3_mode 48 = .ok (.bipush 102, 2) := dk_16 102 (dk_at dksX3_mode_2 0 rfl rfl)
theorem dX3_mode_50 : decode cX3_mode 50 = .ok (.if_icmp .ne 7, 3) := dk_160 0 7 (dk_at dksX3_mode_2 2 rfl rfl)
theorem dX3_mode_53 : decode cX3_mode 53 = .ok (.iconst 1, 1) := dk_4 (dk_at dksX3_mode_2 5 rfl rfl)
theorem dX3_mode_54 : decode cX3_mode 54 = .ok (.goto 4, 3) := dk_167 0 4 (dk_at dksX3_mode_2 6 rfl rfl)
theorem dX3_mode_57 : decode cX3_mode 57 = .ok (.iconst 0, 1) := dk_3 (dk_at dksX3_mode_2 9 rfl rfl)
theorem dX3_mode_58 : decode cX3_mode 58 = .ok (.putfield 211, 3) := dk_181 0 211 (dk_at dksX3_mode_2 10 rfl rfl)
theorem dX3_mode_61 : decode cX3_mode 61 = .ok (.aload_n 0, 1) := dk_42 (dk_at dksX3_mode_2 13 rfl rfl)
theorem dX3_mode_62 : decode cX3_mode 62 = .ok (.iconst 0, 1) := dk_3 (dk_at dksX3_mode_2 14 rfl rfl)
theorem dX3_mode_63 : decode cX3_mode 63 = .ok (.putfield 214, 3) := dk_181 0 214 (dk_at dksX3_mode_2 15 rfl rfl)
theorem dX3_mode_66 : decode cX3_mode 66 = .ok (.aload_n 0, 1) := dk_42 (dk_at dksX3_mode_2 18 rfl rfl)
theorem dX3_mode_67 : decode cX3_mode 67 = .ok (.iconst 0, 1) := dk_3 (dk_at dksX3_mode_2 19 rfl rfl)
theorem dX3_mode_68 : decode cX3_mode 68 = .ok (.putfield 217, 3) := dk_181 0 217 (dk_at dksX3_mode_2 20 rfl rfl)
theorem dX3_mode_71 : decode cX3_mode 71 = .ok (.iload_n 2, 1) := dk_28 (dk_at dksX3_mode_2 23 rfl rfl)
theorem dX3_mode_72 : decode cX3_mode 72 = .ok (.aload_n 0, 1) := dk_42 (dk_at dksX3_mode_3 0 rfl rfl)
theorem dX3_mode_73 : decode cX3_mode 73 = .ok (.getfield 211, 3) := dk_180 0 211 (dk_at dksX3_mode_3 1 rfl rfl)
theorem dX3_mode_76 : decode cX3_mode 76 = .ok (.if_icmp .eq 7, 3) := dk_159 0 7 (dk_at dksX3_mode_3 4 rfl rfl)
theorem dX3_mode_79 : decode cX3_mode 79 = .ok (.iconst 1, 1) := dk_4 (dk_at dksX3_mode_3 7 rfl rfl)
theorem dX3_mode_80 : decode cX3_mode 80 = .ok (.goto 4, 3) := dk_167 0 4 (dk_at dksX3_mode_3 8 rfl rfl)
theorem dX3_mode_83 : decode cX3_mode 83 = .ok (.iconst 0, 1) := dk_3 (dk_at dksX3_mode_3 11 rfl rfl)
theorem dX3_mode_84 : decode cX3_mode 84 = .ok (.ireturn, 1) := dk_172 (dk_at dksX3_mode_3 12 rfl rfl)
abbrev cX3_down : ByteArray := prog_16_method_18_code
def yX3_down : MethodName := ⟨RX3, "down", "(I)I"⟩
def dkwX3_down_3 : List UInt8 := [181, 0, 214, 42, 180, 0, 208, 184, 0, 224, 172]
abbrev dktX3_down_3 : List UInt8 := dkwX3_down_3 ++ []
def dkwX3_down_2 : List UInt8 := [180, 0, 208, 4, 27, 120, 128, 181, 0, 208, 42, 89, 180, 0, 217, 4, 27, 120, 128, 181, 0, 217, 42, 4]
abbrev dktX3_down_2 : List UInt8 := dkwX3_down_2 ++ dktX3_down_3
def dkwX3_down_1 : List UInt8 := [160, 0, 7, 5, 167, 0, 4, 3, 181, 0, 123, 42, 180, 0, 123, 158, 0, 5, 3, 172, 42, 89]
abbrev dktX3_down_1 : List UInt8 := dkwX3_down_1 ++ dktX3_down_2
def dkwX3_down_0 : List UInt8 := [42, 27, 3, 16, 15, 184, 0, 220, 154, 0, 7, 4, 167, 0, 20, 42, 180, 0, 208, 27, 122, 4, 126, 4]
abbrev dktX3_down_0 : List UInt8 := dkwX3_down_0 ++ dktX3_down_1
theorem dksX3_down_0 : cX3_down.data.toList.drop 0 = dktX3_down_0 := by decide +kernel
theorem dksX3_down_1 : cX3_down.data.toList.drop 24 = dktX3_down_1 := dk_seg dksX3_down_0 24 rfl rfl
theorem dksX3_down_2 : cX3_down.data.toList.drop 46 = dktX3_down_2 := dk_seg dksX3_down_1 22 rfl rfl
theorem dksX3_down_3 : cX3_down.data.toList.drop 70 = dktX3_down_3 := dk_seg dksX3_down_2 24 rfl rfl
theorem dX3_down_0 : decode cX3_down 0 = .ok (.aload_n 0, 1) := dk_42 (dk_at dksX3_down_0 0 rfl rfl)
theorem dX3_down_1 : decode cX3_down 1 = .ok (.iload_n 1, 1) := dk_27 (dk_at dksX3_down_0 1 rfl rfl)
theorem dX3_down_2 : decode cX3_down 2 = .ok (.iconst 0, 1) := dk_3 (dk_at dksX3_down_0 2 rfl rfl)
theorem dX3_down_3 : decode cX3_down 3 = .ok (.bipush 15, 2) := dk_16 15 (dk_at dksX3_down_0 3 rfl rfl)
theorem dX3_down_5 : decode cX3_down 5 = .ok (.invokestatic 220, 3) := dk_184 0 220 (dk_at dksX3_down_0 5 rfl rfl)
theorem dX3_down_8 : decode cX3_down 8 = .ok (.ifCond .ne 7, 3) := dk_154 0 7 (dk_at dksX3_down_0 8 rfl rfl)
theorem dX3_down_11 : decode cX3_down 11 = .ok (.iconst 1, 1) := dk_4 (dk_at dksX3_down_0 11 rfl rfl)
theorem dX3_down_12 : decode cX3_down 12 = .ok (.goto 20, 3) := dk_167 0 20 (dk_at dksX3_down_0 12 rfl rfl)
theorem dX3_down_15 : decode cX3_down 15 = .ok (.aload_n 0, 1) := dk_42 (dk_at dksX3_down_0 15 rfl rfl)
theorem dX3_down_16 : decode cX3_down 16 = .ok (.getfield 208, 3) := dk_180 0 208 (dk_at dksX3_down_0 16 rfl rfl)
theorem dX3_down_19 : decode cX3_down 19 = .ok (.iload_n 1, 1) := dk_27 (dk_at dksX3_down_0 19 rfl rfl)
theorem dX3_down_20 : decode cX3_down 20 = .ok (.ishr, 1) := dk_122 (dk_at dksX3_down_0 20 rfl rfl)
theorem dX3_down_21 : decode cX3_down 21 = .ok (.iconst 1, 1) := dk_4 (dk_at dksX3_down_0 21 rfl rfl)
theorem dX3_down_22 : decode cX3_down 22 = .ok (.iand, 1) := dk_126 (dk_at dksX3_down_0 22 rfl rfl)
theorem dX3_down_23 : decode cX3_down 23 = .ok (.iconst 1, 1) := dk_4 (dk_at dksX3_down_0 23 rfl rfl)
theorem dX3_down_24 : decode cX3_down 24 = .ok (.if_icmp .ne 7, 3) := dk_160 0 7 (dk_at dksX3_down_1 0 rfl rfl)
theorem dX3_down_27 : decode cX3_down 27 = .ok (.iconst 2, 1) := dk_5 (dk_at dksX3_down_1 3 rfl rfl)
theorem dX3_down_28 : decode cX3_down 28 = .ok (.goto 4, 3) := dk_167 0 4 (dk_at dksX3_down_1 4 rfl rfl)
theorem dX3_down_31 : decode cX3_down 31 = .ok (.iconst 0, 1) := dk_3 (dk_at dksX3_down_1 7 rfl rfl)
theorem dX3_down_32 : decode cX3_down 32 = .ok (.putfield 123, 3) := dk_181 0 123 (dk_at dksX3_down_1 8 rfl rfl)
theorem dX3_down_35 : decode cX3_down 35 = .ok (.aload_n 0, 1) := dk_42 (dk_at dksX3_down_1 11 rfl rfl)
theorem dX3_down_36 : decode cX3_down 36 = .ok (.getfield 123, 3) := dk_180 0 123 (dk_at dksX3_down_1 12 rfl rfl)
theorem dX3_down_39 : decode cX3_down 39 = .ok (.ifCond .le 5, 3) := dk_158 0 5 (dk_at dksX3_down_1 15 rfl rfl)
theorem dX3_down_42 : decode cX3_down 42 = .ok (.iconst 0, 1) := dk_3 (dk_at dksX3_down_1 18 rfl rfl)
theorem dX3_down_43 : decode cX3_down 43 = .ok (.ireturn, 1) := dk_172 (dk_at dksX3_down_1 19 rfl rfl)
theorem dX3_down_44 : decode cX3_down 44 = .ok (.aload_n 0, 1) := dk_42 (dk_at dksX3_down_1 20 rfl rfl)
theorem dX3_down_45 : decode cX3_down 45 = .ok (.dup, 1) := dk_89 (dk_at dksX3_down_1 21 rfl rfl)
theorem dX3_down_46 : decode cX3_down 46 = .ok (.getfield 208, 3) := dk_180 0 208 (dk_at dksX3_down_2 0 rfl rfl)
theorem dX3_down_49 : decode cX3_down 49 = .ok (.iconst 1, 1) := dk_4 (dk_at dksX3_down_2 3 rfl rfl)
theorem dX3_down_50 : decode cX3_down 50 = .ok (.iload_n 1, 1) := dk_27 (dk_at dksX3_down_2 4 rfl rfl)
theorem dX3_down_51 : decode cX3_down 51 = .ok (.ishl, 1) := dk_120 (dk_at dksX3_down_2 5 rfl rfl)
theorem dX3_down_52 : decode cX3_down 52 = .ok (.ior, 1) := dk_128 (dk_at dksX3_down_2 6 rfl rfl)
theorem dX3_down_53 : decode cX3_down 53 = .ok (.putfield 208, 3) := dk_181 0 208 (dk_at dksX3_down_2 7 rfl rfl)
theorem dX3_down_56 : decode cX3_down 56 = .ok (.aload_n 0, 1) := dk_42 (dk_at dksX3_down_2 10 rfl rfl)
theorem dX3_down_57 : decode cX3_down 57 = .ok (.dup, 1) := dk_89 (dk_at dksX3_down_2 11 rfl rfl)
theorem dX3_down_58 : decode cX3_down 58 = .ok (.getfield 217, 3) := dk_180 0 217 (dk_at dksX3_down_2 12 rfl rfl)
theorem dX3_down_61 : decode cX3_down 61 = .ok (.iconst 1, 1) := dk_4 (dk_at dksX3_down_2 15 rfl rfl)
theorem dX3_down_62 : decode cX3_down 62 = .ok (.iload_n 1, 1) := dk_27 (dk_at dksX3_down_2 16 rfl rfl)
theorem dX3_down_63 : decode cX3_down 63 = .ok (.ishl, 1) := dk_120 (dk_at dksX3_down_2 17 rfl rfl)
theorem dX3_down_64 : decode cX3_down 64 = .ok (.ior, 1) := dk_128 (dk_at dksX3_down_2 18 rfl rfl)
theorem dX3_down_65 : decode cX3_down 65 = .ok (.putfield 217, 3) := dk_181 0 217 (dk_at dksX3_down_2 19 rfl rfl)
theorem dX3_down_68 : decode cX3_down 68 = .ok (.aload_n 0, 1) := dk_42 (dk_at dksX3_down_2 22 rfl rfl)
theorem dX3_down_69 : decode cX3_down 69 = .ok (.iconst 1, 1) := dk_4 (dk_at dksX3_down_2 23 rfl rfl)
theorem dX3_down_70 : decode cX3_down 70 = .ok (.putfield 214, 3) := dk_181 0 214 (dk_at dksX3_down_3 0 rfl rfl)
theorem dX3_down_73 : decode cX3_down 73 = .ok (.aload_n 0, 1) := dk_42 (dk_at dksX3_down_3 3 rfl rfl)
theorem dX3_down_74 : decode cX3_down 74 = .ok (.getfield 208, 3) := dk_180 0 208 (dk_at dksX3_down_3 4 rfl rfl)
theorem dX3_down_77 : decode cX3_down 77 = .ok (.invokestatic 224, 3) := dk_184 0 224 (dk_at dksX3_down_3 7 rfl rfl)
theorem dX3_down_80 : decode cX3_down 80 = .ok (.ireturn, 1) := dk_172 (dk_at dksX3_down_3 10 rfl rfl)
abbrev cX3_in : ByteArray := prog_16_method_1_code
def yX3_in : MethodName := ⟨RX3, "in", "(III)Z"⟩
def dkwX3_in_0 : List UInt8 := [26, 27, 161, 0, 12, 26, 28, 163, 0, 7, 4, 167, 0, 4, 3, 172]
abbrev dktX3_in_0 : List UInt8 := dkwX3_in_0 ++ []
theorem dksX3_in_0 : cX3_in.data.toList.drop 0 = dktX3_in_0 := by decide +kernel
theorem dX3_in_0 : decode cX3_in 0 = .ok (.iload_n 0, 1) := dk_26 (dk_at dksX3_in_0 0 rfl rfl)
theorem dX3_in_1 : decode cX3_in 1 = .ok (.iload_n 1, 1) := dk_27 (dk_at dksX3_in_0 1 rfl rfl)
theorem dX3_in_2 : decode cX3_in 2 = .ok (.if_icmp .lt 12, 3) := dk_161 0 12 (dk_at dksX3_in_0 2 rfl rfl)
theorem dX3_in_5 : decode cX3_in 5 = .ok (.iload_n 0, 1) := dk_26 (dk_at dksX3_in_0 5 rfl rfl)
theorem dX3_in_6 : decode cX3_in 6 = .ok (.iload_n 2, 1) := dk_28 (dk_at dksX3_in_0 6 rfl rfl)
theorem dX3_in_7 : decode cX3_in 7 = .ok (.if_icmp .gt 7, 3) := dk_163 0 7 (dk_at dksX3_in_0 7 rfl rfl)
theorem dX3_in_10 : decode cX3_in 10 = .ok (.iconst 1, 1) := dk_4 (dk_at dksX3_in_0 10 rfl rfl)
theorem dX3_in_11 : decode cX3_in 11 = .ok (.goto 4, 3) := dk_167 0 4 (dk_at dksX3_in_0 11 rfl rfl)
theorem dX3_in_14 : decode cX3_in 14 = .ok (.iconst 0, 1) := dk_3 (dk_at dksX3_in_0 14 rfl rfl)
theorem dX3_in_15 : decode cX3_in 15 = .ok (.ireturn, 1) := dk_172 (dk_at dksX3_in_0 15 rfl rfl)
abbrev cX3_up : ByteArray := prog_16_method_19_code
def yX3_up : MethodName := ⟨RX3, "up", "(I)I"⟩
def dkwX3_up_7 : List UInt8 := [180, 0, 217, 181, 0, 217, 29, 153, 0, 9, 42, 29, 3, 182, 0, 227, 29, 172]
abbrev dktX3_up_7 : List UInt8 := dkwX3_up_7 ++ []
def dkwX3_up_6 : List UInt8 := [167, 0, 4, 3, 181, 0, 214, 42, 28, 181, 0, 208, 42, 28, 154, 0, 7, 3, 167, 0, 7, 42]
abbrev dktX3_up_6 : List UInt8 := dkwX3_up_6 ++ dktX3_up_7
def dkwX3_up_5 : List UInt8 := [42, 180, 0, 123, 158, 0, 5, 3, 172, 42, 29, 154, 0, 14, 42, 180, 0, 214, 153, 0, 7, 4]
abbrev dktX3_up_5 : List UInt8 := dkwX3_up_5 ++ dktX3_up_6
def dkwX3_up_4 : List UInt8 := [29, 153, 0, 19, 42, 180, 0, 70, 182, 0, 163, 16, 100, 160, 0, 7, 6, 167, 0, 4, 3, 181, 0, 123]
abbrev dktX3_up_4 : List UInt8 := dkwX3_up_4 ++ dktX3_up_5
def dkwX3_up_3 : List UInt8 := [180, 0, 208, 167, 0, 19, 3, 167, 0, 15, 28, 154, 0, 10, 42, 180, 0, 217, 167, 0, 4, 3, 62, 42]
abbrev dktX3_up_3 : List UInt8 := dkwX3_up_3 ++ dktX3_up_4
def dkwX3_up_2 : List UInt8 := [4, 27, 120, 2, 130, 126, 61, 42, 180, 0, 211, 153, 0, 21, 42, 180, 0, 214, 153, 0, 10, 42]
abbrev dktX3_up_2 : List UInt8 := dkwX3_up_2 ++ dktX3_up_3
def dkwX3_up_1 : List UInt8 := [154, 0, 7, 5, 167, 0, 4, 3, 181, 0, 123, 42, 180, 0, 123, 158, 0, 5, 3, 172, 42, 180, 0, 208]
abbrev dktX3_up_1 : List UInt8 := dkwX3_up_1 ++ dktX3_up_2
def dkwX3_up_0 : List UInt8 := [42, 27, 3, 16, 15, 184, 0, 220, 154, 0, 7, 4, 167, 0, 19, 42, 180, 0, 208, 27, 122, 4, 126]
abbrev dktX3_up_0 : List UInt8 := dkwX3_up_0 ++ dktX3_up_1
theorem dksX3_up_0 : cX3_up.data.toList.drop 0 = dktX3_up_0 := by decide +kernel
theorem dksX3_up_1 : cX3_up.data.toList.drop 23 = dktX3_up_1 := dk_seg dksX3_up_0 23 rfl rfl
theorem dksX3_up_2 : cX3_up.data.toList.drop 47 = dktX3_up_2 := dk_seg dksX3_up_1 24 rfl rfl
theorem dksX3_up_3 : cX3_up.data.toList.drop 69 = dktX3_up_3 := dk_seg dksX3_up_2 22 rfl rfl
theorem dksX3_up_4 : cX3_up.data.toList.drop 93 = dktX3_up_4 := dk_seg dksX3_up_3 24 rfl rfl
theorem dksX3_up_5 : cX3_up.data.toList.drop 117 = dktX3_up_5 := dk_seg dksX3_up_4 24 rfl rfl
theorem dksX3_up_6 : cX3_up.data.toList.drop 139 = dktX3_up_6 := dk_seg dksX3_up_5 22 rfl rfl
theorem dksX3_up_7 : cX3_up.data.toList.drop 161 = dktX3_up_7 := dk_seg dksX3_up_6 22 rfl rfl
theorem dX3_up_0 : decode cX3_up 0 = .ok (.aload_n 0, 1) := dk_42 (dk_at dksX3_up_0 0 rfl rfl)
theorem dX3_up_1 : decode cX3_up 1 = .ok (.iload_n 1, 1) := dk_27 (dk_at dksX3_up_0 1 rfl rfl)
theorem dX3_up_2 : decode cX3_up 2 = .ok (.iconst 0, 1) := dk_3 (dk_at dksX3_up_0 2 rfl rfl)
theorem dX3_up_3 : decode cX3_up 3 = .ok (.bipush 15, 2) := dk_16 15 (dk_at dksX3_up_0 3 rfl rfl)
theorem dX3_up_5 : decode cX3_up 5 = .ok (.invokestatic 220, 3) := dk_184 0 220 (dk_at dksX3_up_0 5 rfl rfl)
theorem dX3_up_8 : decode cX3_up 8 = .ok (.ifCond .ne 7, 3) := dk_154 0 7 (dk_at dksX3_up_0 8 rfl rfl)
theorem dX3_up_11 : decode cX3_up 11 = .ok (.iconst 1, 1) := dk_4 (dk_at dksX3_up_0 11 rfl rfl)
theorem dX3_up_12 : decode cX3_up 12 = .ok (.goto 19, 3) := dk_167 0 19 (dk_at dksX3_up_0 12 rfl rfl)
theorem dX3_up_15 : decode cX3_up 15 = .ok (.aload_n 0, 1) := dk_42 (dk_at dksX3_up_0 15 rfl rfl)
theorem dX3_up_16 : decode cX3_up 16 = .ok (.getfield 208, 3) := dk_180 0 208 (dk_at dksX3_up_0 16 rfl rfl)
theorem dX3_up_19 : decode cX3_up 19 = .ok (.iload_n 1, 1) := dk_27 (dk_at dksX3_up_0 19 rfl rfl)
theorem dX3_up_20 : decode cX3_up 20 = .ok (.ishr, 1) := dk_122 (dk_at dksX3_up_0 20 rfl rfl)
theorem dX3_up_21 : decode cX3_up 21 = .ok (.iconst 1, 1) := dk_4 (dk_at dksX3_up_0 21 rfl rfl)
theorem dX3_up_22 : decode cX3_up 22 = .ok (.iand, 1) := dk_126 (dk_at dksX3_up_0 22 rfl rfl)
theorem dX3_up_23 : decode cX3_up 23 = .ok (.ifCond .ne 7, 3) := dk_154 0 7 (dk_at dksX3_up_1 0 rfl rfl)
theorem dX3_up_26 : decode cX3_up 26 = .ok (.iconst 2, 1) := dk_5 (dk_at dksX3_up_1 3 rfl rfl)
theorem dX3_up_27 : decode cX3_up 27 = .ok (.goto 4, 3) := dk_167 0 4 (dk_at dksX3_up_1 4 rfl rfl)
theorem dX3_up_30 : decode cX3_up 30 = .ok (.iconst 0, 1) := dk_3 (dk_at dksX3_up_1 7 rfl rfl)
theorem dX3_up_31 : decode cX3_up 31 = .ok (.putfield 123, 3) := dk_181 0 123 (dk_at dksX3_up_1 8 rfl rfl)
theorem dX3_up_34 : decode cX3_up 34 = .ok (.aload_n 0, 1) := dk_42 (dk_at dksX3_up_1 11 rfl rfl)
theorem dX3_up_35 : decode cX3_up 35 = .ok (.getfield 123, 3) := dk_180 0 123 (dk_at dksX3_up_1 12 rfl rfl)
theorem dX3_up_38 : decode cX3_up 38 = .ok (.ifCond .le 5, 3) := dk_158 0 5 (dk_at dksX3_up_1 15 rfl rfl)
theorem dX3_up_41 : decode cX3_up 41 = .ok (.iconst 0, 1) := dk_3 (dk_at dksX3_up_1 18 rfl rfl)
theorem dX3_up_42 : decode cX3_up 42 = .ok (.ireturn, 1) := dk_172 (dk_at dksX3_up_1 19 rfl rfl)
theorem dX3_up_43 : decode cX3_up 43 = .ok (.aload_n 0, 1) := dk_42 (dk_at dksX3_up_1 20 rfl rfl)
theorem dX3_up_44 : decode cX3_up 44 = .ok (.getfield 208, 3) := dk_180 0 208 (dk_at dksX3_up_1 21 rfl rfl)
theorem dX3_up_47 : decode cX3_up 47 = .ok (.iconst 1, 1) := dk_4 (dk_at dksX3_up_2 0 rfl rfl)
theorem dX3_up_48 : decode cX3_up 48 = .ok (.iload_n 1, 1) := dk_27 (dk_at dksX3_up_2 1 rfl rfl)
theorem dX3_up_49 : decode cX3_up 49 = .ok (.ishl, 1) := dk_120 (dk_at dksX3_up_2 2 rfl rfl)
theorem dX3_up_50 : decode cX3_up 50 = .ok (.iconst (-1), 1) := dk_2 (dk_at dksX3_up_2 3 rfl rfl)
theorem dX3_up_51 : decode cX3_up 51 = .ok (.ixor, 1) := dk_130 (dk_at dksX3_up_2 4 rfl rfl)
theorem dX3_up_52 : decode cX3_up 52 = .ok (.iand, 1) := dk_126 (dk_at dksX3_up_2 5 rfl rfl)
theorem dX3_up_53 : decode cX3_up 53 = .ok (.istore_n 2, 1) := dk_61 (dk_at dksX3_up_2 6 rfl rfl)
theorem dX3_up_54 : decode cX3_up 54 = .ok (.aload_n 0, 1) := dk_42 (dk_at dksX3_up_2 7 rfl rfl)
theorem dX3_up_55 : decode cX3_up 55 = .ok (.getfield 211, 3) := dk_180 0 211 (dk_at dksX3_up_2 8 rfl rfl)
theorem dX3_up_58 : decode cX3_up 58 = .ok (.ifCond .eq 21, 3) := dk_153 0 21 (dk_at dksX3_up_2 11 rfl rfl)
theorem dX3_up_61 : decode cX3_up 61 = .ok (.aload_n 0, 1) := dk_42 (dk_at dksX3_up_2 14 rfl rfl)
theorem dX3_up_62 : decode cX3_up 62 = .ok (.getfield 214, 3) := dk_180 0 214 (dk_at dksX3_up_2 15 rfl rfl)
theorem dX3_up_65 : decode cX3_up 65 = .ok (.ifCond .eq 10, 3) := dk_153 0 10 (dk_at dksX3_up_2 18 rfl rfl)
theorem dX3_up_68 : decode cX3_up 68 = .ok (.aload_n 0, 1) := dk_42 (dk_at dksX3_up_2 21 rfl rfl)
theorem dX3_up_69 : decode cX3_up 69 = .ok (.getfield 208, 3) := dk_180 0 208 (dk_at dksX3_up_3 0 rfl rfl)
theorem dX3_up_72 : decode cX3_up 72 = .ok (.goto 19, 3) := dk_167 0 19 (dk_at dksX3_up_3 3 rfl rfl)
theorem dX3_up_75 : decode cX3_up 75 = .ok (.iconst 0, 1) := dk_3 (dk_at dksX3_up_3 6 rfl rfl)
theorem dX3_up_76 : decode cX3_up 76 = .ok (.goto 15, 3) := dk_167 0 15 (dk_at dksX3_up_3 7 rfl rfl)
theorem dX3_up_79 : decode cX3_up 79 = .ok (.iload_n 2, 1) := dk_28 (dk_at dksX3_up_3 10 rfl rfl)
theorem dX3_up_80 : decode cX3_up 80 = .ok (.ifCond .ne 10, 3) := dk_154 0 10 (dk_at dksX3_up_3 11 rfl rfl)
theorem dX3_up_83 : decode cX3_up 83 = .ok (.aload_n 0, 1) := dk_42 (dk_at dksX3_up_3 14 rfl rfl)
theorem dX3_up_84 : decode cX3_up 84 = .ok (.getfield 217, 3) := dk_180 0 217 (dk_at dksX3_up_3 15 rfl rfl)
theorem dX3_up_87 : decode cX3_up 87 = .ok (.goto 4, 3) := dk_167 0 4 (dk_at dksX3_up_3 18 rfl rfl)
theorem dX3_up_90 : decode cX3_up 90 = .ok (.iconst 0, 1) := dk_3 (dk_at dksX3_up_3 21 rfl rfl)
theorem dX3_up_91 : decode cX3_up 91 = .ok (.istore_n 3, 1) := dk_62 (dk_at dksX3_up_3 22 rfl rfl)
theorem dX3_up_92 : decode cX3_up 92 = .ok (.aload_n 0, 1) := dk_42 (dk_at dksX3_up_3 23 rfl rfl)
theorem dX3_up_93 : decode cX3_up 93 = .ok (.iload_n 3, 1) := dk_29 (dk_at dksX3_up_4 0 rfl rfl)
theorem dX3_up_94 : decode cX3_up 94 = .ok (.ifCond .eq 19, 3) := dk_153 0 19 (dk_at dksX3_up_4 1 rfl rfl)
theorem dX3_up_97 : decode cX3_up 97 = .ok (.aload_n 0, 1) := dk_42 (dk_at dksX3_up_4 4 rfl rfl)
theorem dX3_up_98 : decode cX3_up 98 = .ok (.getfield 70, 3) := dk_180 0 70 (dk_at dksX3_up_4 5 rfl rfl)
theorem dX3_up_101 : decode cX3_up 101 = .ok (.invokevirtual 163, 3) := dk_182 0 163 (dk_at dksX3_up_4 8 rfl rfl)
theorem dX3_up_104 : decode cX3_up 104 = .ok (.bipush 100, 2) := dk_16 100 (dk_at dksX3_up_4 11 rfl rfl)
theorem dX3_up_106 : decode cX3_up 106 = .ok (.if_icmp .ne 7, 3) := dk_160 0 7 (dk_at dksX3_up_4 13 rfl rfl)
theorem dX3_up_109 : decode cX3_up 109 = .ok (.iconst 3, 1) := dk_6 (dk_at dksX3_up_4 16 rfl rfl)
theorem dX3_up_110 : decode cX3_up 110 = .ok (.goto 4, 3) := dk_167 0 4 (dk_at dksX3_up_4 17 rfl rfl)
theorem dX3_up_113 : decode cX3_up 113 = .ok (.iconst 0, 1) := dk_3 (dk_at dksX3_up_4 20 rfl rfl)
theorem dX3_up_114 : decode cX3_up 114 = .ok (.putfield 123, 3) := dk_181 0 123 (dk_at dksX3_up_4 21 rfl rfl)
theorem dX3_up_117 : decode cX3_up 117 = .ok (.aload_n 0, 1) := dk_42 (dk_at dksX3_up_5 0 rfl rfl)
theorem dX3_up_118 : decode cX3_up 118 = .ok (.getfield 123, 3) := dk_180 0 123 (dk_at dksX3_up_5 1 rfl rfl)
theorem dX3_up_121 : decode cX3_up 121 = .ok (.ifCond .le 5, 3) := dk_158 0 5 (dk_at dksX3_up_5 4 rfl rfl)
theorem dX3_up_124 : decode cX3_up 124 = .ok (.iconst 0, 1) := dk_3 (dk_at dksX3_up_5 7 rfl rfl)
theorem dX3_up_125 : decode cX3_up 125 = .ok (.ireturn, 1) := dk_172 (dk_at dksX3_up_5 8 rfl rfl)
theorem dX3_up_126 : decode cX3_up 126 = .ok (.aload_n 0, 1) := dk_42 (dk_at dksX3_up_5 9 rfl rfl)
theorem dX3_up_127 : decode cX3_up 127 = .ok (.iload_n 3, 1) := dk_29 (dk_at dksX3_up_5 10 rfl rfl)
theorem dX3_up_128 : decode cX3_up 128 = .ok (.ifCond .ne 14, 3) := dk_154 0 14 (dk_at dksX3_up_5 11 rfl rfl)
theorem dX3_up_131 : decode cX3_up 131 = .ok (.aload_n 0, 1) := dk_42 (dk_at dksX3_up_5 14 rfl rfl)
theorem dX3_up_132 : decode cX3_up 132 = .ok (.getfield 214, 3) := dk_180 0 214 (dk_at dksX3_up_5 15 rfl rfl)
theorem dX3_up_135 : decode cX3_up 135 = .ok (.ifCond .eq 7, 3) := dk_153 0 7 (dk_at dksX3_up_5 18 rfl rfl)
theorem dX3_up_138 : decode cX3_up 138 = .ok (.iconst 1, 1) := dk_4 (dk_at dksX3_up_5 21 rfl rfl)
theorem dX3_up_139 : decode cX3_up 139 = .ok (.goto 4, 3) := dk_167 0 4 (dk_at dksX3_up_6 0 rfl rfl)
theorem dX3_up_142 : decode cX3_up 142 = .ok (.iconst 0, 1) := dk_3 (dk_at dksX3_up_6 3 rfl rfl)
theorem dX3_up_143 : decode cX3_up 143 = .ok (.putfield 214, 3) := dk_181 0 214 (dk_at dksX3_up_6 4 rfl rfl)
theorem dX3_up_146 : decode cX3_up 146 = .ok (.aload_n 0, 1) := dk_42 (dk_at dksX3_up_6 7 rfl rfl)
theorem dX3_up_147 : decode cX3_up 147 = .ok (.iload_n 2, 1) := dk_28 (dk_at dksX3_up_6 8 rfl rfl)
theorem dX3_up_148 : decode cX3_up 148 = .ok (.putfield 208, 3) := dk_181 0 208 (dk_at dksX3_up_6 9 rfl rfl)
theorem dX3_up_151 : decode cX3_up 151 = .ok (.aload_n 0, 1) := dk_42 (dk_at dksX3_up_6 12 rfl rfl)
theorem dX3_up_152 : decode cX3_up 152 = .ok (.iload_n 2, 1) := dk_28 (dk_at dksX3_up_6 13 rfl rfl)
theorem dX3_up_153 : decode cX3_up 153 = .ok (.ifCond .ne 7, 3) := dk_154 0 7 (dk_at dksX3_up_6 14 rfl rfl)
theorem dX3_up_156 : decode cX3_up 156 = .ok (.iconst 0, 1) := dk_3 (dk_at dksX3_up_6 17 rfl rfl)
theorem dX3_up_157 : decode cX3_up 157 = .ok (.goto 7, 3) := dk_167 0 7 (dk_at dksX3_up_6 18 rfl rfl)
theorem dX3_up_160 : decode cX3_up 160 = .ok (.aload_n 0, 1) := dk_42 (dk_at dksX3_up_6 21 rfl rfl)
theorem dX3_up_161 : decode cX3_up 161 = .ok (.getfield 217, 3) := dk_180 0 217 (dk_at dksX3_up_7 0 rfl rfl)
theorem dX3_up_164 : decode cX3_up 164 = .ok (.putfield 217, 3) := dk_181 0 217 (dk_at dksX3_up_7 3 rfl rfl)
theorem dX3_up_167 : decode cX3_up 167 = .ok (.iload_n 3, 1) := dk_29 (dk_at dksX3_up_7 6 rfl rfl)
theorem dX3_up_168 : decode cX3_up 168 = .ok (.ifCond .eq 9, 3) := dk_153 0 9 (dk_at dksX3_up_7 7 rfl rfl)
theorem dX3_up_171 : decode cX3_up 171 = .ok (.aload_n 0, 1) := dk_42 (dk_at dksX3_up_7 10 rfl rfl)
theorem dX3_up_172 : decode cX3_up 172 = .ok (.iload_n 3, 1) := dk_29 (dk_at dksX3_up_7 11 rfl rfl)
theorem dX3_up_173 : decode cX3_up 173 = .ok (.iconst 0, 1) := dk_3 (dk_at dksX3_up_7 12 rfl rfl)
theorem dX3_up_174 : decode cX3_up 174 = .ok (.invokevirtual 227, 3) := dk_182 0 227 (dk_at dksX3_up_7 13 rfl rfl)
theorem dX3_up_177 : decode cX3_up 177 = .ok (.iload_n 3, 1) := dk_29 (dk_at dksX3_up_7 16 rfl rfl)
theorem dX3_up_178 : decode cX3_up 178 = .ok (.ireturn, 1) := dk_172 (dk_at dksX3_up_7 17 rfl rfl)
abbrev cX3_adds : ByteArray := prog_16_method_16_code
def yX3_adds : MethodName := ⟨RX3, "adds", "(IZ)V"⟩
def dkwX3_adds_1 : List UInt8 := [87, 42, 182, 0, 205, 177]
abbrev dktX3_adds_1 : List UInt8 := dkwX3_adds_1 ++ []
def dkwX3_adds_0 : List UInt8 := [42, 180, 0, 70, 5, 188, 10, 89, 3, 27, 79, 89, 4, 42, 180, 0, 103, 182, 0, 163, 79, 182, 0, 202]
abbrev dktX3_adds_0 : List UInt8 := dkwX3_adds_0 ++ dktX3_adds_1
theorem dksX3_adds_0 : cX3_adds.data.toList.drop 0 = dktX3_adds_0 := by decide +kernel
theorem dksX3_adds_1 : cX3_adds.data.toList.drop 24 = dktX3_adds_1 := dk_seg dksX3_adds_0 24 rfl rfl
theorem dX3_adds_0 : decode cX3_adds 0 = .ok (.aload_n 0, 1) := dk_42 (dk_at dksX3_adds_0 0 rfl rfl)
theorem dX3_adds_1 : decode cX3_adds 1 = .ok (.getfield 70, 3) := dk_180 0 70 (dk_at dksX3_adds_0 1 rfl rfl)
theorem dX3_adds_4 : decode cX3_adds 4 = .ok (.iconst 2, 1) := dk_5 (dk_at dksX3_adds_0 4 rfl rfl)
theorem dX3_adds_5 : decode cX3_adds 5 = .ok (.newarray .int, 2) := dk_188_10 (dk_at dksX3_adds_0 5 rfl rfl)
theorem dX3_adds_7 : decode cX3_adds 7 = .ok (.dup, 1) := dk_89 (dk_at dksX3_adds_0 7 rfl rfl)
theorem dX3_adds_8 : decode cX3_adds 8 = .ok (.iconst 0, 1) := dk_3 (dk_at dksX3_adds_0 8 rfl rfl)
theorem dX3_adds_9 : decode cX3_adds 9 = .ok (.iload_n 1, 1) := dk_27 (dk_at dksX3_adds_0 9 rfl rfl)
theorem dX3_adds_10 : decode cX3_adds 10 = .ok (.iastore, 1) := dk_79 (dk_at dksX3_adds_0 10 rfl rfl)
theorem dX3_adds_11 : decode cX3_adds 11 = .ok (.dup, 1) := dk_89 (dk_at dksX3_adds_0 11 rfl rfl)
theorem dX3_adds_12 : decode cX3_adds 12 = .ok (.iconst 1, 1) := dk_4 (dk_at dksX3_adds_0 12 rfl rfl)
theorem dX3_adds_13 : decode cX3_adds 13 = .ok (.aload_n 0, 1) := dk_42 (dk_at dksX3_adds_0 13 rfl rfl)
theorem dX3_adds_14 : decode cX3_adds 14 = .ok (.getfield 103, 3) := dk_180 0 103 (dk_at dksX3_adds_0 14 rfl rfl)
theorem dX3_adds_17 : decode cX3_adds 17 = .ok (.invokevirtual 163, 3) := dk_182 0 163 (dk_at dksX3_adds_0 17 rfl rfl)
theorem dX3_adds_20 : decode cX3_adds 20 = .ok (.iastore, 1) := dk_79 (dk_at dksX3_adds_0 20 rfl rfl)
theorem dX3_adds_21 : decode cX3_adds 21 = .ok (.invokevirtual 202, 3) := dk_182 0 202 (dk_at dksX3_adds_0 21 rfl rfl)
theorem dX3_adds_24 : decode cX3_adds 24 = .ok (.pop, 1) := dk_87 (dk_at dksX3_adds_1 0 rfl rfl)
theorem dX3_adds_25 : decode cX3_adds 25 = .ok (.aload_n 0, 1) := dk_42 (dk_at dksX3_adds_1 1 rfl rfl)
theorem dX3_adds_26 : decode cX3_adds 26 = .ok (.invokevirtual 205, 3) := dk_182 0 205 (dk_at dksX3_adds_1 2 rfl rfl)
theorem dX3_adds_29 : decode cX3_adds 29 = .ok (.return_, 1) := dk_177 (dk_at dksX3_adds_1 5 rfl rfl)
abbrev cX3_translate : ByteArray := prog_16_method_14_code
def yX3_translate : MethodName := ⟨RX3, "translate", "()V"⟩
def dkwX3_translate_5 : List UInt8 := [167, 0, 6, 132, 1, 1, 167, 255, 144, 177]
abbrev dktX3_translate_5 : List UInt8 := dkwX3_translate_5 ++ []
def dkwX3_translate_4 : List UInt8 := [192, 0, 161, 58, 4, 132, 1, 255, 167, 255, 235, 42, 187, 0, 67, 89, 183, 0, 69, 181, 0, 100, 3, 60]
abbrev dktX3_translate_4 : List UInt8 := dkwX3_translate_4 ++ dktX3_translate_5
def dkwX3_translate_3 : List UInt8 := [27, 44, 180, 0, 181, 100, 184, 0, 183, 62, 27, 29, 161, 0, 22, 42, 180, 0, 70, 27, 182, 0, 189]
abbrev dktX3_translate_3 : List UInt8 := dkwX3_translate_3 ++ dktX3_translate_4
def dkwX3_translate_2 : List UInt8 := [77, 44, 180, 0, 172, 198, 0, 69, 44, 180, 0, 172, 180, 0, 176, 18, 179, 182, 0, 60, 153, 0, 54, 3]
abbrev dktX3_translate_2 : List UInt8 := dkwX3_translate_2 ++ dktX3_translate_3
def dkwX3_translate_1 : List UInt8 := [42, 27, 182, 0, 166, 42, 180, 0, 100, 42, 180, 0, 100, 182, 0, 163, 4, 100, 182, 0, 158, 192, 0, 170]
abbrev dktX3_translate_1 : List UInt8 := dkwX3_translate_1 ++ dktX3_translate_2
def dkwX3_translate_0 : List UInt8 := [42, 187, 0, 67, 89, 183, 0, 69, 181, 0, 100, 3, 60, 27, 42, 180, 0, 70, 182, 0, 163, 162, 0, 107]
abbrev dktX3_translate_0 : List UInt8 := dkwX3_translate_0 ++ dktX3_translate_1
theorem dksX3_translate_0 : cX3_translate.data.toList.drop 0 = dktX3_translate_0 := by decide +kernel
theorem dksX3_translate_1 : cX3_translate.data.toList.drop 24 = dktX3_translate_1 := dk_seg dksX3_translate_0 24 rfl rfl
theorem dksX3_translate_2 : cX3_translate.data.toList.drop 48 = dktX3_translate_2 := dk_seg dksX3_translate_1 24 rfl rfl
theorem dksX3_translate_3 : cX3_translate.data.toList.drop 72 = dktX3_translate_3 := dk_seg dksX3_translate_2 24 rfl rfl
theorem dksX3_translate_4 : cX3_translate.data.toList.drop 95 = dktX3_translate_4 := dk_seg dksX3_translate_3 23 rfl rfl
theorem dksX3_translate_5 : cX3_translate.data.toList.drop 119 = dktX3_translate_5 := dk_seg dksX3_translate_4 24 rfl rfl
theorem dX3_translate_0 : decode cX3_translate 0 = .ok (.aload_n 0, 1) := dk_42 (dk_at dksX3_translate_0 0 rfl rfl)
theorem dX3_translate_1 : decode cX3_translate 1 = .ok (.new 67, 3) := dk_187 0 67 (dk_at dksX3_translate_0 1 rfl rfl)
theorem dX3_translate_4 : decode cX3_translate 4 = .ok (.dup, 1) := dk_89 (dk_at dksX3_translate_0 4 rfl rfl)
theorem dX3_translate_5 : decode cX3_translate 5 = .ok (.invokespecial 69, 3) := dk_183 0 69 (dk_at dksX3_translate_0 5 rfl rfl)
theorem dX3_translate_8 : decode cX3_translate 8 = .ok (.putfield 100, 3) := dk_181 0 100 (dk_at dksX3_translate_0 8 rfl rfl)
theorem dX3_translate_11 : decode cX3_translate 11 = .ok (.iconst 0, 1) := dk_3 (dk_at dksX3_translate_0 11 rfl rfl)
theorem dX3_translate_12 : decode cX3_translate 12 = .ok (.istore_n 1, 1) := dk_60 (dk_at dksX3_translate_0 12 rfl rfl)
theorem dX3_translate_13 : decode cX3_translate 13 = .ok (.iload_n 1, 1) := dk_27 (dk_at dksX3_translate_0 13 rfl rfl)
theorem dX3_translate_14 : decode cX3_translate 14 = .ok (.aload_n 0, 1) := dk_42 (dk_at dksX3_translate_0 14 rfl rfl)
theorem dX3_translate_15 : decode cX3_translate 15 = .ok (.getfield 70, 3) := dk_180 0 70 (dk_at dksX3_translate_0 15 rfl rfl)
theorem dX3_translate_18 : decode cX3_translate 18 = .ok (.invokevirtual 163, 3) := dk_182 0 163 (dk_at dksX3_translate_0 18 rfl rfl)
theorem dX3_translate_21 : decode cX3_translate 21 = .ok (.if_icmp .ge 107, 3) := dk_162 0 107 (dk_at dksX3_translate_0 21 rfl rfl)
theorem dX3_translate_24 : decode cX3_translate 24 = .ok (.aload_n 0, 1) := dk_42 (dk_at dksX3_translate_1 0 rfl rfl)
theorem dX3_translate_25 : decode cX3_translate 25 = .ok (.iload_n 1, 1) := dk_27 (dk_at dksX3_translate_1 1 rfl rfl)
theorem dX3_translate_26 : decode cX3_translate 26 = .ok (.invokevirtual 166, 3) := dk_182 0 166 (dk_at dksX3_translate_1 2 rfl rfl)
theorem dX3_translate_29 : decode cX3_translate 29 = .ok (.aload_n 0, 1) := dk_42 (dk_at dksX3_translate_1 5 rfl rfl)
theorem dX3_translate_30 : decode cX3_translate 30 = .ok (.getfield 100, 3) := dk_180 0 100 (dk_at dksX3_translate_1 6 rfl rfl)
theorem dX3_translate_33 : decode cX3_translate 33 = .ok (.aload_n 0, 1) := dk_42 (dk_at dksX3_translate_1 9 rfl rfl)
theorem dX3_translate_34 : decode cX3_translate 34 = .ok (.getfield 100, 3) := dk_180 0 100 (dk_at dksX3_translate_1 10 rfl rfl)
theorem dX3_translate_37 : decode cX3_translate 37 = .ok (.invokevirtual 163, 3) := dk_182 0 163 (dk_at dksX3_translate_1 13 rfl rfl)
theorem dX3_translate_40 : decode cX3_translate 40 = .ok (.iconst 1, 1) := dk_4 (dk_at dksX3_translate_1 16 rfl rfl)
theorem dX3_translate_41 : decode cX3_translate 41 = .ok (.isub, 1) := dk_100 (dk_at dksX3_translate_1 17 rfl rfl)
theorem dX3_translate_42 : decode cX3_translate 42 = .ok (.invokevirtual 158, 3) := dk_182 0 158 (dk_at dksX3_translate_1 18 rfl rfl)
theorem dX3_translate_45 : decode cX3_translate 45 = .ok (.checkcast 170, 3) := dk_192 0 170 (dk_at dksX3_translate_1 21 rfl rfl)
theorem dX3_translate_48 : decode cX3_translate 48 = .ok (.astore_n 2, 1) := dk_77 (dk_at dksX3_translate_2 0 rfl rfl)
theorem dX3_translate_49 : decode cX3_translate 49 = .ok (.aload_n 2, 1) := dk_44 (dk_at dksX3_translate_2 1 rfl rfl)
theorem dX3_translate_50 : decode cX3_translate 50 = .ok (.getfield 172, 3) := dk_180 0 172 (dk_at dksX3_translate_2 2 rfl rfl)
theorem dX3_translate_53 : decode cX3_translate 53 = .ok (.ifnull 69, 3) := dk_198 0 69 (dk_at dksX3_translate_2 5 rfl rfl)
theorem dX3_translate_56 : decode cX3_translate 56 = .ok (.aload_n 2, 1) := dk_44 (dk_at dksX3_translate_2 8 rfl rfl)
theorem dX3_translate_57 : decode cX3_translate 57 = .ok (.getfield 172, 3) := dk_180 0 172 (dk_at dksX3_translate_2 9 rfl rfl)
theorem dX3_translate_60 : decode cX3_translate 60 = .ok (.getfield 176, 3) := dk_180 0 176 (dk_at dksX3_translate_2 12 rfl rfl)
theorem dX3_translate_63 : decode cX3_translate 63 = .ok (.ldc 179, 2) := dk_18 179 (dk_at dksX3_translate_2 15 rfl rfl)
theorem dX3_translate_65 : decode cX3_translate 65 = .ok (.invokevirtual 60, 3) := dk_182 0 60 (dk_at dksX3_translate_2 17 rfl rfl)
theorem dX3_translate_68 : decode cX3_translate 68 = .ok (.ifCond .eq 54, 3) := dk_153 0 54 (dk_at dksX3_translate_2 20 rfl rfl)
theorem dX3_translate_71 : decode cX3_translate 71 = .ok (.iconst 0, 1) := dk_3 (dk_at dksX3_translate_2 23 rfl rfl)
theorem dX3_translate_72 : decode cX3_translate 72 = .ok (.iload_n 1, 1) := dk_27 (dk_at dksX3_translate_3 0 rfl rfl)
theorem dX3_translate_73 : decode cX3_translate 73 = .ok (.aload_n 2, 1) := dk_44 (dk_at dksX3_translate_3 1 rfl rfl)
theorem dX3_translate_74 : decode cX3_translate 74 = .ok (.getfield 181, 3) := dk_180 0 181 (dk_at dksX3_translate_3 2 rfl rfl)
theorem dX3_translate_77 : decode cX3_translate 77 = .ok (.isub, 1) := dk_100 (dk_at dksX3_translate_3 5 rfl rfl)
theorem dX3_translate_78 : decode cX3_translate 78 = .ok (.invokestatic 183, 3) := dk_184 0 183 (dk_at dksX3_translate_3 6 rfl rfl)
theorem dX3_translate_81 : decode cX3_translate 81 = .ok (.istore_n 3, 1) := dk_62 (dk_at dksX3_translate_3 9 rfl rfl)
theorem dX3_translate_82 : decode cX3_translate 82 = .ok (.iload_n 1, 1) := dk_27 (dk_at dksX3_translate_3 10 rfl rfl)
theorem dX3_translate_83 : decode cX3_translate 83 = .ok (.iload_n 3, 1) := dk_29 (dk_at dksX3_translate_3 11 rfl rfl)
theorem dX3_translate_84 : decode cX3_translate 84 = .ok (.if_icmp .lt 22, 3) := dk_161 0 22 (dk_at dksX3_translate_3 12 rfl rfl)
theorem dX3_translate_87 : decode cX3_translate 87 = .ok (.aload_n 0, 1) := dk_42 (dk_at dksX3_translate_3 15 rfl rfl)
theorem dX3_translate_88 : decode cX3_translate 88 = .ok (.getfield 70, 3) := dk_180 0 70 (dk_at dksX3_translate_3 16 rfl rfl)
theorem dX3_translate_91 : decode cX3_translate 91 = .ok (.iload_n 1, 1) := dk_27 (dk_at dksX3_translate_3 19 rfl rfl)
theorem dX3_translate_92 : decode cX3_translate 92 = .ok (.invokevirtual 189, 3) := dk_182 0 189 (dk_at dksX3_translate_3 20 rfl rfl)
theorem dX3_translate_95 : decode cX3_translate 95 = .ok (.checkcast 161, 3) := dk_192 0 161 (dk_at dksX3_translate_4 0 rfl rfl)
theorem dX3_translate_98 : decode cX3_translate 98 = .ok (.astore 4, 2) := dk_58 4 (dk_at dksX3_translate_4 3 rfl rfl)
theorem dX3_translate_100 : decode cX3_translate 100 = .ok (.iinc 1 (-1), 3) := dk_132 1 255 (dk_at dksX3_translate_4 5 rfl rfl)
theorem dX3_translate_103 : decode cX3_translate 103 = .ok (.goto (-21), 3) := dk_167 255 235 (dk_at dksX3_translate_4 8 rfl rfl)
theorem dX3_translate_106 : decode cX3_translate 106 = .ok (.aload_n 0, 1) := dk_42 (dk_at dksX3_translate_4 11 rfl rfl)
theorem dX3_translate_107 : decode cX3_translate 107 = .ok (.new 67, 3) := dk_187 0 67 (dk_at dksX3_translate_4 12 rfl rfl)
theorem dX3_translate_110 : decode cX3_translate 110 = .ok (.dup, 1) := dk_89 (dk_at dksX3_translate_4 15 rfl rfl)
theorem dX3_translate_111 : decode cX3_translate 111 = .ok (.invokespecial 69, 3) := dk_183 0 69 (dk_at dksX3_translate_4 16 rfl rfl)
theorem dX3_translate_114 : decode cX3_translate 114 = .ok (.putfield 100, 3) := dk_181 0 100 (dk_at dksX3_translate_4 19 rfl rfl)
theorem dX3_translate_117 : decode cX3_translate 117 = .ok (.iconst 0, 1) := dk_3 (dk_at dksX3_translate_4 22 rfl rfl)
theorem dX3_translate_118 : decode cX3_translate 118 = .ok (.istore_n 1, 1) := dk_60 (dk_at dksX3_translate_4 23 rfl rfl)
theorem dX3_translate_119 : decode cX3_translate 119 = .ok (.goto 6, 3) := dk_167 0 6 (dk_at dksX3_translate_5 0 rfl rfl)
theorem dX3_translate_122 : decode cX3_translate 122 = .ok (.iinc 1 1, 3) := dk_132 1 1 (dk_at dksX3_translate_5 3 rfl rfl)
theorem dX3_translate_125 : decode cX3_translate 125 = .ok (.goto (-112), 3) := dk_167 255 144 (dk_at dksX3_translate_5 6 rfl rfl)
theorem dX3_translate_128 : decode cX3_translate 128 = .ok (.return_, 1) := dk_177 (dk_at dksX3_translate_5 9 rfl rfl)
abbrev cX3_adds_2 : ByteArray := prog_16_method_15_code
def yX3_adds_2 : MethodName := ⟨RX3, "adds", "(I)V"⟩
def dkwX3_adds_2_6 : List UInt8 := [21, 4, 184, 0, 183, 27, 25, 6, 183, 0, 199, 182, 0, 202, 87, 177]
abbrev dktX3_adds_2_6 : List UInt8 := dkwX3_adds_2_6 ++ []
def dkwX3_adds_2_5 : List UInt8 := [182, 0, 189, 192, 0, 170, 58, 8, 132, 7, 1, 167, 255, 225, 42, 180, 0, 100, 187, 0, 170, 89, 4]
abbrev dktX3_adds_2_5 : List UInt8 := dkwX3_adds_2_5 ++ dktX3_adds_2_6
def dkwX3_adds_2_4 : List UInt8 := [54, 7, 21, 7, 21, 5, 162, 0, 30, 42, 180, 0, 100, 42, 180, 0, 100, 182, 0, 163, 4, 100]
abbrev dktX3_adds_2_4 : List UInt8 := dkwX3_adds_2_4 ++ dktX3_adds_2_5
def dkwX3_adds_2_3 : List UInt8 := [42, 180, 0, 100, 182, 0, 163, 29, 100, 182, 0, 158, 192, 0, 170, 180, 0, 181, 96, 61, 167, 255, 178, 3]
abbrev dktX3_adds_2_3 : List UInt8 := dkwX3_adds_2_3 ++ dktX3_adds_2_4
def dkwX3_adds_2_2 : List UInt8 := [58, 6, 29, 42, 180, 0, 100, 182, 0, 163, 160, 0, 6, 167, 0, 34, 132, 3, 1, 28, 42, 180, 0, 100]
abbrev dktX3_adds_2_2 : List UInt8 := dkwX3_adds_2_2 ++ dktX3_adds_2_3
def dkwX3_adds_2_1 : List UInt8 := [96, 27, 182, 0, 192, 182, 0, 195, 58, 7, 25, 7, 198, 0, 13, 28, 54, 4, 29, 54, 5, 25, 7]
abbrev dktX3_adds_2_1 : List UInt8 := dkwX3_adds_2_1 ++ dktX3_adds_2_2
def dkwX3_adds_2_0 : List UInt8 := [4, 61, 3, 62, 3, 54, 4, 3, 54, 5, 1, 58, 6, 28, 7, 163, 0, 79, 42, 42, 27, 28, 100, 4]
abbrev dktX3_adds_2_0 : List UInt8 := dkwX3_adds_2_0 ++ dktX3_adds_2_1
theorem dksX3_adds_2_0 : cX3_adds_2.data.toList.drop 0 = dktX3_adds_2_0 := by decide +kernel
theorem dksX3_adds_2_1 : cX3_adds_2.data.toList.drop 24 = dktX3_adds_2_1 := dk_seg dksX3_adds_2_0 24 rfl rfl
theorem dksX3_adds_2_2 : cX3_adds_2.data.toList.drop 47 = dktX3_adds_2_2 := dk_seg dksX3_adds_2_1 23 rfl rfl
theorem dksX3_adds_2_3 : cX3_adds_2.data.toList.drop 71 = dktX3_adds_2_3 := dk_seg dksX3_adds_2_2 24 rfl rfl
theorem dksX3_adds_2_4 : cX3_adds_2.data.toList.drop 95 = dktX3_adds_2_4 := dk_seg dksX3_adds_2_3 24 rfl rfl
theorem dksX3_adds_2_5 : cX3_adds_2.data.toList.drop 117 = dktX3_adds_2_5 := dk_seg dksX3_adds_2_4 22 rfl rfl
theorem dksX3_adds_2_6 : cX3_adds_2.data.toList.drop 140 = dktX3_adds_2_6 := dk_seg dksX3_adds_2_5 23 rfl rfl
theorem dX3_adds_2_0 : decode cX3_adds_2 0 = .ok (.iconst 1, 1) := dk_4 (dk_at dksX3_adds_2_0 0 rfl rfl)
theorem dX3_adds_2_1 : decode cX3_adds_2 1 = .ok (.istore_n 2, 1) := dk_61 (dk_at dksX3_adds_2_0 1 rfl rfl)
theorem dX3_adds_2_2 : decode cX3_adds_2 2 = .ok (.iconst 0, 1) := dk_3 (dk_at dksX3_adds_2_0 2 rfl rfl)
theorem dX3_adds_2_3 : decode cX3_adds_2 3 = .ok (.istore_n 3, 1) := dk_62 (dk_at dksX3_adds_2_0 3 rfl rfl)
theorem dX3_adds_2_4 : decode cX3_adds_2 4 = .ok (.iconst 0, 1) := dk_3 (dk_at dksX3_adds_2_0 4 rfl rfl)
theorem dX3_adds_2_5 : decode cX3_adds_2 5 = .ok (.istore 4, 2) := dk_54 4 (dk_at dksX3_adds_2_0 5 rfl rfl)
theorem dX3_adds_2_7 : decode cX3_adds_2 7 = .ok (.iconst 0, 1) := dk_3 (dk_at dksX3_adds_2_0 7 rfl rfl)
theorem dX3_adds_2_8 : decode cX3_adds_2 8 = .ok (.istore 5, 2) := dk_54 5 (dk_at dksX3_adds_2_0 8 rfl rfl)
theorem dX3_adds_2_10 : decode cX3_adds_2 10 = .ok (.aconst_null, 1) := dk_1 (dk_at dksX3_adds_2_0 10 rfl rfl)
theorem dX3_adds_2_11 : decode cX3_adds_2 11 = .ok (.astore 6, 2) := dk_58 6 (dk_at dksX3_adds_2_0 11 rfl rfl)
theorem dX3_adds_2_13 : decode cX3_adds_2 13 = .ok (.iload_n 2, 1) := dk_28 (dk_at dksX3_adds_2_0 13 rfl rfl)
theorem dX3_adds_2_14 : decode cX3_adds_2 14 = .ok (.iconst 4, 1) := dk_7 (dk_at dksX3_adds_2_0 14 rfl rfl)
theorem dX3_adds_2_15 : decode cX3_adds_2 15 = .ok (.if_icmp .gt 79, 3) := dk_163 0 79 (dk_at dksX3_adds_2_0 15 rfl rfl)
theorem dX3_adds_2_18 : decode cX3_adds_2 18 = .ok (.aload_n 0, 1) := dk_42 (dk_at dksX3_adds_2_0 18 rfl rfl)
theorem dX3_adds_2_19 : decode cX3_adds_2 19 = .ok (.aload_n 0, 1) := dk_42 (dk_at dksX3_adds_2_0 19 rfl rfl)
theorem dX3_adds_2_20 : decode cX3_adds_2 20 = .ok (.iload_n 1, 1) := dk_27 (dk_at dksX3_adds_2_0 20 rfl rfl)
theorem dX3_adds_2_21 : decode cX3_adds_2 21 = .ok (.iload_n 2, 1) := dk_28 (dk_at dksX3_adds_2_0 21 rfl rfl)
theorem dX3_adds_2_22 : decode cX3_adds_2 22 = .ok (.isub, 1) := dk_100 (dk_at dksX3_adds_2_0 22 rfl rfl)
theorem dX3_adds_2_23 : decode cX3_adds_2 23 = .ok (.iconst 1, 1) := dk_4 (dk_at dksX3_adds_2_0 23 rfl rfl)
theorem dX3_adds_2_24 : decode cX3_adds_2 24 = .ok (.iadd, 1) := dk_96 (dk_at dksX3_adds_2_1 0 rfl rfl)
theorem dX3_adds_2_25 : decode cX3_adds_2 25 = .ok (.iload_n 1, 1) := dk_27 (dk_at dksX3_adds_2_1 1 rfl rfl)
theorem dX3_adds_2_26 : decode cX3_adds_2 26 = .ok (.invokevirtual 192, 3) := dk_182 0 192 (dk_at dksX3_adds_2_1 2 rfl rfl)
theorem dX3_adds_2_29 : decode cX3_adds_2 29 = .ok (.invokevirtual 195, 3) := dk_182 0 195 (dk_at dksX3_adds_2_1 5 rfl rfl)
theorem dX3_adds_2_32 : decode cX3_adds_2 32 = .ok (.astore 7, 2) := dk_58 7 (dk_at dksX3_adds_2_1 8 rfl rfl)
theorem dX3_adds_2_34 : decode cX3_adds_2 34 = .ok (.aload 7, 2) := dk_25 7 (dk_at dksX3_adds_2_1 10 rfl rfl)
theorem dX3_adds_2_36 : decode cX3_adds_2 36 = .ok (.ifnull 13, 3) := dk_198 0 13 (dk_at dksX3_adds_2_1 12 rfl rfl)
theorem dX3_adds_2_39 : decode cX3_adds_2 39 = .ok (.iload_n 2, 1) := dk_28 (dk_at dksX3_adds_2_1 15 rfl rfl)
theorem dX3_adds_2_40 : decode cX3_adds_2 40 = .ok (.istore 4, 2) := dk_54 4 (dk_at dksX3_adds_2_1 16 rfl rfl)
theorem dX3_adds_2_42 : decode cX3_adds_2 42 = .ok (.iload_n 3, 1) := dk_29 (dk_at dksX3_adds_2_1 18 rfl rfl)
theorem dX3_adds_2_43 : decode cX3_adds_2 43 = .ok (.istore 5, 2) := dk_54 5 (dk_at dksX3_adds_2_1 19 rfl rfl)
theorem dX3_adds_2_45 : decode cX3_adds_2 45 = .ok (.aload 7, 2) := dk_25 7 (dk_at dksX3_adds_2_1 21 rfl rfl)
theorem dX3_adds_2_47 : decode cX3_adds_2 47 = .ok (.astore 6, 2) := dk_58 6 (dk_at dksX3_adds_2_2 0 rfl rfl)
theorem dX3_adds_2_49 : decode cX3_adds_2 49 = .ok (.iload_n 3, 1) := dk_29 (dk_at dksX3_adds_2_2 2 rfl rfl)
theorem dX3_adds_2_50 : decode cX3_adds_2 50 = .ok (.aload_n 0, 1) := dk_42 (dk_at dksX3_adds_2_2 3 rfl rfl)
theorem dX3_adds_2_51 : decode cX3_adds_2 51 = .ok (.getfield 100, 3) := dk_180 0 100 (dk_at dksX3_adds_2_2 4 rfl rfl)
theorem dX3_adds_2_54 : decode cX3_adds_2 54 = .ok (.invokevirtual 163, 3) := dk_182 0 163 (dk_at dksX3_adds_2_2 7 rfl rfl)
theorem dX3_adds_2_57 : decode cX3_adds_2 57 = .ok (.if_icmp .ne 6, 3) := dk_160 0 6 (dk_at dksX3_adds_2_2 10 rfl rfl)
theorem dX3_adds_2_60 : decode cX3_adds_2 60 = .ok (.goto 34, 3) := dk_167 0 34 (dk_at dksX3_adds_2_2 13 rfl rfl)
theorem dX3_adds_2_63 : decode cX3_adds_2 63 = .ok (.iinc 3 1, 3) := dk_132 3 1 (dk_at dksX3_adds_2_2 16 rfl rfl)
theorem dX3_adds_2_66 : decode cX3_adds_2 66 = .ok (.iload_n 2, 1) := dk_28 (dk_at dksX3_adds_2_2 19 rfl rfl)
theorem dX3_adds_2_67 : decode cX3_adds_2 67 = .ok (.aload_n 0, 1) := dk_42 (dk_at dksX3_adds_2_2 20 rfl rfl)
theorem dX3_adds_2_68 : decode cX3_adds_2 68 = .ok (.getfield 100, 3) := dk_180 0 100 (dk_at dksX3_adds_2_2 21 rfl rfl)
theorem dX3_adds_2_71 : decode cX3_adds_2 71 = .ok (.aload_n 0, 1) := dk_42 (dk_at dksX3_adds_2_3 0 rfl rfl)
theorem dX3_adds_2_72 : decode cX3_adds_2 72 = .ok (.getfield 100, 3) := dk_180 0 100 (dk_at dksX3_adds_2_3 1 rfl rfl)
theorem dX3_adds_2_75 : decode cX3_adds_2 75 = .ok (.invokevirtual 163, 3) := dk_182 0 163 (dk_at dksX3_adds_2_3 4 rfl rfl)
theorem dX3_adds_2_78 : decode cX3_adds_2 78 = .ok (.iload_n 3, 1) := dk_29 (dk_at dksX3_adds_2_3 7 rfl rfl)
theorem dX3_adds_2_79 : decode cX3_adds_2 79 = .ok (.isub, 1) := dk_100 (dk_at dksX3_adds_2_3 8 rfl rfl)
theorem dX3_adds_2_80 : decode cX3_adds_2 80 = .ok (.invokevirtual 158, 3) := dk_182 0 158 (dk_at dksX3_adds_2_3 9 rfl rfl)
theorem dX3_adds_2_83 : decode cX3_adds_2 83 = .ok (.checkcast 170, 3) := dk_192 0 170 (dk_at dksX3_adds_2_3 12 rfl rfl)
theorem dX3_adds_2_86 : decode cX3_adds_2 86 = .ok (.getfield 181, 3) := dk_180 0 181 (dk_at dksX3_adds_2_3 15 rfl rfl)
theorem dX3_adds_2_89 : decode cX3_adds_2 89 = .ok (.iadd, 1) := dk_96 (dk_at dksX3_adds_2_3 18 rfl rfl)
theorem dX3_adds_2_90 : decode cX3_adds_2 90 = .ok (.istore_n 2, 1) := dk_61 (dk_at dksX3_adds_2_3 19 rfl rfl)
theorem dX3_adds_2_91 : decode cX3_adds_2 91 = .ok (.goto (-78), 3) := dk_167 255 178 (dk_at dksX3_adds_2_3 20 rfl rfl)
theorem dX3_adds_2_94 : decode cX3_adds_2 94 = .ok (.iconst 0, 1) := dk_3 (dk_at dksX3_adds_2_3 23 rfl rfl)
theorem dX3_adds_2_95 : decode cX3_adds_2 95 = .ok (.istore 7, 2) := dk_54 7 (dk_at dksX3_adds_2_4 0 rfl rfl)
theorem dX3_adds_2_97 : decode cX3_adds_2 97 = .ok (.iload 7, 2) := dk_21 7 (dk_at dksX3_adds_2_4 2 rfl rfl)
theorem dX3_adds_2_99 : decode cX3_adds_2 99 = .ok (.iload 5, 2) := dk_21 5 (dk_at dksX3_adds_2_4 4 rfl rfl)
theorem dX3_adds_2_101 : decode cX3_adds_2 101 = .ok (.if_icmp .ge 30, 3) := dk_162 0 30 (dk_at dksX3_adds_2_4 6 rfl rfl)
theorem dX3_adds_2_104 : decode cX3_adds_2 104 = .ok (.aload_n 0, 1) := dk_42 (dk_at dksX3_adds_2_4 9 rfl rfl)
theorem dX3_adds_2_105 : decode cX3_adds_2 105 = .ok (.getfield 100, 3) := dk_180 0 100 (dk_at dksX3_adds_2_4 10 rfl rfl)
theorem dX3_adds_2_108 : decode cX3_adds_2 108 = .ok (.aload_n 0, 1) := dk_42 (dk_at dksX3_adds_2_4 13 rfl rfl)
theorem dX3_adds_2_109 : decode cX3_adds_2 109 = .ok (.getfield 100, 3) := dk_180 0 100 (dk_at dksX3_adds_2_4 14 rfl rfl)
theorem dX3_adds_2_112 : decode cX3_adds_2 112 = .ok (.invokevirtual 163, 3) := dk_182 0 163 (dk_at dksX3_adds_2_4 17 rfl rfl)
theorem dX3_adds_2_115 : decode cX3_adds_2 115 = .ok (.iconst 1, 1) := dk_4 (dk_at dksX3_adds_2_4 20 rfl rfl)
theorem dX3_adds_2_116 : decode cX3_adds_2 116 = .ok (.isub, 1) := dk_100 (dk_at dksX3_adds_2_4 21 rfl rfl)
theorem dX3_adds_2_117 : decode cX3_adds_2 117 = .ok (.invokevirtual 189, 3) := dk_182 0 189 (dk_at dksX3_adds_2_5 0 rfl rfl)
theorem dX3_adds_2_120 : decode cX3_adds_2 120 = .ok (.checkcast 170, 3) := dk_192 0 170 (dk_at dksX3_adds_2_5 3 rfl rfl)
theorem dX3_adds_2_123 : decode cX3_adds_2 123 = .ok (.astore 8, 2) := dk_58 8 (dk_at dksX3_adds_2_5 6 rfl rfl)
theorem dX3_adds_2_125 : decode cX3_adds_2 125 = .ok (.iinc 7 1, 3) := dk_132 7 1 (dk_at dksX3_adds_2_5 8 rfl rfl)
theorem dX3_adds_2_128 : decode cX3_adds_2 128 = .ok (.goto (-31), 3) := dk_167 255 225 (dk_at dksX3_adds_2_5 11 rfl rfl)
theorem dX3_adds_2_131 : decode cX3_adds_2 131 = .ok (.aload_n 0, 1) := dk_42 (dk_at dksX3_adds_2_5 14 rfl rfl)
theorem dX3_adds_2_132 : decode cX3_adds_2 132 = .ok (.getfield 100, 3) := dk_180 0 100 (dk_at dksX3_adds_2_5 15 rfl rfl)
theorem dX3_adds_2_135 : decode cX3_adds_2 135 = .ok (.new 170, 3) := dk_187 0 170 (dk_at dksX3_adds_2_5 18 rfl rfl)
theorem dX3_adds_2_138 : decode cX3_adds_2 138 = .ok (.dup, 1) := dk_89 (dk_at dksX3_adds_2_5 21 rfl rfl)
theorem dX3_adds_2_139 : decode cX3_adds_2 139 = .ok (.iconst 1, 1) := dk_4 (dk_at dksX3_adds_2_5 22 rfl rfl)
theorem dX3_adds_2_140 : decode cX3_adds_2 140 = .ok (.iload 4, 2) := dk_21 4 (dk_at dksX3_adds_2_6 0 rfl rfl)
theorem dX3_adds_2_142 : decode cX3_adds_2 142 = .ok (.invokestatic 183, 3) := dk_184 0 183 (dk_at dksX3_adds_2_6 2 rfl rfl)
theorem dX3_adds_2_145 : decode cX3_adds_2 145 = .ok (.iload_n 1, 1) := dk_27 (dk_at dksX3_adds_2_6 5 rfl rfl)
theorem dX3_adds_2_146 : decode cX3_adds_2 146 = .ok (.aload 6, 2) := dk_25 6 (dk_at dksX3_adds_2_6 6 rfl rfl)
theorem dX3_adds_2_148 : decode cX3_adds_2 148 = .ok (.invokespecial 199, 3) := dk_183 0 199 (dk_at dksX3_adds_2_6 8 rfl rfl)
theorem dX3_adds_2_151 : decode cX3_adds_2 151 = .ok (.invokevirtual 202, 3) := dk_182 0 202 (dk_at dksX3_adds_2_6 11 rfl rfl)
theorem dX3_adds_2_154 : decode cX3_adds_2 154 = .ok (.pop, 1) := dk_87 (dk_at dksX3_adds_2_6 14 rfl rfl)
theorem dX3_adds_2_155 : decode cX3_adds_2 155 = .ok (.return_, 1) := dk_177 (dk_at dksX3_adds_2_6 15 rfl rfl)
abbrev cX3_keysOf : ByteArray := prog_16_method_13_code
def yX3_keysOf : MethodName := ⟨RX3, "keysOf", "(II)Ljava/lang/String;"⟩
def dkwX3_keysOf_1 : List UInt8 := [182, 0, 158, 192, 0, 161, 3, 46, 146, 182, 0, 46, 87, 132, 4, 1, 167, 255, 227, 45, 182, 0, 38, 176]
abbrev dktX3_keysOf_1 : List UInt8 := dkwX3_keysOf_1 ++ []
def dkwX3_keysOf_0 : List UInt8 := [187, 0, 26, 89, 183, 0, 28, 78, 27, 54, 4, 21, 4, 28, 163, 0, 29, 45, 42, 180, 0, 70, 21, 4]
abbrev dktX3_keysOf_0 : List UInt8 := dkwX3_keysOf_0 ++ dktX3_keysOf_1
theorem dksX3_keysOf_0 : cX3_keysOf.data.toList.drop 0 = dktX3_keysOf_0 := by decide +kernel
theorem dksX3_keysOf_1 : cX3_keysOf.data.toList.drop 24 = dktX3_keysOf_1 := dk_seg dksX3_keysOf_0 24 rfl rfl
theorem dX3_keysOf_0 : decode cX3_keysOf 0 = .ok (.new 26, 3) := dk_187 0 26 (dk_at dksX3_keysOf_0 0 rfl rfl)
theorem dX3_keysOf_3 : decode cX3_keysOf 3 = .ok (.dup, 1) := dk_89 (dk_at dksX3_keysOf_0 3 rfl rfl)
theorem dX3_keysOf_4 : decode cX3_keysOf 4 = .ok (.invokespecial 28, 3) := dk_183 0 28 (dk_at dksX3_keysOf_0 4 rfl rfl)
theorem dX3_keysOf_7 : decode cX3_keysOf 7 = .ok (.astore_n 3, 1) := dk_78 (dk_at dksX3_keysOf_0 7 rfl rfl)
theorem dX3_keysOf_8 : decode cX3_keysOf 8 = .ok (.iload_n 1, 1) := dk_27 (dk_at dksX3_keysOf_0 8 rfl rfl)
theorem dX3_keysOf_9 : decode cX3_keysOf 9 = .ok (.istore 4, 2) := dk_54 4 (dk_at dksX3_keysOf_0 9 rfl rfl)
theorem dX3_keysOf_11 : decode cX3_keysOf 11 = .ok (.iload 4, 2) := dk_21 4 (dk_at dksX3_keysOf_0 11 rfl rfl)
theorem dX3_keysOf_13 : decode cX3_keysOf 13 = .ok (.iload_n 2, 1) := dk_28 (dk_at dksX3_keysOf_0 13 rfl rfl)
theorem dX3_keysOf_14 : decode cX3_keysOf 14 = .ok (.if_icmp .gt 29, 3) := dk_163 0 29 (dk_at dksX3_keysOf_0 14 rfl rfl)
theorem dX3_keysOf_17 : decode cX3_keysOf 17 = .ok (.aload_n 3, 1) := dk_45 (dk_at dksX3_keysOf_0 17 rfl rfl)
theorem dX3_keysOf_18 : decode cX3_keysOf 18 = .ok (.aload_n 0, 1) := dk_42 (dk_at dksX3_keysOf_0 18 rfl rfl)
theorem dX3_keysOf_19 : decode cX3_keysOf 19 = .ok (.getfield 70, 3) := dk_180 0 70 (dk_at dksX3_keysOf_0 19 rfl rfl)
theorem dX3_keysOf_22 : decode cX3_keysOf 22 = .ok (.iload 4, 2) := dk_21 4 (dk_at dksX3_keysOf_0 22 rfl rfl)
theorem dX3_keysOf_24 : decode cX3_keysOf 24 = .ok (.invokevirtual 158, 3) := dk_182 0 158 (dk_at dksX3_keysOf_1 0 rfl rfl)
theorem dX3_keysOf_27 : decode cX3_keysOf 27 = .ok (.checkcast 161, 3) := dk_192 0 161 (dk_at dksX3_keysOf_1 3 rfl rfl)
theorem dX3_keysOf_30 : decode cX3_keysOf 30 = .ok (.iconst 0, 1) := dk_3 (dk_at dksX3_keysOf_1 6 rfl rfl)
theorem dX3_keysOf_31 : decode cX3_keysOf 31 = .ok (.iaload, 1) := dk_46 (dk_at dksX3_keysOf_1 7 rfl rfl)
theorem dX3_keysOf_32 : decode cX3_keysOf 32 = .ok (.i2c, 1) := dk_146 (dk_at dksX3_keysOf_1 8 rfl rfl)
theorem dX3_keysOf_33 : decode cX3_keysOf 33 = .ok (.invokevirtual 46, 3) := dk_182 0 46 (dk_at dksX3_keysOf_1 9 rfl rfl)
theorem dX3_keysOf_36 : decode cX3_keysOf 36 = .ok (.pop, 1) := dk_87 (dk_at dksX3_keysOf_1 12 rfl rfl)
theorem dX3_keysOf_37 : decode cX3_keysOf 37 = .ok (.iinc 4 1, 3) := dk_132 4 1 (dk_at dksX3_keysOf_1 13 rfl rfl)
theorem dX3_keysOf_40 : decode cX3_keysOf 40 = .ok (.goto (-29), 3) := dk_167 255 227 (dk_at dksX3_keysOf_1 16 rfl rfl)
theorem dX3_keysOf_43 : decode cX3_keysOf 43 = .ok (.aload_n 3, 1) := dk_45 (dk_at dksX3_keysOf_1 19 rfl rfl)
theorem dX3_keysOf_44 : decode cX3_keysOf 44 = .ok (.invokevirtual 38, 3) := dk_182 0 38 (dk_at dksX3_keysOf_1 20 rfl rfl)
theorem dX3_keysOf_47 : decode cX3_keysOf 47 = .ok (.areturn, 1) := dk_176 (dk_at dksX3_keysOf_1 23 rfl rfl)
abbrev cX3_entryOf : ByteArray := prog_16_method_12_code
def yX3_entryOf : MethodName := ⟨RX3, "entryOf", "(Ljava/lang/String;)LStenohallModel$Entry;"⟩
def dkwX3_entryOf_3 : List UInt8 := [44, 176]
abbrev dktX3_entryOf_3 : List UInt8 := dkwX3_entryOf_3 ++ []
def dkwX3_entryOf_2 : List UInt8 := [167, 0, 4, 1, 58, 7, 25, 7, 199, 0, 7, 44, 167, 0, 5, 25, 7, 77, 132, 5, 1, 167, 255, 202]
abbrev dktX3_entryOf_2 : List UInt8 := dkwX3_entryOf_2 ++ dktX3_entryOf_3
def dkwX3_entryOf_1 : List UInt8 := [50, 58, 6, 25, 6, 180, 0, 145, 153, 0, 18, 25, 6, 180, 0, 149, 43, 182, 0, 152, 192, 0, 156]
abbrev dktX3_entryOf_1 : List UInt8 := dkwX3_entryOf_1 ++ dktX3_entryOf_2
def dkwX3_entryOf_0 : List UInt8 := [1, 77, 42, 180, 0, 86, 78, 45, 190, 54, 4, 3, 54, 5, 21, 5, 21, 4, 162, 0, 53, 45, 21, 5]
abbrev dktX3_entryOf_0 : List UInt8 := dkwX3_entryOf_0 ++ dktX3_entryOf_1
theorem dksX3_entryOf_0 : cX3_entryOf.data.toList.drop 0 = dktX3_entryOf_0 := by decide +kernel
theorem dksX3_entryOf_1 : cX3_entryOf.data.toList.drop 24 = dktX3_entryOf_1 := dk_seg dksX3_entryOf_0 24 rfl rfl
theorem dksX3_entryOf_2 : cX3_entryOf.data.toList.drop 47 = dktX3_entryOf_2 := dk_seg dksX3_entryOf_1 23 rfl rfl
theorem dksX3_entryOf_3 : cX3_entryOf.data.toList.drop 71 = dktX3_entryOf_3 := dk_seg dksX3_entryOf_2 24 rfl rfl
theorem dX3_entryOf_0 : decode cX3_entryOf 0 = .ok (.aconst_null, 1) := dk_1 (dk_at dksX3_entryOf_0 0 rfl rfl)
theorem dX3_entryOf_1 : decode cX3_entryOf 1 = .ok (.astore_n 2, 1) := dk_77 (dk_at dksX3_entryOf_0 1 rfl rfl)
theorem dX3_entryOf_2 : decode cX3_entryOf 2 = .ok (.aload_n 0, 1) := dk_42 (dk_at dksX3_entryOf_0 2 rfl rfl)
theorem dX3_entryOf_3 : decode cX3_entryOf 3 = .ok (.getfield 86, 3) := dk_180 0 86 (dk_at dksX3_entryOf_0 3 rfl rfl)
theorem dX3_entryOf_6 : decode cX3_entryOf 6 = .ok (.astore_n 3, 1) := dk_78 (dk_at dksX3_entryOf_0 6 rfl rfl)
theorem dX3_entryOf_7 : decode cX3_entryOf 7 = .ok (.aload_n 3, 1) := dk_45 (dk_at dksX3_entryOf_0 7 rfl rfl)
theorem dX3_entryOf_8 : decode cX3_entryOf 8 = .ok (.arraylength, 1) := dk_190 (dk_at dksX3_entryOf_0 8 rfl rfl)
theorem dX3_entryOf_9 : decode cX3_entryOf 9 = .ok (.istore 4, 2) := dk_54 4 (dk_at dksX3_entryOf_0 9 rfl rfl)
theorem dX3_entryOf_11 : decode cX3_entryOf 11 = .ok (.iconst 0, 1) := dk_3 (dk_at dksX3_entryOf_0 11 rfl rfl)
theorem dX3_entryOf_12 : decode cX3_entryOf 12 = .ok (.istore 5, 2) := dk_54 5 (dk_at dksX3_entryOf_0 12 rfl rfl)
theorem dX3_entryOf_14 : decode cX3_entryOf 14 = .ok (.iload 5, 2) := dk_21 5 (dk_at dksX3_entryOf_0 14 rfl rfl)
theorem dX3_entryOf_16 : decode cX3_entryOf 16 = .ok (.iload 4, 2) := dk_21 4 (dk_at dksX3_entryOf_0 16 rfl rfl)
theorem dX3_entryOf_18 : decode cX3_entryOf 18 = .ok (.if_icmp .ge 53, 3) := dk_162 0 53 (dk_at dksX3_entryOf_0 18 rfl rfl)
theorem dX3_entryOf_21 : decode cX3_entryOf 21 = .ok (.aload_n 3, 1) := dk_45 (dk_at dksX3_entryOf_0 21 rfl rfl)
theorem dX3_entryOf_22 : decode cX3_entryOf 22 = .ok (.iload 5, 2) := dk_21 5 (dk_at dksX3_entryOf_0 22 rfl rfl)
theorem dX3_entryOf_24 : decode cX3_entryOf 24 = .ok (.aaload, 1) := dk_50 (dk_at dksX3_entryOf_1 0 rfl rfl)
theorem dX3_entryOf_25 : decode cX3_entryOf 25 = .ok (.astore 6, 2) := dk_58 6 (dk_at dksX3_entryOf_1 1 rfl rfl)
theorem dX3_entryOf_27 : decode cX3_entryOf 27 = .ok (.aload 6, 2) := dk_25 6 (dk_at dksX3_entryOf_1 3 rfl rfl)
theorem dX3_entryOf_29 : decode cX3_entryOf 29 = .ok (.getfield 145, 3) := dk_180 0 145 (dk_at dksX3_entryOf_1 5 rfl rfl)
theorem dX3_entryOf_32 : decode cX3_entryOf 32 = .ok (.ifCond .eq 18, 3) := dk_153 0 18 (dk_at dksX3_entryOf_1 8 rfl rfl)
theorem dX3_entryOf_35 : decode cX3_entryOf 35 = .ok (.aload 6, 2) := dk_25 6 (dk_at dksX3_entryOf_1 11 rfl rfl)
theorem dX3_entryOf_37 : decode cX3_entryOf 37 = .ok (.getfield 149, 3) := dk_180 0 149 (dk_at dksX3_entryOf_1 13 rfl rfl)
theorem dX3_entryOf_40 : decode cX3_entryOf 40 = .ok (.aload_n 1, 1) := dk_43 (dk_at dksX3_entryOf_1 16 rfl rfl)
theorem dX3_entryOf_41 : decode cX3_entryOf 41 = .ok (.invokevirtual 152, 3) := dk_182 0 152 (dk_at dksX3_entryOf_1 17 rfl rfl)
theorem dX3_entryOf_44 : decode cX3_entryOf 44 = .ok (.checkcast 156, 3) := dk_192 0 156 (dk_at dksX3_entryOf_1 20 rfl rfl)
theorem dX3_entryOf_47 : decode cX3_entryOf 47 = .ok (.goto 4, 3) := dk_167 0 4 (dk_at dksX3_entryOf_2 0 rfl rfl)
theorem dX3_entryOf_50 : decode cX3_entryOf 50 = .ok (.aconst_null, 1) := dk_1 (dk_at dksX3_entryOf_2 3 rfl rfl)
theorem dX3_entryOf_51 : decode cX3_entryOf 51 = .ok (.astore 7, 2) := dk_58 7 (dk_at dksX3_entryOf_2 4 rfl rfl)
theorem dX3_entryOf_53 : decode cX3_entryOf 53 = .ok (.aload 7, 2) := dk_25 7 (dk_at dksX3_entryOf_2 6 rfl rfl)
theorem dX3_entryOf_55 : decode cX3_entryOf 55 = .ok (.ifnonnull 7, 3) := dk_199 0 7 (dk_at dksX3_entryOf_2 8 rfl rfl)
theorem dX3_entryOf_58 : decode cX3_entryOf 58 = .ok (.aload_n 2, 1) := dk_44 (dk_at dksX3_entryOf_2 11 rfl rfl)
theorem dX3_entryOf_59 : decode cX3_entryOf 59 = .ok (.goto 5, 3) := dk_167 0 5 (dk_at dksX3_entryOf_2 12 rfl rfl)
theorem dX3_entryOf_62 : decode cX3_entryOf 62 = .ok (.aload 7, 2) := dk_25 7 (dk_at dksX3_entryOf_2 15 rfl rfl)
theorem dX3_entryOf_64 : decode cX3_entryOf 64 = .ok (.astore_n 2, 1) := dk_77 (dk_at dksX3_entryOf_2 17 rfl rfl)
theorem dX3_entryOf_65 : decode cX3_entryOf 65 = .ok (.iinc 5 1, 3) := dk_132 5 1 (dk_at dksX3_entryOf_2 18 rfl rfl)
theorem dX3_entryOf_68 : decode cX3_entryOf 68 = .ok (.goto (-54), 3) := dk_167 255 202 (dk_at dksX3_entryOf_2 21 rfl rfl)
theorem dX3_entryOf_71 : decode cX3_entryOf 71 = .ok (.aload_n 2, 1) := dk_44 (dk_at dksX3_entryOf_3 0 rfl rfl)
theorem dX3_entryOf_72 : decode cX3_entryOf 72 = .ok (.areturn, 1) := dk_176 (dk_at dksX3_entryOf_3 1 rfl rfl)
abbrev cX3_stroke : ByteArray := prog_16_method_20_code
def yX3_stroke : MethodName := ⟨RX3, "stroke", "(I)I"⟩
def dkwX3_stroke_2 : List UInt8 := [182, 0, 227, 42, 180, 0, 70, 182, 0, 163, 172]
abbrev dktX3_stroke_2 : List UInt8 := dkwX3_stroke_2 ++ []
def dkwX3_stroke_1 : List UInt8 := [160, 0, 7, 5, 167, 0, 4, 3, 181, 0, 123, 42, 180, 0, 123, 158, 0, 5, 3, 172, 42, 27, 4]
abbrev dktX3_stroke_1 : List UInt8 := dkwX3_stroke_1 ++ dktX3_stroke_2
def dkwX3_stroke_0 : List UInt8 := [42, 27, 4, 18, 230, 184, 0, 220, 154, 0, 7, 4, 167, 0, 20, 42, 180, 0, 70, 182, 0, 163, 16, 100]
abbrev dktX3_stroke_0 : List UInt8 := dkwX3_stroke_0 ++ dktX3_stroke_1
theorem dksX3_stroke_0 : cX3_stroke.data.toList.drop 0 = dktX3_stroke_0 := by decide +kernel
theorem dksX3_stroke_1 : cX3_stroke.data.toList.drop 24 = dktX3_stroke_1 := dk_seg dksX3_stroke_0 24 rfl rfl
theorem dksX3_stroke_2 : cX3_stroke.data.toList.drop 47 = dktX3_stroke_2 := dk_seg dksX3_stroke_1 23 rfl rfl
theorem dX3_stroke_0 : decode cX3_stroke 0 = .ok (.aload_n 0, 1) := dk_42 (dk_at dksX3_stroke_0 0 rfl rfl)
theorem dX3_stroke_1 : decode cX3_stroke 1 = .ok (.iload_n 1, 1) := dk_27 (dk_at dksX3_stroke_0 1 rfl rfl)
theorem dX3_stroke_2 : decode cX3_stroke 2 = .ok (.iconst 1, 1) := dk_4 (dk_at dksX3_stroke_0 2 rfl rfl)
theorem dX3_stroke_3 : decode cX3_stroke 3 = .ok (.ldc 230, 2) := dk_18 230 (dk_at dksX3_stroke_0 3 rfl rfl)
theorem dX3_stroke_5 : decode cX3_stroke 5 = .ok (.invokestatic 220, 3) := dk_184 0 220 (dk_at dksX3_stroke_0 5 rfl rfl)
theorem dX3_stroke_8 : decode cX3_stroke 8 = .ok (.ifCond .ne 7, 3) := dk_154 0 7 (dk_at dksX3_stroke_0 8 rfl rfl)
theorem dX3_stroke_11 : decode cX3_stroke 11 = .ok (.iconst 1, 1) := dk_4 (dk_at dksX3_stroke_0 11 rfl rfl)
theorem dX3_stroke_12 : decode cX3_stroke 12 = .ok (.goto 20, 3) := dk_167 0 20 (dk_at dksX3_stroke_0 12 rfl rfl)
theorem dX3_stroke_15 : decode cX3_stroke 15 = .ok (.aload_n 0, 1) := dk_42 (dk_at dksX3_stroke_0 15 rfl rfl)
theorem dX3_stroke_16 : decode cX3_stroke 16 = .ok (.getfield 70, 3) := dk_180 0 70 (dk_at dksX3_stroke_0 16 rfl rfl)
theorem dX3_stroke_19 : decode cX3_stroke 19 = .ok (.invokevirtual 163, 3) := dk_182 0 163 (dk_at dksX3_stroke_0 19 rfl rfl)
theorem dX3_stroke_22 : decode cX3_stroke 22 = .ok (.bipush 100, 2) := dk_16 100 (dk_at dksX3_stroke_0 22 rfl rfl)
theorem dX3_stroke_24 : decode cX3_stroke 24 = .ok (.if_icmp .ne 7, 3) := dk_160 0 7 (dk_at dksX3_stroke_1 0 rfl rfl)
theorem dX3_stroke_27 : decode cX3_stroke 27 = .ok (.iconst 2, 1) := dk_5 (dk_at dksX3_stroke_1 3 rfl rfl)
theorem dX3_stroke_28 : decode cX3_stroke 28 = .ok (.goto 4, 3) := dk_167 0 4 (dk_at dksX3_stroke_1 4 rfl rfl)
theorem dX3_stroke_31 : decode cX3_stroke 31 = .ok (.iconst 0, 1) := dk_3 (dk_at dksX3_stroke_1 7 rfl rfl)
theorem dX3_stroke_32 : decode cX3_stroke 32 = .ok (.putfield 123, 3) := dk_181 0 123 (dk_at dksX3_stroke_1 8 rfl rfl)
theorem dX3_stroke_35 : decode cX3_stroke 35 = .ok (.aload_n 0, 1) := dk_42 (dk_at dksX3_stroke_1 11 rfl rfl)
theorem dX3_stroke_36 : decode cX3_stroke 36 = .ok (.getfield 123, 3) := dk_180 0 123 (dk_at dksX3_stroke_1 12 rfl rfl)
theorem dX3_stroke_39 : decode cX3_stroke 39 = .ok (.ifCond .le 5, 3) := dk_158 0 5 (dk_at dksX3_stroke_1 15 rfl rfl)
theorem dX3_stroke_42 : decode cX3_stroke 42 = .ok (.iconst 0, 1) := dk_3 (dk_at dksX3_stroke_1 18 rfl rfl)
theorem dX3_stroke_43 : decode cX3_stroke 43 = .ok (.ireturn, 1) := dk_172 (dk_at dksX3_stroke_1 19 rfl rfl)
theorem dX3_stroke_44 : decode cX3_stroke 44 = .ok (.aload_n 0, 1) := dk_42 (dk_at dksX3_stroke_1 20 rfl rfl)
theorem dX3_stroke_45 : decode cX3_stroke 45 = .ok (.iload_n 1, 1) := dk_27 (dk_at dksX3_stroke_1 21 rfl rfl)
theorem dX3_stroke_46 : decode cX3_stroke 46 = .ok (.iconst 1, 1) := dk_4 (dk_at dksX3_stroke_1 22 rfl rfl)
theorem dX3_stroke_47 : decode cX3_stroke 47 = .ok (.invokevirtual 227, 3) := dk_182 0 227 (dk_at dksX3_stroke_2 0 rfl rfl)
theorem dX3_stroke_50 : decode cX3_stroke 50 = .ok (.aload_n 0, 1) := dk_42 (dk_at dksX3_stroke_2 3 rfl rfl)
theorem dX3_stroke_51 : decode cX3_stroke 51 = .ok (.getfield 70, 3) := dk_180 0 70 (dk_at dksX3_stroke_2 4 rfl rfl)
theorem dX3_stroke_54 : decode cX3_stroke 54 = .ok (.invokevirtual 163, 3) := dk_182 0 163 (dk_at dksX3_stroke_2 7 rfl rfl)
theorem dX3_stroke_57 : decode cX3_stroke 57 = .ok (.ireturn, 1) := dk_172 (dk_at dksX3_stroke_2 10 rfl rfl)
abbrev cX3_undo : ByteArray := prog_16_method_21_code
def yX3_undo : MethodName := ⟨RX3, "undo", "()I"⟩
def dkwX3_undo_2 : List UInt8 := [76, 42, 182, 0, 205, 43, 3, 46, 172]
abbrev dktX3_undo_2 : List UInt8 := dkwX3_undo_2 ++ []
def dkwX3_undo_1 : List UInt8 := [158, 0, 5, 3, 172, 42, 180, 0, 70, 42, 180, 0, 70, 182, 0, 163, 4, 100, 182, 0, 189, 192, 0, 161]
abbrev dktX3_undo_1 : List UInt8 := dkwX3_undo_1 ++ dktX3_undo_2
def dkwX3_undo_0 : List UInt8 := [42, 42, 180, 0, 70, 182, 0, 231, 153, 0, 7, 4, 167, 0, 4, 3, 181, 0, 123, 42, 180, 0, 123]
abbrev dktX3_undo_0 : List UInt8 := dkwX3_undo_0 ++ dktX3_undo_1
theorem dksX3_undo_0 : cX3_undo.data.toList.drop 0 = dktX3_undo_0 := by decide +kernel
theorem dksX3_undo_1 : cX3_undo.data.toList.drop 23 = dktX3_undo_1 := dk_seg dksX3_undo_0 23 rfl rfl
theorem dksX3_undo_2 : cX3_undo.data.toList.drop 47 = dktX3_undo_2 := dk_seg dksX3_undo_1 24 rfl rfl
theorem dX3_undo_0 : decode cX3_undo 0 = .ok (.aload_n 0, 1) := dk_42 (dk_at dksX3_undo_0 0 rfl rfl)
theorem dX3_undo_1 : decode cX3_undo 1 = .ok (.aload_n 0, 1) := dk_42 (dk_at dksX3_undo_0 1 rfl rfl)
theorem dX3_undo_2 : decode cX3_undo 2 = .ok (.getfield 70, 3) := dk_180 0 70 (dk_at dksX3_undo_0 2 rfl rfl)
theorem dX3_undo_5 : decode cX3_undo 5 = .ok (.invokevirtual 231, 3) := dk_182 0 231 (dk_at dksX3_undo_0 5 rfl rfl)
theorem dX3_undo_8 : decode cX3_undo 8 = .ok (.ifCond .eq 7, 3) := dk_153 0 7 (dk_at dksX3_undo_0 8 rfl rfl)
theorem dX3_undo_11 : decode cX3_undo 11 = .ok (.iconst 1, 1) := dk_4 (dk_at dksX3_undo_0 11 rfl rfl)
theorem dX3_undo_12 : decode cX3_undo 12 = .ok (.goto 4, 3) := dk_167 0 4 (dk_at dksX3_undo_0 12 rfl rfl)
theorem dX3_undo_15 : decode cX3_undo 15 = .ok (.iconst 0, 1) := dk_3 (dk_at dksX3_undo_0 15 rfl rfl)
theorem dX3_undo_16 : decode cX3_undo 16 = .ok (.putfield 123, 3) := dk_181 0 123 (dk_at dksX3_undo_0 16 rfl rfl)
theorem dX3_undo_19 : decode cX3_undo 19 = .ok (.aload_n 0, 1) := dk_42 (dk_at dksX3_undo_0 19 rfl rfl)
theorem dX3_undo_20 : decode cX3_undo 20 = .ok (.getfield 123, 3) := dk_180 0 123 (dk_at dksX3_undo_0 20 rfl rfl)
theorem dX3_undo_23 : decode cX3_undo 23 = .ok (.ifCond .le 5, 3) := dk_158 0 5 (dk_at dksX3_undo_1 0 rfl rfl)
theorem dX3_undo_26 : decode cX3_undo 26 = .ok (.iconst 0, 1) := dk_3 (dk_at dksX3_undo_1 3 rfl rfl)
theorem dX3_undo_27 : decode cX3_undo 27 = .ok (.ireturn, 1) := dk_172 (dk_at dksX3_undo_1 4 rfl rfl)
theorem dX3_undo_28 : decode cX3_undo 28 = .ok (.aload_n 0, 1) := dk_42 (dk_at dksX3_undo_1 5 rfl rfl)
theorem dX3_undo_29 : decode cX3_undo 29 = .ok (.getfield 70, 3) := dk_180 0 70 (dk_at dksX3_undo_1 6 rfl rfl)
theorem dX3_undo_32 : decode cX3_undo 32 = .ok (.aload_n 0, 1) := dk_42 (dk_at dksX3_undo_1 9 rfl rfl)
theorem dX3_undo_33 : decode cX3_undo 33 = .ok (.getfield 70, 3) := dk_180 0 70 (dk_at dksX3_undo_1 10 rfl rfl)
theorem dX3_undo_36 : decode cX3_undo 36 = .ok (.invokevirtual 163, 3) := dk_182 0 163 (dk_at dksX3_undo_1 13 rfl rfl)
theorem dX3_undo_39 : decode cX3_undo 39 = .ok (.iconst 1, 1) := dk_4 (dk_at dksX3_undo_1 16 rfl rfl)
theorem dX3_undo_40 : decode cX3_undo 40 = .ok (.isub, 1) := dk_100 (dk_at dksX3_undo_1 17 rfl rfl)
theorem dX3_undo_41 : decode cX3_undo 41 = .ok (.invokevirtual 189, 3) := dk_182 0 189 (dk_at dksX3_undo_1 18 rfl rfl)
theorem dX3_undo_44 : decode cX3_undo 44 = .ok (.checkcast 161, 3) := dk_192 0 161 (dk_at dksX3_undo_1 21 rfl rfl)
theorem dX3_undo_47 : decode cX3_undo 47 = .ok (.astore_n 1, 1) := dk_76 (dk_at dksX3_undo_2 0 rfl rfl)
theorem dX3_undo_48 : decode cX3_undo 48 = .ok (.aload_n 0, 1) := dk_42 (dk_at dksX3_undo_2 1 rfl rfl)
theorem dX3_undo_49 : decode cX3_undo 49 = .ok (.invokevirtual 205, 3) := dk_182 0 205 (dk_at dksX3_undo_2 2 rfl rfl)
theorem dX3_undo_52 : decode cX3_undo 52 = .ok (.aload_n 1, 1) := dk_43 (dk_at dksX3_undo_2 5 rfl rfl)
theorem dX3_undo_53 : decode cX3_undo 53 = .ok (.iconst 0, 1) := dk_3 (dk_at dksX3_undo_2 6 rfl rfl)
theorem dX3_undo_54 : decode cX3_undo 54 = .ok (.iaload, 1) := dk_46 (dk_at dksX3_undo_2 7 rfl rfl)
theorem dX3_undo_55 : decode cX3_undo 55 = .ok (.ireturn, 1) := dk_172 (dk_at dksX3_undo_2 8 rfl rfl)
abbrev cX3_strokes : ByteArray := prog_16_method_22_code
def yX3_strokes : MethodName := ⟨RX3, "strokes", "()I"⟩
def dkwX3_strokes_0 : List UInt8 := [42, 3, 181, 0, 123, 42, 180, 0, 70, 182, 0, 163, 172]
abbrev dktX3_strokes_0 : List UInt8 := dkwX3_strokes_0 ++ []
theorem dksX3_strokes_0 : cX3_strokes.data.toList.drop 0 = dktX3_strokes_0 := by decide +kernel
theorem dX3_strokes_0 : decode cX3_strokes 0 = .ok (.aload_n 0, 1) := dk_42 (dk_at dksX3_strokes_0 0 rfl rfl)
theorem dX3_strokes_1 : decode cX3_strokes 1 = .ok (.iconst 0, 1) := dk_3 (dk_at dksX3_strokes_0 1 rfl rfl)
theorem dX3_strokes_2 : decode cX3_strokes 2 = .ok (.putfield 123, 3) := dk_181 0 123 (dk_at dksX3_strokes_0 2 rfl rfl)
theorem dX3_strokes_5 : decode cX3_strokes 5 = .ok (.aload_n 0, 1) := dk_42 (dk_at dksX3_strokes_0 5 rfl rfl)
theorem dX3_strokes_6 : decode cX3_strokes 6 = .ok (.getfield 70, 3) := dk_180 0 70 (dk_at dksX3_strokes_0 6 rfl rfl)
theorem dX3_strokes_9 : decode cX3_strokes 9 = .ok (.invokevirtual 163, 3) := dk_182 0 163 (dk_at dksX3_strokes_0 9 rfl rfl)
theorem dX3_strokes_12 : decode cX3_strokes 12 = .ok (.ireturn, 1) := dk_172 (dk_at dksX3_strokes_0 12 rfl rfl)
abbrev cX3_strokeAt : ByteArray := prog_16_method_23_code
def yX3_strokeAt : MethodName := ⟨RX3, "strokeAt", "(I)I"⟩
def dkwX3_strokeAt_2 : List UInt8 := [192, 0, 161, 3, 46, 172]
abbrev dktX3_strokeAt_2 : List UInt8 := dkwX3_strokeAt_2 ++ []
def dkwX3_strokeAt_1 : List UInt8 := [181, 0, 123, 42, 180, 0, 123, 158, 0, 7, 3, 167, 0, 16, 42, 180, 0, 70, 27, 182, 0, 158]
abbrev dktX3_strokeAt_1 : List UInt8 := dkwX3_strokeAt_1 ++ dktX3_strokeAt_2
def dkwX3_strokeAt_0 : List UInt8 := [42, 27, 3, 42, 180, 0, 70, 182, 0, 163, 4, 100, 184, 0, 220, 153, 0, 7, 3, 167, 0, 4, 4]
abbrev dktX3_strokeAt_0 : List UInt8 := dkwX3_strokeAt_0 ++ dktX3_strokeAt_1
theorem dksX3_strokeAt_0 : cX3_strokeAt.data.toList.drop 0 = dktX3_strokeAt_0 := by decide +kernel
theorem dksX3_strokeAt_1 : cX3_strokeAt.data.toList.drop 23 = dktX3_strokeAt_1 := dk_seg dksX3_strokeAt_0 23 rfl rfl
theorem dksX3_strokeAt_2 : cX3_strokeAt.data.toList.drop 45 = dktX3_strokeAt_2 := dk_seg dksX3_strokeAt_1 22 rfl rfl
theorem dX3_strokeAt_0 : decode cX3_strokeAt 0 = .ok (.aload_n 0, 1) := dk_42 (dk_at dksX3_strokeAt_0 0 rfl rfl)
theorem dX3_strokeAt_1 : decode cX3_strokeAt 1 = .ok (.iload_n 1, 1) := dk_27 (dk_at dksX3_strokeAt_0 1 rfl rfl)
theorem dX3_strokeAt_2 : decode cX3_strokeAt 2 = .ok (.iconst 0, 1) := dk_3 (dk_at dksX3_strokeAt_0 2 rfl rfl)
theorem dX3_strokeAt_3 : decode cX3_strokeAt 3 = .ok (.aload_n 0, 1) := dk_42 (dk_at dksX3_strokeAt_0 3 rfl rfl)
theorem dX3_strokeAt_4 : decode cX3_strokeAt 4 = .ok (.getfield 70, 3) := dk_180 0 70 (dk_at dksX3_strokeAt_0 4 rfl rfl)
theorem dX3_strokeAt_7 : decode cX3_strokeAt 7 = .ok (.invokevirtual 163, 3) := dk_182 0 163 (dk_at dksX3_strokeAt_0 7 rfl rfl)
theorem dX3_strokeAt_10 : decode cX3_strokeAt 10 = .ok (.iconst 1, 1) := dk_4 (dk_at dksX3_strokeAt_0 10 rfl rfl)
theorem dX3_strokeAt_11 : decode cX3_strokeAt 11 = .ok (.isub, 1) := dk_100 (dk_at dksX3_strokeAt_0 11 rfl rfl)
theorem dX3_strokeAt_12 : decode cX3_strokeAt 12 = .ok (.invokestatic 220, 3) := dk_184 0 220 (dk_at dksX3_strokeAt_0 12 rfl rfl)
theorem dX3_strokeAt_15 : decode cX3_strokeAt 15 = .ok (.ifCond .eq 7, 3) := dk_153 0 7 (dk_at dksX3_strokeAt_0 15 rfl rfl)
theorem dX3_strokeAt_18 : decode cX3_strokeAt 18 = .ok (.iconst 0, 1) := dk_3 (dk_at dksX3_strokeAt_0 18 rfl rfl)
theorem dX3_strokeAt_19 : decode cX3_strokeAt 19 = .ok (.goto 4, 3) := dk_167 0 4 (dk_at dksX3_strokeAt_0 19 rfl rfl)
theorem dX3_strokeAt_22 : decode cX3_strokeAt 22 = .ok (.iconst 1, 1) := dk_4 (dk_at dksX3_strokeAt_0 22 rfl rfl)
theorem dX3_strokeAt_23 : decode cX3_strokeAt 23 = .ok (.putfield 123, 3) := dk_181 0 123 (dk_at dksX3_strokeAt_1 0 rfl rfl)
theorem dX3_strokeAt_26 : decode cX3_strokeAt 26 = .ok (.aload_n 0, 1) := dk_42 (dk_at dksX3_strokeAt_1 3 rfl rfl)
theorem dX3_strokeAt_27 : decode cX3_strokeAt 27 = .ok (.getfield 123, 3) := dk_180 0 123 (dk_at dksX3_strokeAt_1 4 rfl rfl)
theorem dX3_strokeAt_30 : decode cX3_strokeAt 30 = .ok (.ifCond .le 7, 3) := dk_158 0 7 (dk_at dksX3_strokeAt_1 7 rfl rfl)
theorem dX3_strokeAt_33 : decode cX3_strokeAt 33 = .ok (.iconst 0, 1) := dk_3 (dk_at dksX3_strokeAt_1 10 rfl rfl)
theorem dX3_strokeAt_34 : decode cX3_strokeAt 34 = .ok (.goto 16, 3) := dk_167 0 16 (dk_at dksX3_strokeAt_1 11 rfl rfl)
theorem dX3_strokeAt_37 : decode cX3_strokeAt 37 = .ok (.aload_n 0, 1) := dk_42 (dk_at dksX3_strokeAt_1 14 rfl rfl)
theorem dX3_strokeAt_38 : decode cX3_strokeAt 38 = .ok (.getfield 70, 3) := dk_180 0 70 (dk_at dksX3_strokeAt_1 15 rfl rfl)
theorem dX3_strokeAt_41 : decode cX3_strokeAt 41 = .ok (.iload_n 1, 1) := dk_27 (dk_at dksX3_strokeAt_1 18 rfl rfl)
theorem dX3_strokeAt_42 : decode cX3_strokeAt 42 = .ok (.invokevirtual 158, 3) := dk_182 0 158 (dk_at dksX3_strokeAt_1 19 rfl rfl)
theorem dX3_strokeAt_45 : decode cX3_strokeAt 45 = .ok (.checkcast 161, 3) := dk_192 0 161 (dk_at dksX3_strokeAt_2 0 rfl rfl)
theorem dX3_strokeAt_48 : decode cX3_strokeAt 48 = .ok (.iconst 0, 1) := dk_3 (dk_at dksX3_strokeAt_2 3 rfl rfl)
theorem dX3_strokeAt_49 : decode cX3_strokeAt 49 = .ok (.iaload, 1) := dk_46 (dk_at dksX3_strokeAt_2 4 rfl rfl)
theorem dX3_strokeAt_50 : decode cX3_strokeAt 50 = .ok (.ireturn, 1) := dk_172 (dk_at dksX3_strokeAt_2 5 rfl rfl)
abbrev cX3_chord : ByteArray := prog_16_method_24_code
def yX3_chord : MethodName := ⟨RX3, "chord", "(I)I"⟩
def dkwX3_chord_2 : List UInt8 := [27, 184, 0, 234, 182, 0, 202, 87, 42, 180, 0, 74, 182, 0, 163, 172]
abbrev dktX3_chord_2 : List UInt8 := dkwX3_chord_2 ++ []
def dkwX3_chord_1 : List UInt8 := [160, 0, 7, 5, 167, 0, 4, 3, 181, 0, 123, 42, 180, 0, 123, 158, 0, 5, 3, 172, 42, 180, 0, 74]
abbrev dktX3_chord_1 : List UInt8 := dkwX3_chord_1 ++ dktX3_chord_2
def dkwX3_chord_0 : List UInt8 := [42, 27, 4, 18, 230, 184, 0, 220, 154, 0, 7, 4, 167, 0, 19, 42, 180, 0, 74, 182, 0, 163, 7]
abbrev dktX3_chord_0 : List UInt8 := dkwX3_chord_0 ++ dktX3_chord_1
theorem dksX3_chord_0 : cX3_chord.data.toList.drop 0 = dktX3_chord_0 := by decide +kernel
theorem dksX3_chord_1 : cX3_chord.data.toList.drop 23 = dktX3_chord_1 := dk_seg dksX3_chord_0 23 rfl rfl
theorem dksX3_chord_2 : cX3_chord.data.toList.drop 47 = dktX3_chord_2 := dk_seg dksX3_chord_1 24 rfl rfl
theorem dX3_chord_0 : decode cX3_chord 0 = .ok (.aload_n 0, 1) := dk_42 (dk_at dksX3_chord_0 0 rfl rfl)
theorem dX3_chord_1 : decode cX3_chord 1 = .ok (.iload_n 1, 1) := dk_27 (dk_at dksX3_chord_0 1 rfl rfl)
theorem dX3_chord_2 : decode cX3_chord 2 = .ok (.iconst 1, 1) := dk_4 (dk_at dksX3_chord_0 2 rfl rfl)
theorem dX3_chord_3 : decode cX3_chord 3 = .ok (.ldc 230, 2) := dk_18 230 (dk_at dksX3_chord_0 3 rfl rfl)
theorem dX3_chord_5 : decode cX3_chord 5 = .ok (.invokestatic 220, 3) := dk_184 0 220 (dk_at dksX3_chord_0 5 rfl rfl)
theorem dX3_chord_8 : decode cX3_chord 8 = .ok (.ifCond .ne 7, 3) := dk_154 0 7 (dk_at dksX3_chord_0 8 rfl rfl)
theorem dX3_chord_11 : decode cX3_chord 11 = .ok (.iconst 1, 1) := dk_4 (dk_at dksX3_chord_0 11 rfl rfl)
theorem dX3_chord_12 : decode cX3_chord 12 = .ok (.goto 19, 3) := dk_167 0 19 (dk_at dksX3_chord_0 12 rfl rfl)
theorem dX3_chord_15 : decode cX3_chord 15 = .ok (.aload_n 0, 1) := dk_42 (dk_at dksX3_chord_0 15 rfl rfl)
theorem dX3_chord_16 : decode cX3_chord 16 = .ok (.getfield 74, 3) := dk_180 0 74 (dk_at dksX3_chord_0 16 rfl rfl)
theorem dX3_chord_19 : decode cX3_chord 19 = .ok (.invokevirtual 163, 3) := dk_182 0 163 (dk_at dksX3_chord_0 19 rfl rfl)
theorem dX3_chord_22 : decode cX3_chord 22 = .ok (.iconst 4, 1) := dk_7 (dk_at dksX3_chord_0 22 rfl rfl)
theorem dX3_chord_23 : decode cX3_chord 23 = .ok (.if_icmp .ne 7, 3) := dk_160 0 7 (dk_at dksX3_chord_1 0 rfl rfl)
theorem dX3_chord_26 : decode cX3_chord 26 = .ok (.iconst 2, 1) := dk_5 (dk_at dksX3_chord_1 3 rfl rfl)
theorem dX3_chord_27 : decode cX3_chord 27 = .ok (.goto 4, 3) := dk_167 0 4 (dk_at dksX3_chord_1 4 rfl rfl)
theorem dX3_chord_30 : decode cX3_chord 30 = .ok (.iconst 0, 1) := dk_3 (dk_at dksX3_chord_1 7 rfl rfl)
theorem dX3_chord_31 : decode cX3_chord 31 = .ok (.putfield 123, 3) := dk_181 0 123 (dk_at dksX3_chord_1 8 rfl rfl)
theorem dX3_chord_34 : decode cX3_chord 34 = .ok (.aload_n 0, 1) := dk_42 (dk_at dksX3_chord_1 11 rfl rfl)
theorem dX3_chord_35 : decode cX3_chord 35 = .ok (.getfield 123, 3) := dk_180 0 123 (dk_at dksX3_chord_1 12 rfl rfl)
theorem dX3_chord_38 : decode cX3_chord 38 = .ok (.ifCond .le 5, 3) := dk_158 0 5 (dk_at dksX3_chord_1 15 rfl rfl)
theorem dX3_chord_41 : decode cX3_chord 41 = .ok (.iconst 0, 1) := dk_3 (dk_at dksX3_chord_1 18 rfl rfl)
theorem dX3_chord_42 : decode cX3_chord 42 = .ok (.ireturn, 1) := dk_172 (dk_at dksX3_chord_1 19 rfl rfl)
theorem dX3_chord_43 : decode cX3_chord 43 = .ok (.aload_n 0, 1) := dk_42 (dk_at dksX3_chord_1 20 rfl rfl)
theorem dX3_chord_44 : decode cX3_chord 44 = .ok (.getfield 74, 3) := dk_180 0 74 (dk_at dksX3_chord_1 21 rfl rfl)
theorem dX3_chord_47 : decode cX3_chord 47 = .ok (.iload_n 1, 1) := dk_27 (dk_at dksX3_chord_2 0 rfl rfl)
theorem dX3_chord_48 : decode cX3_chord 48 = .ok (.invokestatic 234, 3) := dk_184 0 234 (dk_at dksX3_chord_2 1 rfl rfl)
theorem dX3_chord_51 : decode cX3_chord 51 = .ok (.invokevirtual 202, 3) := dk_182 0 202 (dk_at dksX3_chord_2 4 rfl rfl)
theorem dX3_chord_54 : decode cX3_chord 54 = .ok (.pop, 1) := dk_87 (dk_at dksX3_chord_2 7 rfl rfl)
theorem dX3_chord_55 : decode cX3_chord 55 = .ok (.aload_n 0, 1) := dk_42 (dk_at dksX3_chord_2 8 rfl rfl)
theorem dX3_chord_56 : decode cX3_chord 56 = .ok (.getfield 74, 3) := dk_180 0 74 (dk_at dksX3_chord_2 9 rfl rfl)
theorem dX3_chord_59 : decode cX3_chord 59 = .ok (.invokevirtual 163, 3) := dk_182 0 163 (dk_at dksX3_chord_2 12 rfl rfl)
theorem dX3_chord_62 : decode cX3_chord 62 = .ok (.ireturn, 1) := dk_172 (dk_at dksX3_chord_2 15 rfl rfl)
abbrev cX3_sign : ByteArray := prog_16_method_25_code
def yX3_sign : MethodName := ⟨RX3, "sign", "(C)I"⟩
def dkwX3_sign_3 : List UInt8 := [182, 0, 38, 181, 0, 79, 42, 180, 0, 79, 182, 0, 18, 172]
abbrev dktX3_sign_3 : List UInt8 := dkwX3_sign_3 ++ []
def dkwX3_sign_2 : List UInt8 := [158, 0, 5, 3, 172, 187, 0, 26, 89, 183, 0, 28, 42, 90, 180, 0, 79, 182, 0, 32, 27, 182, 0, 46]
abbrev dktX3_sign_2 : List UInt8 := dkwX3_sign_2 ++ dktX3_sign_3
def dkwX3_sign_1 : List UInt8 := [180, 0, 79, 182, 0, 18, 16, 12, 160, 0, 7, 5, 167, 0, 4, 3, 181, 0, 123, 42, 180, 0, 123]
abbrev dktX3_sign_1 : List UInt8 := dkwX3_sign_1 ++ dktX3_sign_2
def dkwX3_sign_0 : List UInt8 := [42, 27, 184, 0, 1, 154, 0, 16, 18, 238, 27, 182, 0, 9, 156, 0, 7, 4, 167, 0, 20, 42]
abbrev dktX3_sign_0 : List UInt8 := dkwX3_sign_0 ++ dktX3_sign_1
theorem dksX3_sign_0 : cX3_sign.data.toList.drop 0 = dktX3_sign_0 := by decide +kernel
theorem dksX3_sign_1 : cX3_sign.data.toList.drop 22 = dktX3_sign_1 := dk_seg dksX3_sign_0 22 rfl rfl
theorem dksX3_sign_2 : cX3_sign.data.toList.drop 45 = dktX3_sign_2 := dk_seg dksX3_sign_1 23 rfl rfl
theorem dksX3_sign_3 : cX3_sign.data.toList.drop 69 = dktX3_sign_3 := dk_seg dksX3_sign_2 24 rfl rfl
theorem dX3_sign_0 : decode cX3_sign 0 = .ok (.aload_n 0, 1) := dk_42 (dk_at dksX3_sign_0 0 rfl rfl)
theorem dX3_sign_1 : decode cX3_sign 1 = .ok (.iload_n 1, 1) := dk_27 (dk_at dksX3_sign_0 1 rfl rfl)
theorem dX3_sign_2 : decode cX3_sign 2 = .ok (.invokestatic 1, 3) := dk_184 0 1 (dk_at dksX3_sign_0 2 rfl rfl)
theorem dX3_sign_5 : decode cX3_sign 5 = .ok (.ifCond .ne 16, 3) := dk_154 0 16 (dk_at dksX3_sign_0 5 rfl rfl)
theorem dX3_sign_8 : decode cX3_sign 8 = .ok (.ldc 238, 2) := dk_18 238 (dk_at dksX3_sign_0 8 rfl rfl)
theorem dX3_sign_10 : decode cX3_sign 10 = .ok (.iload_n 1, 1) := dk_27 (dk_at dksX3_sign_0 10 rfl rfl)
theorem dX3_sign_11 : decode cX3_sign 11 = .ok (.invokevirtual 9, 3) := dk_182 0 9 (dk_at dksX3_sign_0 11 rfl rfl)
theorem dX3_sign_14 : decode cX3_sign 14 = .ok (.ifCond .ge 7, 3) := dk_156 0 7 (dk_at dksX3_sign_0 14 rfl rfl)
theorem dX3_sign_17 : decode cX3_sign 17 = .ok (.iconst 1, 1) := dk_4 (dk_at dksX3_sign_0 17 rfl rfl)
theorem dX3_sign_18 : decode cX3_sign 18 = .ok (.goto 20, 3) := dk_167 0 20 (dk_at dksX3_sign_0 18 rfl rfl)
theorem dX3_sign_21 : decode cX3_sign 21 = .ok (.aload_n 0, 1) := dk_42 (dk_at dksX3_sign_0 21 rfl rfl)
theorem dX3_sign_22 : decode cX3_sign 22 = .ok (.getfield 79, 3) := dk_180 0 79 (dk_at dksX3_sign_1 0 rfl rfl)
theorem dX3_sign_25 : decode cX3_sign 25 = .ok (.invokevirtual 18, 3) := dk_182 0 18 (dk_at dksX3_sign_1 3 rfl rfl)
theorem dX3_sign_28 : decode cX3_sign 28 = .ok (.bipush 12, 2) := dk_16 12 (dk_at dksX3_sign_1 6 rfl rfl)
theorem dX3_sign_30 : decode cX3_sign 30 = .ok (.if_icmp .ne 7, 3) := dk_160 0 7 (dk_at dksX3_sign_1 8 rfl rfl)
theorem dX3_sign_33 : decode cX3_sign 33 = .ok (.iconst 2, 1) := dk_5 (dk_at dksX3_sign_1 11 rfl rfl)
theorem dX3_sign_34 : decode cX3_sign 34 = .ok (.goto 4, 3) := dk_167 0 4 (dk_at dksX3_sign_1 12 rfl rfl)
theorem dX3_sign_37 : decode cX3_sign 37 = .ok (.iconst 0, 1) := dk_3 (dk_at dksX3_sign_1 15 rfl rfl)
theorem dX3_sign_38 : decode cX3_sign 38 = .ok (.putfield 123, 3) := dk_181 0 123 (dk_at dksX3_sign_1 16 rfl rfl)
theorem dX3_sign_41 : decode cX3_sign 41 = .ok (.aload_n 0, 1) := dk_42 (dk_at dksX3_sign_1 19 rfl rfl)
theorem dX3_sign_42 : decode cX3_sign 42 = .ok (.getfield 123, 3) := dk_180 0 123 (dk_at dksX3_sign_1 20 rfl rfl)
theorem dX3_sign_45 : decode cX3_sign 45 = .ok (.ifCond .le 5, 3) := dk_158 0 5 (dk_at dksX3_sign_2 0 rfl rfl)
theorem dX3_sign_48 : decode cX3_sign 48 = .ok (.iconst 0, 1) := dk_3 (dk_at dksX3_sign_2 3 rfl rfl)
theorem dX3_sign_49 : decode cX3_sign 49 = .ok (.ireturn, 1) := dk_172 (dk_at dksX3_sign_2 4 rfl rfl)
theorem dX3_sign_50 : decode cX3_sign 50 = .ok (.new 26, 3) := dk_187 0 26 (dk_at dksX3_sign_2 5 rfl rfl)
theorem dX3_sign_53 : decode cX3_sign 53 = .ok (.dup, 1) := dk_89 (dk_at dksX3_sign_2 8 rfl rfl)
theorem dX3_sign_54 : decode cX3_sign 54 = .ok (.invokespecial 28, 3) := dk_183 0 28 (dk_at dksX3_sign_2 9 rfl rfl)
theorem dX3_sign_57 : decode cX3_sign 57 = .ok (.aload_n 0, 1) := dk_42 (dk_at dksX3_sign_2 12 rfl rfl)
theorem dX3_sign_58 : decode cX3_sign 58 = .ok (.dup_x1, 1) := dk_90 (dk_at dksX3_sign_2 13 rfl rfl)
theorem dX3_sign_59 : decode cX3_sign 59 = .ok (.getfield 79, 3) := dk_180 0 79 (dk_at dksX3_sign_2 14 rfl rfl)
theorem dX3_sign_62 : decode cX3_sign 62 = .ok (.invokevirtual 32, 3) := dk_182 0 32 (dk_at dksX3_sign_2 17 rfl rfl)
theorem dX3_sign_65 : decode cX3_sign 65 = .ok (.iload_n 1, 1) := dk_27 (dk_at dksX3_sign_2 20 rfl rfl)
theorem dX3_sign_66 : decode cX3_sign 66 = .ok (.invokevirtual 46, 3) := dk_182 0 46 (dk_at dksX3_sign_2 21 rfl rfl)
theorem dX3_sign_69 : decode cX3_sign 69 = .ok (.invokevirtual 38, 3) := dk_182 0 38 (dk_at dksX3_sign_3 0 rfl rfl)
theorem dX3_sign_72 : decode cX3_sign 72 = .ok (.putfield 79, 3) := dk_181 0 79 (dk_at dksX3_sign_3 3 rfl rfl)
theorem dX3_sign_75 : decode cX3_sign 75 = .ok (.aload_n 0, 1) := dk_42 (dk_at dksX3_sign_3 6 rfl rfl)
theorem dX3_sign_76 : decode cX3_sign 76 = .ok (.getfield 79, 3) := dk_180 0 79 (dk_at dksX3_sign_3 7 rfl rfl)
theorem dX3_sign_79 : decode cX3_sign 79 = .ok (.invokevirtual 18, 3) := dk_182 0 18 (dk_at dksX3_sign_3 10 rfl rfl)
theorem dX3_sign_82 : decode cX3_sign 82 = .ok (.ireturn, 1) := dk_172 (dk_at dksX3_sign_3 13 rfl rfl)
abbrev cX3_isSmall : ByteArray := prog_16_method_2_code
def yX3_isSmall : MethodName := ⟨RX3, "isSmall", "(C)Z"⟩
def dkwX3_isSmall_0 : List UInt8 := [26, 16, 97, 161, 0, 13, 26, 16, 122, 163, 0, 7, 4, 167, 0, 4, 3, 172]
abbrev dktX3_isSmall_0 : List UInt8 := dkwX3_isSmall_0 ++ []
theorem dksX3_isSmall_0 : cX3_isSmall.data.toList.drop 0 = dktX3_isSmall_0 := by decide +kernel
theorem dX3_isSmall_0 : decode cX3_isSmall 0 = .ok (.iload_n 0, 1) := dk_26 (dk_at dksX3_isSmall_0 0 rfl rfl)
theorem dX3_isSmall_1 : decode cX3_isSmall 1 = .ok (.bipush 97, 2) := dk_16 97 (dk_at dksX3_isSmall_0 1 rfl rfl)
theorem dX3_isSmall_3 : decode cX3_isSmall 3 = .ok (.if_icmp .lt 13, 3) := dk_161 0 13 (dk_at dksX3_isSmall_0 3 rfl rfl)
theorem dX3_isSmall_6 : decode cX3_isSmall 6 = .ok (.iload_n 0, 1) := dk_26 (dk_at dksX3_isSmall_0 6 rfl rfl)
theorem dX3_isSmall_7 : decode cX3_isSmall 7 = .ok (.bipush 122, 2) := dk_16 122 (dk_at dksX3_isSmall_0 7 rfl rfl)
theorem dX3_isSmall_9 : decode cX3_isSmall 9 = .ok (.if_icmp .gt 7, 3) := dk_163 0 7 (dk_at dksX3_isSmall_0 9 rfl rfl)
theorem dX3_isSmall_12 : decode cX3_isSmall 12 = .ok (.iconst 1, 1) := dk_4 (dk_at dksX3_isSmall_0 12 rfl rfl)
theorem dX3_isSmall_13 : decode cX3_isSmall 13 = .ok (.goto 4, 3) := dk_167 0 4 (dk_at dksX3_isSmall_0 13 rfl rfl)
theorem dX3_isSmall_16 : decode cX3_isSmall 16 = .ok (.iconst 0, 1) := dk_3 (dk_at dksX3_isSmall_0 16 rfl rfl)
theorem dX3_isSmall_17 : decode cX3_isSmall 17 = .ok (.ireturn, 1) := dk_172 (dk_at dksX3_isSmall_0 17 rfl rfl)
abbrev cX3_wipe : ByteArray := prog_16_method_26_code
def yX3_wipe : MethodName := ⟨RX3, "wipe", "()I"⟩
def dkwX3_wipe_1 : List UInt8 := [180, 0, 74, 182, 0, 240, 42, 18, 77, 181, 0, 79, 27, 172]
abbrev dktX3_wipe_1 : List UInt8 := dkwX3_wipe_1 ++ []
def dkwX3_wipe_0 : List UInt8 := [42, 3, 181, 0, 123, 42, 180, 0, 74, 182, 0, 163, 42, 180, 0, 79, 182, 0, 18, 96, 60, 42]
abbrev dktX3_wipe_0 : List UInt8 := dkwX3_wipe_0 ++ dktX3_wipe_1
theorem dksX3_wipe_0 : cX3_wipe.data.toList.drop 0 = dktX3_wipe_0 := by decide +kernel
theorem dksX3_wipe_1 : cX3_wipe.data.toList.drop 22 = dktX3_wipe_1 := dk_seg dksX3_wipe_0 22 rfl rfl
theorem dX3_wipe_0 : decode cX3_wipe 0 = .ok (.aload_n 0, 1) := dk_42 (dk_at dksX3_wipe_0 0 rfl rfl)
theorem dX3_wipe_1 : decode cX3_wipe 1 = .ok (.iconst 0, 1) := dk_3 (dk_at dksX3_wipe_0 1 rfl rfl)
theorem dX3_wipe_2 : decode cX3_wipe 2 = .ok (.putfield 123, 3) := dk_181 0 123 (dk_at dksX3_wipe_0 2 rfl rfl)
theorem dX3_wipe_5 : decode cX3_wipe 5 = .ok (.aload_n 0, 1) := dk_42 (dk_at dksX3_wipe_0 5 rfl rfl)
theorem dX3_wipe_6 : decode cX3_wipe 6 = .ok (.getfield 74, 3) := dk_180 0 74 (dk_at dksX3_wipe_0 6 rfl rfl)
theorem dX3_wipe_9 : decode cX3_wipe 9 = .ok (.invokevirtual 163, 3) := dk_182 0 163 (dk_at dksX3_wipe_0 9 rfl rfl)
theorem dX3_wipe_12 : decode cX3_wipe 12 = .ok (.aload_n 0, 1) := dk_42 (dk_at dksX3_wipe_0 12 rfl rfl)
theorem dX3_wipe_13 : decode cX3_wipe 13 = .ok (.getfield 79, 3) := dk_180 0 79 (dk_at dksX3_wipe_0 13 rfl rfl)
theorem dX3_wipe_16 : decode cX3_wipe 16 = .ok (.invokevirtual 18, 3) := dk_182 0 18 (dk_at dksX3_wipe_0 16 rfl rfl)
theorem dX3_wipe_19 : decode cX3_wipe 19 = .ok (.iadd, 1) := dk_96 (dk_at dksX3_wipe_0 19 rfl rfl)
theorem dX3_wipe_20 : decode cX3_wipe 20 = .ok (.istore_n 1, 1) := dk_60 (dk_at dksX3_wipe_0 20 rfl rfl)
theorem dX3_wipe_21 : decode cX3_wipe 21 = .ok (.aload_n 0, 1) := dk_42 (dk_at dksX3_wipe_0 21 rfl rfl)
theorem dX3_wipe_22 : decode cX3_wipe 22 = .ok (.getfield 74, 3) := dk_180 0 74 (dk_at dksX3_wipe_1 0 rfl rfl)
theorem dX3_wipe_25 : decode cX3_wipe 25 = .ok (.invokevirtual 240, 3) := dk_182 0 240 (dk_at dksX3_wipe_1 3 rfl rfl)
theorem dX3_wipe_28 : decode cX3_wipe 28 = .ok (.aload_n 0, 1) := dk_42 (dk_at dksX3_wipe_1 6 rfl rfl)
theorem dX3_wipe_29 : decode cX3_wipe 29 = .ok (.ldc 77, 2) := dk_18 77 (dk_at dksX3_wipe_1 7 rfl rfl)
theorem dX3_wipe_31 : decode cX3_wipe 31 = .ok (.putfield 79, 3) := dk_181 0 79 (dk_at dksX3_wipe_1 9 rfl rfl)
theorem dX3_wipe_34 : decode cX3_wipe 34 = .ok (.iload_n 1, 1) := dk_27 (dk_at dksX3_wipe_1 12 rfl rfl)
theorem dX3_wipe_35 : decode cX3_wipe 35 = .ok (.ireturn, 1) := dk_172 (dk_at dksX3_wipe_1 13 rfl rfl)
abbrev cX3_entry : ByteArray := prog_16_method_28_code
def yX3_entry : MethodName := ⟨RX3, "entry", "(I)Z"⟩
def dkwX3_entry_5 : List UInt8 := [182, 0, 205, 21, 4, 172]
abbrev dktX3_entry_5 : List UInt8 := dkwX3_entry_5 ++ []
def dkwX3_entry_4 : List UInt8 := [187, 0, 156, 89, 27, 42, 180, 0, 79, 183, 1, 0, 182, 1, 3, 87, 42, 182, 1, 7, 54, 5, 42]
abbrev dktX3_entry_4 : List UInt8 := dkwX3_entry_4 ++ dktX3_entry_5
def dkwX3_entry_3 : List UInt8 := [160, 0, 7, 6, 167, 0, 4, 3, 181, 0, 123, 42, 180, 0, 123, 158, 0, 5, 3, 172, 44, 45]
abbrev dktX3_entry_3 : List UInt8 := dkwX3_entry_3 ++ dktX3_entry_4
def dkwX3_entry_2 : List UInt8 := [180, 0, 79, 182, 0, 254, 153, 0, 7, 5, 167, 0, 22, 21, 4, 154, 0, 16, 44, 182, 0, 255, 16, 40]
abbrev dktX3_entry_2 : List UInt8 := dkwX3_entry_2 ++ dktX3_entry_3
def dkwX3_entry_1 : List UInt8 := [184, 0, 247, 78, 44, 45, 182, 0, 251, 54, 4, 42, 42, 180, 0, 74, 182, 0, 231, 154, 0, 13, 42]
abbrev dktX3_entry_1 : List UInt8 := dkwX3_entry_1 ++ dktX3_entry_2
def dkwX3_entry_0 : List UInt8 := [42, 27, 182, 0, 243, 153, 0, 5, 3, 172, 42, 180, 0, 86, 27, 50, 180, 0, 149, 77, 42, 180, 0, 74]
abbrev dktX3_entry_0 : List UInt8 := dkwX3_entry_0 ++ dktX3_entry_1
theorem dksX3_entry_0 : cX3_entry.data.toList.drop 0 = dktX3_entry_0 := by decide +kernel
theorem dksX3_entry_1 : cX3_entry.data.toList.drop 24 = dktX3_entry_1 := dk_seg dksX3_entry_0 24 rfl rfl
theorem dksX3_entry_2 : cX3_entry.data.toList.drop 47 = dktX3_entry_2 := dk_seg dksX3_entry_1 23 rfl rfl
theorem dksX3_entry_3 : cX3_entry.data.toList.drop 71 = dktX3_entry_3 := dk_seg dksX3_entry_2 24 rfl rfl
theorem dksX3_entry_4 : cX3_entry.data.toList.drop 93 = dktX3_entry_4 := dk_seg dksX3_entry_3 22 rfl rfl
theorem dksX3_entry_5 : cX3_entry.data.toList.drop 116 = dktX3_entry_5 := dk_seg dksX3_entry_4 23 rfl rfl
theorem dX3_entry_0 : decode cX3_entry 0 = .ok (.aload_n 0, 1) := dk_42 (dk_at dksX3_entry_0 0 rfl rfl)
theorem dX3_entry_1 : decode cX3_entry 1 = .ok (.iload_n 1, 1) := dk_27 (dk_at dksX3_entry_0 1 rfl rfl)
theorem dX3_entry_2 : decode cX3_entry 2 = .ok (.invokevirtual 243, 3) := dk_182 0 243 (dk_at dksX3_entry_0 2 rfl rfl)
theorem dX3_entry_5 : decode cX3_entry 5 = .ok (.ifCond .eq 5, 3) := dk_153 0 5 (dk_at dksX3_entry_0 5 rfl rfl)
theorem dX3_entry_8 : decode cX3_entry 8 = .ok (.iconst 0, 1) := dk_3 (dk_at dksX3_entry_0 8 rfl rfl)
theorem dX3_entry_9 : decode cX3_entry 9 = .ok (.ireturn, 1) := dk_172 (dk_at dksX3_entry_0 9 rfl rfl)
theorem dX3_entry_10 : decode cX3_entry 10 = .ok (.aload_n 0, 1) := dk_42 (dk_at dksX3_entry_0 10 rfl rfl)
theorem dX3_entry_11 : decode cX3_entry 11 = .ok (.getfield 86, 3) := dk_180 0 86 (dk_at dksX3_entry_0 11 rfl rfl)
theorem dX3_entry_14 : decode cX3_entry 14 = .ok (.iload_n 1, 1) := dk_27 (dk_at dksX3_entry_0 14 rfl rfl)
theorem dX3_entry_15 : decode cX3_entry 15 = .ok (.aaload, 1) := dk_50 (dk_at dksX3_entry_0 15 rfl rfl)
theorem dX3_entry_16 : decode cX3_entry 16 = .ok (.getfield 149, 3) := dk_180 0 149 (dk_at dksX3_entry_0 16 rfl rfl)
theorem dX3_entry_19 : decode cX3_entry 19 = .ok (.astore_n 2, 1) := dk_77 (dk_at dksX3_entry_0 19 rfl rfl)
theorem dX3_entry_20 : decode cX3_entry 20 = .ok (.aload_n 0, 1) := dk_42 (dk_at dksX3_entry_0 20 rfl rfl)
theorem dX3_entry_21 : decode cX3_entry 21 = .ok (.getfield 74, 3) := dk_180 0 74 (dk_at dksX3_entry_0 21 rfl rfl)
theorem dX3_entry_24 : decode cX3_entry 24 = .ok (.invokestatic 247, 3) := dk_184 0 247 (dk_at dksX3_entry_1 0 rfl rfl)
theorem dX3_entry_27 : decode cX3_entry 27 = .ok (.astore_n 3, 1) := dk_78 (dk_at dksX3_entry_1 3 rfl rfl)
theorem dX3_entry_28 : decode cX3_entry 28 = .ok (.aload_n 2, 1) := dk_44 (dk_at dksX3_entry_1 4 rfl rfl)
theorem dX3_entry_29 : decode cX3_entry 29 = .ok (.aload_n 3, 1) := dk_45 (dk_at dksX3_entry_1 5 rfl rfl)
theorem dX3_entry_30 : decode cX3_entry 30 = .ok (.invokevirtual 251, 3) := dk_182 0 251 (dk_at dksX3_entry_1 6 rfl rfl)
theorem dX3_entry_33 : decode cX3_entry 33 = .ok (.istore 4, 2) := dk_54 4 (dk_at dksX3_entry_1 9 rfl rfl)
theorem dX3_entry_35 : decode cX3_entry 35 = .ok (.aload_n 0, 1) := dk_42 (dk_at dksX3_entry_1 11 rfl rfl)
theorem dX3_entry_36 : decode cX3_entry 36 = .ok (.aload_n 0, 1) := dk_42 (dk_at dksX3_entry_1 12 rfl rfl)
theorem dX3_entry_37 : decode cX3_entry 37 = .ok (.getfield 74, 3) := dk_180 0 74 (dk_at dksX3_entry_1 13 rfl rfl)
theorem dX3_entry_40 : decode cX3_entry 40 = .ok (.invokevirtual 231, 3) := dk_182 0 231 (dk_at dksX3_entry_1 16 rfl rfl)
theorem dX3_entry_43 : decode cX3_entry 43 = .ok (.ifCond .ne 13, 3) := dk_154 0 13 (dk_at dksX3_entry_1 19 rfl rfl)
theorem dX3_entry_46 : decode cX3_entry 46 = .ok (.aload_n 0, 1) := dk_42 (dk_at dksX3_entry_1 22 rfl rfl)
theorem dX3_entry_47 : decode cX3_entry 47 = .ok (.getfield 79, 3) := dk_180 0 79 (dk_at dksX3_entry_2 0 rfl rfl)
theorem dX3_entry_50 : decode cX3_entry 50 = .ok (.invokevirtual 254, 3) := dk_182 0 254 (dk_at dksX3_entry_2 3 rfl rfl)
theorem dX3_entry_53 : decode cX3_entry 53 = .ok (.ifCond .eq 7, 3) := dk_153 0 7 (dk_at dksX3_entry_2 6 rfl rfl)
theorem dX3_entry_56 : decode cX3_entry 56 = .ok (.iconst 2, 1) := dk_5 (dk_at dksX3_entry_2 9 rfl rfl)
theorem dX3_entry_57 : decode cX3_entry 57 = .ok (.goto 22, 3) := dk_167 0 22 (dk_at dksX3_entry_2 10 rfl rfl)
theorem dX3_entry_60 : decode cX3_entry 60 = .ok (.iload 4, 2) := dk_21 4 (dk_at dksX3_entry_2 13 rfl rfl)
theorem dX3_entry_62 : decode cX3_entry 62 = .ok (.ifCond .ne 16, 3) := dk_154 0 16 (dk_at dksX3_entry_2 15 rfl rfl)
theorem dX3_entry_65 : decode cX3_entry 65 = .ok (.aload_n 2, 1) := dk_44 (dk_at dksX3_entry_2 18 rfl rfl)
theorem dX3_entry_66 : decode cX3_entry 66 = .ok (.invokevirtual 255, 3) := dk_182 0 255 (dk_at dksX3_entry_2 19 rfl rfl)
theorem dX3_entry_69 : decode cX3_entry 69 = .ok (.bipush 40, 2) := dk_16 40 (dk_at dksX3_entry_2 22 rfl rfl)
theorem dX3_entry_71 : decode cX3_entry 71 = .ok (.if_icmp .ne 7, 3) := dk_160 0 7 (dk_at dksX3_entry_3 0 rfl rfl)
theorem dX3_entry_74 : decode cX3_entry 74 = .ok (.iconst 3, 1) := dk_6 (dk_at dksX3_entry_3 3 rfl rfl)
theorem dX3_entry_75 : decode cX3_entry 75 = .ok (.goto 4, 3) := dk_167 0 4 (dk_at dksX3_entry_3 4 rfl rfl)
theorem dX3_entry_78 : decode cX3_entry 78 = .ok (.iconst 0, 1) := dk_3 (dk_at dksX3_entry_3 7 rfl rfl)
theorem dX3_entry_79 : decode cX3_entry 79 = .ok (.putfield 123, 3) := dk_181 0 123 (dk_at dksX3_entry_3 8 rfl rfl)
theorem dX3_entry_82 : decode cX3_entry 82 = .ok (.aload_n 0, 1) := dk_42 (dk_at dksX3_entry_3 11 rfl rfl)
theorem dX3_entry_83 : decode cX3_entry 83 = .ok (.getfield 123, 3) := dk_180 0 123 (dk_at dksX3_entry_3 12 rfl rfl)
theorem dX3_entry_86 : decode cX3_entry 86 = .ok (.ifCond .le 5, 3) := dk_158 0 5 (dk_at dksX3_entry_3 15 rfl rfl)
theorem dX3_entry_89 : decode cX3_entry 89 = .ok (.iconst 0, 1) := dk_3 (dk_at dksX3_entry_3 18 rfl rfl)
theorem dX3_entry_90 : decode cX3_entry 90 = .ok (.ireturn, 1) := dk_172 (dk_at dksX3_entry_3 19 rfl rfl)
theorem dX3_entry_91 : decode cX3_entry 91 = .ok (.aload_n 2, 1) := dk_44 (dk_at dksX3_entry_3 20 rfl rfl)
theorem dX3_entry_92 : decode cX3_entry 92 = .ok (.aload_n 3, 1) := dk_45 (dk_at dksX3_entry_3 21 rfl rfl)
theorem dX3_entry_93 : decode cX3_entry 93 = .ok (.new 156, 3) := dk_187 0 156 (dk_at dksX3_entry_4 0 rfl rfl)
theorem dX3_entry_96 : decode cX3_entry 96 = .ok (.dup, 1) := dk_89 (dk_at dksX3_entry_4 3 rfl rfl)
theorem dX3_entry_97 : decode cX3_entry 97 = .ok (.iload_n 1, 1) := dk_27 (dk_at dksX3_entry_4 4 rfl rfl)
theorem dX3_entry_98 : decode cX3_entry 98 = .ok (.aload_n 0, 1) := dk_42 (dk_at dksX3_entry_4 5 rfl rfl)
theorem dX3_entry_99 : decode cX3_entry 99 = .ok (.getfield 79, 3) := dk_180 0 79 (dk_at dksX3_entry_4 6 rfl rfl)
theorem dX3_entry_102 : decode cX3_entry 102 = .ok (.invokespecial 256, 3) := dk_183 1 0 (dk_at dksX3_entry_4 9 rfl rfl)
theorem dX3_entry_105 : decode cX3_entry 105 = .ok (.invokevirtual 259, 3) := dk_182 1 3 (dk_at dksX3_entry_4 12 rfl rfl)
theorem dX3_entry_108 : decode cX3_entry 108 = .ok (.pop, 1) := dk_87 (dk_at dksX3_entry_4 15 rfl rfl)
theorem dX3_entry_109 : decode cX3_entry 109 = .ok (.aload_n 0, 1) := dk_42 (dk_at dksX3_entry_4 16 rfl rfl)
theorem dX3_entry_110 : decode cX3_entry 110 = .ok (.invokevirtual 263, 3) := dk_182 1 7 (dk_at dksX3_entry_4 17 rfl rfl)
theorem dX3_entry_113 : decode cX3_entry 113 = .ok (.istore 5, 2) := dk_54 5 (dk_at dksX3_entry_4 20 rfl rfl)
theorem dX3_entry_115 : decode cX3_entry 115 = .ok (.aload_n 0, 1) := dk_42 (dk_at dksX3_entry_4 22 rfl rfl)
theorem dX3_entry_116 : decode cX3_entry 116 = .ok (.invokevirtual 205, 3) := dk_182 0 205 (dk_at dksX3_entry_5 0 rfl rfl)
theorem dX3_entry_119 : decode cX3_entry 119 = .ok (.iload 4, 2) := dk_21 4 (dk_at dksX3_entry_5 3 rfl rfl)
theorem dX3_entry_121 : decode cX3_entry 121 = .ok (.ireturn, 1) := dk_172 (dk_at dksX3_entry_5 5 rfl rfl)
abbrev cX3_noLayer : ByteArray := prog_16_method_27_code
def yX3_noLayer : MethodName := ⟨RX3, "noLayer", "(I)Z"⟩
def dkwX3_noLayer_1 : List UInt8 := [158, 0, 7, 4, 167, 0, 4, 3, 172]
abbrev dktX3_noLayer_1 : List UInt8 := dkwX3_noLayer_1 ++ []
def dkwX3_noLayer_0 : List UInt8 := [42, 27, 3, 6, 184, 0, 220, 153, 0, 7, 3, 167, 0, 4, 4, 181, 0, 123, 42, 180, 0, 123]
abbrev dktX3_noLayer_0 : List UInt8 := dkwX3_noLayer_0 ++ dktX3_noLayer_1
theorem dksX3_noLayer_0 : cX3_noLayer.data.toList.drop 0 = dktX3_noLayer_0 := by decide +kernel
theorem dksX3_noLayer_1 : cX3_noLayer.data.toList.drop 22 = dktX3_noLayer_1 := dk_seg dksX3_noLayer_0 22 rfl rfl
theorem dX3_noLayer_0 : decode cX3_noLayer 0 = .ok (.aload_n 0, 1) := dk_42 (dk_at dksX3_noLayer_0 0 rfl rfl)
theorem dX3_noLayer_1 : decode cX3_noLayer 1 = .ok (.iload_n 1, 1) := dk_27 (dk_at dksX3_noLayer_0 1 rfl rfl)
theorem dX3_noLayer_2 : decode cX3_noLayer 2 = .ok (.iconst 0, 1) := dk_3 (dk_at dksX3_noLayer_0 2 rfl rfl)
theorem dX3_noLayer_3 : decode cX3_noLayer 3 = .ok (.iconst 3, 1) := dk_6 (dk_at dksX3_noLayer_0 3 rfl rfl)
theorem dX3_noLayer_4 : decode cX3_noLayer 4 = .ok (.invokestatic 220, 3) := dk_184 0 220 (dk_at dksX3_noLayer_0 4 rfl rfl)
theorem dX3_noLayer_7 : decode cX3_noLayer 7 = .ok (.ifCond .eq 7, 3) := dk_153 0 7 (dk_at dksX3_noLayer_0 7 rfl rfl)
theorem dX3_noLayer_10 : decode cX3_noLayer 10 = .ok (.iconst 0, 1) := dk_3 (dk_at dksX3_noLayer_0 10 rfl rfl)
theorem dX3_noLayer_11 : decode cX3_noLayer 11 = .ok (.goto 4, 3) := dk_167 0 4 (dk_at dksX3_noLayer_0 11 rfl rfl)
theorem dX3_noLayer_14 : decode cX3_noLayer 14 = .ok (.iconst 1, 1) := dk_4 (dk_at dksX3_noLayer_0 14 rfl rfl)
theorem dX3_noLayer_15 : decode cX3_noLayer 15 = .ok (.putfield 123, 3) := dk_181 0 123 (dk_at dksX3_noLayer_0 15 rfl rfl)
theorem dX3_noLayer_18 : decode cX3_noLayer 18 = .ok (.aload_n 0, 1) := dk_42 (dk_at dksX3_noLayer_0 18 rfl rfl)
theorem dX3_noLayer_19 : decode cX3_noLayer 19 = .ok (.getfield 123, 3) := dk_180 0 123 (dk_at dksX3_noLayer_0 19 rfl rfl)
theorem dX3_noLayer_22 : decode cX3_noLayer 22 = .ok (.ifCond .le 7, 3) := dk_158 0 7 (dk_at dksX3_noLayer_1 0 rfl rfl)
theorem dX3_noLayer_25 : decode cX3_noLayer 25 = .ok (.iconst 1, 1) := dk_4 (dk_at dksX3_noLayer_1 3 rfl rfl)
theorem dX3_noLayer_26 : decode cX3_noLayer 26 = .ok (.goto 4, 3) := dk_167 0 4 (dk_at dksX3_noLayer_1 4 rfl rfl)
theorem dX3_noLayer_29 : decode cX3_noLayer 29 = .ok (.iconst 0, 1) := dk_3 (dk_at dksX3_noLayer_1 7 rfl rfl)
theorem dX3_noLayer_30 : decode cX3_noLayer 30 = .ok (.ireturn, 1) := dk_172 (dk_at dksX3_noLayer_1 8 rfl rfl)
abbrev cX3_outline : ByteArray := prog_16_method_11_code
def yX3_outline : MethodName := ⟨RX3, "outline", "(Ljava/util/ArrayList;)Ljava/lang/String;"⟩
def dkwX3_outline_2 : List UInt8 := [182, 0, 38, 176]
abbrev dktX3_outline_2 : List UInt8 := dkwX3_outline_2 ++ []
def dkwX3_outline_1 : List UInt8 := [185, 0, 136, 1, 0, 192, 0, 140, 182, 0, 142, 62, 43, 29, 146, 182, 0, 46, 87, 167, 255, 227, 43]
abbrev dktX3_outline_1 : List UInt8 := dkwX3_outline_1 ++ dktX3_outline_2
def dkwX3_outline_0 : List UInt8 := [187, 0, 26, 89, 183, 0, 28, 76, 42, 182, 0, 126, 77, 44, 185, 0, 130, 1, 0, 153, 0, 26, 44]
abbrev dktX3_outline_0 : List UInt8 := dkwX3_outline_0 ++ dktX3_outline_1
theorem dksX3_outline_0 : cX3_outline.data.toList.drop 0 = dktX3_outline_0 := by decide +kernel
theorem dksX3_outline_1 : cX3_outline.data.toList.drop 23 = dktX3_outline_1 := dk_seg dksX3_outline_0 23 rfl rfl
theorem dksX3_outline_2 : cX3_outline.data.toList.drop 46 = dktX3_outline_2 := dk_seg dksX3_outline_1 23 rfl rfl
theorem dX3_outline_0 : decode cX3_outline 0 = .ok (.new 26, 3) := dk_187 0 26 (dk_at dksX3_outline_0 0 rfl rfl)
theorem dX3_outline_3 : decode cX3_outline 3 = .ok (.dup, 1) := dk_89 (dk_at dksX3_outline_0 3 rfl rfl)
theorem dX3_outline_4 : decode cX3_outline 4 = .ok (.invokespecial 28, 3) := dk_183 0 28 (dk_at dksX3_outline_0 4 rfl rfl)
theorem dX3_outline_7 : decode cX3_outline 7 = .ok (.astore_n 1, 1) := dk_76 (dk_at dksX3_outline_0 7 rfl rfl)
theorem dX3_outline_8 : decode cX3_outline 8 = .ok (.aload_n 0, 1) := dk_42 (dk_at dksX3_outline_0 8 rfl rfl)
theorem dX3_outline_9 : decode cX3_outline 9 = .ok (.invokevirtual 126, 3) := dk_182 0 126 (dk_at dksX3_outline_0 9 rfl rfl)
theorem dX3_outline_12 : decode cX3_outline 12 = .ok (.astore_n 2, 1) := dk_77 (dk_at dksX3_outline_0 12 rfl rfl)
theorem dX3_outline_13 : decode cX3_outline 13 = .ok (.aload_n 2, 1) := dk_44 (dk_at dksX3_outline_0 13 rfl rfl)
theorem dX3_outline_14 : decode cX3_outline 14 = .ok (.invokeinterface 130 1, 5) := by decide +kernel
theorem dX3_outline_19 : decode cX3_outline 19 = .ok (.ifCond .eq 26, 3) := dk_153 0 26 (dk_at dksX3_outline_0 19 rfl rfl)
theorem dX3_outline_22 : decode cX3_outline 22 = .ok (.aload_n 2, 1) := dk_44 (dk_at dksX3_outline_0 22 rfl rfl)
theorem dX3_outline_23 : decode cX3_outline 23 = .ok (.invokeinterface 136 1, 5) := by decide +kernel
theorem dX3_outline_28 : decode cX3_outline 28 = .ok (.checkcast 140, 3) := dk_192 0 140 (dk_at dksX3_outline_1 5 rfl rfl)
theorem dX3_outline_31 : decode cX3_outline 31 = .ok (.invokevirtual 142, 3) := dk_182 0 142 (dk_at dksX3_outline_1 8 rfl rfl)
theorem dX3_outline_34 : decode cX3_outline 34 = .ok (.istore_n 3, 1) := dk_62 (dk_at dksX3_outline_1 11 rfl rfl)
theorem dX3_outline_35 : decode cX3_outline 35 = .ok (.aload_n 1, 1) := dk_43 (dk_at dksX3_outline_1 12 rfl rfl)
theorem dX3_outline_36 : decode cX3_outline 36 = .ok (.iload_n 3, 1) := dk_29 (dk_at dksX3_outline_1 13 rfl rfl)
theorem dX3_outline_37 : decode cX3_outline 37 = .ok (.i2c, 1) := dk_146 (dk_at dksX3_outline_1 14 rfl rfl)
theorem dX3_outline_38 : decode cX3_outline 38 = .ok (.invokevirtual 46, 3) := dk_182 0 46 (dk_at dksX3_outline_1 15 rfl rfl)
theorem dX3_outline_41 : decode cX3_outline 41 = .ok (.pop, 1) := dk_87 (dk_at dksX3_outline_1 18 rfl rfl)
theorem dX3_outline_42 : decode cX3_outline 42 = .ok (.goto (-29), 3) := dk_167 255 227 (dk_at dksX3_outline_1 19 rfl rfl)
theorem dX3_outline_45 : decode cX3_outline 45 = .ok (.aload_n 1, 1) := dk_43 (dk_at dksX3_outline_1 22 rfl rfl)
theorem dX3_outline_46 : decode cX3_outline 46 = .ok (.invokevirtual 38, 3) := dk_182 0 38 (dk_at dksX3_outline_2 0 rfl rfl)
theorem dX3_outline_49 : decode cX3_outline 49 = .ok (.areturn, 1) := dk_176 (dk_at dksX3_outline_2 3 rfl rfl)
abbrev cX3_alternative : ByteArray := prog_16_method_29_code
def yX3_alternative : MethodName := ⟨RX3, "alternative", "(IC)I"⟩
def dkwX3_alternative_5 : List UInt8 := [182, 1, 7, 54, 4, 42, 182, 0, 205, 45, 180, 1, 10, 182, 0, 163, 172]
abbrev dktX3_alternative_5 : List UInt8 := dkwX3_alternative_5 ++ []
def dkwX3_alternative_4 : List UInt8 := [180, 1, 10, 28, 184, 1, 13, 182, 0, 202, 87, 45, 180, 1, 18, 42, 180, 0, 79, 182, 0, 202, 87, 42]
abbrev dktX3_alternative_4 : List UInt8 := dkwX3_alternative_4 ++ dktX3_alternative_5
def dkwX3_alternative_3 : List UInt8 := [6, 160, 0, 7, 7, 167, 0, 4, 3, 181, 0, 123, 42, 180, 0, 123, 158, 0, 5, 3, 172, 45]
abbrev dktX3_alternative_3 : List UInt8 := dkwX3_alternative_3 ++ dktX3_alternative_4
def dkwX3_alternative_2 : List UInt8 := [180, 0, 79, 182, 0, 254, 154, 0, 7, 45, 199, 0, 7, 6, 167, 0, 19, 45, 180, 1, 10, 182, 0, 163]
abbrev dktX3_alternative_2 : List UInt8 := dkwX3_alternative_2 ++ dktX3_alternative_3
def dkwX3_alternative_1 : List UInt8 := [184, 0, 247, 182, 0, 152, 192, 0, 156, 78, 42, 28, 184, 0, 1, 154, 0, 7, 5, 167, 0, 37, 42]
abbrev dktX3_alternative_1 : List UInt8 := dkwX3_alternative_1 ++ dktX3_alternative_2
def dkwX3_alternative_0 : List UInt8 := [42, 27, 182, 0, 243, 153, 0, 5, 3, 172, 42, 180, 0, 86, 27, 50, 180, 0, 149, 42, 180, 0, 74]
abbrev dktX3_alternative_0 : List UInt8 := dkwX3_alternative_0 ++ dktX3_alternative_1
theorem dksX3_alternative_0 : cX3_alternative.data.toList.drop 0 = dktX3_alternative_0 := by decide +kernel
theorem dksX3_alternative_1 : cX3_alternative.data.toList.drop 23 = dktX3_alternative_1 := dk_seg dksX3_alternative_0 23 rfl rfl
theorem dksX3_alternative_2 : cX3_alternative.data.toList.drop 46 = dktX3_alternative_2 := dk_seg dksX3_alternative_1 23 rfl rfl
theorem dksX3_alternative_3 : cX3_alternative.data.toList.drop 70 = dktX3_alternative_3 := dk_seg dksX3_alternative_2 24 rfl rfl
theorem dksX3_alternative_4 : cX3_alternative.data.toList.drop 92 = dktX3_alternative_4 := dk_seg dksX3_alternative_3 22 rfl rfl
theorem dksX3_alternative_5 : cX3_alternative.data.toList.drop 116 = dktX3_alternative_5 := dk_seg dksX3_alternative_4 24 rfl rfl
theorem dX3_alternative_0 : decode cX3_alternative 0 = .ok (.aload_n 0, 1) := dk_42 (dk_at dksX3_alternative_0 0 rfl rfl)
theorem dX3_alternative_1 : decode cX3_alternative 1 = .ok (.iload_n 1, 1) := dk_27 (dk_at dksX3_alternative_0 1 rfl rfl)
theorem dX3_alternative_2 : decode cX3_alternative 2 = .ok (.invokevirtual 243, 3) := dk_182 0 243 (dk_at dksX3_alternative_0 2 rfl rfl)
theorem dX3_alternative_5 : decode cX3_alternative 5 = .ok (.ifCond .eq 5, 3) := dk_153 0 5 (dk_at dksX3_alternative_0 5 rfl rfl)
theorem dX3_alternative_8 : decode cX3_alternative 8 = .ok (.iconst 0, 1) := dk_3 (dk_at dksX3_alternative_0 8 rfl rfl)
theorem dX3_alternative_9 : decode cX3_alternative 9 = .ok (.ireturn, 1) := dk_172 (dk_at dksX3_alternative_0 9 rfl rfl)
theorem dX3_alternative_10 : decode cX3_alternative 10 = .ok (.aload_n 0, 1) := dk_42 (dk_at dksX3_alternative_0 10 rfl rfl)
theorem dX3_alternative_11 : decode cX3_alternative 11 = .ok (.getfield 86, 3) := dk_180 0 86 (dk_at dksX3_alternative_0 11 rfl rfl)
theorem dX3_alternative_14 : decode cX3_alternative 14 = .ok (.iload_n 1, 1) := dk_27 (dk_at dksX3_alternative_0 14 rfl rfl)
theorem dX3_alternative_15 : decode cX3_alternative 15 = .ok (.aaload, 1) := dk_50 (dk_at dksX3_alternative_0 15 rfl rfl)
theorem dX3_alternative_16 : decode cX3_alternative 16 = .ok (.getfield 149, 3) := dk_180 0 149 (dk_at dksX3_alternative_0 16 rfl rfl)
theorem dX3_alternative_19 : decode cX3_alternative 19 = .ok (.aload_n 0, 1) := dk_42 (dk_at dksX3_alternative_0 19 rfl rfl)
theorem dX3_alternative_20 : decode cX3_alternative 20 = .ok (.getfield 74, 3) := dk_180 0 74 (dk_at dksX3_alternative_0 20 rfl rfl)
theorem dX3_alternative_23 : decode cX3_alternative 23 = .ok (.invokestatic 247, 3) := dk_184 0 247 (dk_at dksX3_alternative_1 0 rfl rfl)
theorem dX3_alternative_26 : decode cX3_alternative 26 = .ok (.invokevirtual 152, 3) := dk_182 0 152 (dk_at dksX3_alternative_1 3 rfl rfl)
theorem dX3_alternative_29 : decode cX3_alternative 29 = .ok (.checkcast 156, 3) := dk_192 0 156 (dk_at dksX3_alternative_1 6 rfl rfl)
theorem dX3_alternative_32 : decode cX3_alternative 32 = .ok (.astore_n 3, 1) := dk_78 (dk_at dksX3_alternative_1 9 rfl rfl)
theorem dX3_alternative_33 : decode cX3_alternative 33 = .ok (.aload_n 0, 1) := dk_42 (dk_at dksX3_alternative_1 10 rfl rfl)
theorem dX3_alternative_34 : decode cX3_alternative 34 = .ok (.iload_n 2, 1) := dk_28 (dk_at dksX3_alternative_1 11 rfl rfl)
theorem dX3_alternative_35 : decode cX3_alternative 35 = .ok (.invokestatic 1, 3) := dk_184 0 1 (dk_at dksX3_alternative_1 12 rfl rfl)
theorem dX3_alternative_38 : decode cX3_alternative 38 = .ok (.ifCond .ne 7, 3) := dk_154 0 7 (dk_at dksX3_alternative_1 15 rfl rfl)
theorem dX3_alternative_41 : decode cX3_alternative 41 = .ok (.iconst 2, 1) := dk_5 (dk_at dksX3_alternative_1 18 rfl rfl)
theorem dX3_alternative_42 : decode cX3_alternative 42 = .ok (.goto 37, 3) := dk_167 0 37 (dk_at dksX3_alternative_1 19 rfl rfl)
theorem dX3_alternative_45 : decode cX3_alternative 45 = .ok (.aload_n 0, 1) := dk_42 (dk_at dksX3_alternative_1 22 rfl rfl)
theorem dX3_alternative_46 : decode cX3_alternative 46 = .ok (.getfield 79, 3) := dk_180 0 79 (dk_at dksX3_alternative_2 0 rfl rfl)
theorem dX3_alternative_49 : decode cX3_alternative 49 = .ok (.invokevirtual 254, 3) := dk_182 0 254 (dk_at dksX3_alternative_2 3 rfl rfl)
theorem dX3_alternative_52 : decode cX3_alternative 52 = .ok (.ifCond .ne 7, 3) := dk_154 0 7 (dk_at dksX3_alternative_2 6 rfl rfl)
theorem dX3_alternative_55 : decode cX3_alternative 55 = .ok (.aload_n 3, 1) := dk_45 (dk_at dksX3_alternative_2 9 rfl rfl)
theorem dX3_alternative_56 : decode cX3_alternative 56 = .ok (.ifnonnull 7, 3) := dk_199 0 7 (dk_at dksX3_alternative_2 10 rfl rfl)
theorem dX3_alternative_59 : decode cX3_alternative 59 = .ok (.iconst 3, 1) := dk_6 (dk_at dksX3_alternative_2 13 rfl rfl)
theorem dX3_alternative_60 : decode cX3_alternative 60 = .ok (.goto 19, 3) := dk_167 0 19 (dk_at dksX3_alternative_2 14 rfl rfl)
theorem dX3_alternative_63 : decode cX3_alternative 63 = .ok (.aload_n 3, 1) := dk_45 (dk_at dksX3_alternative_2 17 rfl rfl)
theorem dX3_alternative_64 : decode cX3_alternative 64 = .ok (.getfield 266, 3) := dk_180 1 10 (dk_at dksX3_alternative_2 18 rfl rfl)
theorem dX3_alternative_67 : decode cX3_alternative 67 = .ok (.invokevirtual 163, 3) := dk_182 0 163 (dk_at dksX3_alternative_2 21 rfl rfl)
theorem dX3_alternative_70 : decode cX3_alternative 70 = .ok (.iconst 3, 1) := dk_6 (dk_at dksX3_alternative_3 0 rfl rfl)
theorem dX3_alternative_71 : decode cX3_alternative 71 = .ok (.if_icmp .ne 7, 3) := dk_160 0 7 (dk_at dksX3_alternative_3 1 rfl rfl)
theorem dX3_alternative_74 : decode cX3_alternative 74 = .ok (.iconst 4, 1) := dk_7 (dk_at dksX3_alternative_3 4 rfl rfl)
theorem dX3_alternative_75 : decode cX3_alternative 75 = .ok (.goto 4, 3) := dk_167 0 4 (dk_at dksX3_alternative_3 5 rfl rfl)
theorem dX3_alternative_78 : decode cX3_alternative 78 = .ok (.iconst 0, 1) := dk_3 (dk_at dksX3_alternative_3 8 rfl rfl)
theorem dX3_alternative_79 : decode cX3_alternative 79 = .ok (.putfield 123, 3) := dk_181 0 123 (dk_at dksX3_alternative_3 9 rfl rfl)
theorem dX3_alternative_82 : decode cX3_alternative 82 = .ok (.aload_n 0, 1) := dk_42 (dk_at dksX3_alternative_3 12 rfl rfl)
theorem dX3_alternative_83 : decode cX3_alternative 83 = .ok (.getfield 123, 3) := dk_180 0 123 (dk_at dksX3_alternative_3 13 rfl rfl)
theorem dX3_alternative_86 : decode cX3_alternative 86 = .ok (.ifCond .le 5, 3) := dk_158 0 5 (dk_at dksX3_alternative_3 16 rfl rfl)
theorem dX3_alternative_89 : decode cX3_alternative 89 = .ok (.iconst 0, 1) := dk_3 (dk_at dksX3_alternative_3 19 rfl rfl)
theorem dX3_alternative_90 : decode cX3_alternative 90 = .ok (.ireturn, 1) := dk_172 (dk_at dksX3_alternative_3 20 rfl rfl)
theorem dX3_alternative_91 : decode cX3_alternative 91 = .ok (.aload_n 3, 1) := dk_45 (dk_at dksX3_alternative_3 21 rfl rfl)
theorem dX3_alternative_92 : decode cX3_alternative 92 = .ok (.getfield 266, 3) := dk_180 1 10 (dk_at dksX3_alternative_4 0 rfl rfl)
theorem dX3_alternative_95 : decode cX3_alternative 95 = .ok (.iload_n 2, 1) := dk_28 (dk_at dksX3_alternative_4 3 rfl rfl)
theorem dX3_alternative_96 : decode cX3_alternative 96 = .ok (.invokestatic 269, 3) := dk_184 1 13 (dk_at dksX3_alternative_4 4 rfl rfl)
theorem dX3_alternative_99 : decode cX3_alternative 99 = .ok (.invokevirtual 202, 3) := dk_182 0 202 (dk_at dksX3_alternative_4 7 rfl rfl)
theorem dX3_alternative_102 : decode cX3_alternative 102 = .ok (.pop, 1) := dk_87 (dk_at dksX3_alternative_4 10 rfl rfl)
theorem dX3_alternative_103 : decode cX3_alternative 103 = .ok (.aload_n 3, 1) := dk_45 (dk_at dksX3_alternative_4 11 rfl rfl)
theorem dX3_alternative_104 : decode cX3_alternative 104 = .ok (.getfield 274, 3) := dk_180 1 18 (dk_at dksX3_alternative_4 12 rfl rfl)
theorem dX3_alternative_107 : decode cX3_alternative 107 = .ok (.aload_n 0, 1) := dk_42 (dk_at dksX3_alternative_4 15 rfl rfl)
theorem dX3_alternative_108 : decode cX3_alternative 108 = .ok (.getfield 79, 3) := dk_180 0 79 (dk_at dksX3_alternative_4 16 rfl rfl)
theorem dX3_alternative_111 : decode cX3_alternative 111 = .ok (.invokevirtual 202, 3) := dk_182 0 202 (dk_at dksX3_alternative_4 19 rfl rfl)
theorem dX3_alternative_114 : decode cX3_alternative 114 = .ok (.pop, 1) := dk_87 (dk_at dksX3_alternative_4 22 rfl rfl)
theorem dX3_alternative_115 : decode cX3_alternative 115 = .ok (.aload_n 0, 1) := dk_42 (dk_at dksX3_alternative_4 23 rfl rfl)
theorem dX3_alternative_116 : decode cX3_alternative 116 = .ok (.invokevirtual 263, 3) := dk_182 1 7 (dk_at dksX3_alternative_5 0 rfl rfl)
theorem dX3_alternative_119 : decode cX3_alternative 119 = .ok (.istore 4, 2) := dk_54 4 (dk_at dksX3_alternative_5 3 rfl rfl)
theorem dX3_alternative_121 : decode cX3_alternative 121 = .ok (.aload_n 0, 1) := dk_42 (dk_at dksX3_alternative_5 5 rfl rfl)
theorem dX3_alternative_122 : decode cX3_alternative 122 = .ok (.invokevirtual 205, 3) := dk_182 0 205 (dk_at dksX3_alternative_5 6 rfl rfl)
theorem dX3_alternative_125 : decode cX3_alternative 125 = .ok (.aload_n 3, 1) := dk_45 (dk_at dksX3_alternative_5 9 rfl rfl)
theorem dX3_alternative_126 : decode cX3_alternative 126 = .ok (.getfield 266, 3) := dk_180 1 10 (dk_at dksX3_alternative_5 10 rfl rfl)
theorem dX3_alternative_129 : decode cX3_alternative 129 = .ok (.invokevirtual 163, 3) := dk_182 0 163 (dk_at dksX3_alternative_5 13 rfl rfl)
theorem dX3_alternative_132 : decode cX3_alternative 132 = .ok (.ireturn, 1) := dk_172 (dk_at dksX3_alternative_5 16 rfl rfl)
abbrev cX3_remove : ByteArray := prog_16_method_30_code
def yX3_remove : MethodName := ⟨RX3, "remove", "(I)Z"⟩
def dkwX3_remove_2 : List UInt8 := [167, 0, 4, 3, 172]
abbrev dktX3_remove_2 : List UInt8 := dkwX3_remove_2 ++ []
def dkwX3_remove_1 : List UInt8 := [184, 0, 247, 182, 1, 21, 192, 0, 156, 77, 42, 182, 1, 7, 62, 42, 182, 0, 205, 44, 198, 0, 7, 4]
abbrev dktX3_remove_1 : List UInt8 := dkwX3_remove_1 ++ dktX3_remove_2
def dkwX3_remove_0 : List UInt8 := [42, 27, 182, 0, 243, 153, 0, 5, 3, 172, 42, 180, 0, 86, 27, 50, 180, 0, 149, 42, 180, 0, 74]
abbrev dktX3_remove_0 : List UInt8 := dkwX3_remove_0 ++ dktX3_remove_1
theorem dksX3_remove_0 : cX3_remove.data.toList.drop 0 = dktX3_remove_0 := by decide +kernel
theorem dksX3_remove_1 : cX3_remove.data.toList.drop 23 = dktX3_remove_1 := dk_seg dksX3_remove_0 23 rfl rfl
theorem dksX3_remove_2 : cX3_remove.data.toList.drop 47 = dktX3_remove_2 := dk_seg dksX3_remove_1 24 rfl rfl
theorem dX3_remove_0 : decode cX3_remove 0 = .ok (.aload_n 0, 1) := dk_42 (dk_at dksX3_remove_0 0 rfl rfl)
theorem dX3_remove_1 : decode cX3_remove 1 = .ok (.iload_n 1, 1) := dk_27 (dk_at dksX3_remove_0 1 rfl rfl)
theorem dX3_remove_2 : decode cX3_remove 2 = .ok (.invokevirtual 243, 3) := dk_182 0 243 (dk_at dksX3_remove_0 2 rfl rfl)
theorem dX3_remove_5 : decode cX3_remove 5 = .ok (.ifCond .eq 5, 3) := dk_153 0 5 (dk_at dksX3_remove_0 5 rfl rfl)
theorem dX3_remove_8 : decode cX3_remove 8 = .ok (.iconst 0, 1) := dk_3 (dk_at dksX3_remove_0 8 rfl rfl)
theorem dX3_remove_9 : decode cX3_remove 9 = .ok (.ireturn, 1) := dk_172 (dk_at dksX3_remove_0 9 rfl rfl)
theorem dX3_remove_10 : decode cX3_remove 10 = .ok (.aload_n 0, 1) := dk_42 (dk_at dksX3_remove_0 10 rfl rfl)
theorem dX3_remove_11 : decode cX3_remove 11 = .ok (.getfield 86, 3) := dk_180 0 86 (dk_at dksX3_remove_0 11 rfl rfl)
theorem dX3_remove_14 : decode cX3_remove 14 = .ok (.iload_n 1, 1) := dk_27 (dk_at dksX3_remove_0 14 rfl rfl)
theorem dX3_remove_15 : decode cX3_remove 15 = .ok (.aaload, 1) := dk_50 (dk_at dksX3_remove_0 15 rfl rfl)
theorem dX3_remove_16 : decode cX3_remove 16 = .ok (.getfield 149, 3) := dk_180 0 149 (dk_at dksX3_remove_0 16 rfl rfl)
theorem dX3_remove_19 : decode cX3_remove 19 = .ok (.aload_n 0, 1) := dk_42 (dk_at dksX3_remove_0 19 rfl rfl)
theorem dX3_remove_20 : decode cX3_remove 20 = .ok (.getfield 74, 3) := dk_180 0 74 (dk_at dksX3_remove_0 20 rfl rfl)
theorem dX3_remove_23 : decode cX3_remove 23 = .ok (.invokestatic 247, 3) := dk_184 0 247 (dk_at dksX3_remove_1 0 rfl rfl)
theorem dX3_remove_26 : decode cX3_remove 26 = .ok (.invokevirtual 277, 3) := dk_182 1 21 (dk_at dksX3_remove_1 3 rfl rfl)
theorem dX3_remove_29 : decode cX3_remove 29 = .ok (.checkcast 156, 3) := dk_192 0 156 (dk_at dksX3_remove_1 6 rfl rfl)
theorem dX3_remove_32 : decode cX3_remove 32 = .ok (.astore_n 2, 1) := dk_77 (dk_at dksX3_remove_1 9 rfl rfl)
theorem dX3_remove_33 : decode cX3_remove 33 = .ok (.aload_n 0, 1) := dk_42 (dk_at dksX3_remove_1 10 rfl rfl)
theorem dX3_remove_34 : decode cX3_remove 34 = .ok (.invokevirtual 263, 3) := dk_182 1 7 (dk_at dksX3_remove_1 11 rfl rfl)
theorem dX3_remove_37 : decode cX3_remove 37 = .ok (.istore_n 3, 1) := dk_62 (dk_at dksX3_remove_1 14 rfl rfl)
theorem dX3_remove_38 : decode cX3_remove 38 = .ok (.aload_n 0, 1) := dk_42 (dk_at dksX3_remove_1 15 rfl rfl)
theorem dX3_remove_39 : decode cX3_remove 39 = .ok (.invokevirtual 205, 3) := dk_182 0 205 (dk_at dksX3_remove_1 16 rfl rfl)
theorem dX3_remove_42 : decode cX3_remove 42 = .ok (.aload_n 2, 1) := dk_44 (dk_at dksX3_remove_1 19 rfl rfl)
theorem dX3_remove_43 : decode cX3_remove 43 = .ok (.ifnull 7, 3) := dk_198 0 7 (dk_at dksX3_remove_1 20 rfl rfl)
theorem dX3_remove_46 : decode cX3_remove 46 = .ok (.iconst 1, 1) := dk_4 (dk_at dksX3_remove_1 23 rfl rfl)
theorem dX3_remove_47 : decode cX3_remove 47 = .ok (.goto 4, 3) := dk_167 0 4 (dk_at dksX3_remove_2 0 rfl rfl)
theorem dX3_remove_50 : decode cX3_remove 50 = .ok (.iconst 0, 1) := dk_3 (dk_at dksX3_remove_2 3 rfl rfl)
theorem dX3_remove_51 : decode cX3_remove 51 = .ok (.ireturn, 1) := dk_172 (dk_at dksX3_remove_2 4 rfl rfl)
abbrev cX3_turn : ByteArray := prog_16_method_31_code
def yX3_turn : MethodName := ⟨RX3, "turn", "(IZ)Z"⟩
def dkwX3_turn_1 : List UInt8 := [27, 50, 28, 181, 0, 145, 42, 182, 0, 205, 29, 172]
abbrev dktX3_turn_1 : List UInt8 := dkwX3_turn_1 ++ []
def dkwX3_turn_0 : List UInt8 := [42, 27, 182, 0, 243, 153, 0, 5, 3, 172, 42, 180, 0, 86, 27, 50, 180, 0, 145, 62, 42, 180, 0, 86]
abbrev dktX3_turn_0 : List UInt8 := dkwX3_turn_0 ++ dktX3_turn_1
theorem dksX3_turn_0 : cX3_turn.data.toList.drop 0 = dktX3_turn_0 := by decide +kernel
theorem dksX3_turn_1 : cX3_turn.data.toList.drop 24 = dktX3_turn_1 := dk_seg dksX3_turn_0 24 rfl rfl
theorem dX3_turn_0 : decode cX3_turn 0 = .ok (.aload_n 0, 1) := dk_42 (dk_at dksX3_turn_0 0 rfl rfl)
theorem dX3_turn_1 : decode cX3_turn 1 = .ok (.iload_n 1, 1) := dk_27 (dk_at dksX3_turn_0 1 rfl rfl)
theorem dX3_turn_2 : decode cX3_turn 2 = .ok (.invokevirtual 243, 3) := dk_182 0 243 (dk_at dksX3_turn_0 2 rfl rfl)
theorem dX3_turn_5 : decode cX3_turn 5 = .ok (.ifCond .eq 5, 3) := dk_153 0 5 (dk_at dksX3_turn_0 5 rfl rfl)
theorem dX3_turn_8 : decode cX3_turn 8 = .ok (.iconst 0, 1) := dk_3 (dk_at dksX3_turn_0 8 rfl rfl)
theorem dX3_turn_9 : decode cX3_turn 9 = .ok (.ireturn, 1) := dk_172 (dk_at dksX3_turn_0 9 rfl rfl)
theorem dX3_turn_10 : decode cX3_turn 10 = .ok (.aload_n 0, 1) := dk_42 (dk_at dksX3_turn_0 10 rfl rfl)
theorem dX3_turn_11 : decode cX3_turn 11 = .ok (.getfield 86, 3) := dk_180 0 86 (dk_at dksX3_turn_0 11 rfl rfl)
theorem dX3_turn_14 : decode cX3_turn 14 = .ok (.iload_n 1, 1) := dk_27 (dk_at dksX3_turn_0 14 rfl rfl)
theorem dX3_turn_15 : decode cX3_turn 15 = .ok (.aaload, 1) := dk_50 (dk_at dksX3_turn_0 15 rfl rfl)
theorem dX3_turn_16 : decode cX3_turn 16 = .ok (.getfield 145, 3) := dk_180 0 145 (dk_at dksX3_turn_0 16 rfl rfl)
theorem dX3_turn_19 : decode cX3_turn 19 = .ok (.istore_n 3, 1) := dk_62 (dk_at dksX3_turn_0 19 rfl rfl)
theorem dX3_turn_20 : decode cX3_turn 20 = .ok (.aload_n 0, 1) := dk_42 (dk_at dksX3_turn_0 20 rfl rfl)
theorem dX3_turn_21 : decode cX3_turn 21 = .ok (.getfield 86, 3) := dk_180 0 86 (dk_at dksX3_turn_0 21 rfl rfl)
theorem dX3_turn_24 : decode cX3_turn 24 = .ok (.iload_n 1, 1) := dk_27 (dk_at dksX3_turn_1 0 rfl rfl)
theorem dX3_turn_25 : decode cX3_turn 25 = .ok (.aaload, 1) := dk_50 (dk_at dksX3_turn_1 1 rfl rfl)
theorem dX3_turn_26 : decode cX3_turn 26 = .ok (.iload_n 2, 1) := dk_28 (dk_at dksX3_turn_1 2 rfl rfl)
theorem dX3_turn_27 : decode cX3_turn 27 = .ok (.putfield 145, 3) := dk_181 0 145 (dk_at dksX3_turn_1 3 rfl rfl)
theorem dX3_turn_30 : decode cX3_turn 30 = .ok (.aload_n 0, 1) := dk_42 (dk_at dksX3_turn_1 6 rfl rfl)
theorem dX3_turn_31 : decode cX3_turn 31 = .ok (.invokevirtual 205, 3) := dk_182 0 205 (dk_at dksX3_turn_1 7 rfl rfl)
theorem dX3_turn_34 : decode cX3_turn 34 = .ok (.iload_n 3, 1) := dk_29 (dk_at dksX3_turn_1 10 rfl rfl)
theorem dX3_turn_35 : decode cX3_turn 35 = .ok (.ireturn, 1) := dk_172 (dk_at dksX3_turn_1 11 rfl rfl)
abbrev cX3_entries : ByteArray := prog_16_method_32_code
def yX3_entries : MethodName := ⟨RX3, "entries", "(I)I"⟩
def dkwX3_entries_1 : List UInt8 := [172]
abbrev dktX3_entries_1 : List UInt8 := dkwX3_entries_1 ++ []
def dkwX3_entries_0 : List UInt8 := [42, 27, 182, 0, 243, 153, 0, 7, 3, 167, 0, 15, 42, 180, 0, 86, 27, 50, 180, 0, 149, 182, 0, 255]
abbrev dktX3_entries_0 : List UInt8 := dkwX3_entries_0 ++ dktX3_entries_1
theorem dksX3_entries_0 : cX3_entries.data.toList.drop 0 = dktX3_entries_0 := by decide +kernel
theorem dksX3_entries_1 : cX3_entries.data.toList.drop 24 = dktX3_entries_1 := dk_seg dksX3_entries_0 24 rfl rfl
theorem dX3_entries_0 : decode cX3_entries 0 = .ok (.aload_n 0, 1) := dk_42 (dk_at dksX3_entries_0 0 rfl rfl)
theorem dX3_entries_1 : decode cX3_entries 1 = .ok (.iload_n 1, 1) := dk_27 (dk_at dksX3_entries_0 1 rfl rfl)
theorem dX3_entries_2 : decode cX3_entries 2 = .ok (.invokevirtual 243, 3) := dk_182 0 243 (dk_at dksX3_entries_0 2 rfl rfl)
theorem dX3_entries_5 : decode cX3_entries 5 = .ok (.ifCond .eq 7, 3) := dk_153 0 7 (dk_at dksX3_entries_0 5 rfl rfl)
theorem dX3_entries_8 : decode cX3_entries 8 = .ok (.iconst 0, 1) := dk_3 (dk_at dksX3_entries_0 8 rfl rfl)
theorem dX3_entries_9 : decode cX3_entries 9 = .ok (.goto 15, 3) := dk_167 0 15 (dk_at dksX3_entries_0 9 rfl rfl)
theorem dX3_entries_12 : decode cX3_entries 12 = .ok (.aload_n 0, 1) := dk_42 (dk_at dksX3_entries_0 12 rfl rfl)
theorem dX3_entries_13 : decode cX3_entries 13 = .ok (.getfield 86, 3) := dk_180 0 86 (dk_at dksX3_entries_0 13 rfl rfl)
theorem dX3_entries_16 : decode cX3_entries 16 = .ok (.iload_n 1, 1) := dk_27 (dk_at dksX3_entries_0 16 rfl rfl)
theorem dX3_entries_17 : decode cX3_entries 17 = .ok (.aaload, 1) := dk_50 (dk_at dksX3_entries_0 17 rfl rfl)
theorem dX3_entries_18 : decode cX3_entries 18 = .ok (.getfield 149, 3) := dk_180 0 149 (dk_at dksX3_entries_0 18 rfl rfl)
theorem dX3_entries_21 : decode cX3_entries 21 = .ok (.invokevirtual 255, 3) := dk_182 0 255 (dk_at dksX3_entries_0 21 rfl rfl)
theorem dX3_entries_24 : decode cX3_entries 24 = .ok (.ireturn, 1) := dk_172 (dk_at dksX3_entries_1 0 rfl rfl)
abbrev cX3_word : ByteArray := prog_16_method_34_code
def yX3_word : MethodName := ⟨RX3, "word", "()I"⟩
def dkwX3_word_2 : List UInt8 := [42, 180, 0, 79, 182, 1, 28, 60, 42, 18, 77, 181, 0, 79, 42, 180, 0, 93, 182, 1, 27, 172]
abbrev dktX3_word_2 : List UInt8 := dkwX3_word_2 ++ []
def dkwX3_word_1 : List UInt8 := [160, 0, 7, 5, 167, 0, 4, 3, 181, 0, 123, 42, 180, 0, 123, 158, 0, 5, 3, 172, 42, 180, 0, 93]
abbrev dktX3_word_1 : List UInt8 := dkwX3_word_1 ++ dktX3_word_2
def dkwX3_word_0 : List UInt8 := [42, 42, 180, 0, 79, 184, 1, 23, 154, 0, 7, 4, 167, 0, 20, 42, 180, 0, 93, 182, 1, 27, 16, 60]
abbrev dktX3_word_0 : List UInt8 := dkwX3_word_0 ++ dktX3_word_1
theorem dksX3_word_0 : cX3_word.data.toList.drop 0 = dktX3_word_0 := by decide +kernel
theorem dksX3_word_1 : cX3_word.data.toList.drop 24 = dktX3_word_1 := dk_seg dksX3_word_0 24 rfl rfl
theorem dksX3_word_2 : cX3_word.data.toList.drop 48 = dktX3_word_2 := dk_seg dksX3_word_1 24 rfl rfl
theorem dX3_word_0 : decode cX3_word 0 = .ok (.aload_n 0, 1) := dk_42 (dk_at dksX3_word_0 0 rfl rfl)
theorem dX3_word_1 : decode cX3_word 1 = .ok (.aload_n 0, 1) := dk_42 (dk_at dksX3_word_0 1 rfl rfl)
theorem dX3_word_2 : decode cX3_word 2 = .ok (.getfield 79, 3) := dk_180 0 79 (dk_at dksX3_word_0 2 rfl rfl)
theorem dX3_word_5 : decode cX3_word 5 = .ok (.invokestatic 279, 3) := dk_184 1 23 (dk_at dksX3_word_0 5 rfl rfl)
theorem dX3_word_8 : decode cX3_word 8 = .ok (.ifCond .ne 7, 3) := dk_154 0 7 (dk_at dksX3_word_0 8 rfl rfl)
theorem dX3_word_11 : decode cX3_word 11 = .ok (.iconst 1, 1) := dk_4 (dk_at dksX3_word_0 11 rfl rfl)
theorem dX3_word_12 : decode cX3_word 12 = .ok (.goto 20, 3) := dk_167 0 20 (dk_at dksX3_word_0 12 rfl rfl)
theorem dX3_word_15 : decode cX3_word 15 = .ok (.aload_n 0, 1) := dk_42 (dk_at dksX3_word_0 15 rfl rfl)
theorem dX3_word_16 : decode cX3_word 16 = .ok (.getfield 93, 3) := dk_180 0 93 (dk_at dksX3_word_0 16 rfl rfl)
theorem dX3_word_19 : decode cX3_word 19 = .ok (.invokevirtual 283, 3) := dk_182 1 27 (dk_at dksX3_word_0 19 rfl rfl)
theorem dX3_word_22 : decode cX3_word 22 = .ok (.bipush 60, 2) := dk_16 60 (dk_at dksX3_word_0 22 rfl rfl)
theorem dX3_word_24 : decode cX3_word 24 = .ok (.if_icmp .ne 7, 3) := dk_160 0 7 (dk_at dksX3_word_1 0 rfl rfl)
theorem dX3_word_27 : decode cX3_word 27 = .ok (.iconst 2, 1) := dk_5 (dk_at dksX3_word_1 3 rfl rfl)
theorem dX3_word_28 : decode cX3_word 28 = .ok (.goto 4, 3) := dk_167 0 4 (dk_at dksX3_word_1 4 rfl rfl)
theorem dX3_word_31 : decode cX3_word 31 = .ok (.iconst 0, 1) := dk_3 (dk_at dksX3_word_1 7 rfl rfl)
theorem dX3_word_32 : decode cX3_word 32 = .ok (.putfield 123, 3) := dk_181 0 123 (dk_at dksX3_word_1 8 rfl rfl)
theorem dX3_word_35 : decode cX3_word 35 = .ok (.aload_n 0, 1) := dk_42 (dk_at dksX3_word_1 11 rfl rfl)
theorem dX3_word_36 : decode cX3_word 36 = .ok (.getfield 123, 3) := dk_180 0 123 (dk_at dksX3_word_1 12 rfl rfl)
theorem dX3_word_39 : decode cX3_word 39 = .ok (.ifCond .le 5, 3) := dk_158 0 5 (dk_at dksX3_word_1 15 rfl rfl)
theorem dX3_word_42 : decode cX3_word 42 = .ok (.iconst 0, 1) := dk_3 (dk_at dksX3_word_1 18 rfl rfl)
theorem dX3_word_43 : decode cX3_word 43 = .ok (.ireturn, 1) := dk_172 (dk_at dksX3_word_1 19 rfl rfl)
theorem dX3_word_44 : decode cX3_word 44 = .ok (.aload_n 0, 1) := dk_42 (dk_at dksX3_word_1 20 rfl rfl)
theorem dX3_word_45 : decode cX3_word 45 = .ok (.getfield 93, 3) := dk_180 0 93 (dk_at dksX3_word_1 21 rfl rfl)
theorem dX3_word_48 : decode cX3_word 48 = .ok (.aload_n 0, 1) := dk_42 (dk_at dksX3_word_2 0 rfl rfl)
theorem dX3_word_49 : decode cX3_word 49 = .ok (.getfield 79, 3) := dk_180 0 79 (dk_at dksX3_word_2 1 rfl rfl)
theorem dX3_word_52 : decode cX3_word 52 = .ok (.invokevirtual 284, 3) := dk_182 1 28 (dk_at dksX3_word_2 4 rfl rfl)
theorem dX3_word_55 : decode cX3_word 55 = .ok (.istore_n 1, 1) := dk_60 (dk_at dksX3_word_2 7 rfl rfl)
theorem dX3_word_56 : decode cX3_word 56 = .ok (.aload_n 0, 1) := dk_42 (dk_at dksX3_word_2 8 rfl rfl)
theorem dX3_word_57 : decode cX3_word 57 = .ok (.ldc 77, 2) := dk_18 77 (dk_at dksX3_word_2 9 rfl rfl)
theorem dX3_word_59 : decode cX3_word 59 = .ok (.putfield 79, 3) := dk_181 0 79 (dk_at dksX3_word_2 11 rfl rfl)
theorem dX3_word_62 : decode cX3_word 62 = .ok (.aload_n 0, 1) := dk_42 (dk_at dksX3_word_2 14 rfl rfl)
theorem dX3_word_63 : decode cX3_word 63 = .ok (.getfield 93, 3) := dk_180 0 93 (dk_at dksX3_word_2 15 rfl rfl)
theorem dX3_word_66 : decode cX3_word 66 = .ok (.invokevirtual 283, 3) := dk_182 1 27 (dk_at dksX3_word_2 18 rfl rfl)
theorem dX3_word_69 : decode cX3_word 69 = .ok (.ireturn, 1) := dk_172 (dk_at dksX3_word_2 21 rfl rfl)
abbrev cX3_areLetters : ByteArray := prog_16_method_33_code
def yX3_areLetters : MethodName := ⟨RX3, "areLetters", "(Ljava/lang/String;)Z"⟩
def dkwX3_areLetters_2 : List UInt8 := [167, 255, 224, 27, 172]
abbrev dktX3_areLetters_2 : List UInt8 := dkwX3_areLetters_2 ++ []
def dkwX3_areLetters_1 : List UInt8 := [153, 0, 18, 42, 28, 182, 0, 42, 184, 0, 1, 153, 0, 7, 4, 167, 0, 4, 3, 60, 132, 2, 1]
abbrev dktX3_areLetters_1 : List UInt8 := dkwX3_areLetters_1 ++ dktX3_areLetters_2
def dkwX3_areLetters_0 : List UInt8 := [42, 182, 0, 254, 154, 0, 7, 4, 167, 0, 4, 3, 60, 3, 61, 28, 42, 182, 0, 18, 162, 0, 30, 27]
abbrev dktX3_areLetters_0 : List UInt8 := dkwX3_areLetters_0 ++ dktX3_areLetters_1
theorem dksX3_areLetters_0 : cX3_areLetters.data.toList.drop 0 = dktX3_areLetters_0 := by decide +kernel
theorem dksX3_areLetters_1 : cX3_areLetters.data.toList.drop 24 = dktX3_areLetters_1 := dk_seg dksX3_areLetters_0 24 rfl rfl
theorem dksX3_areLetters_2 : cX3_areLetters.data.toList.drop 47 = dktX3_areLetters_2 := dk_seg dksX3_areLetters_1 23 rfl rfl
theorem dX3_areLetters_0 : decode cX3_areLetters 0 = .ok (.aload_n 0, 1) := dk_42 (dk_at dksX3_areLetters_0 0 rfl rfl)
theorem dX3_areLetters_1 : decode cX3_areLetters 1 = .ok (.invokevirtual 254, 3) := dk_182 0 254 (dk_at dksX3_areLetters_0 1 rfl rfl)
theorem dX3_areLetters_4 : decode cX3_areLetters 4 = .ok (.ifCond .ne 7, 3) := dk_154 0 7 (dk_at dksX3_areLetters_0 4 rfl rfl)
theorem dX3_areLetters_7 : decode cX3_areLetters 7 = .ok (.iconst 1, 1) := dk_4 (dk_at dksX3_areLetters_0 7 rfl rfl)
theorem dX3_areLetters_8 : decode cX3_areLetters 8 = .ok (.goto 4, 3) := dk_167 0 4 (dk_at dksX3_areLetters_0 8 rfl rfl)
theorem dX3_areLetters_11 : decode cX3_areLetters 11 = .ok (.iconst 0, 1) := dk_3 (dk_at dksX3_areLetters_0 11 rfl rfl)
theorem dX3_areLetters_12 : decode cX3_areLetters 12 = .ok (.istore_n 1, 1) := dk_60 (dk_at dksX3_areLetters_0 12 rfl rfl)
theorem dX3_areLetters_13 : decode cX3_areLetters 13 = .ok (.iconst 0, 1) := dk_3 (dk_at dksX3_areLetters_0 13 rfl rfl)
theorem dX3_areLetters_14 : decode cX3_areLetters 14 = .ok (.istore_n 2, 1) := dk_61 (dk_at dksX3_areLetters_0 14 rfl rfl)
theorem dX3_areLetters_15 : decode cX3_areLetters 15 = .ok (.iload_n 2, 1) := dk_28 (dk_at dksX3_areLetters_0 15 rfl rfl)
theorem dX3_areLetters_16 : decode cX3_areLetters 16 = .ok (.aload_n 0, 1) := dk_42 (dk_at dksX3_areLetters_0 16 rfl rfl)
theorem dX3_areLetters_17 : decode cX3_areLetters 17 = .ok (.invokevirtual 18, 3) := dk_182 0 18 (dk_at dksX3_areLetters_0 17 rfl rfl)
theorem dX3_areLetters_20 : decode cX3_areLetters 20 = .ok (.if_icmp .ge 30, 3) := dk_162 0 30 (dk_at dksX3_areLetters_0 20 rfl rfl)
theorem dX3_areLetters_23 : decode cX3_areLetters 23 = .ok (.iload_n 1, 1) := dk_27 (dk_at dksX3_areLetters_0 23 rfl rfl)
theorem dX3_areLetters_24 : decode cX3_areLetters 24 = .ok (.ifCond .eq 18, 3) := dk_153 0 18 (dk_at dksX3_areLetters_1 0 rfl rfl)
theorem dX3_areLetters_27 : decode cX3_areLetters 27 = .ok (.aload_n 0, 1) := dk_42 (dk_at dksX3_areLetters_1 3 rfl rfl)
theorem dX3_areLetters_28 : decode cX3_areLetters 28 = .ok (.iload_n 2, 1) := dk_28 (dk_at dksX3_areLetters_1 4 rfl rfl)
theorem dX3_areLetters_29 : decode cX3_areLetters 29 = .ok (.invokevirtual 42, 3) := dk_182 0 42 (dk_at dksX3_areLetters_1 5 rfl rfl)
theorem dX3_areLetters_32 : decode cX3_areLetters 32 = .ok (.invokestatic 1, 3) := dk_184 0 1 (dk_at dksX3_areLetters_1 8 rfl rfl)
theorem dX3_areLetters_35 : decode cX3_areLetters 35 = .ok (.ifCond .eq 7, 3) := dk_153 0 7 (dk_at dksX3_areLetters_1 11 rfl rfl)
theorem dX3_areLetters_38 : decode cX3_areLetters 38 = .ok (.iconst 1, 1) := dk_4 (dk_at dksX3_areLetters_1 14 rfl rfl)
theorem dX3_areLetters_39 : decode cX3_areLetters 39 = .ok (.goto 4, 3) := dk_167 0 4 (dk_at dksX3_areLetters_1 15 rfl rfl)
theorem dX3_areLetters_42 : decode cX3_areLetters 42 = .ok (.iconst 0, 1) := dk_3 (dk_at dksX3_areLetters_1 18 rfl rfl)
theorem dX3_areLetters_43 : decode cX3_areLetters 43 = .ok (.istore_n 1, 1) := dk_60 (dk_at dksX3_areLetters_1 19 rfl rfl)
theorem dX3_areLetters_44 : decode cX3_areLetters 44 = .ok (.iinc 2 1, 3) := dk_132 2 1 (dk_at dksX3_areLetters_1 20 rfl rfl)
theorem dX3_areLetters_47 : decode cX3_areLetters 47 = .ok (.goto (-32), 3) := dk_167 255 224 (dk_at dksX3_areLetters_2 0 rfl rfl)
theorem dX3_areLetters_50 : decode cX3_areLetters 50 = .ok (.iload_n 1, 1) := dk_27 (dk_at dksX3_areLetters_2 3 rfl rfl)
theorem dX3_areLetters_51 : decode cX3_areLetters 51 = .ok (.ireturn, 1) := dk_172 (dk_at dksX3_areLetters_2 4 rfl rfl)
abbrev cX3_isWord : ByteArray := prog_16_method_35_code
def yX3_isWord : MethodName := ⟨RX3, "isWord", "()Z"⟩
def dkwX3_isWord_0 : List UInt8 := [42, 3, 181, 0, 123, 42, 180, 0, 93, 42, 180, 0, 79, 182, 1, 29, 172]
abbrev dktX3_isWord_0 : List UInt8 := dkwX3_isWord_0 ++ []
theorem dksX3_isWord_0 : cX3_isWord.data.toList.drop 0 = dktX3_isWord_0 := by decide +kernel
theorem dX3_isWord_0 : decode cX3_isWord 0 = .ok (.aload_n 0, 1) := dk_42 (dk_at dksX3_isWord_0 0 rfl rfl)
theorem dX3_isWord_1 : decode cX3_isWord 1 = .ok (.iconst 0, 1) := dk_3 (dk_at dksX3_isWord_0 1 rfl rfl)
theorem dX3_isWord_2 : decode cX3_isWord 2 = .ok (.putfield 123, 3) := dk_181 0 123 (dk_at dksX3_isWord_0 2 rfl rfl)
theorem dX3_isWord_5 : decode cX3_isWord 5 = .ok (.aload_n 0, 1) := dk_42 (dk_at dksX3_isWord_0 5 rfl rfl)
theorem dX3_isWord_6 : decode cX3_isWord 6 = .ok (.getfield 93, 3) := dk_180 0 93 (dk_at dksX3_isWord_0 6 rfl rfl)
theorem dX3_isWord_9 : decode cX3_isWord 9 = .ok (.aload_n 0, 1) := dk_42 (dk_at dksX3_isWord_0 9 rfl rfl)
theorem dX3_isWord_10 : decode cX3_isWord 10 = .ok (.getfield 79, 3) := dk_180 0 79 (dk_at dksX3_isWord_0 10 rfl rfl)
theorem dX3_isWord_13 : decode cX3_isWord 13 = .ok (.invokevirtual 285, 3) := dk_182 1 29 (dk_at dksX3_isWord_0 13 rfl rfl)
theorem dX3_isWord_16 : decode cX3_isWord 16 = .ok (.ireturn, 1) := dk_172 (dk_at dksX3_isWord_0 16 rfl rfl)
abbrev cX3_rule : ByteArray := prog_16_method_36_code
def yX3_rule : MethodName := ⟨RX3, "rule", "(C)I"⟩
def dkwX3_rule_3 : List UInt8 := [180, 0, 97, 182, 0, 18, 172]
abbrev dktX3_rule_3 : List UInt8 := dkwX3_rule_3 ++ []
def dkwX3_rule_2 : List UInt8 := [183, 0, 28, 42, 90, 180, 0, 97, 182, 0, 32, 27, 182, 0, 46, 182, 0, 38, 181, 0, 97, 42]
abbrev dktX3_rule_2 : List UInt8 := dkwX3_rule_2 ++ dktX3_rule_3
def dkwX3_rule_1 : List UInt8 := [155, 0, 7, 5, 167, 0, 4, 3, 181, 0, 123, 42, 180, 0, 123, 158, 0, 5, 3, 172, 187, 0, 26, 89]
abbrev dktX3_rule_1 : List UInt8 := dkwX3_rule_1 ++ dktX3_rule_2
def dkwX3_rule_0 : List UInt8 := [42, 19, 1, 32, 27, 182, 0, 9, 156, 0, 7, 4, 167, 0, 19, 42, 180, 0, 97, 27, 182, 0, 9]
abbrev dktX3_rule_0 : List UInt8 := dkwX3_rule_0 ++ dktX3_rule_1
theorem dksX3_rule_0 : cX3_rule.data.toList.drop 0 = dktX3_rule_0 := by decide +kernel
theorem dksX3_rule_1 : cX3_rule.data.toList.drop 23 = dktX3_rule_1 := dk_seg dksX3_rule_0 23 rfl rfl
theorem dksX3_rule_2 : cX3_rule.data.toList.drop 47 = dktX3_rule_2 := dk_seg dksX3_rule_1 24 rfl rfl
theorem dksX3_rule_3 : cX3_rule.data.toList.drop 69 = dktX3_rule_3 := dk_seg dksX3_rule_2 22 rfl rfl
theorem dX3_rule_0 : decode cX3_rule 0 = .ok (.aload_n 0, 1) := dk_42 (dk_at dksX3_rule_0 0 rfl rfl)
theorem dX3_rule_1 : decode cX3_rule 1 = .ok (.ldc_w 288, 3) := dk_19 1 32 (dk_at dksX3_rule_0 1 rfl rfl)
theorem dX3_rule_4 : decode cX3_rule 4 = .ok (.iload_n 1, 1) := dk_27 (dk_at dksX3_rule_0 4 rfl rfl)
theorem dX3_rule_5 : decode cX3_rule 5 = .ok (.invokevirtual 9, 3) := dk_182 0 9 (dk_at dksX3_rule_0 5 rfl rfl)
theorem dX3_rule_8 : decode cX3_rule 8 = .ok (.ifCond .ge 7, 3) := dk_156 0 7 (dk_at dksX3_rule_0 8 rfl rfl)
theorem dX3_rule_11 : decode cX3_rule 11 = .ok (.iconst 1, 1) := dk_4 (dk_at dksX3_rule_0 11 rfl rfl)
theorem dX3_rule_12 : decode cX3_rule 12 = .ok (.goto 19, 3) := dk_167 0 19 (dk_at dksX3_rule_0 12 rfl rfl)
theorem dX3_rule_15 : decode cX3_rule 15 = .ok (.aload_n 0, 1) := dk_42 (dk_at dksX3_rule_0 15 rfl rfl)
theorem dX3_rule_16 : decode cX3_rule 16 = .ok (.getfield 97, 3) := dk_180 0 97 (dk_at dksX3_rule_0 16 rfl rfl)
theorem dX3_rule_19 : decode cX3_rule 19 = .ok (.iload_n 1, 1) := dk_27 (dk_at dksX3_rule_0 19 rfl rfl)
theorem dX3_rule_20 : decode cX3_rule 20 = .ok (.invokevirtual 9, 3) := dk_182 0 9 (dk_at dksX3_rule_0 20 rfl rfl)
theorem dX3_rule_23 : decode cX3_rule 23 = .ok (.ifCond .lt 7, 3) := dk_155 0 7 (dk_at dksX3_rule_1 0 rfl rfl)
theorem dX3_rule_26 : decode cX3_rule 26 = .ok (.iconst 2, 1) := dk_5 (dk_at dksX3_rule_1 3 rfl rfl)
theorem dX3_rule_27 : decode cX3_rule 27 = .ok (.goto 4, 3) := dk_167 0 4 (dk_at dksX3_rule_1 4 rfl rfl)
theorem dX3_rule_30 : decode cX3_rule 30 = .ok (.iconst 0, 1) := dk_3 (dk_at dksX3_rule_1 7 rfl rfl)
theorem dX3_rule_31 : decode cX3_rule 31 = .ok (.putfield 123, 3) := dk_181 0 123 (dk_at dksX3_rule_1 8 rfl rfl)
theorem dX3_rule_34 : decode cX3_rule 34 = .ok (.aload_n 0, 1) := dk_42 (dk_at dksX3_rule_1 11 rfl rfl)
theorem dX3_rule_35 : decode cX3_rule 35 = .ok (.getfield 123, 3) := dk_180 0 123 (dk_at dksX3_rule_1 12 rfl rfl)
theorem dX3_rule_38 : decode cX3_rule 38 = .ok (.ifCond .le 5, 3) := dk_158 0 5 (dk_at dksX3_rule_1 15 rfl rfl)
theorem dX3_rule_41 : decode cX3_rule 41 = .ok (.iconst 0, 1) := dk_3 (dk_at dksX3_rule_1 18 rfl rfl)
theorem dX3_rule_42 : decode cX3_rule 42 = .ok (.ireturn, 1) := dk_172 (dk_at dksX3_rule_1 19 rfl rfl)
theorem dX3_rule_43 : decode cX3_rule 43 = .ok (.new 26, 3) := dk_187 0 26 (dk_at dksX3_rule_1 20 rfl rfl)
theorem dX3_rule_46 : decode cX3_rule 46 = .ok (.dup, 1) := dk_89 (dk_at dksX3_rule_1 23 rfl rfl)
theorem dX3_rule_47 : decode cX3_rule 47 = .ok (.invokespecial 28, 3) := dk_183 0 28 (dk_at dksX3_rule_2 0 rfl rfl)
theorem dX3_rule_50 : decode cX3_rule 50 = .ok (.aload_n 0, 1) := dk_42 (dk_at dksX3_rule_2 3 rfl rfl)
theorem dX3_rule_51 : decode cX3_rule 51 = .ok (.dup_x1, 1) := dk_90 (dk_at dksX3_rule_2 4 rfl rfl)
theorem dX3_rule_52 : decode cX3_rule 52 = .ok (.getfield 97, 3) := dk_180 0 97 (dk_at dksX3_rule_2 5 rfl rfl)
theorem dX3_rule_55 : decode cX3_rule 55 = .ok (.invokevirtual 32, 3) := dk_182 0 32 (dk_at dksX3_rule_2 8 rfl rfl)
theorem dX3_rule_58 : decode cX3_rule 58 = .ok (.iload_n 1, 1) := dk_27 (dk_at dksX3_rule_2 11 rfl rfl)
theorem dX3_rule_59 : decode cX3_rule 59 = .ok (.invokevirtual 46, 3) := dk_182 0 46 (dk_at dksX3_rule_2 12 rfl rfl)
theorem dX3_rule_62 : decode cX3_rule 62 = .ok (.invokevirtual 38, 3) := dk_182 0 38 (dk_at dksX3_rule_2 15 rfl rfl)
theorem dX3_rule_65 : decode cX3_rule 65 = .ok (.putfield 97, 3) := dk_181 0 97 (dk_at dksX3_rule_2 18 rfl rfl)
theorem dX3_rule_68 : decode cX3_rule 68 = .ok (.aload_n 0, 1) := dk_42 (dk_at dksX3_rule_2 21 rfl rfl)
theorem dX3_rule_69 : decode cX3_rule 69 = .ok (.getfield 97, 3) := dk_180 0 97 (dk_at dksX3_rule_3 0 rfl rfl)
theorem dX3_rule_72 : decode cX3_rule 72 = .ok (.invokevirtual 18, 3) := dk_182 0 18 (dk_at dksX3_rule_3 3 rfl rfl)
theorem dX3_rule_75 : decode cX3_rule 75 = .ok (.ireturn, 1) := dk_172 (dk_at dksX3_rule_3 6 rfl rfl)
abbrev cX3_forget : ByteArray := prog_16_method_37_code
def yX3_forget : MethodName := ⟨RX3, "forget", "()I"⟩
def dkwX3_forget_0 : List UInt8 := [42, 3, 181, 0, 123, 42, 180, 0, 97, 182, 0, 18, 60, 42, 18, 77, 181, 0, 97, 27, 172]
abbrev dktX3_forget_0 : List UInt8 := dkwX3_forget_0 ++ []
theorem dksX3_forget_0 : cX3_forget.data.toList.drop 0 = dktX3_forget_0 := by decide +kernel
theorem dX3_forget_0 : decode cX3_forget 0 = .ok (.aload_n 0, 1) := dk_42 (dk_at dksX3_forget_0 0 rfl rfl)
theorem dX3_forget_1 : decode cX3_forget 1 = .ok (.iconst 0, 1) := dk_3 (dk_at dksX3_forget_0 1 rfl rfl)
theorem dX3_forget_2 : decode cX3_forget 2 = .ok (.putfield 123, 3) := dk_181 0 123 (dk_at dksX3_forget_0 2 rfl rfl)
theorem dX3_forget_5 : decode cX3_forget 5 = .ok (.aload_n 0, 1) := dk_42 (dk_at dksX3_forget_0 5 rfl rfl)
theorem dX3_forget_6 : decode cX3_forget 6 = .ok (.getfield 97, 3) := dk_180 0 97 (dk_at dksX3_forget_0 6 rfl rfl)
theorem dX3_forget_9 : decode cX3_forget 9 = .ok (.invokevirtual 18, 3) := dk_182 0 18 (dk_at dksX3_forget_0 9 rfl rfl)
theorem dX3_forget_12 : decode cX3_forget 12 = .ok (.istore_n 1, 1) := dk_60 (dk_at dksX3_forget_0 12 rfl rfl)
theorem dX3_forget_13 : decode cX3_forget 13 = .ok (.aload_n 0, 1) := dk_42 (dk_at dksX3_forget_0 13 rfl rfl)
theorem dX3_forget_14 : decode cX3_forget 14 = .ok (.ldc 77, 2) := dk_18 77 (dk_at dksX3_forget_0 14 rfl rfl)
theorem dX3_forget_16 : decode cX3_forget 16 = .ok (.putfield 97, 3) := dk_181 0 97 (dk_at dksX3_forget_0 16 rfl rfl)
theorem dX3_forget_19 : decode cX3_forget 19 = .ok (.iload_n 1, 1) := dk_27 (dk_at dksX3_forget_0 19 rfl rfl)
theorem dX3_forget_20 : decode cX3_forget 20 = .ok (.ireturn, 1) := dk_172 (dk_at dksX3_forget_0 20 rfl rfl)
abbrev cX3_length : ByteArray := prog_16_method_40_code
def yX3_length : MethodName := ⟨RX3, "length", "()I"⟩
def dkwX3_length_0 : List UInt8 := [42, 3, 181, 0, 123, 42, 182, 1, 41, 182, 0, 163, 172]
abbrev dktX3_length_0 : List UInt8 := dkwX3_length_0 ++ []
theorem dksX3_length_0 : cX3_length.data.toList.drop 0 = dktX3_length_0 := by decide +kernel
theorem dX3_length_0 : decode cX3_length 0 = .ok (.aload_n 0, 1) := dk_42 (dk_at dksX3_length_0 0 rfl rfl)
theorem dX3_length_1 : decode cX3_length 1 = .ok (.iconst 0, 1) := dk_3 (dk_at dksX3_length_0 1 rfl rfl)
theorem dX3_length_2 : decode cX3_length 2 = .ok (.putfield 123, 3) := dk_181 0 123 (dk_at dksX3_length_0 2 rfl rfl)
theorem dX3_length_5 : decode cX3_length 5 = .ok (.aload_n 0, 1) := dk_42 (dk_at dksX3_length_0 5 rfl rfl)
theorem dX3_length_6 : decode cX3_length 6 = .ok (.invokevirtual 297, 3) := dk_182 1 41 (dk_at dksX3_length_0 6 rfl rfl)
theorem dX3_length_9 : decode cX3_length 9 = .ok (.invokevirtual 163, 3) := dk_182 0 163 (dk_at dksX3_length_0 9 rfl rfl)
theorem dX3_length_12 : decode cX3_length 12 = .ok (.ireturn, 1) := dk_172 (dk_at dksX3_length_0 12 rfl rfl)
abbrev cX3_written : ByteArray := prog_16_method_38_code
def yX3_written : MethodName := ⟨RX3, "written", "()Ljava/util/ArrayList;"⟩
def dkwX3_written_0 : List UInt8 := [187, 1, 34, 89, 42, 183, 1, 36, 180, 1, 39, 176]
abbrev dktX3_written_0 : List UInt8 := dkwX3_written_0 ++ []
theorem dksX3_written_0 : cX3_written.data.toList.drop 0 = dktX3_written_0 := by decide +kernel
theorem dX3_written_0 : decode cX3_written 0 = .ok (.new 290, 3) := dk_187 1 34 (dk_at dksX3_written_0 0 rfl rfl)
theorem dX3_written_3 : decode cX3_written 3 = .ok (.dup, 1) := dk_89 (dk_at dksX3_written_0 3 rfl rfl)
theorem dX3_written_4 : decode cX3_written 4 = .ok (.aload_n 0, 1) := dk_42 (dk_at dksX3_written_0 4 rfl rfl)
theorem dX3_written_5 : decode cX3_written 5 = .ok (.invokespecial 292, 3) := dk_183 1 36 (dk_at dksX3_written_0 5 rfl rfl)
theorem dX3_written_8 : decode cX3_written 8 = .ok (.getfield 295, 3) := dk_180 1 39 (dk_at dksX3_written_0 8 rfl rfl)
theorem dX3_written_11 : decode cX3_written 11 = .ok (.areturn, 1) := dk_176 (dk_at dksX3_written_0 11 rfl rfl)
abbrev cX3_capital : ByteArray := prog_16_method_6_code
def yX3_capital : MethodName := ⟨RX3, "capital", "(C)C"⟩
def dkwX3_capital_0 : List UInt8 := [26, 184, 0, 1, 153, 0, 14, 26, 16, 97, 100, 16, 65, 96, 146, 167, 0, 4, 26, 172]
abbrev dktX3_capital_0 : List UInt8 := dkwX3_capital_0 ++ []
theorem dksX3_capital_0 : cX3_capital.data.toList.drop 0 = dktX3_capital_0 := by decide +kernel
theorem dX3_capital_0 : decode cX3_capital 0 = .ok (.iload_n 0, 1) := dk_26 (dk_at dksX3_capital_0 0 rfl rfl)
theorem dX3_capital_1 : decode cX3_capital 1 = .ok (.invokestatic 1, 3) := dk_184 0 1 (dk_at dksX3_capital_0 1 rfl rfl)
theorem dX3_capital_4 : decode cX3_capital 4 = .ok (.ifCond .eq 14, 3) := dk_153 0 14 (dk_at dksX3_capital_0 4 rfl rfl)
theorem dX3_capital_7 : decode cX3_capital 7 = .ok (.iload_n 0, 1) := dk_26 (dk_at dksX3_capital_0 7 rfl rfl)
theorem dX3_capital_8 : decode cX3_capital 8 = .ok (.bipush 97, 2) := dk_16 97 (dk_at dksX3_capital_0 8 rfl rfl)
theorem dX3_capital_10 : decode cX3_capital 10 = .ok (.isub, 1) := dk_100 (dk_at dksX3_capital_0 10 rfl rfl)
theorem dX3_capital_11 : decode cX3_capital 11 = .ok (.bipush 65, 2) := dk_16 65 (dk_at dksX3_capital_0 11 rfl rfl)
theorem dX3_capital_13 : decode cX3_capital 13 = .ok (.iadd, 1) := dk_96 (dk_at dksX3_capital_0 13 rfl rfl)
theorem dX3_capital_14 : decode cX3_capital 14 = .ok (.i2c, 1) := dk_146 (dk_at dksX3_capital_0 14 rfl rfl)
theorem dX3_capital_15 : decode cX3_capital 15 = .ok (.goto 4, 3) := dk_167 0 4 (dk_at dksX3_capital_0 15 rfl rfl)
theorem dX3_capital_18 : decode cX3_capital 18 = .ok (.iload_n 0, 1) := dk_26 (dk_at dksX3_capital_0 18 rfl rfl)
theorem dX3_capital_19 : decode cX3_capital 19 = .ok (.ireturn, 1) := dk_172 (dk_at dksX3_capital_0 19 rfl rfl)
abbrev cX3_isLetter : ByteArray := prog_16_method_3_code
def yX3_isLetter : MethodName := ⟨RX3, "isLetter", "(C)Z"⟩
def dkwX3_isLetter_1 : List UInt8 := [172]
abbrev dktX3_isLetter_1 : List UInt8 := dkwX3_isLetter_1 ++ []
def dkwX3_isLetter_0 : List UInt8 := [26, 184, 0, 1, 154, 0, 15, 26, 16, 65, 161, 0, 13, 26, 16, 90, 163, 0, 7, 4, 167, 0, 4, 3]
abbrev dktX3_isLetter_0 : List UInt8 := dkwX3_isLetter_0 ++ dktX3_isLetter_1
theorem dksX3_isLetter_0 : cX3_isLetter.data.toList.drop 0 = dktX3_isLetter_0 := by decide +kernel
theorem dksX3_isLetter_1 : cX3_isLetter.data.toList.drop 24 = dktX3_isLetter_1 := dk_seg dksX3_isLetter_0 24 rfl rfl
theorem dX3_isLetter_0 : decode cX3_isLetter 0 = .ok (.iload_n 0, 1) := dk_26 (dk_at dksX3_isLetter_0 0 rfl rfl)
theorem dX3_isLetter_1 : decode cX3_isLetter 1 = .ok (.invokestatic 1, 3) := dk_184 0 1 (dk_at dksX3_isLetter_0 1 rfl rfl)
theorem dX3_isLetter_4 : decode cX3_isLetter 4 = .ok (.ifCond .ne 15, 3) := dk_154 0 15 (dk_at dksX3_isLetter_0 4 rfl rfl)
theorem dX3_isLetter_7 : decode cX3_isLetter 7 = .ok (.iload_n 0, 1) := dk_26 (dk_at dksX3_isLetter_0 7 rfl rfl)
theorem dX3_isLetter_8 : decode cX3_isLetter 8 = .ok (.bipush 65, 2) := dk_16 65 (dk_at dksX3_isLetter_0 8 rfl rfl)
theorem dX3_isLetter_10 : decode cX3_isLetter 10 = .ok (.if_icmp .lt 13, 3) := dk_161 0 13 (dk_at dksX3_isLetter_0 10 rfl rfl)
theorem dX3_isLetter_13 : decode cX3_isLetter 13 = .ok (.iload_n 0, 1) := dk_26 (dk_at dksX3_isLetter_0 13 rfl rfl)
theorem dX3_isLetter_14 : decode cX3_isLetter 14 = .ok (.bipush 90, 2) := dk_16 90 (dk_at dksX3_isLetter_0 14 rfl rfl)
theorem dX3_isLetter_16 : decode cX3_isLetter 16 = .ok (.if_icmp .gt 7, 3) := dk_163 0 7 (dk_at dksX3_isLetter_0 16 rfl rfl)
theorem dX3_isLetter_19 : decode cX3_isLetter 19 = .ok (.iconst 1, 1) := dk_4 (dk_at dksX3_isLetter_0 19 rfl rfl)
theorem dX3_isLetter_20 : decode cX3_isLetter 20 = .ok (.goto 4, 3) := dk_167 0 4 (dk_at dksX3_isLetter_0 20 rfl rfl)
theorem dX3_isLetter_23 : decode cX3_isLetter 23 = .ok (.iconst 0, 1) := dk_3 (dk_at dksX3_isLetter_0 23 rfl rfl)
theorem dX3_isLetter_24 : decode cX3_isLetter 24 = .ok (.ireturn, 1) := dk_172 (dk_at dksX3_isLetter_1 0 rfl rfl)
abbrev cX3_small : ByteArray := prog_16_method_5_code
def yX3_small : MethodName := ⟨RX3, "small", "(C)C"⟩
def dkwX3_small_1 : List UInt8 := [167, 0, 4, 26, 172]
abbrev dktX3_small_1 : List UInt8 := dkwX3_small_1 ++ []
def dkwX3_small_0 : List UInt8 := [26, 184, 0, 15, 153, 0, 21, 26, 184, 0, 1, 154, 0, 14, 26, 16, 65, 100, 16, 97, 96, 146]
abbrev dktX3_small_0 : List UInt8 := dkwX3_small_0 ++ dktX3_small_1
theorem dksX3_small_0 : cX3_small.data.toList.drop 0 = dktX3_small_0 := by decide +kernel
theorem dksX3_small_1 : cX3_small.data.toList.drop 22 = dktX3_small_1 := dk_seg dksX3_small_0 22 rfl rfl
theorem dX3_small_0 : decode cX3_small 0 = .ok (.iload_n 0, 1) := dk_26 (dk_at dksX3_small_0 0 rfl rfl)
theorem dX3_small_1 : decode cX3_small 1 = .ok (.invokestatic 15, 3) := dk_184 0 15 (dk_at dksX3_small_0 1 rfl rfl)
theorem dX3_small_4 : decode cX3_small 4 = .ok (.ifCond .eq 21, 3) := dk_153 0 21 (dk_at dksX3_small_0 4 rfl rfl)
theorem dX3_small_7 : decode cX3_small 7 = .ok (.iload_n 0, 1) := dk_26 (dk_at dksX3_small_0 7 rfl rfl)
theorem dX3_small_8 : decode cX3_small 8 = .ok (.invokestatic 1, 3) := dk_184 0 1 (dk_at dksX3_small_0 8 rfl rfl)
theorem dX3_small_11 : decode cX3_small 11 = .ok (.ifCond .ne 14, 3) := dk_154 0 14 (dk_at dksX3_small_0 11 rfl rfl)
theorem dX3_small_14 : decode cX3_small 14 = .ok (.iload_n 0, 1) := dk_26 (dk_at dksX3_small_0 14 rfl rfl)
theorem dX3_small_15 : decode cX3_small 15 = .ok (.bipush 65, 2) := dk_16 65 (dk_at dksX3_small_0 15 rfl rfl)
theorem dX3_small_17 : decode cX3_small 17 = .ok (.isub, 1) := dk_100 (dk_at dksX3_small_0 17 rfl rfl)
theorem dX3_small_18 : decode cX3_small 18 = .ok (.bipush 97, 2) := dk_16 97 (dk_at dksX3_small_0 18 rfl rfl)
theorem dX3_small_20 : decode cX3_small 20 = .ok (.iadd, 1) := dk_96 (dk_at dksX3_small_0 20 rfl rfl)
theorem dX3_small_21 : decode cX3_small 21 = .ok (.i2c, 1) := dk_146 (dk_at dksX3_small_0 21 rfl rfl)
theorem dX3_small_22 : decode cX3_small 22 = .ok (.goto 4, 3) := dk_167 0 4 (dk_at dksX3_small_1 0 rfl rfl)
theorem dX3_small_25 : decode cX3_small 25 = .ok (.iload_n 0, 1) := dk_26 (dk_at dksX3_small_1 3 rfl rfl)
theorem dX3_small_26 : decode cX3_small 26 = .ok (.ireturn, 1) := dk_172 (dk_at dksX3_small_1 4 rfl rfl)
abbrev cX3_holds : ByteArray := prog_16_method_8_code
def yX3_holds : MethodName := ⟨RX3, "holds", "(CLjava/lang/String;Ljava/lang/String;)Z"⟩
def dkwX3_holds_10 : List UInt8 := [3, 54, 7, 44, 18, 58, 182, 0, 60, 153, 0, 12, 21, 7, 153, 0, 7, 4, 167, 0, 4, 3, 172]
abbrev dktX3_holds_10 : List UInt8 := dkwX3_holds_10 ++ []
def dkwX3_holds_9 : List UInt8 := [16, 104, 160, 0, 22, 18, 56, 43, 29, 5, 100, 182, 0, 42, 182, 0, 9, 155, 0, 7, 4, 167, 0, 4]
abbrev dktX3_holds_9 : List UInt8 := dkwX3_holds_9 ++ dktX3_holds_10
def dkwX3_holds_8 : List UInt8 := [159, 0, 44, 21, 4, 16, 120, 159, 0, 37, 21, 4, 16, 122, 159, 0, 30, 29, 4, 164, 0, 29, 21, 4]
abbrev dktX3_holds_8 : List UInt8 := dkwX3_holds_8 ++ dktX3_holds_9
def dkwX3_holds_7 : List UInt8 := [29, 6, 100, 182, 0, 42, 184, 0, 51, 154, 0, 7, 4, 167, 0, 4, 3, 172, 21, 4, 16, 115]
abbrev dktX3_holds_7 : List UInt8 := dkwX3_holds_7 ++ dktX3_holds_8
def dkwX3_holds_6 : List UInt8 := [21, 6, 153, 0, 38, 29, 5, 164, 0, 33, 43, 29, 5, 100, 182, 0, 42, 184, 0, 51, 153, 0, 20, 43]
abbrev dktX3_holds_6 : List UInt8 := dkwX3_holds_6 ++ dktX3_holds_7
def dkwX3_holds_5 : List UInt8 := [21, 4, 182, 0, 9, 156, 0, 15, 21, 5, 184, 0, 51, 153, 0, 7, 4, 167, 0, 4, 3, 54, 6]
abbrev dktX3_holds_5 : List UInt8 := dkwX3_holds_5 ++ dktX3_holds_6
def dkwX3_holds_4 : List UInt8 := [21, 5, 16, 105, 159, 0, 7, 4, 167, 0, 4, 3, 172, 21, 4, 184, 0, 51, 154, 0, 25, 18, 54]
abbrev dktX3_holds_4 : List UInt8 := dkwX3_holds_4 ++ dktX3_holds_5
def dkwX3_holds_3 : List UInt8 := [16, 121, 160, 0, 32, 29, 4, 164, 0, 27, 43, 29, 5, 100, 182, 0, 42, 184, 0, 51, 154, 0, 14]
abbrev dktX3_holds_3 : List UInt8 := dkwX3_holds_3 ++ dktX3_holds_4
def dkwX3_holds_2 : List UInt8 := [21, 4, 16, 101, 160, 0, 15, 21, 5, 184, 0, 51, 153, 0, 7, 4, 167, 0, 4, 3, 172, 21, 4]
abbrev dktX3_holds_2 : List UInt8 := dkwX3_holds_2 ++ dktX3_holds_3
def dkwX3_holds_1 : List UInt8 := [171, 0, 0, 0, 0, 168, 0, 0, 0, 3, 0, 0, 0, 100, 0, 0, 0, 93, 0, 0, 0, 101, 0, 0, 0, 34, 0, 0, 0, 121, 0, 0, 0, 55]
abbrev dktX3_holds_1 : List UInt8 := dkwX3_holds_1 ++ dktX3_holds_2
def dkwX3_holds_0 : List UInt8 := [43, 182, 0, 18, 62, 43, 29, 4, 100, 182, 0, 42, 54, 4, 44, 3, 182, 0, 42, 54, 5, 26]
abbrev dktX3_holds_0 : List UInt8 := dkwX3_holds_0 ++ dktX3_holds_1
theorem dksX3_holds_0 : cX3_holds.data.toList.drop 0 = dktX3_holds_0 := by decide +kernel
theorem dksX3_holds_1 : cX3_holds.data.toList.drop 22 = dktX3_holds_1 := dk_seg dksX3_holds_0 22 rfl rfl
theorem dksX3_holds_2 : cX3_holds.data.toList.drop 56 = dktX3_holds_2 := dk_seg dksX3_holds_1 34 rfl rfl
theorem dksX3_holds_3 : cX3_holds.data.toList.drop 79 = dktX3_holds_3 := dk_seg dksX3_holds_2 23 rfl rfl
theorem dksX3_holds_4 : cX3_holds.data.toList.drop 102 = dktX3_holds_4 := dk_seg dksX3_holds_3 23 rfl rfl
theorem dksX3_holds_5 : cX3_holds.data.toList.drop 125 = dktX3_holds_5 := dk_seg dksX3_holds_4 23 rfl rfl
theorem dksX3_holds_6 : cX3_holds.data.toList.drop 148 = dktX3_holds_6 := dk_seg dksX3_holds_5 23 rfl rfl
theorem dksX3_holds_7 : cX3_holds.data.toList.drop 172 = dktX3_holds_7 := dk_seg dksX3_holds_6 24 rfl rfl
theorem dksX3_holds_8 : cX3_holds.data.toList.drop 194 = dktX3_holds_8 := dk_seg dksX3_holds_7 22 rfl rfl
theorem dksX3_holds_9 : cX3_holds.data.toList.drop 218 = dktX3_holds_9 := dk_seg dksX3_holds_8 24 rfl rfl
theorem dksX3_holds_10 : cX3_holds.data.toList.drop 242 = dktX3_holds_10 := dk_seg dksX3_holds_9 24 rfl rfl
theorem dX3_holds_0 : decode cX3_holds 0 = .ok (.aload_n 1, 1) := dk_43 (dk_at dksX3_holds_0 0 rfl rfl)
theorem dX3_holds_1 : decode cX3_holds 1 = .ok (.invokevirtual 18, 3) := dk_182 0 18 (dk_at dksX3_holds_0 1 rfl rfl)
theorem dX3_holds_4 : decode cX3_holds 4 = .ok (.istore_n 3, 1) := dk_62 (dk_at dksX3_holds_0 4 rfl rfl)
theorem dX3_holds_5 : decode cX3_holds 5 = .ok (.aload_n 1, 1) := dk_43 (dk_at dksX3_holds_0 5 rfl rfl)
theorem dX3_holds_6 : decode cX3_holds 6 = .ok (.iload_n 3, 1) := dk_29 (dk_at dksX3_holds_0 6 rfl rfl)
theorem dX3_holds_7 : decode cX3_holds 7 = .ok (.iconst 1, 1) := dk_4 (dk_at dksX3_holds_0 7 rfl rfl)
theorem dX3_holds_8 : decode cX3_holds 8 = .ok (.isub, 1) := dk_100 (dk_at dksX3_holds_0 8 rfl rfl)
theorem dX3_holds_9 : decode cX3_holds 9 = .ok (.invokevirtual 42, 3) := dk_182 0 42 (dk_at dksX3_holds_0 9 rfl rfl)
theorem dX3_holds_12 : decode cX3_holds 12 = .ok (.istore 4, 2) := dk_54 4 (dk_at dksX3_holds_0 12 rfl rfl)
theorem dX3_holds_14 : decode cX3_holds 14 = .ok (.aload_n 2, 1) := dk_44 (dk_at dksX3_holds_0 14 rfl rfl)
theorem dX3_holds_15 : decode cX3_holds 15 = .ok (.iconst 0, 1) := dk_3 (dk_at dksX3_holds_0 15 rfl rfl)
theorem dX3_holds_16 : decode cX3_holds 16 = .ok (.invokevirtual 42, 3) := dk_182 0 42 (dk_at dksX3_holds_0 16 rfl rfl)
theorem dX3_holds_19 : decode cX3_holds 19 = .ok (.istore 5, 2) := dk_54 5 (dk_at dksX3_holds_0 19 rfl rfl)
theorem dX3_holds_21 : decode cX3_holds 21 = .ok (.iload_n 0, 1) := dk_26 (dk_at dksX3_holds_0 21 rfl rfl)
theorem dX3_holds_22 : decode cX3_holds 22 = .ok (.lookupswitch 168 #[(100, 93), (101, 34), (121, 55)], 34) := by decide +kernel
theorem dX3_holds_56 : decode cX3_holds 56 = .ok (.iload 4, 2) := dk_21 4 (dk_at dksX3_holds_2 0 rfl rfl)
theorem dX3_holds_58 : decode cX3_holds 58 = .ok (.bipush 101, 2) := dk_16 101 (dk_at dksX3_holds_2 2 rfl rfl)
theorem dX3_holds_60 : decode cX3_holds 60 = .ok (.if_icmp .ne 15, 3) := dk_160 0 15 (dk_at dksX3_holds_2 4 rfl rfl)
theorem dX3_holds_63 : decode cX3_holds 63 = .ok (.iload 5, 2) := dk_21 5 (dk_at dksX3_holds_2 7 rfl rfl)
theorem dX3_holds_65 : decode cX3_holds 65 = .ok (.invokestatic 51, 3) := dk_184 0 51 (dk_at dksX3_holds_2 9 rfl rfl)
theorem dX3_holds_68 : decode cX3_holds 68 = .ok (.ifCond .eq 7, 3) := dk_153 0 7 (dk_at dksX3_holds_2 12 rfl rfl)
theorem dX3_holds_71 : decode cX3_holds 71 = .ok (.iconst 1, 1) := dk_4 (dk_at dksX3_holds_2 15 rfl rfl)
theorem dX3_holds_72 : decode cX3_holds 72 = .ok (.goto 4, 3) := dk_167 0 4 (dk_at dksX3_holds_2 16 rfl rfl)
theorem dX3_holds_75 : decode cX3_holds 75 = .ok (.iconst 0, 1) := dk_3 (dk_at dksX3_holds_2 19 rfl rfl)
theorem dX3_holds_76 : decode cX3_holds 76 = .ok (.ireturn, 1) := dk_172 (dk_at dksX3_holds_2 20 rfl rfl)
theorem dX3_holds_77 : decode cX3_holds 77 = .ok (.iload 4, 2) := dk_21 4 (dk_at dksX3_holds_2 21 rfl rfl)
theorem dX3_holds_79 : decode cX3_holds 79 = .ok (.bipush 121, 2) := dk_16 121 (dk_at dksX3_holds_3 0 rfl rfl)
theorem dX3_holds_81 : decode cX3_holds 81 = .ok (.if_icmp .ne 32, 3) := dk_160 0 32 (dk_at dksX3_holds_3 2 rfl rfl)
theorem dX3_holds_84 : decode cX3_holds 84 = .ok (.iload_n 3, 1) := dk_29 (dk_at dksX3_holds_3 5 rfl rfl)
theorem dX3_holds_85 : decode cX3_holds 85 = .ok (.iconst 1, 1) := dk_4 (dk_at dksX3_holds_3 6 rfl rfl)
theorem dX3_holds_86 : decode cX3_holds 86 = .ok (.if_icmp .le 27, 3) := dk_164 0 27 (dk_at dksX3_holds_3 7 rfl rfl)
theorem dX3_holds_89 : decode cX3_holds 89 = .ok (.aload_n 1, 1) := dk_43 (dk_at dksX3_holds_3 10 rfl rfl)
theorem dX3_holds_90 : decode cX3_holds 90 = .ok (.iload_n 3, 1) := dk_29 (dk_at dksX3_holds_3 11 rfl rfl)
theorem dX3_holds_91 : decode cX3_holds 91 = .ok (.iconst 2, 1) := dk_5 (dk_at dksX3_holds_3 12 rfl rfl)
theorem dX3_holds_92 : decode cX3_holds 92 = .ok (.isub, 1) := dk_100 (dk_at dksX3_holds_3 13 rfl rfl)
theorem dX3_holds_93 : decode cX3_holds 93 = .ok (.invokevirtual 42, 3) := dk_182 0 42 (dk_at dksX3_holds_3 14 rfl rfl)
theorem dX3_holds_96 : decode cX3_holds 96 = .ok (.invokestatic 51, 3) := dk_184 0 51 (dk_at dksX3_holds_3 17 rfl rfl)
theorem dX3_holds_99 : decode cX3_holds 99 = .ok (.ifCond .ne 14, 3) := dk_154 0 14 (dk_at dksX3_holds_3 20 rfl rfl)
theorem dX3_holds_102 : decode cX3_holds 102 = .ok (.iload 5, 2) := dk_21 5 (dk_at dksX3_holds_4 0 rfl rfl)
theorem dX3_holds_104 : decode cX3_holds 104 = .ok (.bipush 105, 2) := dk_16 105 (dk_at dksX3_holds_4 2 rfl rfl)
theorem dX3_holds_106 : decode cX3_holds 106 = .ok (.if_icmp .eq 7, 3) := dk_159 0 7 (dk_at dksX3_holds_4 4 rfl rfl)
theorem dX3_holds_109 : decode cX3_holds 109 = .ok (.iconst 1, 1) := dk_4 (dk_at dksX3_holds_4 7 rfl rfl)
theorem dX3_holds_110 : decode cX3_holds 110 = .ok (.goto 4, 3) := dk_167 0 4 (dk_at dksX3_holds_4 8 rfl rfl)
theorem dX3_holds_113 : decode cX3_holds 113 = .ok (.iconst 0, 1) := dk_3 (dk_at dksX3_holds_4 11 rfl rfl)
theorem dX3_holds_114 : decode cX3_holds 114 = .ok (.ireturn, 1) := dk_172 (dk_at dksX3_holds_4 12 rfl rfl)
theorem dX3_holds_115 : decode cX3_holds 115 = .ok (.iload 4, 2) := dk_21 4 (dk_at dksX3_holds_4 13 rfl rfl)
theorem dX3_holds_117 : decode cX3_holds 117 = .ok (.invokestatic 51, 3) := dk_184 0 51 (dk_at dksX3_holds_4 15 rfl rfl)
theorem dX3_holds_120 : decode cX3_holds 120 = .ok (.ifCond .ne 25, 3) := dk_154 0 25 (dk_at dksX3_holds_4 18 rfl rfl)
theorem dX3_holds_123 : decode cX3_holds 123 = .ok (.ldc 54, 2) := dk_18 54 (dk_at dksX3_holds_4 21 rfl rfl)
theorem dX3_holds_125 : decode cX3_holds 125 = .ok (.iload 4, 2) := dk_21 4 (dk_at dksX3_holds_5 0 rfl rfl)
theorem dX3_holds_127 : decode cX3_holds 127 = .ok (.invokevirtual 9, 3) := dk_182 0 9 (dk_at dksX3_holds_5 2 rfl rfl)
theorem dX3_holds_130 : decode cX3_holds 130 = .ok (.ifCond .ge 15, 3) := dk_156 0 15 (dk_at dksX3_holds_5 5 rfl rfl)
theorem dX3_holds_133 : decode cX3_holds 133 = .ok (.iload 5, 2) := dk_21 5 (dk_at dksX3_holds_5 8 rfl rfl)
theorem dX3_holds_135 : decode cX3_holds 135 = .ok (.invokestatic 51, 3) := dk_184 0 51 (dk_at dksX3_holds_5 10 rfl rfl)
theorem dX3_holds_138 : decode cX3_holds 138 = .ok (.ifCond .eq 7, 3) := dk_153 0 7 (dk_at dksX3_holds_5 13 rfl rfl)
theorem dX3_holds_141 : decode cX3_holds 141 = .ok (.iconst 1, 1) := dk_4 (dk_at dksX3_holds_5 16 rfl rfl)
theorem dX3_holds_142 : decode cX3_holds 142 = .ok (.goto 4, 3) := dk_167 0 4 (dk_at dksX3_holds_5 17 rfl rfl)
theorem dX3_holds_145 : decode cX3_holds 145 = .ok (.iconst 0, 1) := dk_3 (dk_at dksX3_holds_5 20 rfl rfl)
theorem dX3_holds_146 : decode cX3_holds 146 = .ok (.istore 6, 2) := dk_54 6 (dk_at dksX3_holds_5 21 rfl rfl)
theorem dX3_holds_148 : decode cX3_holds 148 = .ok (.iload 6, 2) := dk_21 6 (dk_at dksX3_holds_6 0 rfl rfl)
theorem dX3_holds_150 : decode cX3_holds 150 = .ok (.ifCond .eq 38, 3) := dk_153 0 38 (dk_at dksX3_holds_6 2 rfl rfl)
theorem dX3_holds_153 : decode cX3_holds 153 = .ok (.iload_n 3, 1) := dk_29 (dk_at dksX3_holds_6 5 rfl rfl)
theorem dX3_holds_154 : decode cX3_holds 154 = .ok (.iconst 2, 1) := dk_5 (dk_at dksX3_holds_6 6 rfl rfl)
theorem dX3_holds_155 : decode cX3_holds 155 = .ok (.if_icmp .le 33, 3) := dk_164 0 33 (dk_at dksX3_holds_6 7 rfl rfl)
theorem dX3_holds_158 : decode cX3_holds 158 = .ok (.aload_n 1, 1) := dk_43 (dk_at dksX3_holds_6 10 rfl rfl)
theorem dX3_holds_159 : decode cX3_holds 159 = .ok (.iload_n 3, 1) := dk_29 (dk_at dksX3_holds_6 11 rfl rfl)
theorem dX3_holds_160 : decode cX3_holds 160 = .ok (.iconst 2, 1) := dk_5 (dk_at dksX3_holds_6 12 rfl rfl)
theorem dX3_holds_161 : decode cX3_holds 161 = .ok (.isub, 1) := dk_100 (dk_at dksX3_holds_6 13 rfl rfl)
theorem dX3_holds_162 : decode cX3_holds 162 = .ok (.invokevirtual 42, 3) := dk_182 0 42 (dk_at dksX3_holds_6 14 rfl rfl)
theorem dX3_holds_165 : decode cX3_holds 165 = .ok (.invokestatic 51, 3) := dk_184 0 51 (dk_at dksX3_holds_6 17 rfl rfl)
theorem dX3_holds_168 : decode cX3_holds 168 = .ok (.ifCond .eq 20, 3) := dk_153 0 20 (dk_at dksX3_holds_6 20 rfl rfl)
theorem dX3_holds_171 : decode cX3_holds 171 = .ok (.aload_n 1, 1) := dk_43 (dk_at dksX3_holds_6 23 rfl rfl)
theorem dX3_holds_172 : decode cX3_holds 172 = .ok (.iload_n 3, 1) := dk_29 (dk_at dksX3_holds_7 0 rfl rfl)
theorem dX3_holds_173 : decode cX3_holds 173 = .ok (.iconst 3, 1) := dk_6 (dk_at dksX3_holds_7 1 rfl rfl)
theorem dX3_holds_174 : decode cX3_holds 174 = .ok (.isub, 1) := dk_100 (dk_at dksX3_holds_7 2 rfl rfl)
theorem dX3_holds_175 : decode cX3_holds 175 = .ok (.invokevirtual 42, 3) := dk_182 0 42 (dk_at dksX3_holds_7 3 rfl rfl)
theorem dX3_holds_178 : decode cX3_holds 178 = .ok (.invokestatic 51, 3) := dk_184 0 51 (dk_at dksX3_holds_7 6 rfl rfl)
theorem dX3_holds_181 : decode cX3_holds 181 = .ok (.ifCond .ne 7, 3) := dk_154 0 7 (dk_at dksX3_holds_7 9 rfl rfl)
theorem dX3_holds_184 : decode cX3_holds 184 = .ok (.iconst 1, 1) := dk_4 (dk_at dksX3_holds_7 12 rfl rfl)
theorem dX3_holds_185 : decode cX3_holds 185 = .ok (.goto 4, 3) := dk_167 0 4 (dk_at dksX3_holds_7 13 rfl rfl)
theorem dX3_holds_188 : decode cX3_holds 188 = .ok (.iconst 0, 1) := dk_3 (dk_at dksX3_holds_7 16 rfl rfl)
theorem dX3_holds_189 : decode cX3_holds 189 = .ok (.ireturn, 1) := dk_172 (dk_at dksX3_holds_7 17 rfl rfl)
theorem dX3_holds_190 : decode cX3_holds 190 = .ok (.iload 4, 2) := dk_21 4 (dk_at dksX3_holds_7 18 rfl rfl)
theorem dX3_holds_192 : decode cX3_holds 192 = .ok (.bipush 115, 2) := dk_16 115 (dk_at dksX3_holds_7 20 rfl rfl)
theorem dX3_holds_194 : decode cX3_holds 194 = .ok (.if_icmp .eq 44, 3) := dk_159 0 44 (dk_at dksX3_holds_8 0 rfl rfl)
theorem dX3_holds_197 : decode cX3_holds 197 = .ok (.iload 4, 2) := dk_21 4 (dk_at dksX3_holds_8 3 rfl rfl)
theorem dX3_holds_199 : decode cX3_holds 199 = .ok (.bipush 120, 2) := dk_16 120 (dk_at dksX3_holds_8 5 rfl rfl)
theorem dX3_holds_201 : decode cX3_holds 201 = .ok (.if_icmp .eq 37, 3) := dk_159 0 37 (dk_at dksX3_holds_8 7 rfl rfl)
theorem dX3_holds_204 : decode cX3_holds 204 = .ok (.iload 4, 2) := dk_21 4 (dk_at dksX3_holds_8 10 rfl rfl)
theorem dX3_holds_206 : decode cX3_holds 206 = .ok (.bipush 122, 2) := dk_16 122 (dk_at dksX3_holds_8 12 rfl rfl)
theorem dX3_holds_208 : decode cX3_holds 208 = .ok (.if_icmp .eq 30, 3) := dk_159 0 30 (dk_at dksX3_holds_8 14 rfl rfl)
theorem dX3_holds_211 : decode cX3_holds 211 = .ok (.iload_n 3, 1) := dk_29 (dk_at dksX3_holds_8 17 rfl rfl)
theorem dX3_holds_212 : decode cX3_holds 212 = .ok (.iconst 1, 1) := dk_4 (dk_at dksX3_holds_8 18 rfl rfl)
theorem dX3_holds_213 : decode cX3_holds 213 = .ok (.if_icmp .le 29, 3) := dk_164 0 29 (dk_at dksX3_holds_8 19 rfl rfl)
theorem dX3_holds_216 : decode cX3_holds 216 = .ok (.iload 4, 2) := dk_21 4 (dk_at dksX3_holds_8 22 rfl rfl)
theorem dX3_holds_218 : decode cX3_holds 218 = .ok (.bipush 104, 2) := dk_16 104 (dk_at dksX3_holds_9 0 rfl rfl)
theorem dX3_holds_220 : decode cX3_holds 220 = .ok (.if_icmp .ne 22, 3) := dk_160 0 22 (dk_at dksX3_holds_9 2 rfl rfl)
theorem dX3_holds_223 : decode cX3_holds 223 = .ok (.ldc 56, 2) := dk_18 56 (dk_at dksX3_holds_9 5 rfl rfl)
theorem dX3_holds_225 : decode cX3_holds 225 = .ok (.aload_n 1, 1) := dk_43 (dk_at dksX3_holds_9 7 rfl rfl)
theorem dX3_holds_226 : decode cX3_holds 226 = .ok (.iload_n 3, 1) := dk_29 (dk_at dksX3_holds_9 8 rfl rfl)
theorem dX3_holds_227 : decode cX3_holds 227 = .ok (.iconst 2, 1) := dk_5 (dk_at dksX3_holds_9 9 rfl rfl)
theorem dX3_holds_228 : decode cX3_holds 228 = .ok (.isub, 1) := dk_100 (dk_at dksX3_holds_9 10 rfl rfl)
theorem dX3_holds_229 : decode cX3_holds 229 = .ok (.invokevirtual 42, 3) := dk_182 0 42 (dk_at dksX3_holds_9 11 rfl rfl)
theorem dX3_holds_232 : decode cX3_holds 232 = .ok (.invokevirtual 9, 3) := dk_182 0 9 (dk_at dksX3_holds_9 14 rfl rfl)
theorem dX3_holds_235 : decode cX3_holds 235 = .ok (.ifCond .lt 7, 3) := dk_155 0 7 (dk_at dksX3_holds_9 17 rfl rfl)
theorem dX3_holds_238 : decode cX3_holds 238 = .ok (.iconst 1, 1) := dk_4 (dk_at dksX3_holds_9 20 rfl rfl)
theorem dX3_holds_239 : decode cX3_holds 239 = .ok (.goto 4, 3) := dk_167 0 4 (dk_at dksX3_holds_9 21 rfl rfl)
theorem dX3_holds_242 : decode cX3_holds 242 = .ok (.iconst 0, 1) := dk_3 (dk_at dksX3_holds_10 0 rfl rfl)
theorem dX3_holds_243 : decode cX3_holds 243 = .ok (.istore 7, 2) := dk_54 7 (dk_at dksX3_holds_10 1 rfl rfl)
theorem dX3_holds_245 : decode cX3_holds 245 = .ok (.aload_n 2, 1) := dk_44 (dk_at dksX3_holds_10 3 rfl rfl)
theorem dX3_holds_246 : decode cX3_holds 246 = .ok (.ldc 58, 2) := dk_18 58 (dk_at dksX3_holds_10 4 rfl rfl)
theorem dX3_holds_248 : decode cX3_holds 248 = .ok (.invokevirtual 60, 3) := dk_182 0 60 (dk_at dksX3_holds_10 6 rfl rfl)
theorem dX3_holds_251 : decode cX3_holds 251 = .ok (.ifCond .eq 12, 3) := dk_153 0 12 (dk_at dksX3_holds_10 9 rfl rfl)
theorem dX3_holds_254 : decode cX3_holds 254 = .ok (.iload 7, 2) := dk_21 7 (dk_at dksX3_holds_10 12 rfl rfl)
theorem dX3_holds_256 : decode cX3_holds 256 = .ok (.ifCond .eq 7, 3) := dk_153 0 7 (dk_at dksX3_holds_10 14 rfl rfl)
theorem dX3_holds_259 : decode cX3_holds 259 = .ok (.iconst 1, 1) := dk_4 (dk_at dksX3_holds_10 17 rfl rfl)
theorem dX3_holds_260 : decode cX3_holds 260 = .ok (.goto 4, 3) := dk_167 0 4 (dk_at dksX3_holds_10 18 rfl rfl)
theorem dX3_holds_263 : decode cX3_holds 263 = .ok (.iconst 0, 1) := dk_3 (dk_at dksX3_holds_10 21 rfl rfl)
theorem dX3_holds_264 : decode cX3_holds 264 = .ok (.ireturn, 1) := dk_172 (dk_at dksX3_holds_10 22 rfl rfl)
abbrev cX3_isVowel : ByteArray := prog_16_method_4_code
def yX3_isVowel : MethodName := ⟨RX3, "isVowel", "(C)Z"⟩
def dkwX3_isVowel_0 : List UInt8 := [18, 7, 26, 182, 0, 9, 155, 0, 7, 4, 167, 0, 4, 3, 172]
abbrev dktX3_isVowel_0 : List UInt8 := dkwX3_isVowel_0 ++ []
theorem dksX3_isVowel_0 : cX3_isVowel.data.toList.drop 0 = dktX3_isVowel_0 := by decide +kernel
theorem dX3_isVowel_0 : decode cX3_isVowel 0 = .ok (.ldc 7, 2) := dk_18 7 (dk_at dksX3_isVowel_0 0 rfl rfl)
theorem dX3_isVowel_2 : decode cX3_isVowel 2 = .ok (.iload_n 0, 1) := dk_26 (dk_at dksX3_isVowel_0 2 rfl rfl)
theorem dX3_isVowel_3 : decode cX3_isVowel 3 = .ok (.invokevirtual 9, 3) := dk_182 0 9 (dk_at dksX3_isVowel_0 3 rfl rfl)
theorem dX3_isVowel_6 : decode cX3_isVowel 6 = .ok (.ifCond .lt 7, 3) := dk_155 0 7 (dk_at dksX3_isVowel_0 6 rfl rfl)
theorem dX3_isVowel_9 : decode cX3_isVowel 9 = .ok (.iconst 1, 1) := dk_4 (dk_at dksX3_isVowel_0 9 rfl rfl)
theorem dX3_isVowel_10 : decode cX3_isVowel 10 = .ok (.goto 4, 3) := dk_167 0 4 (dk_at dksX3_isVowel_0 10 rfl rfl)
theorem dX3_isVowel_13 : decode cX3_isVowel 13 = .ok (.iconst 0, 1) := dk_3 (dk_at dksX3_isVowel_0 13 rfl rfl)
theorem dX3_isVowel_14 : decode cX3_isVowel 14 = .ok (.ireturn, 1) := dk_172 (dk_at dksX3_isVowel_0 14 rfl rfl)
abbrev cX3_joined : ByteArray := prog_16_method_7_code
def yX3_joined : MethodName := ⟨RX3, "joined", "(CLjava/lang/String;)Ljava/lang/String;"⟩
def dkwX3_joined_5 : List UInt8 := [182, 0, 32, 182, 0, 38, 176]
abbrev dktX3_joined_5 : List UInt8 := dkwX3_joined_5 ++ []
def dkwX3_joined_4 : List UInt8 := [182, 0, 42, 182, 0, 46, 182, 0, 38, 176, 187, 0, 26, 89, 183, 0, 28, 43, 182, 0, 32, 18, 49]
abbrev dktX3_joined_4 : List UInt8 := dkwX3_joined_4 ++ dktX3_joined_5
def dkwX3_joined_3 : List UInt8 := [18, 36, 182, 0, 32, 182, 0, 38, 176, 187, 0, 26, 89, 183, 0, 28, 43, 182, 0, 32, 43, 28]
abbrev dktX3_joined_3 : List UInt8 := dkwX3_joined_3 ++ dktX3_joined_4
def dkwX3_joined_2 : List UInt8 := [43, 3, 28, 182, 0, 22, 176, 187, 0, 26, 89, 183, 0, 28, 43, 3, 28, 182, 0, 22, 182, 0, 32]
abbrev dktX3_joined_2 : List UInt8 := dkwX3_joined_2 ++ dktX3_joined_3
def dkwX3_joined_1 : List UInt8 := [171, 0, 0, 0, 0, 0, 0, 91, 0, 0, 0, 3, 0, 0, 0, 100, 0, 0, 0, 68, 0, 0, 0, 101, 0, 0, 0, 36, 0, 0, 0, 121, 0, 0, 0, 43]
abbrev dktX3_joined_1 : List UInt8 := dkwX3_joined_1 ++ dktX3_joined_2
def dkwX3_joined_0 : List UInt8 := [43, 182, 0, 18, 4, 100, 61, 26]
abbrev dktX3_joined_0 : List UInt8 := dkwX3_joined_0 ++ dktX3_joined_1
theorem dksX3_joined_0 : cX3_joined.data.toList.drop 0 = dktX3_joined_0 := by decide +kernel
theorem dksX3_joined_1 : cX3_joined.data.toList.drop 8 = dktX3_joined_1 := dk_seg dksX3_joined_0 8 rfl rfl
theorem dksX3_joined_2 : cX3_joined.data.toList.drop 44 = dktX3_joined_2 := dk_seg dksX3_joined_1 36 rfl rfl
theorem dksX3_joined_3 : cX3_joined.data.toList.drop 67 = dktX3_joined_3 := dk_seg dksX3_joined_2 23 rfl rfl
theorem dksX3_joined_4 : cX3_joined.data.toList.drop 89 = dktX3_joined_4 := dk_seg dksX3_joined_3 22 rfl rfl
theorem dksX3_joined_5 : cX3_joined.data.toList.drop 112 = dktX3_joined_5 := dk_seg dksX3_joined_4 23 rfl rfl
theorem dX3_joined_0 : decode cX3_joined 0 = .ok (.aload_n 1, 1) := dk_43 (dk_at dksX3_joined_0 0 rfl rfl)
theorem dX3_joined_1 : decode cX3_joined 1 = .ok (.invokevirtual 18, 3) := dk_182 0 18 (dk_at dksX3_joined_0 1 rfl rfl)
theorem dX3_joined_4 : decode cX3_joined 4 = .ok (.iconst 1, 1) := dk_4 (dk_at dksX3_joined_0 4 rfl rfl)
theorem dX3_joined_5 : decode cX3_joined 5 = .ok (.isub, 1) := dk_100 (dk_at dksX3_joined_0 5 rfl rfl)
theorem dX3_joined_6 : decode cX3_joined 6 = .ok (.istore_n 2, 1) := dk_61 (dk_at dksX3_joined_0 6 rfl rfl)
theorem dX3_joined_7 : decode cX3_joined 7 = .ok (.iload_n 0, 1) := dk_26 (dk_at dksX3_joined_0 7 rfl rfl)
theorem dX3_joined_8 : decode cX3_joined 8 = .ok (.lookupswitch 91 #[(100, 68), (101, 36), (121, 43)], 36) := by decide +kernel
theorem dX3_joined_44 : decode cX3_joined 44 = .ok (.aload_n 1, 1) := dk_43 (dk_at dksX3_joined_2 0 rfl rfl)
theorem dX3_joined_45 : decode cX3_joined 45 = .ok (.iconst 0, 1) := dk_3 (dk_at dksX3_joined_2 1 rfl rfl)
theorem dX3_joined_46 : decode cX3_joined 46 = .ok (.iload_n 2, 1) := dk_28 (dk_at dksX3_joined_2 2 rfl rfl)
theorem dX3_joined_47 : decode cX3_joined 47 = .ok (.invokevirtual 22, 3) := dk_182 0 22 (dk_at dksX3_joined_2 3 rfl rfl)
theorem dX3_joined_50 : decode cX3_joined 50 = .ok (.areturn, 1) := dk_176 (dk_at dksX3_joined_2 6 rfl rfl)
theorem dX3_joined_51 : decode cX3_joined 51 = .ok (.new 26, 3) := dk_187 0 26 (dk_at dksX3_joined_2 7 rfl rfl)
theorem dX3_joined_54 : decode cX3_joined 54 = .ok (.dup, 1) := dk_89 (dk_at dksX3_joined_2 10 rfl rfl)
theorem dX3_joined_55 : decode cX3_joined 55 = .ok (.invokespecial 28, 3) := dk_183 0 28 (dk_at dksX3_joined_2 11 rfl rfl)
theorem dX3_joined_58 : decode cX3_joined 58 = .ok (.aload_n 1, 1) := dk_43 (dk_at dksX3_joined_2 14 rfl rfl)
theorem dX3_joined_59 : decode cX3_joined 59 = .ok (.iconst 0, 1) := dk_3 (dk_at dksX3_joined_2 15 rfl rfl)
theorem dX3_joined_60 : decode cX3_joined 60 = .ok (.iload_n 2, 1) := dk_28 (dk_at dksX3_joined_2 16 rfl rfl)
theorem dX3_joined_61 : decode cX3_joined 61 = .ok (.invokevirtual 22, 3) := dk_182 0 22 (dk_at dksX3_joined_2 17 rfl rfl)
theorem dX3_joined_64 : decode cX3_joined 64 = .ok (.invokevirtual 32, 3) := dk_182 0 32 (dk_at dksX3_joined_2 20 rfl rfl)
theorem dX3_joined_67 : decode cX3_joined 67 = .ok (.ldc 36, 2) := dk_18 36 (dk_at dksX3_joined_3 0 rfl rfl)
theorem dX3_joined_69 : decode cX3_joined 69 = .ok (.invokevirtual 32, 3) := dk_182 0 32 (dk_at dksX3_joined_3 2 rfl rfl)
theorem dX3_joined_72 : decode cX3_joined 72 = .ok (.invokevirtual 38, 3) := dk_182 0 38 (dk_at dksX3_joined_3 5 rfl rfl)
theorem dX3_joined_75 : decode cX3_joined 75 = .ok (.areturn, 1) := dk_176 (dk_at dksX3_joined_3 8 rfl rfl)
theorem dX3_joined_76 : decode cX3_joined 76 = .ok (.new 26, 3) := dk_187 0 26 (dk_at dksX3_joined_3 9 rfl rfl)
theorem dX3_joined_79 : decode cX3_joined 79 = .ok (.dup, 1) := dk_89 (dk_at dksX3_joined_3 12 rfl rfl)
theorem dX3_joined_80 : decode cX3_joined 80 = .ok (.invokespecial 28, 3) := dk_183 0 28 (dk_at dksX3_joined_3 13 rfl rfl)
theorem dX3_joined_83 : decode cX3_joined 83 = .ok (.aload_n 1, 1) := dk_43 (dk_at dksX3_joined_3 16 rfl rfl)
theorem dX3_joined_84 : decode cX3_joined 84 = .ok (.invokevirtual 32, 3) := dk_182 0 32 (dk_at dksX3_joined_3 17 rfl rfl)
theorem dX3_joined_87 : decode cX3_joined 87 = .ok (.aload_n 1, 1) := dk_43 (dk_at dksX3_joined_3 20 rfl rfl)
theorem dX3_joined_88 : decode cX3_joined 88 = .ok (.iload_n 2, 1) := dk_28 (dk_at dksX3_joined_3 21 rfl rfl)
theorem dX3_joined_89 : decode cX3_joined 89 = .ok (.invokevirtual 42, 3) := dk_182 0 42 (dk_at dksX3_joined_4 0 rfl rfl)
theorem dX3_joined_92 : decode cX3_joined 92 = .ok (.invokevirtual 46, 3) := dk_182 0 46 (dk_at dksX3_joined_4 3 rfl rfl)
theorem dX3_joined_95 : decode cX3_joined 95 = .ok (.invokevirtual 38, 3) := dk_182 0 38 (dk_at dksX3_joined_4 6 rfl rfl)
theorem dX3_joined_98 : decode cX3_joined 98 = .ok (.areturn, 1) := dk_176 (dk_at dksX3_joined_4 9 rfl rfl)
theorem dX3_joined_99 : decode cX3_joined 99 = .ok (.new 26, 3) := dk_187 0 26 (dk_at dksX3_joined_4 10 rfl rfl)
theorem dX3_joined_102 : decode cX3_joined 102 = .ok (.dup, 1) := dk_89 (dk_at dksX3_joined_4 13 rfl rfl)
theorem dX3_joined_103 : decode cX3_joined 103 = .ok (.invokespecial 28, 3) := dk_183 0 28 (dk_at dksX3_joined_4 14 rfl rfl)
theorem dX3_joined_106 : decode cX3_joined 106 = .ok (.aload_n 1, 1) := dk_43 (dk_at dksX3_joined_4 17 rfl rfl)
theorem dX3_joined_107 : decode cX3_joined 107 = .ok (.invokevirtual 32, 3) := dk_182 0 32 (dk_at dksX3_joined_4 18 rfl rfl)
theorem dX3_joined_110 : decode cX3_joined 110 = .ok (.ldc 49, 2) := dk_18 49 (dk_at dksX3_joined_4 21 rfl rfl)
theorem dX3_joined_112 : decode cX3_joined 112 = .ok (.invokevirtual 32, 3) := dk_182 0 32 (dk_at dksX3_joined_5 0 rfl rfl)
theorem dX3_joined_115 : decode cX3_joined 115 = .ok (.invokevirtual 38, 3) := dk_182 0 38 (dk_at dksX3_joined_5 3 rfl rfl)
theorem dX3_joined_118 : decode cX3_joined 118 = .ok (.areturn, 1) := dk_176 (dk_at dksX3_joined_5 6 rfl rfl)
abbrev cX3_at : ByteArray := prog_16_method_41_code
def yX3_at : MethodName := ⟨RX3, "at", "(I)C"⟩
def dkwX3_at_2 : List UInt8 := [180, 1, 47, 172]
abbrev dktX3_at_2 : List UInt8 := dkwX3_at_2 ++ []
def dkwX3_at_1 : List UInt8 := [4, 181, 0, 123, 42, 180, 0, 123, 158, 0, 8, 16, 32, 167, 0, 14, 44, 27, 182, 0, 158, 192, 1, 45]
abbrev dktX3_at_1 : List UInt8 := dkwX3_at_1 ++ dktX3_at_2
def dkwX3_at_0 : List UInt8 := [42, 182, 1, 41, 77, 42, 27, 3, 44, 182, 0, 163, 4, 100, 184, 0, 220, 153, 0, 7, 3, 167, 0, 4]
abbrev dktX3_at_0 : List UInt8 := dkwX3_at_0 ++ dktX3_at_1
theorem dksX3_at_0 : cX3_at.data.toList.drop 0 = dktX3_at_0 := by decide +kernel
theorem dksX3_at_1 : cX3_at.data.toList.drop 24 = dktX3_at_1 := dk_seg dksX3_at_0 24 rfl rfl
theorem dksX3_at_2 : cX3_at.data.toList.drop 48 = dktX3_at_2 := dk_seg dksX3_at_1 24 rfl rfl
theorem dX3_at_0 : decode cX3_at 0 = .ok (.aload_n 0, 1) := dk_42 (dk_at dksX3_at_0 0 rfl rfl)
theorem dX3_at_1 : decode cX3_at 1 = .ok (.invokevirtual 297, 3) := dk_182 1 41 (dk_at dksX3_at_0 1 rfl rfl)
theorem dX3_at_4 : decode cX3_at 4 = .ok (.astore_n 2, 1) := dk_77 (dk_at dksX3_at_0 4 rfl rfl)
theorem dX3_at_5 : decode cX3_at 5 = .ok (.aload_n 0, 1) := dk_42 (dk_at dksX3_at_0 5 rfl rfl)
theorem dX3_at_6 : decode cX3_at 6 = .ok (.iload_n 1, 1) := dk_27 (dk_at dksX3_at_0 6 rfl rfl)
theorem dX3_at_7 : decode cX3_at 7 = .ok (.iconst 0, 1) := dk_3 (dk_at dksX3_at_0 7 rfl rfl)
theorem dX3_at_8 : decode cX3_at 8 = .ok (.aload_n 2, 1) := dk_44 (dk_at dksX3_at_0 8 rfl rfl)
theorem dX3_at_9 : decode cX3_at 9 = .ok (.invokevirtual 163, 3) := dk_182 0 163 (dk_at dksX3_at_0 9 rfl rfl)
theorem dX3_at_12 : decode cX3_at 12 = .ok (.iconst 1, 1) := dk_4 (dk_at dksX3_at_0 12 rfl rfl)
theorem dX3_at_13 : decode cX3_at 13 = .ok (.isub, 1) := dk_100 (dk_at dksX3_at_0 13 rfl rfl)
theorem dX3_at_14 : decode cX3_at 14 = .ok (.invokestatic 220, 3) := dk_184 0 220 (dk_at dksX3_at_0 14 rfl rfl)
theorem dX3_at_17 : decode cX3_at 17 = .ok (.ifCond .eq 7, 3) := dk_153 0 7 (dk_at dksX3_at_0 17 rfl rfl)
theorem dX3_at_20 : decode cX3_at 20 = .ok (.iconst 0, 1) := dk_3 (dk_at dksX3_at_0 20 rfl rfl)
theorem dX3_at_21 : decode cX3_at 21 = .ok (.goto 4, 3) := dk_167 0 4 (dk_at dksX3_at_0 21 rfl rfl)
theorem dX3_at_24 : decode cX3_at 24 = .ok (.iconst 1, 1) := dk_4 (dk_at dksX3_at_1 0 rfl rfl)
theorem dX3_at_25 : decode cX3_at 25 = .ok (.putfield 123, 3) := dk_181 0 123 (dk_at dksX3_at_1 1 rfl rfl)
theorem dX3_at_28 : decode cX3_at 28 = .ok (.aload_n 0, 1) := dk_42 (dk_at dksX3_at_1 4 rfl rfl)
theorem dX3_at_29 : decode cX3_at 29 = .ok (.getfield 123, 3) := dk_180 0 123 (dk_at dksX3_at_1 5 rfl rfl)
theorem dX3_at_32 : decode cX3_at 32 = .ok (.ifCond .le 8, 3) := dk_158 0 8 (dk_at dksX3_at_1 8 rfl rfl)
theorem dX3_at_35 : decode cX3_at 35 = .ok (.bipush 32, 2) := dk_16 32 (dk_at dksX3_at_1 11 rfl rfl)
theorem dX3_at_37 : decode cX3_at 37 = .ok (.goto 14, 3) := dk_167 0 14 (dk_at dksX3_at_1 13 rfl rfl)
theorem dX3_at_40 : decode cX3_at 40 = .ok (.aload_n 2, 1) := dk_44 (dk_at dksX3_at_1 16 rfl rfl)
theorem dX3_at_41 : decode cX3_at 41 = .ok (.iload_n 1, 1) := dk_27 (dk_at dksX3_at_1 17 rfl rfl)
theorem dX3_at_42 : decode cX3_at 42 = .ok (.invokevirtual 158, 3) := dk_182 0 158 (dk_at dksX3_at_1 18 rfl rfl)
theorem dX3_at_45 : decode cX3_at 45 = .ok (.checkcast 301, 3) := dk_192 1 45 (dk_at dksX3_at_1 21 rfl rfl)
theorem dX3_at_48 : decode cX3_at 48 = .ok (.getfield 303, 3) := dk_180 1 47 (dk_at dksX3_at_2 0 rfl rfl)
theorem dX3_at_51 : decode cX3_at 51 = .ok (.ireturn, 1) := dk_172 (dk_at dksX3_at_2 3 rfl rfl)
abbrev cX3_time : ByteArray := prog_16_method_42_code
def yX3_time : MethodName := ⟨RX3, "time", "(I)I"⟩
def dkwX3_time_2 : List UInt8 := [180, 1, 51, 172]
abbrev dktX3_time_2 : List UInt8 := dkwX3_time_2 ++ []
def dkwX3_time_1 : List UInt8 := [4, 181, 0, 123, 42, 180, 0, 123, 158, 0, 7, 3, 167, 0, 14, 44, 27, 182, 0, 158, 192, 1, 45]
abbrev dktX3_time_1 : List UInt8 := dkwX3_time_1 ++ dktX3_time_2
def dkwX3_time_0 : List UInt8 := [42, 182, 1, 41, 77, 42, 27, 3, 44, 182, 0, 163, 4, 100, 184, 0, 220, 153, 0, 7, 3, 167, 0, 4]
abbrev dktX3_time_0 : List UInt8 := dkwX3_time_0 ++ dktX3_time_1
theorem dksX3_time_0 : cX3_time.data.toList.drop 0 = dktX3_time_0 := by decide +kernel
theorem dksX3_time_1 : cX3_time.data.toList.drop 24 = dktX3_time_1 := dk_seg dksX3_time_0 24 rfl rfl
theorem dksX3_time_2 : cX3_time.data.toList.drop 47 = dktX3_time_2 := dk_seg dksX3_time_1 23 rfl rfl
theorem dX3_time_0 : decode cX3_time 0 = .ok (.aload_n 0, 1) := dk_42 (dk_at dksX3_time_0 0 rfl rfl)
theorem dX3_time_1 : decode cX3_time 1 = .ok (.invokevirtual 297, 3) := dk_182 1 41 (dk_at dksX3_time_0 1 rfl rfl)
theorem dX3_time_4 : decode cX3_time 4 = .ok (.astore_n 2, 1) := dk_77 (dk_at dksX3_time_0 4 rfl rfl)
theorem dX3_time_5 : decode cX3_time 5 = .ok (.aload_n 0, 1) := dk_42 (dk_at dksX3_time_0 5 rfl rfl)
theorem dX3_time_6 : decode cX3_time 6 = .ok (.iload_n 1, 1) := dk_27 (dk_at dksX3_time_0 6 rfl rfl)
theorem dX3_time_7 : decode cX3_time 7 = .ok (.iconst 0, 1) := dk_3 (dk_at dksX3_time_0 7 rfl rfl)
theorem dX3_time_8 : decode cX3_time 8 = .ok (.aload_n 2, 1) := dk_44 (dk_at dksX3_time_0 8 rfl rfl)
theorem dX3_time_9 : decode cX3_time 9 = .ok (.invokevirtual 163, 3) := dk_182 0 163 (dk_at dksX3_time_0 9 rfl rfl)
theorem dX3_time_12 : decode cX3_time 12 = .ok (.iconst 1, 1) := dk_4 (dk_at dksX3_time_0 12 rfl rfl)
theorem dX3_time_13 : decode cX3_time 13 = .ok (.isub, 1) := dk_100 (dk_at dksX3_time_0 13 rfl rfl)
theorem dX3_time_14 : decode cX3_time 14 = .ok (.invokestatic 220, 3) := dk_184 0 220 (dk_at dksX3_time_0 14 rfl rfl)
theorem dX3_time_17 : decode cX3_time 17 = .ok (.ifCond .eq 7, 3) := dk_153 0 7 (dk_at dksX3_time_0 17 rfl rfl)
theorem dX3_time_20 : decode cX3_time 20 = .ok (.iconst 0, 1) := dk_3 (dk_at dksX3_time_0 20 rfl rfl)
theorem dX3_time_21 : decode cX3_time 21 = .ok (.goto 4, 3) := dk_167 0 4 (dk_at dksX3_time_0 21 rfl rfl)
theorem dX3_time_24 : decode cX3_time 24 = .ok (.iconst 1, 1) := dk_4 (dk_at dksX3_time_1 0 rfl rfl)
theorem dX3_time_25 : decode cX3_time 25 = .ok (.putfield 123, 3) := dk_181 0 123 (dk_at dksX3_time_1 1 rfl rfl)
theorem dX3_time_28 : decode cX3_time 28 = .ok (.aload_n 0, 1) := dk_42 (dk_at dksX3_time_1 4 rfl rfl)
theorem dX3_time_29 : decode cX3_time 29 = .ok (.getfield 123, 3) := dk_180 0 123 (dk_at dksX3_time_1 5 rfl rfl)
theorem dX3_time_32 : decode cX3_time 32 = .ok (.ifCond .le 7, 3) := dk_158 0 7 (dk_at dksX3_time_1 8 rfl rfl)
theorem dX3_time_35 : decode cX3_time 35 = .ok (.iconst 0, 1) := dk_3 (dk_at dksX3_time_1 11 rfl rfl)
theorem dX3_time_36 : decode cX3_time 36 = .ok (.goto 14, 3) := dk_167 0 14 (dk_at dksX3_time_1 12 rfl rfl)
theorem dX3_time_39 : decode cX3_time 39 = .ok (.aload_n 2, 1) := dk_44 (dk_at dksX3_time_1 15 rfl rfl)
theorem dX3_time_40 : decode cX3_time 40 = .ok (.iload_n 1, 1) := dk_27 (dk_at dksX3_time_1 16 rfl rfl)
theorem dX3_time_41 : decode cX3_time 41 = .ok (.invokevirtual 158, 3) := dk_182 0 158 (dk_at dksX3_time_1 17 rfl rfl)
theorem dX3_time_44 : decode cX3_time 44 = .ok (.checkcast 301, 3) := dk_192 1 45 (dk_at dksX3_time_1 20 rfl rfl)
theorem dX3_time_47 : decode cX3_time 47 = .ok (.getfield 307, 3) := dk_180 1 51 (dk_at dksX3_time_2 0 rfl rfl)
theorem dX3_time_50 : decode cX3_time 50 = .ok (.ireturn, 1) := dk_172 (dk_at dksX3_time_2 3 rfl rfl)
abbrev cX3_words : ByteArray := prog_16_method_43_code
def yX3_words : MethodName := ⟨RX3, "words", "()I"⟩
def dkwX3_words_2 : List UInt8 := [154, 0, 7, 4, 167, 0, 4, 3, 96, 61, 132, 3, 1, 167, 255, 209, 28, 172]
abbrev dktX3_words_2 : List UInt8 := dkwX3_words_2 ++ []
def dkwX3_words_1 : List UInt8 := [29, 182, 0, 42, 184, 0, 15, 153, 0, 24, 29, 153, 0, 16, 43, 29, 4, 100, 182, 0, 42, 184, 0, 15]
abbrev dktX3_words_1 : List UInt8 := dkwX3_words_1 ++ dktX3_words_2
def dkwX3_words_0 : List UInt8 := [42, 3, 181, 0, 123, 42, 182, 1, 54, 76, 3, 61, 3, 62, 29, 43, 182, 0, 18, 162, 0, 45, 28, 43]
abbrev dktX3_words_0 : List UInt8 := dkwX3_words_0 ++ dktX3_words_1
theorem dksX3_words_0 : cX3_words.data.toList.drop 0 = dktX3_words_0 := by decide +kernel
theorem dksX3_words_1 : cX3_words.data.toList.drop 24 = dktX3_words_1 := dk_seg dksX3_words_0 24 rfl rfl
theorem dksX3_words_2 : cX3_words.data.toList.drop 48 = dktX3_words_2 := dk_seg dksX3_words_1 24 rfl rfl
theorem dX3_words_0 : decode cX3_words 0 = .ok (.aload_n 0, 1) := dk_42 (dk_at dksX3_words_0 0 rfl rfl)
theorem dX3_words_1 : decode cX3_words 1 = .ok (.iconst 0, 1) := dk_3 (dk_at dksX3_words_0 1 rfl rfl)
theorem dX3_words_2 : decode cX3_words 2 = .ok (.putfield 123, 3) := dk_181 0 123 (dk_at dksX3_words_0 2 rfl rfl)
theorem dX3_words_5 : decode cX3_words 5 = .ok (.aload_n 0, 1) := dk_42 (dk_at dksX3_words_0 5 rfl rfl)
theorem dX3_words_6 : decode cX3_words 6 = .ok (.invokevirtual 310, 3) := dk_182 1 54 (dk_at dksX3_words_0 6 rfl rfl)
theorem dX3_words_9 : decode cX3_words 9 = .ok (.astore_n 1, 1) := dk_76 (dk_at dksX3_words_0 9 rfl rfl)
theorem dX3_words_10 : decode cX3_words 10 = .ok (.iconst 0, 1) := dk_3 (dk_at dksX3_words_0 10 rfl rfl)
theorem dX3_words_11 : decode cX3_words 11 = .ok (.istore_n 2, 1) := dk_61 (dk_at dksX3_words_0 11 rfl rfl)
theorem dX3_words_12 : decode cX3_words 12 = .ok (.iconst 0, 1) := dk_3 (dk_at dksX3_words_0 12 rfl rfl)
theorem dX3_words_13 : decode cX3_words 13 = .ok (.istore_n 3, 1) := dk_62 (dk_at dksX3_words_0 13 rfl rfl)
theorem dX3_words_14 : decode cX3_words 14 = .ok (.iload_n 3, 1) := dk_29 (dk_at dksX3_words_0 14 rfl rfl)
theorem dX3_words_15 : decode cX3_words 15 = .ok (.aload_n 1, 1) := dk_43 (dk_at dksX3_words_0 15 rfl rfl)
theorem dX3_words_16 : decode cX3_words 16 = .ok (.invokevirtual 18, 3) := dk_182 0 18 (dk_at dksX3_words_0 16 rfl rfl)
theorem dX3_words_19 : decode cX3_words 19 = .ok (.if_icmp .ge 45, 3) := dk_162 0 45 (dk_at dksX3_words_0 19 rfl rfl)
theorem dX3_words_22 : decode cX3_words 22 = .ok (.iload_n 2, 1) := dk_28 (dk_at dksX3_words_0 22 rfl rfl)
theorem dX3_words_23 : decode cX3_words 23 = .ok (.aload_n 1, 1) := dk_43 (dk_at dksX3_words_0 23 rfl rfl)
theorem dX3_words_24 : decode cX3_words 24 = .ok (.iload_n 3, 1) := dk_29 (dk_at dksX3_words_1 0 rfl rfl)
theorem dX3_words_25 : decode cX3_words 25 = .ok (.invokevirtual 42, 3) := dk_182 0 42 (dk_at dksX3_words_1 1 rfl rfl)
theorem dX3_words_28 : decode cX3_words 28 = .ok (.invokestatic 15, 3) := dk_184 0 15 (dk_at dksX3_words_1 4 rfl rfl)
theorem dX3_words_31 : decode cX3_words 31 = .ok (.ifCond .eq 24, 3) := dk_153 0 24 (dk_at dksX3_words_1 7 rfl rfl)
theorem dX3_words_34 : decode cX3_words 34 = .ok (.iload_n 3, 1) := dk_29 (dk_at dksX3_words_1 10 rfl rfl)
theorem dX3_words_35 : decode cX3_words 35 = .ok (.ifCond .eq 16, 3) := dk_153 0 16 (dk_at dksX3_words_1 11 rfl rfl)
theorem dX3_words_38 : decode cX3_words 38 = .ok (.aload_n 1, 1) := dk_43 (dk_at dksX3_words_1 14 rfl rfl)
theorem dX3_words_39 : decode cX3_words 39 = .ok (.iload_n 3, 1) := dk_29 (dk_at dksX3_words_1 15 rfl rfl)
theorem dX3_words_40 : decode cX3_words 40 = .ok (.iconst 1, 1) := dk_4 (dk_at dksX3_words_1 16 rfl rfl)
theorem dX3_words_41 : decode cX3_words 41 = .ok (.isub, 1) := dk_100 (dk_at dksX3_words_1 17 rfl rfl)
theorem dX3_words_42 : decode cX3_words 42 = .ok (.invokevirtual 42, 3) := dk_182 0 42 (dk_at dksX3_words_1 18 rfl rfl)
theorem dX3_words_45 : decode cX3_words 45 = .ok (.invokestatic 15, 3) := dk_184 0 15 (dk_at dksX3_words_1 21 rfl rfl)
theorem dX3_words_48 : decode cX3_words 48 = .ok (.ifCond .ne 7, 3) := dk_154 0 7 (dk_at dksX3_words_2 0 rfl rfl)
theorem dX3_words_51 : decode cX3_words 51 = .ok (.iconst 1, 1) := dk_4 (dk_at dksX3_words_2 3 rfl rfl)
theorem dX3_words_52 : decode cX3_words 52 = .ok (.goto 4, 3) := dk_167 0 4 (dk_at dksX3_words_2 4 rfl rfl)
theorem dX3_words_55 : decode cX3_words 55 = .ok (.iconst 0, 1) := dk_3 (dk_at dksX3_words_2 7 rfl rfl)
theorem dX3_words_56 : decode cX3_words 56 = .ok (.iadd, 1) := dk_96 (dk_at dksX3_words_2 8 rfl rfl)
theorem dX3_words_57 : decode cX3_words 57 = .ok (.istore_n 2, 1) := dk_61 (dk_at dksX3_words_2 9 rfl rfl)
theorem dX3_words_58 : decode cX3_words 58 = .ok (.iinc 3 1, 3) := dk_132 3 1 (dk_at dksX3_words_2 10 rfl rfl)
theorem dX3_words_61 : decode cX3_words 61 = .ok (.goto (-47), 3) := dk_167 255 209 (dk_at dksX3_words_2 13 rfl rfl)
theorem dX3_words_64 : decode cX3_words 64 = .ok (.iload_n 2, 1) := dk_28 (dk_at dksX3_words_2 16 rfl rfl)
theorem dX3_words_65 : decode cX3_words 65 = .ok (.ireturn, 1) := dk_172 (dk_at dksX3_words_2 17 rfl rfl)
abbrev cX3_text : ByteArray := prog_16_method_39_code
def yX3_text : MethodName := ⟨RX3, "text", "()Ljava/lang/String;"⟩
def dkwX3_text_2 : List UInt8 := [167, 255, 228, 43, 182, 0, 38, 176]
abbrev dktX3_text_2 : List UInt8 := dkwX3_text_2 ++ []
def dkwX3_text_1 : List UInt8 := [153, 0, 25, 44, 185, 0, 136, 1, 0, 192, 1, 45, 78, 43, 45, 180, 1, 47, 182, 0, 46, 87]
abbrev dktX3_text_1 : List UInt8 := dkwX3_text_1 ++ dktX3_text_2
def dkwX3_text_0 : List UInt8 := [187, 0, 26, 89, 183, 0, 28, 76, 42, 182, 1, 41, 182, 0, 126, 77, 44, 185, 0, 130, 1, 0]
abbrev dktX3_text_0 : List UInt8 := dkwX3_text_0 ++ dktX3_text_1
theorem dksX3_text_0 : cX3_text.data.toList.drop 0 = dktX3_text_0 := by decide +kernel
theorem dksX3_text_1 : cX3_text.data.toList.drop 22 = dktX3_text_1 := dk_seg dksX3_text_0 22 rfl rfl
theorem dksX3_text_2 : cX3_text.data.toList.drop 44 = dktX3_text_2 := dk_seg dksX3_text_1 22 rfl rfl
theorem dX3_text_0 : decode cX3_text 0 = .ok (.new 26, 3) := dk_187 0 26 (dk_at dksX3_text_0 0 rfl rfl)
theorem dX3_text_3 : decode cX3_text 3 = .ok (.dup, 1) := dk_89 (dk_at dksX3_text_0 3 rfl rfl)
theorem dX3_text_4 : decode cX3_text 4 = .ok (.invokespecial 28, 3) := dk_183 0 28 (dk_at dksX3_text_0 4 rfl rfl)
theorem dX3_text_7 : decode cX3_text 7 = .ok (.astore_n 1, 1) := dk_76 (dk_at dksX3_text_0 7 rfl rfl)
theorem dX3_text_8 : decode cX3_text 8 = .ok (.aload_n 0, 1) := dk_42 (dk_at dksX3_text_0 8 rfl rfl)
theorem dX3_text_9 : decode cX3_text 9 = .ok (.invokevirtual 297, 3) := dk_182 1 41 (dk_at dksX3_text_0 9 rfl rfl)
theorem dX3_text_12 : decode cX3_text 12 = .ok (.invokevirtual 126, 3) := dk_182 0 126 (dk_at dksX3_text_0 12 rfl rfl)
theorem dX3_text_15 : decode cX3_text 15 = .ok (.astore_n 2, 1) := dk_77 (dk_at dksX3_text_0 15 rfl rfl)
theorem dX3_text_16 : decode cX3_text 16 = .ok (.aload_n 2, 1) := dk_44 (dk_at dksX3_text_0 16 rfl rfl)
theorem dX3_text_17 : decode cX3_text 17 = .ok (.invokeinterface 130 1, 5) := by decide +kernel
theorem dX3_text_22 : decode cX3_text 22 = .ok (.ifCond .eq 25, 3) := dk_153 0 25 (dk_at dksX3_text_1 0 rfl rfl)
theorem dX3_text_25 : decode cX3_text 25 = .ok (.aload_n 2, 1) := dk_44 (dk_at dksX3_text_1 3 rfl rfl)
theorem dX3_text_26 : decode cX3_text 26 = .ok (.invokeinterface 136 1, 5) := by decide +kernel
theorem dX3_text_31 : decode cX3_text 31 = .ok (.checkcast 301, 3) := dk_192 1 45 (dk_at dksX3_text_1 9 rfl rfl)
theorem dX3_text_34 : decode cX3_text 34 = .ok (.astore_n 3, 1) := dk_78 (dk_at dksX3_text_1 12 rfl rfl)
theorem dX3_text_35 : decode cX3_text 35 = .ok (.aload_n 1, 1) := dk_43 (dk_at dksX3_text_1 13 rfl rfl)
theorem dX3_text_36 : decode cX3_text 36 = .ok (.aload_n 3, 1) := dk_45 (dk_at dksX3_text_1 14 rfl rfl)
theorem dX3_text_37 : decode cX3_text 37 = .ok (.getfield 303, 3) := dk_180 1 47 (dk_at dksX3_text_1 15 rfl rfl)
theorem dX3_text_40 : decode cX3_text 40 = .ok (.invokevirtual 46, 3) := dk_182 0 46 (dk_at dksX3_text_1 18 rfl rfl)
theorem dX3_text_43 : decode cX3_text 43 = .ok (.pop, 1) := dk_87 (dk_at dksX3_text_1 21 rfl rfl)
theorem dX3_text_44 : decode cX3_text 44 = .ok (.goto (-28), 3) := dk_167 255 228 (dk_at dksX3_text_2 0 rfl rfl)
theorem dX3_text_47 : decode cX3_text 47 = .ok (.aload_n 1, 1) := dk_43 (dk_at dksX3_text_2 3 rfl rfl)
theorem dX3_text_48 : decode cX3_text 48 = .ok (.invokevirtual 38, 3) := dk_182 0 38 (dk_at dksX3_text_2 4 rfl rfl)
theorem dX3_text_51 : decode cX3_text 51 = .ok (.areturn, 1) := dk_176 (dk_at dksX3_text_2 7 rfl rfl)
abbrev cX3_translations : ByteArray := prog_16_method_44_code
def yX3_translations : MethodName := ⟨RX3, "translations", "()I"⟩
def dkwX3_translations_0 : List UInt8 := [42, 3, 181, 0, 123, 42, 180, 0, 100, 182, 0, 163, 172]
abbrev dktX3_translations_0 : List UInt8 := dkwX3_translations_0 ++ []
theorem dksX3_translations_0 : cX3_translations.data.toList.drop 0 = dktX3_translations_0 := by decide +kernel
theorem dX3_translations_0 : decode cX3_translations 0 = .ok (.aload_n 0, 1) := dk_42 (dk_at dksX3_translations_0 0 rfl rfl)
theorem dX3_translations_1 : decode cX3_translations 1 = .ok (.iconst 0, 1) := dk_3 (dk_at dksX3_translations_0 1 rfl rfl)
theorem dX3_translations_2 : decode cX3_translations 2 = .ok (.putfield 123, 3) := dk_181 0 123 (dk_at dksX3_translations_0 2 rfl rfl)
theorem dX3_translations_5 : decode cX3_translations 5 = .ok (.aload_n 0, 1) := dk_42 (dk_at dksX3_translations_0 5 rfl rfl)
theorem dX3_translations_6 : decode cX3_translations 6 = .ok (.getfield 100, 3) := dk_180 0 100 (dk_at dksX3_translations_0 6 rfl rfl)
theorem dX3_translations_9 : decode cX3_translations 9 = .ok (.invokevirtual 163, 3) := dk_182 0 163 (dk_at dksX3_translations_0 9 rfl rfl)
theorem dX3_translations_12 : decode cX3_translations 12 = .ok (.ireturn, 1) := dk_172 (dk_at dksX3_translations_0 12 rfl rfl)
abbrev cX3_strokesOf : ByteArray := prog_16_method_46_code
def yX3_strokesOf : MethodName := ⟨RX3, "strokesOf", "(I)I"⟩
def dkwX3_strokesOf_1 : List UInt8 := [180, 0, 181, 172]
abbrev dktX3_strokesOf_1 : List UInt8 := dkwX3_strokesOf_1 ++ []
def dkwX3_strokesOf_0 : List UInt8 := [42, 27, 182, 1, 57, 153, 0, 7, 3, 167, 0, 17, 42, 180, 0, 100, 27, 182, 0, 158, 192, 0, 170]
abbrev dktX3_strokesOf_0 : List UInt8 := dkwX3_strokesOf_0 ++ dktX3_strokesOf_1
theorem dksX3_strokesOf_0 : cX3_strokesOf.data.toList.drop 0 = dktX3_strokesOf_0 := by decide +kernel
theorem dksX3_strokesOf_1 : cX3_strokesOf.data.toList.drop 23 = dktX3_strokesOf_1 := dk_seg dksX3_strokesOf_0 23 rfl rfl
theorem dX3_strokesOf_0 : decode cX3_strokesOf 0 = .ok (.aload_n 0, 1) := dk_42 (dk_at dksX3_strokesOf_0 0 rfl rfl)
theorem dX3_strokesOf_1 : decode cX3_strokesOf 1 = .ok (.iload_n 1, 1) := dk_27 (dk_at dksX3_strokesOf_0 1 rfl rfl)
theorem dX3_strokesOf_2 : decode cX3_strokesOf 2 = .ok (.invokevirtual 313, 3) := dk_182 1 57 (dk_at dksX3_strokesOf_0 2 rfl rfl)
theorem dX3_strokesOf_5 : decode cX3_strokesOf 5 = .ok (.ifCond .eq 7, 3) := dk_153 0 7 (dk_at dksX3_strokesOf_0 5 rfl rfl)
theorem dX3_strokesOf_8 : decode cX3_strokesOf 8 = .ok (.iconst 0, 1) := dk_3 (dk_at dksX3_strokesOf_0 8 rfl rfl)
theorem dX3_strokesOf_9 : decode cX3_strokesOf 9 = .ok (.goto 17, 3) := dk_167 0 17 (dk_at dksX3_strokesOf_0 9 rfl rfl)
theorem dX3_strokesOf_12 : decode cX3_strokesOf 12 = .ok (.aload_n 0, 1) := dk_42 (dk_at dksX3_strokesOf_0 12 rfl rfl)
theorem dX3_strokesOf_13 : decode cX3_strokesOf 13 = .ok (.getfield 100, 3) := dk_180 0 100 (dk_at dksX3_strokesOf_0 13 rfl rfl)
theorem dX3_strokesOf_16 : decode cX3_strokesOf 16 = .ok (.iload_n 1, 1) := dk_27 (dk_at dksX3_strokesOf_0 16 rfl rfl)
theorem dX3_strokesOf_17 : decode cX3_strokesOf 17 = .ok (.invokevirtual 158, 3) := dk_182 0 158 (dk_at dksX3_strokesOf_0 17 rfl rfl)
theorem dX3_strokesOf_20 : decode cX3_strokesOf 20 = .ok (.checkcast 170, 3) := dk_192 0 170 (dk_at dksX3_strokesOf_0 20 rfl rfl)
theorem dX3_strokesOf_23 : decode cX3_strokesOf 23 = .ok (.getfield 181, 3) := dk_180 0 181 (dk_at dksX3_strokesOf_1 0 rfl rfl)
theorem dX3_strokesOf_26 : decode cX3_strokesOf 26 = .ok (.ireturn, 1) := dk_172 (dk_at dksX3_strokesOf_1 3 rfl rfl)
abbrev cX3_noTranslation : ByteArray := prog_16_method_45_code
def yX3_noTranslation : MethodName := ⟨RX3, "noTranslation", "(I)Z"⟩
def dkwX3_noTranslation_1 : List UInt8 := [181, 0, 123, 42, 180, 0, 123, 158, 0, 7, 4, 167, 0, 4, 3, 172]
abbrev dktX3_noTranslation_1 : List UInt8 := dkwX3_noTranslation_1 ++ []
def dkwX3_noTranslation_0 : List UInt8 := [42, 27, 3, 42, 180, 0, 100, 182, 0, 163, 4, 100, 184, 0, 220, 153, 0, 7, 3, 167, 0, 4, 4]
abbrev dktX3_noTranslation_0 : List UInt8 := dkwX3_noTranslation_0 ++ dktX3_noTranslation_1
theorem dksX3_noTranslation_0 : cX3_noTranslation.data.toList.drop 0 = dktX3_noTranslation_0 := by decide +kernel
theorem dksX3_noTranslation_1 : cX3_noTranslation.data.toList.drop 23 = dktX3_noTranslation_1 := dk_seg dksX3_noTranslation_0 23 rfl rfl
theorem dX3_noTranslation_0 : decode cX3_noTranslation 0 = .ok (.aload_n 0, 1) := dk_42 (dk_at dksX3_noTranslation_0 0 rfl rfl)
theorem dX3_noTranslation_1 : decode cX3_noTranslation 1 = .ok (.iload_n 1, 1) := dk_27 (dk_at dksX3_noTranslation_0 1 rfl rfl)
theorem dX3_noTranslation_2 : decode cX3_noTranslation 2 = .ok (.iconst 0, 1) := dk_3 (dk_at dksX3_noTranslation_0 2 rfl rfl)
theorem dX3_noTranslation_3 : decode cX3_noTranslation 3 = .ok (.aload_n 0, 1) := dk_42 (dk_at dksX3_noTranslation_0 3 rfl rfl)
theorem dX3_noTranslation_4 : decode cX3_noTranslation 4 = .ok (.getfield 100, 3) := dk_180 0 100 (dk_at dksX3_noTranslation_0 4 rfl rfl)
theorem dX3_noTranslation_7 : decode cX3_noTranslation 7 = .ok (.invokevirtual 163, 3) := dk_182 0 163 (dk_at dksX3_noTranslation_0 7 rfl rfl)
theorem dX3_noTranslation_10 : decode cX3_noTranslation 10 = .ok (.iconst 1, 1) := dk_4 (dk_at dksX3_noTranslation_0 10 rfl rfl)
theorem dX3_noTranslation_11 : decode cX3_noTranslation 11 = .ok (.isub, 1) := dk_100 (dk_at dksX3_noTranslation_0 11 rfl rfl)
theorem dX3_noTranslation_12 : decode cX3_noTranslation 12 = .ok (.invokestatic 220, 3) := dk_184 0 220 (dk_at dksX3_noTranslation_0 12 rfl rfl)
theorem dX3_noTranslation_15 : decode cX3_noTranslation 15 = .ok (.ifCond .eq 7, 3) := dk_153 0 7 (dk_at dksX3_noTranslation_0 15 rfl rfl)
theorem dX3_noTranslation_18 : decode cX3_noTranslation 18 = .ok (.iconst 0, 1) := dk_3 (dk_at dksX3_noTranslation_0 18 rfl rfl)
theorem dX3_noTranslation_19 : decode cX3_noTranslation 19 = .ok (.goto 4, 3) := dk_167 0 4 (dk_at dksX3_noTranslation_0 19 rfl rfl)
theorem dX3_noTranslation_22 : decode cX3_noTranslation 22 = .ok (.iconst 1, 1) := dk_4 (dk_at dksX3_noTranslation_0 22 rfl rfl)
theorem dX3_noTranslation_23 : decode cX3_noTranslation 23 = .ok (.putfield 123, 3) := dk_181 0 123 (dk_at dksX3_noTranslation_1 0 rfl rfl)
theorem dX3_noTranslation_26 : decode cX3_noTranslation 26 = .ok (.aload_n 0, 1) := dk_42 (dk_at dksX3_noTranslation_1 3 rfl rfl)
theorem dX3_noTranslation_27 : decode cX3_noTranslation 27 = .ok (.getfield 123, 3) := dk_180 0 123 (dk_at dksX3_noTranslation_1 4 rfl rfl)
theorem dX3_noTranslation_30 : decode cX3_noTranslation 30 = .ok (.ifCond .le 7, 3) := dk_158 0 7 (dk_at dksX3_noTranslation_1 7 rfl rfl)
theorem dX3_noTranslation_33 : decode cX3_noTranslation 33 = .ok (.iconst 1, 1) := dk_4 (dk_at dksX3_noTranslation_1 10 rfl rfl)
theorem dX3_noTranslation_34 : decode cX3_noTranslation 34 = .ok (.goto 4, 3) := dk_167 0 4 (dk_at dksX3_noTranslation_1 11 rfl rfl)
theorem dX3_noTranslation_37 : decode cX3_noTranslation 37 = .ok (.iconst 0, 1) := dk_3 (dk_at dksX3_noTranslation_1 14 rfl rfl)
theorem dX3_noTranslation_38 : decode cX3_noTranslation 38 = .ok (.ireturn, 1) := dk_172 (dk_at dksX3_noTranslation_1 15 rfl rfl)
abbrev cX3_layerOf : ByteArray := prog_16_method_47_code
def yX3_layerOf : MethodName := ⟨RX3, "layerOf", "(I)I"⟩
def dkwX3_layerOf_1 : List UInt8 := [77, 44, 199, 0, 7, 2, 167, 0, 7, 44, 180, 1, 60, 172]
abbrev dktX3_layerOf_1 : List UInt8 := dkwX3_layerOf_1 ++ []
def dkwX3_layerOf_0 : List UInt8 := [42, 27, 182, 1, 57, 153, 0, 5, 3, 172, 42, 180, 0, 100, 27, 182, 0, 158, 192, 0, 170, 180, 0, 172]
abbrev dktX3_layerOf_0 : List UInt8 := dkwX3_layerOf_0 ++ dktX3_layerOf_1
theorem dksX3_layerOf_0 : cX3_layerOf.data.toList.drop 0 = dktX3_layerOf_0 := by decide +kernel
theorem dksX3_layerOf_1 : cX3_layerOf.data.toList.drop 24 = dktX3_layerOf_1 := dk_seg dksX3_layerOf_0 24 rfl rfl
theorem dX3_layerOf_0 : decode cX3_layerOf 0 = .ok (.aload_n 0, 1) := dk_42 (dk_at dksX3_layerOf_0 0 rfl rfl)
theorem dX3_layerOf_1 : decode cX3_layerOf 1 = .ok (.iload_n 1, 1) := dk_27 (dk_at dksX3_layerOf_0 1 rfl rfl)
theorem dX3_layerOf_2 : decode cX3_layerOf 2 = .ok (.invokevirtual 313, 3) := dk_182 1 57 (dk_at dksX3_layerOf_0 2 rfl rfl)
theorem dX3_layerOf_5 : decode cX3_layerOf 5 = .ok (.ifCond .eq 5, 3) := dk_153 0 5 (dk_at dksX3_layerOf_0 5 rfl rfl)
theorem dX3_layerOf_8 : decode cX3_layerOf 8 = .ok (.iconst 0, 1) := dk_3 (dk_at dksX3_layerOf_0 8 rfl rfl)
theorem dX3_layerOf_9 : decode cX3_layerOf 9 = .ok (.ireturn, 1) := dk_172 (dk_at dksX3_layerOf_0 9 rfl rfl)
theorem dX3_layerOf_10 : decode cX3_layerOf 10 = .ok (.aload_n 0, 1) := dk_42 (dk_at dksX3_layerOf_0 10 rfl rfl)
theorem dX3_layerOf_11 : decode cX3_layerOf 11 = .ok (.getfield 100, 3) := dk_180 0 100 (dk_at dksX3_layerOf_0 11 rfl rfl)
theorem dX3_layerOf_14 : decode cX3_layerOf 14 = .ok (.iload_n 1, 1) := dk_27 (dk_at dksX3_layerOf_0 14 rfl rfl)
theorem dX3_layerOf_15 : decode cX3_layerOf 15 = .ok (.invokevirtual 158, 3) := dk_182 0 158 (dk_at dksX3_layerOf_0 15 rfl rfl)
theorem dX3_layerOf_18 : decode cX3_layerOf 18 = .ok (.checkcast 170, 3) := dk_192 0 170 (dk_at dksX3_layerOf_0 18 rfl rfl)
theorem dX3_layerOf_21 : decode cX3_layerOf 21 = .ok (.getfield 172, 3) := dk_180 0 172 (dk_at dksX3_layerOf_0 21 rfl rfl)
theorem dX3_layerOf_24 : decode cX3_layerOf 24 = .ok (.astore_n 2, 1) := dk_77 (dk_at dksX3_layerOf_1 0 rfl rfl)
theorem dX3_layerOf_25 : decode cX3_layerOf 25 = .ok (.aload_n 2, 1) := dk_44 (dk_at dksX3_layerOf_1 1 rfl rfl)
theorem dX3_layerOf_26 : decode cX3_layerOf 26 = .ok (.ifnonnull 7, 3) := dk_199 0 7 (dk_at dksX3_layerOf_1 2 rfl rfl)
theorem dX3_layerOf_29 : decode cX3_layerOf 29 = .ok (.iconst (-1), 1) := dk_2 (dk_at dksX3_layerOf_1 5 rfl rfl)
theorem dX3_layerOf_30 : decode cX3_layerOf 30 = .ok (.goto 7, 3) := dk_167 0 7 (dk_at dksX3_layerOf_1 6 rfl rfl)
theorem dX3_layerOf_33 : decode cX3_layerOf 33 = .ok (.aload_n 2, 1) := dk_44 (dk_at dksX3_layerOf_1 9 rfl rfl)
theorem dX3_layerOf_34 : decode cX3_layerOf 34 = .ok (.getfield 316, 3) := dk_180 1 60 (dk_at dksX3_layerOf_1 10 rfl rfl)
theorem dX3_layerOf_37 : decode cX3_layerOf 37 = .ok (.ireturn, 1) := dk_172 (dk_at dksX3_layerOf_1 13 rfl rfl)
abbrev cX3_chosen : ByteArray := prog_16_method_48_code
def yX3_chosen : MethodName := ⟨RX3, "chosen", "(I)I"⟩
def dkwX3_chosen_1 : List UInt8 := [46, 172]
abbrev dktX3_chosen_1 : List UInt8 := dkwX3_chosen_1 ++ []
def dkwX3_chosen_0 : List UInt8 := [42, 27, 182, 1, 57, 153, 0, 7, 3, 167, 0, 16, 187, 1, 34, 89, 42, 183, 1, 36, 180, 1, 63, 27]
abbrev dktX3_chosen_0 : List UInt8 := dkwX3_chosen_0 ++ dktX3_chosen_1
theorem dksX3_chosen_0 : cX3_chosen.data.toList.drop 0 = dktX3_chosen_0 := by decide +kernel
theorem dksX3_chosen_1 : cX3_chosen.data.toList.drop 24 = dktX3_chosen_1 := dk_seg dksX3_chosen_0 24 rfl rfl
theorem dX3_chosen_0 : decode cX3_chosen 0 = .ok (.aload_n 0, 1) := dk_42 (dk_at dksX3_chosen_0 0 rfl rfl)
theorem dX3_chosen_1 : decode cX3_chosen 1 = .ok (.iload_n 1, 1) := dk_27 (dk_at dksX3_chosen_0 1 rfl rfl)
theorem dX3_chosen_2 : decode cX3_chosen 2 = .ok (.invokevirtual 313, 3) := dk_182 1 57 (dk_at dksX3_chosen_0 2 rfl rfl)
theorem dX3_chosen_5 : decode cX3_chosen 5 = .ok (.ifCond .eq 7, 3) := dk_153 0 7 (dk_at dksX3_chosen_0 5 rfl rfl)
theorem dX3_chosen_8 : decode cX3_chosen 8 = .ok (.iconst 0, 1) := dk_3 (dk_at dksX3_chosen_0 8 rfl rfl)
theorem dX3_chosen_9 : decode cX3_chosen 9 = .ok (.goto 16, 3) := dk_167 0 16 (dk_at dksX3_chosen_0 9 rfl rfl)
theorem dX3_chosen_12 : decode cX3_chosen 12 = .ok (.new 290, 3) := dk_187 1 34 (dk_at dksX3_chosen_0 12 rfl rfl)
theorem dX3_chosen_15 : decode cX3_chosen 15 = .ok (.dup, 1) := dk_89 (dk_at dksX3_chosen_0 15 rfl rfl)
theorem dX3_chosen_16 : decode cX3_chosen 16 = .ok (.aload_n 0, 1) := dk_42 (dk_at dksX3_chosen_0 16 rfl rfl)
theorem dX3_chosen_17 : decode cX3_chosen 17 = .ok (.invokespecial 292, 3) := dk_183 1 36 (dk_at dksX3_chosen_0 17 rfl rfl)
theorem dX3_chosen_20 : decode cX3_chosen 20 = .ok (.getfield 319, 3) := dk_180 1 63 (dk_at dksX3_chosen_0 20 rfl rfl)
theorem dX3_chosen_23 : decode cX3_chosen 23 = .ok (.iload_n 1, 1) := dk_27 (dk_at dksX3_chosen_0 23 rfl rfl)
theorem dX3_chosen_24 : decode cX3_chosen 24 = .ok (.iaload, 1) := dk_46 (dk_at dksX3_chosen_1 0 rfl rfl)
theorem dX3_chosen_25 : decode cX3_chosen 25 = .ok (.ireturn, 1) := dk_172 (dk_at dksX3_chosen_1 1 rfl rfl)
abbrev cX3_fromOf : ByteArray := prog_16_method_49_code
def yX3_fromOf : MethodName := ⟨RX3, "fromOf", "(I)I"⟩
def dkwX3_fromOf_2 : List UInt8 := [167, 255, 228, 2, 172]
abbrev dktX3_fromOf_2 : List UInt8 := dkwX3_fromOf_2 ++ []
def dkwX3_fromOf_1 : List UInt8 := [162, 0, 26, 44, 29, 182, 0, 158, 192, 1, 45, 180, 1, 66, 27, 160, 0, 5, 29, 172, 132, 3, 1]
abbrev dktX3_fromOf_1 : List UInt8 := dkwX3_fromOf_1 ++ dktX3_fromOf_2
def dkwX3_fromOf_0 : List UInt8 := [42, 27, 182, 1, 57, 153, 0, 5, 3, 172, 42, 182, 1, 41, 77, 3, 62, 29, 44, 182, 0, 163]
abbrev dktX3_fromOf_0 : List UInt8 := dkwX3_fromOf_0 ++ dktX3_fromOf_1
theorem dksX3_fromOf_0 : cX3_fromOf.data.toList.drop 0 = dktX3_fromOf_0 := by decide +kernel
theorem dksX3_fromOf_1 : cX3_fromOf.data.toList.drop 22 = dktX3_fromOf_1 := dk_seg dksX3_fromOf_0 22 rfl rfl
theorem dksX3_fromOf_2 : cX3_fromOf.data.toList.drop 45 = dktX3_fromOf_2 := dk_seg dksX3_fromOf_1 23 rfl rfl
theorem dX3_fromOf_0 : decode cX3_fromOf 0 = .ok (.aload_n 0, 1) := dk_42 (dk_at dksX3_fromOf_0 0 rfl rfl)
theorem dX3_fromOf_1 : decode cX3_fromOf 1 = .ok (.iload_n 1, 1) := dk_27 (dk_at dksX3_fromOf_0 1 rfl rfl)
theorem dX3_fromOf_2 : decode cX3_fromOf 2 = .ok (.invokevirtual 313, 3) := dk_182 1 57 (dk_at dksX3_fromOf_0 2 rfl rfl)
theorem dX3_fromOf_5 : decode cX3_fromOf 5 = .ok (.ifCond .eq 5, 3) := dk_153 0 5 (dk_at dksX3_fromOf_0 5 rfl rfl)
theorem dX3_fromOf_8 : decode cX3_fromOf 8 = .ok (.iconst 0, 1) := dk_3 (dk_at dksX3_fromOf_0 8 rfl rfl)
theorem dX3_fromOf_9 : decode cX3_fromOf 9 = .ok (.ireturn, 1) := dk_172 (dk_at dksX3_fromOf_0 9 rfl rfl)
theorem dX3_fromOf_10 : decode cX3_fromOf 10 = .ok (.aload_n 0, 1) := dk_42 (dk_at dksX3_fromOf_0 10 rfl rfl)
theorem dX3_fromOf_11 : decode cX3_fromOf 11 = .ok (.invokevirtual 297, 3) := dk_182 1 41 (dk_at dksX3_fromOf_0 11 rfl rfl)
theorem dX3_fromOf_14 : decode cX3_fromOf 14 = .ok (.astore_n 2, 1) := dk_77 (dk_at dksX3_fromOf_0 14 rfl rfl)
theorem dX3_fromOf_15 : decode cX3_fromOf 15 = .ok (.iconst 0, 1) := dk_3 (dk_at dksX3_fromOf_0 15 rfl rfl)
theorem dX3_fromOf_16 : decode cX3_fromOf 16 = .ok (.istore_n 3, 1) := dk_62 (dk_at dksX3_fromOf_0 16 rfl rfl)
theorem dX3_fromOf_17 : decode cX3_fromOf 17 = .ok (.iload_n 3, 1) := dk_29 (dk_at dksX3_fromOf_0 17 rfl rfl)
theorem dX3_fromOf_18 : decode cX3_fromOf 18 = .ok (.aload_n 2, 1) := dk_44 (dk_at dksX3_fromOf_0 18 rfl rfl)
theorem dX3_fromOf_19 : decode cX3_fromOf 19 = .ok (.invokevirtual 163, 3) := dk_182 0 163 (dk_at dksX3_fromOf_0 19 rfl rfl)
theorem dX3_fromOf_22 : decode cX3_fromOf 22 = .ok (.if_icmp .ge 26, 3) := dk_162 0 26 (dk_at dksX3_fromOf_1 0 rfl rfl)
theorem dX3_fromOf_25 : decode cX3_fromOf 25 = .ok (.aload_n 2, 1) := dk_44 (dk_at dksX3_fromOf_1 3 rfl rfl)
theorem dX3_fromOf_26 : decode cX3_fromOf 26 = .ok (.iload_n 3, 1) := dk_29 (dk_at dksX3_fromOf_1 4 rfl rfl)
theorem dX3_fromOf_27 : decode cX3_fromOf 27 = .ok (.invokevirtual 158, 3) := dk_182 0 158 (dk_at dksX3_fromOf_1 5 rfl rfl)
theorem dX3_fromOf_30 : decode cX3_fromOf 30 = .ok (.checkcast 301, 3) := dk_192 1 45 (dk_at dksX3_fromOf_1 8 rfl rfl)
theorem dX3_fromOf_33 : decode cX3_fromOf 33 = .ok (.getfield 322, 3) := dk_180 1 66 (dk_at dksX3_fromOf_1 11 rfl rfl)
theorem dX3_fromOf_36 : decode cX3_fromOf 36 = .ok (.iload_n 1, 1) := dk_27 (dk_at dksX3_fromOf_1 14 rfl rfl)
theorem dX3_fromOf_37 : decode cX3_fromOf 37 = .ok (.if_icmp .ne 5, 3) := dk_160 0 5 (dk_at dksX3_fromOf_1 15 rfl rfl)
theorem dX3_fromOf_40 : decode cX3_fromOf 40 = .ok (.iload_n 3, 1) := dk_29 (dk_at dksX3_fromOf_1 18 rfl rfl)
theorem dX3_fromOf_41 : decode cX3_fromOf 41 = .ok (.ireturn, 1) := dk_172 (dk_at dksX3_fromOf_1 19 rfl rfl)
theorem dX3_fromOf_42 : decode cX3_fromOf 42 = .ok (.iinc 3 1, 3) := dk_132 3 1 (dk_at dksX3_fromOf_1 20 rfl rfl)
theorem dX3_fromOf_45 : decode cX3_fromOf 45 = .ok (.goto (-28), 3) := dk_167 255 228 (dk_at dksX3_fromOf_2 0 rfl rfl)
theorem dX3_fromOf_48 : decode cX3_fromOf 48 = .ok (.iconst (-1), 1) := dk_2 (dk_at dksX3_fromOf_2 3 rfl rfl)
theorem dX3_fromOf_49 : decode cX3_fromOf 49 = .ok (.ireturn, 1) := dk_172 (dk_at dksX3_fromOf_2 4 rfl rfl)
abbrev cX3_tick : ByteArray := prog_16_method_50_code
def yX3_tick : MethodName := ⟨RX3, "tick", "()I"⟩
def dkwX3_tick_8 : List UInt8 := [180, 0, 103, 182, 0, 163, 172]
abbrev dktX3_tick_8 : List UInt8 := dkwX3_tick_8 ++ []
def dkwX3_tick_7 : List UInt8 := [180, 1, 74, 182, 0, 18, 21, 5, 100, 96, 181, 1, 77, 44, 25, 4, 181, 1, 74, 167, 255, 125, 42]
abbrev dktX3_tick_7 : List UInt8 := dkwX3_tick_7 ++ dktX3_tick_8
def dkwX3_tick_6 : List UInt8 := [180, 1, 74, 21, 5, 182, 0, 42, 160, 0, 9, 132, 5, 1, 167, 255, 212, 44, 89, 180, 1, 77, 44]
abbrev dktX3_tick_6 : List UInt8 := dkwX3_tick_6 ++ dktX3_tick_7
def dkwX3_tick_5 : List UInt8 := [162, 0, 40, 21, 5, 44, 180, 1, 74, 182, 0, 18, 162, 0, 28, 25, 4, 21, 5, 182, 0, 42, 44]
abbrev dktX3_tick_5 : List UInt8 := dkwX3_tick_5 ++ dktX3_tick_6
def dkwX3_tick_4 : List UInt8 := [180, 0, 103, 29, 182, 0, 158, 192, 0, 10, 58, 4, 3, 54, 5, 21, 5, 25, 4, 182, 0, 18]
abbrev dktX3_tick_4 : List UInt8 := dkwX3_tick_4 ++ dktX3_tick_5
def dkwX3_tick_3 : List UInt8 := [180, 0, 103, 182, 0, 163, 4, 100, 44, 180, 1, 71, 100, 62, 29, 156, 0, 8, 18, 77, 167, 0, 14, 42]
abbrev dktX3_tick_3 : List UInt8 := dkwX3_tick_3 ++ dktX3_tick_4
def dkwX3_tick_2 : List UInt8 := [182, 0, 126, 76, 43, 185, 0, 130, 1, 0, 153, 0, 128, 43, 185, 0, 136, 1, 0, 192, 1, 69, 77, 42]
abbrev dktX3_tick_2 : List UInt8 := dkwX3_tick_2 ++ dktX3_tick_3
def dkwX3_tick_1 : List UInt8 := [180, 0, 123, 158, 0, 5, 3, 172, 42, 180, 0, 103, 42, 182, 1, 54, 182, 0, 202, 87, 42, 180, 0, 106]
abbrev dktX3_tick_1 : List UInt8 := dkwX3_tick_1 ++ dktX3_tick_2
def dkwX3_tick_0 : List UInt8 := [42, 42, 180, 0, 103, 182, 0, 163, 17, 1, 144, 160, 0, 7, 4, 167, 0, 4, 3, 181, 0, 123, 42]
abbrev dktX3_tick_0 : List UInt8 := dkwX3_tick_0 ++ dktX3_tick_1
theorem dksX3_tick_0 : cX3_tick.data.toList.drop 0 = dktX3_tick_0 := by decide +kernel
theorem dksX3_tick_1 : cX3_tick.data.toList.drop 23 = dktX3_tick_1 := dk_seg dksX3_tick_0 23 rfl rfl
theorem dksX3_tick_2 : cX3_tick.data.toList.drop 47 = dktX3_tick_2 := dk_seg dksX3_tick_1 24 rfl rfl
theorem dksX3_tick_3 : cX3_tick.data.toList.drop 71 = dktX3_tick_3 := dk_seg dksX3_tick_2 24 rfl rfl
theorem dksX3_tick_4 : cX3_tick.data.toList.drop 95 = dktX3_tick_4 := dk_seg dksX3_tick_3 24 rfl rfl
theorem dksX3_tick_5 : cX3_tick.data.toList.drop 117 = dktX3_tick_5 := dk_seg dksX3_tick_4 22 rfl rfl
theorem dksX3_tick_6 : cX3_tick.data.toList.drop 140 = dktX3_tick_6 := dk_seg dksX3_tick_5 23 rfl rfl
theorem dksX3_tick_7 : cX3_tick.data.toList.drop 163 = dktX3_tick_7 := dk_seg dksX3_tick_6 23 rfl rfl
theorem dksX3_tick_8 : cX3_tick.data.toList.drop 186 = dktX3_tick_8 := dk_seg dksX3_tick_7 23 rfl rfl
theorem dX3_tick_0 : decode cX3_tick 0 = .ok (.aload_n 0, 1) := dk_42 (dk_at dksX3_tick_0 0 rfl rfl)
theorem dX3_tick_1 : decode cX3_tick 1 = .ok (.aload_n 0, 1) := dk_42 (dk_at dksX3_tick_0 1 rfl rfl)
theorem dX3_tick_2 : decode cX3_tick 2 = .ok (.getfield 103, 3) := dk_180 0 103 (dk_at dksX3_tick_0 2 rfl rfl)
theorem dX3_tick_5 : decode cX3_tick 5 = .ok (.invokevirtual 163, 3) := dk_182 0 163 (dk_at dksX3_tick_0 5 rfl rfl)
theorem dX3_tick_8 : decode cX3_tick 8 = .ok (.sipush 400, 3) := dk_17 1 144 (dk_at dksX3_tick_0 8 rfl rfl)
theorem dX3_tick_11 : decode cX3_tick 11 = .ok (.if_icmp .ne 7, 3) := dk_160 0 7 (dk_at dksX3_tick_0 11 rfl rfl)
theorem dX3_tick_14 : decode cX3_tick 14 = .ok (.iconst 1, 1) := dk_4 (dk_at dksX3_tick_0 14 rfl rfl)
theorem dX3_tick_15 : decode cX3_tick 15 = .ok (.goto 4, 3) := dk_167 0 4 (dk_at dksX3_tick_0 15 rfl rfl)
theorem dX3_tick_18 : decode cX3_tick 18 = .ok (.iconst 0, 1) := dk_3 (dk_at dksX3_tick_0 18 rfl rfl)
theorem dX3_tick_19 : decode cX3_tick 19 = .ok (.putfield 123, 3) := dk_181 0 123 (dk_at dksX3_tick_0 19 rfl rfl)
theorem dX3_tick_22 : decode cX3_tick 22 = .ok (.aload_n 0, 1) := dk_42 (dk_at dksX3_tick_0 22 rfl rfl)
theorem dX3_tick_23 : decode cX3_tick 23 = .ok (.getfield 123, 3) := dk_180 0 123 (dk_at dksX3_tick_1 0 rfl rfl)
theorem dX3_tick_26 : decode cX3_tick 26 = .ok (.ifCond .le 5, 3) := dk_158 0 5 (dk_at dksX3_tick_1 3 rfl rfl)
theorem dX3_tick_29 : decode cX3_tick 29 = .ok (.iconst 0, 1) := dk_3 (dk_at dksX3_tick_1 6 rfl rfl)
theorem dX3_tick_30 : decode cX3_tick 30 = .ok (.ireturn, 1) := dk_172 (dk_at dksX3_tick_1 7 rfl rfl)
theorem dX3_tick_31 : decode cX3_tick 31 = .ok (.aload_n 0, 1) := dk_42 (dk_at dksX3_tick_1 8 rfl rfl)
theorem dX3_tick_32 : decode cX3_tick 32 = .ok (.getfield 103, 3) := dk_180 0 103 (dk_at dksX3_tick_1 9 rfl rfl)
theorem dX3_tick_35 : decode cX3_tick 35 = .ok (.aload_n 0, 1) := dk_42 (dk_at dksX3_tick_1 12 rfl rfl)
theorem dX3_tick_36 : decode cX3_tick 36 = .ok (.invokevirtual 310, 3) := dk_182 1 54 (dk_at dksX3_tick_1 13 rfl rfl)
theorem dX3_tick_39 : decode cX3_tick 39 = .ok (.invokevirtual 202, 3) := dk_182 0 202 (dk_at dksX3_tick_1 16 rfl rfl)
theorem dX3_tick_42 : decode cX3_tick 42 = .ok (.pop, 1) := dk_87 (dk_at dksX3_tick_1 19 rfl rfl)
theorem dX3_tick_43 : decode cX3_tick 43 = .ok (.aload_n 0, 1) := dk_42 (dk_at dksX3_tick_1 20 rfl rfl)
theorem dX3_tick_44 : decode cX3_tick 44 = .ok (.getfield 106, 3) := dk_180 0 106 (dk_at dksX3_tick_1 21 rfl rfl)
theorem dX3_tick_47 : decode cX3_tick 47 = .ok (.invokevirtual 126, 3) := dk_182 0 126 (dk_at dksX3_tick_2 0 rfl rfl)
theorem dX3_tick_50 : decode cX3_tick 50 = .ok (.astore_n 1, 1) := dk_76 (dk_at dksX3_tick_2 3 rfl rfl)
theorem dX3_tick_51 : decode cX3_tick 51 = .ok (.aload_n 1, 1) := dk_43 (dk_at dksX3_tick_2 4 rfl rfl)
theorem dX3_tick_52 : decode cX3_tick 52 = .ok (.invokeinterface 130 1, 5) := by decide +kernel
theorem dX3_tick_57 : decode cX3_tick 57 = .ok (.ifCond .eq 128, 3) := dk_153 0 128 (dk_at dksX3_tick_2 10 rfl rfl)
theorem dX3_tick_60 : decode cX3_tick 60 = .ok (.aload_n 1, 1) := dk_43 (dk_at dksX3_tick_2 13 rfl rfl)
theorem dX3_tick_61 : decode cX3_tick 61 = .ok (.invokeinterface 136 1, 5) := by decide +kernel
theorem dX3_tick_66 : decode cX3_tick 66 = .ok (.checkcast 325, 3) := dk_192 1 69 (dk_at dksX3_tick_2 19 rfl rfl)
theorem dX3_tick_69 : decode cX3_tick 69 = .ok (.astore_n 2, 1) := dk_77 (dk_at dksX3_tick_2 22 rfl rfl)
theorem dX3_tick_70 : decode cX3_tick 70 = .ok (.aload_n 0, 1) := dk_42 (dk_at dksX3_tick_2 23 rfl rfl)
theorem dX3_tick_71 : decode cX3_tick 71 = .ok (.getfield 103, 3) := dk_180 0 103 (dk_at dksX3_tick_3 0 rfl rfl)
theorem dX3_tick_74 : decode cX3_tick 74 = .ok (.invokevirtual 163, 3) := dk_182 0 163 (dk_at dksX3_tick_3 3 rfl rfl)
theorem dX3_tick_77 : decode cX3_tick 77 = .ok (.iconst 1, 1) := dk_4 (dk_at dksX3_tick_3 6 rfl rfl)
theorem dX3_tick_78 : decode cX3_tick 78 = .ok (.isub, 1) := dk_100 (dk_at dksX3_tick_3 7 rfl rfl)
theorem dX3_tick_79 : decode cX3_tick 79 = .ok (.aload_n 2, 1) := dk_44 (dk_at dksX3_tick_3 8 rfl rfl)
theorem dX3_tick_80 : decode cX3_tick 80 = .ok (.getfield 327, 3) := dk_180 1 71 (dk_at dksX3_tick_3 9 rfl rfl)
theorem dX3_tick_83 : decode cX3_tick 83 = .ok (.isub, 1) := dk_100 (dk_at dksX3_tick_3 12 rfl rfl)
theorem dX3_tick_84 : decode cX3_tick 84 = .ok (.istore_n 3, 1) := dk_62 (dk_at dksX3_tick_3 13 rfl rfl)
theorem dX3_tick_85 : decode cX3_tick 85 = .ok (.iload_n 3, 1) := dk_29 (dk_at dksX3_tick_3 14 rfl rfl)
theorem dX3_tick_86 : decode cX3_tick 86 = .ok (.ifCond .ge 8, 3) := dk_156 0 8 (dk_at dksX3_tick_3 15 rfl rfl)
theorem dX3_tick_89 : decode cX3_tick 89 = .ok (.ldc 77, 2) := dk_18 77 (dk_at dksX3_tick_3 18 rfl rfl)
theorem dX3_tick_91 : decode cX3_tick 91 = .ok (.goto 14, 3) := dk_167 0 14 (dk_at dksX3_tick_3 20 rfl rfl)
theorem dX3_tick_94 : decode cX3_tick 94 = .ok (.aload_n 0, 1) := dk_42 (dk_at dksX3_tick_3 23 rfl rfl)
theorem dX3_tick_95 : decode cX3_tick 95 = .ok (.getfield 103, 3) := dk_180 0 103 (dk_at dksX3_tick_4 0 rfl rfl)
theorem dX3_tick_98 : decode cX3_tick 98 = .ok (.iload_n 3, 1) := dk_29 (dk_at dksX3_tick_4 3 rfl rfl)
theorem dX3_tick_99 : decode cX3_tick 99 = .ok (.invokevirtual 158, 3) := dk_182 0 158 (dk_at dksX3_tick_4 4 rfl rfl)
theorem dX3_tick_102 : decode cX3_tick 102 = .ok (.checkcast 10, 3) := dk_192 0 10 (dk_at dksX3_tick_4 7 rfl rfl)
theorem dX3_tick_105 : decode cX3_tick 105 = .ok (.astore 4, 2) := dk_58 4 (dk_at dksX3_tick_4 10 rfl rfl)
theorem dX3_tick_107 : decode cX3_tick 107 = .ok (.iconst 0, 1) := dk_3 (dk_at dksX3_tick_4 12 rfl rfl)
theorem dX3_tick_108 : decode cX3_tick 108 = .ok (.istore 5, 2) := dk_54 5 (dk_at dksX3_tick_4 13 rfl rfl)
theorem dX3_tick_110 : decode cX3_tick 110 = .ok (.iload 5, 2) := dk_21 5 (dk_at dksX3_tick_4 15 rfl rfl)
theorem dX3_tick_112 : decode cX3_tick 112 = .ok (.aload 4, 2) := dk_25 4 (dk_at dksX3_tick_4 17 rfl rfl)
theorem dX3_tick_114 : decode cX3_tick 114 = .ok (.invokevirtual 18, 3) := dk_182 0 18 (dk_at dksX3_tick_4 19 rfl rfl)
theorem dX3_tick_117 : decode cX3_tick 117 = .ok (.if_icmp .ge 40, 3) := dk_162 0 40 (dk_at dksX3_tick_5 0 rfl rfl)
theorem dX3_tick_120 : decode cX3_tick 120 = .ok (.iload 5, 2) := dk_21 5 (dk_at dksX3_tick_5 3 rfl rfl)
theorem dX3_tick_122 : decode cX3_tick 122 = .ok (.aload_n 2, 1) := dk_44 (dk_at dksX3_tick_5 5 rfl rfl)
theorem dX3_tick_123 : decode cX3_tick 123 = .ok (.getfield 330, 3) := dk_180 1 74 (dk_at dksX3_tick_5 6 rfl rfl)
theorem dX3_tick_126 : decode cX3_tick 126 = .ok (.invokevirtual 18, 3) := dk_182 0 18 (dk_at dksX3_tick_5 9 rfl rfl)
theorem dX3_tick_129 : decode cX3_tick 129 = .ok (.if_icmp .ge 28, 3) := dk_162 0 28 (dk_at dksX3_tick_5 12 rfl rfl)
theorem dX3_tick_132 : decode cX3_tick 132 = .ok (.aload 4, 2) := dk_25 4 (dk_at dksX3_tick_5 15 rfl rfl)
theorem dX3_tick_134 : decode cX3_tick 134 = .ok (.iload 5, 2) := dk_21 5 (dk_at dksX3_tick_5 17 rfl rfl)
theorem dX3_tick_136 : decode cX3_tick 136 = .ok (.invokevirtual 42, 3) := dk_182 0 42 (dk_at dksX3_tick_5 19 rfl rfl)
theorem dX3_tick_139 : decode cX3_tick 139 = .ok (.aload_n 2, 1) := dk_44 (dk_at dksX3_tick_5 22 rfl rfl)
theorem dX3_tick_140 : decode cX3_tick 140 = .ok (.getfield 330, 3) := dk_180 1 74 (dk_at dksX3_tick_6 0 rfl rfl)
theorem dX3_tick_143 : decode cX3_tick 143 = .ok (.iload 5, 2) := dk_21 5 (dk_at dksX3_tick_6 3 rfl rfl)
theorem dX3_tick_145 : decode cX3_tick 145 = .ok (.invokevirtual 42, 3) := dk_182 0 42 (dk_at dksX3_tick_6 5 rfl rfl)
theorem dX3_tick_148 : decode cX3_tick 148 = .ok (.if_icmp .ne 9, 3) := dk_160 0 9 (dk_at dksX3_tick_6 8 rfl rfl)
theorem dX3_tick_151 : decode cX3_tick 151 = .ok (.iinc 5 1, 3) := dk_132 5 1 (dk_at dksX3_tick_6 11 rfl rfl)
theorem dX3_tick_154 : decode cX3_tick 154 = .ok (.goto (-44), 3) := dk_167 255 212 (dk_at dksX3_tick_6 14 rfl rfl)
theorem dX3_tick_157 : decode cX3_tick 157 = .ok (.aload_n 2, 1) := dk_44 (dk_at dksX3_tick_6 17 rfl rfl)
theorem dX3_tick_158 : decode cX3_tick 158 = .ok (.dup, 1) := dk_89 (dk_at dksX3_tick_6 18 rfl rfl)
theorem dX3_tick_159 : decode cX3_tick 159 = .ok (.getfield 333, 3) := dk_180 1 77 (dk_at dksX3_tick_6 19 rfl rfl)
theorem dX3_tick_162 : decode cX3_tick 162 = .ok (.aload_n 2, 1) := dk_44 (dk_at dksX3_tick_6 22 rfl rfl)
theorem dX3_tick_163 : decode cX3_tick 163 = .ok (.getfield 330, 3) := dk_180 1 74 (dk_at dksX3_tick_7 0 rfl rfl)
theorem dX3_tick_166 : decode cX3_tick 166 = .ok (.invokevirtual 18, 3) := dk_182 0 18 (dk_at dksX3_tick_7 3 rfl rfl)
theorem dX3_tick_169 : decode cX3_tick 169 = .ok (.iload 5, 2) := dk_21 5 (dk_at dksX3_tick_7 6 rfl rfl)
theorem dX3_tick_171 : decode cX3_tick 171 = .ok (.isub, 1) := dk_100 (dk_at dksX3_tick_7 8 rfl rfl)
theorem dX3_tick_172 : decode cX3_tick 172 = .ok (.iadd, 1) := dk_96 (dk_at dksX3_tick_7 9 rfl rfl)
theorem dX3_tick_173 : decode cX3_tick 173 = .ok (.putfield 333, 3) := dk_181 1 77 (dk_at dksX3_tick_7 10 rfl rfl)
theorem dX3_tick_176 : decode cX3_tick 176 = .ok (.aload_n 2, 1) := dk_44 (dk_at dksX3_tick_7 13 rfl rfl)
theorem dX3_tick_177 : decode cX3_tick 177 = .ok (.aload 4, 2) := dk_25 4 (dk_at dksX3_tick_7 14 rfl rfl)
theorem dX3_tick_179 : decode cX3_tick 179 = .ok (.putfield 330, 3) := dk_181 1 74 (dk_at dksX3_tick_7 16 rfl rfl)
theorem dX3_tick_182 : decode cX3_tick 182 = .ok (.goto (-131), 3) := dk_167 255 125 (dk_at dksX3_tick_7 19 rfl rfl)
theorem dX3_tick_185 : decode cX3_tick 185 = .ok (.aload_n 0, 1) := dk_42 (dk_at dksX3_tick_7 22 rfl rfl)
theorem dX3_tick_186 : decode cX3_tick 186 = .ok (.getfield 103, 3) := dk_180 0 103 (dk_at dksX3_tick_8 0 rfl rfl)
theorem dX3_tick_189 : decode cX3_tick 189 = .ok (.invokevirtual 163, 3) := dk_182 0 163 (dk_at dksX3_tick_8 3 rfl rfl)
theorem dX3_tick_192 : decode cX3_tick 192 = .ok (.ireturn, 1) := dk_172 (dk_at dksX3_tick_8 6 rfl rfl)
abbrev cX3_now : ByteArray := prog_16_method_51_code
def yX3_now : MethodName := ⟨RX3, "now", "()I"⟩
def dkwX3_now_0 : List UInt8 := [42, 3, 181, 0, 123, 42, 180, 0, 103, 182, 0, 163, 172]
abbrev dktX3_now_0 : List UInt8 := dkwX3_now_0 ++ []
theorem dksX3_now_0 : cX3_now.data.toList.drop 0 = dktX3_now_0 := by decide +kernel
theorem dX3_now_0 : decode cX3_now 0 = .ok (.aload_n 0, 1) := dk_42 (dk_at dksX3_now_0 0 rfl rfl)
theorem dX3_now_1 : decode cX3_now 1 = .ok (.iconst 0, 1) := dk_3 (dk_at dksX3_now_0 1 rfl rfl)
theorem dX3_now_2 : decode cX3_now 2 = .ok (.putfield 123, 3) := dk_181 0 123 (dk_at dksX3_now_0 2 rfl rfl)
theorem dX3_now_5 : decode cX3_now 5 = .ok (.aload_n 0, 1) := dk_42 (dk_at dksX3_now_0 5 rfl rfl)
theorem dX3_now_6 : decode cX3_now 6 = .ok (.getfield 103, 3) := dk_180 0 103 (dk_at dksX3_now_0 6 rfl rfl)
theorem dX3_now_9 : decode cX3_now 9 = .ok (.invokevirtual 163, 3) := dk_182 0 163 (dk_at dksX3_now_0 9 rfl rfl)
theorem dX3_now_12 : decode cX3_now 12 = .ok (.ireturn, 1) := dk_172 (dk_at dksX3_now_0 12 rfl rfl)
abbrev cX3_sink : ByteArray := prog_16_method_52_code
def yX3_sink : MethodName := ⟨RX3, "sink", "(I)I"⟩
def dkwX3_sink_2 : List UInt8 := [187, 1, 69, 89, 27, 183, 1, 80, 182, 0, 202, 87, 42, 180, 0, 106, 182, 0, 163, 4, 100, 172]
abbrev dktX3_sink_2 : List UInt8 := dkwX3_sink_2 ++ []
def dkwX3_sink_1 : List UInt8 := [160, 0, 7, 5, 167, 0, 4, 3, 181, 0, 123, 42, 180, 0, 123, 158, 0, 5, 3, 172, 42, 180, 0, 106]
abbrev dktX3_sink_1 : List UInt8 := dkwX3_sink_1 ++ dktX3_sink_2
def dkwX3_sink_0 : List UInt8 := [42, 27, 3, 16, 9, 184, 0, 220, 154, 0, 7, 4, 167, 0, 19, 42, 180, 0, 106, 182, 0, 163, 7]
abbrev dktX3_sink_0 : List UInt8 := dkwX3_sink_0 ++ dktX3_sink_1
theorem dksX3_sink_0 : cX3_sink.data.toList.drop 0 = dktX3_sink_0 := by decide +kernel
theorem dksX3_sink_1 : cX3_sink.data.toList.drop 23 = dktX3_sink_1 := dk_seg dksX3_sink_0 23 rfl rfl
theorem dksX3_sink_2 : cX3_sink.data.toList.drop 47 = dktX3_sink_2 := dk_seg dksX3_sink_1 24 rfl rfl
theorem dX3_sink_0 : decode cX3_sink 0 = .ok (.aload_n 0, 1) := dk_42 (dk_at dksX3_sink_0 0 rfl rfl)
theorem dX3_sink_1 : decode cX3_sink 1 = .ok (.iload_n 1, 1) := dk_27 (dk_at dksX3_sink_0 1 rfl rfl)
theorem dX3_sink_2 : decode cX3_sink 2 = .ok (.iconst 0, 1) := dk_3 (dk_at dksX3_sink_0 2 rfl rfl)
theorem dX3_sink_3 : decode cX3_sink 3 = .ok (.bipush 9, 2) := dk_16 9 (dk_at dksX3_sink_0 3 rfl rfl)
theorem dX3_sink_5 : decode cX3_sink 5 = .ok (.invokestatic 220, 3) := dk_184 0 220 (dk_at dksX3_sink_0 5 rfl rfl)
theorem dX3_sink_8 : decode cX3_sink 8 = .ok (.ifCond .ne 7, 3) := dk_154 0 7 (dk_at dksX3_sink_0 8 rfl rfl)
theorem dX3_sink_11 : decode cX3_sink 11 = .ok (.iconst 1, 1) := dk_4 (dk_at dksX3_sink_0 11 rfl rfl)
theorem dX3_sink_12 : decode cX3_sink 12 = .ok (.goto 19, 3) := dk_167 0 19 (dk_at dksX3_sink_0 12 rfl rfl)
theorem dX3_sink_15 : decode cX3_sink 15 = .ok (.aload_n 0, 1) := dk_42 (dk_at dksX3_sink_0 15 rfl rfl)
theorem dX3_sink_16 : decode cX3_sink 16 = .ok (.getfield 106, 3) := dk_180 0 106 (dk_at dksX3_sink_0 16 rfl rfl)
theorem dX3_sink_19 : decode cX3_sink 19 = .ok (.invokevirtual 163, 3) := dk_182 0 163 (dk_at dksX3_sink_0 19 rfl rfl)
theorem dX3_sink_22 : decode cX3_sink 22 = .ok (.iconst 4, 1) := dk_7 (dk_at dksX3_sink_0 22 rfl rfl)
theorem dX3_sink_23 : decode cX3_sink 23 = .ok (.if_icmp .ne 7, 3) := dk_160 0 7 (dk_at dksX3_sink_1 0 rfl rfl)
theorem dX3_sink_26 : decode cX3_sink 26 = .ok (.iconst 2, 1) := dk_5 (dk_at dksX3_sink_1 3 rfl rfl)
theorem dX3_sink_27 : decode cX3_sink 27 = .ok (.goto 4, 3) := dk_167 0 4 (dk_at dksX3_sink_1 4 rfl rfl)
theorem dX3_sink_30 : decode cX3_sink 30 = .ok (.iconst 0, 1) := dk_3 (dk_at dksX3_sink_1 7 rfl rfl)
theorem dX3_sink_31 : decode cX3_sink 31 = .ok (.putfield 123, 3) := dk_181 0 123 (dk_at dksX3_sink_1 8 rfl rfl)
theorem dX3_sink_34 : decode cX3_sink 34 = .ok (.aload_n 0, 1) := dk_42 (dk_at dksX3_sink_1 11 rfl rfl)
theorem dX3_sink_35 : decode cX3_sink 35 = .ok (.getfield 123, 3) := dk_180 0 123 (dk_at dksX3_sink_1 12 rfl rfl)
theorem dX3_sink_38 : decode cX3_sink 38 = .ok (.ifCond .le 5, 3) := dk_158 0 5 (dk_at dksX3_sink_1 15 rfl rfl)
theorem dX3_sink_41 : decode cX3_sink 41 = .ok (.iconst 0, 1) := dk_3 (dk_at dksX3_sink_1 18 rfl rfl)
theorem dX3_sink_42 : decode cX3_sink 42 = .ok (.ireturn, 1) := dk_172 (dk_at dksX3_sink_1 19 rfl rfl)
theorem dX3_sink_43 : decode cX3_sink 43 = .ok (.aload_n 0, 1) := dk_42 (dk_at dksX3_sink_1 20 rfl rfl)
theorem dX3_sink_44 : decode cX3_sink 44 = .ok (.getfield 106, 3) := dk_180 0 106 (dk_at dksX3_sink_1 21 rfl rfl)
theorem dX3_sink_47 : decode cX3_sink 47 = .ok (.new 325, 3) := dk_187 1 69 (dk_at dksX3_sink_2 0 rfl rfl)
theorem dX3_sink_50 : decode cX3_sink 50 = .ok (.dup, 1) := dk_89 (dk_at dksX3_sink_2 3 rfl rfl)
theorem dX3_sink_51 : decode cX3_sink 51 = .ok (.iload_n 1, 1) := dk_27 (dk_at dksX3_sink_2 4 rfl rfl)
theorem dX3_sink_52 : decode cX3_sink 52 = .ok (.invokespecial 336, 3) := dk_183 1 80 (dk_at dksX3_sink_2 5 rfl rfl)
theorem dX3_sink_55 : decode cX3_sink 55 = .ok (.invokevirtual 202, 3) := dk_182 0 202 (dk_at dksX3_sink_2 8 rfl rfl)
theorem dX3_sink_58 : decode cX3_sink 58 = .ok (.pop, 1) := dk_87 (dk_at dksX3_sink_2 11 rfl rfl)
theorem dX3_sink_59 : decode cX3_sink 59 = .ok (.aload_n 0, 1) := dk_42 (dk_at dksX3_sink_2 12 rfl rfl)
theorem dX3_sink_60 : decode cX3_sink 60 = .ok (.getfield 106, 3) := dk_180 0 106 (dk_at dksX3_sink_2 13 rfl rfl)
theorem dX3_sink_63 : decode cX3_sink 63 = .ok (.invokevirtual 163, 3) := dk_182 0 163 (dk_at dksX3_sink_2 16 rfl rfl)
theorem dX3_sink_66 : decode cX3_sink 66 = .ok (.iconst 1, 1) := dk_4 (dk_at dksX3_sink_2 19 rfl rfl)
theorem dX3_sink_67 : decode cX3_sink 67 = .ok (.isub, 1) := dk_100 (dk_at dksX3_sink_2 20 rfl rfl)
theorem dX3_sink_68 : decode cX3_sink 68 = .ok (.ireturn, 1) := dk_172 (dk_at dksX3_sink_2 21 rfl rfl)
abbrev cX3_shown : ByteArray := prog_16_method_54_code
def yX3_shown : MethodName := ⟨RX3, "shown", "(I)I"⟩
def dkwX3_shown_1 : List UInt8 := [180, 1, 74, 182, 0, 18, 172]
abbrev dktX3_shown_1 : List UInt8 := dkwX3_shown_1 ++ []
def dkwX3_shown_0 : List UInt8 := [42, 27, 182, 1, 82, 153, 0, 7, 3, 167, 0, 20, 42, 180, 0, 106, 27, 182, 0, 158, 192, 1, 69]
abbrev dktX3_shown_0 : List UInt8 := dkwX3_shown_0 ++ dktX3_shown_1
theorem dksX3_shown_0 : cX3_shown.data.toList.drop 0 = dktX3_shown_0 := by decide +kernel
theorem dksX3_shown_1 : cX3_shown.data.toList.drop 23 = dktX3_shown_1 := dk_seg dksX3_shown_0 23 rfl rfl
theorem dX3_shown_0 : decode cX3_shown 0 = .ok (.aload_n 0, 1) := dk_42 (dk_at dksX3_shown_0 0 rfl rfl)
theorem dX3_shown_1 : decode cX3_shown 1 = .ok (.iload_n 1, 1) := dk_27 (dk_at dksX3_shown_0 1 rfl rfl)
theorem dX3_shown_2 : decode cX3_shown 2 = .ok (.invokevirtual 338, 3) := dk_182 1 82 (dk_at dksX3_shown_0 2 rfl rfl)
theorem dX3_shown_5 : decode cX3_shown 5 = .ok (.ifCond .eq 7, 3) := dk_153 0 7 (dk_at dksX3_shown_0 5 rfl rfl)
theorem dX3_shown_8 : decode cX3_shown 8 = .ok (.iconst 0, 1) := dk_3 (dk_at dksX3_shown_0 8 rfl rfl)
theorem dX3_shown_9 : decode cX3_shown 9 = .ok (.goto 20, 3) := dk_167 0 20 (dk_at dksX3_shown_0 9 rfl rfl)
theorem dX3_shown_12 : decode cX3_shown 12 = .ok (.aload_n 0, 1) := dk_42 (dk_at dksX3_shown_0 12 rfl rfl)
theorem dX3_shown_13 : decode cX3_shown 13 = .ok (.getfield 106, 3) := dk_180 0 106 (dk_at dksX3_shown_0 13 rfl rfl)
theorem dX3_shown_16 : decode cX3_shown 16 = .ok (.iload_n 1, 1) := dk_27 (dk_at dksX3_shown_0 16 rfl rfl)
theorem dX3_shown_17 : decode cX3_shown 17 = .ok (.invokevirtual 158, 3) := dk_182 0 158 (dk_at dksX3_shown_0 17 rfl rfl)
theorem dX3_shown_20 : decode cX3_shown 20 = .ok (.checkcast 325, 3) := dk_192 1 69 (dk_at dksX3_shown_0 20 rfl rfl)
theorem dX3_shown_23 : decode cX3_shown 23 = .ok (.getfield 330, 3) := dk_180 1 74 (dk_at dksX3_shown_1 0 rfl rfl)
theorem dX3_shown_26 : decode cX3_shown 26 = .ok (.invokevirtual 18, 3) := dk_182 0 18 (dk_at dksX3_shown_1 3 rfl rfl)
theorem dX3_shown_29 : decode cX3_shown 29 = .ok (.ireturn, 1) := dk_172 (dk_at dksX3_shown_1 6 rfl rfl)
abbrev cX3_noSink : ByteArray := prog_16_method_53_code
def yX3_noSink : MethodName := ⟨RX3, "noSink", "(I)Z"⟩
def dkwX3_noSink_1 : List UInt8 := [181, 0, 123, 42, 180, 0, 123, 158, 0, 7, 4, 167, 0, 4, 3, 172]
abbrev dktX3_noSink_1 : List UInt8 := dkwX3_noSink_1 ++ []
def dkwX3_noSink_0 : List UInt8 := [42, 27, 3, 42, 180, 0, 106, 182, 0, 163, 4, 100, 184, 0, 220, 153, 0, 7, 3, 167, 0, 4, 4]
abbrev dktX3_noSink_0 : List UInt8 := dkwX3_noSink_0 ++ dktX3_noSink_1
theorem dksX3_noSink_0 : cX3_noSink.data.toList.drop 0 = dktX3_noSink_0 := by decide +kernel
theorem dksX3_noSink_1 : cX3_noSink.data.toList.drop 23 = dktX3_noSink_1 := dk_seg dksX3_noSink_0 23 rfl rfl
theorem dX3_noSink_0 : decode cX3_noSink 0 = .ok (.aload_n 0, 1) := dk_42 (dk_at dksX3_noSink_0 0 rfl rfl)
theorem dX3_noSink_1 : decode cX3_noSink 1 = .ok (.iload_n 1, 1) := dk_27 (dk_at dksX3_noSink_0 1 rfl rfl)
theorem dX3_noSink_2 : decode cX3_noSink 2 = .ok (.iconst 0, 1) := dk_3 (dk_at dksX3_noSink_0 2 rfl rfl)
theorem dX3_noSink_3 : decode cX3_noSink 3 = .ok (.aload_n 0, 1) := dk_42 (dk_at dksX3_noSink_0 3 rfl rfl)
theorem dX3_noSink_4 : decode cX3_noSink 4 = .ok (.getfield 106, 3) := dk_180 0 106 (dk_at dksX3_noSink_0 4 rfl rfl)
theorem dX3_noSink_7 : decode cX3_noSink 7 = .ok (.invokevirtual 163, 3) := dk_182 0 163 (dk_at dksX3_noSink_0 7 rfl rfl)
theorem dX3_noSink_10 : decode cX3_noSink 10 = .ok (.iconst 1, 1) := dk_4 (dk_at dksX3_noSink_0 10 rfl rfl)
theorem dX3_noSink_11 : decode cX3_noSink 11 = .ok (.isub, 1) := dk_100 (dk_at dksX3_noSink_0 11 rfl rfl)
theorem dX3_noSink_12 : decode cX3_noSink 12 = .ok (.invokestatic 220, 3) := dk_184 0 220 (dk_at dksX3_noSink_0 12 rfl rfl)
theorem dX3_noSink_15 : decode cX3_noSink 15 = .ok (.ifCond .eq 7, 3) := dk_153 0 7 (dk_at dksX3_noSink_0 15 rfl rfl)
theorem dX3_noSink_18 : decode cX3_noSink 18 = .ok (.iconst 0, 1) := dk_3 (dk_at dksX3_noSink_0 18 rfl rfl)
theorem dX3_noSink_19 : decode cX3_noSink 19 = .ok (.goto 4, 3) := dk_167 0 4 (dk_at dksX3_noSink_0 19 rfl rfl)
theorem dX3_noSink_22 : decode cX3_noSink 22 = .ok (.iconst 1, 1) := dk_4 (dk_at dksX3_noSink_0 22 rfl rfl)
theorem dX3_noSink_23 : decode cX3_noSink 23 = .ok (.putfield 123, 3) := dk_181 0 123 (dk_at dksX3_noSink_1 0 rfl rfl)
theorem dX3_noSink_26 : decode cX3_noSink 26 = .ok (.aload_n 0, 1) := dk_42 (dk_at dksX3_noSink_1 3 rfl rfl)
theorem dX3_noSink_27 : decode cX3_noSink 27 = .ok (.getfield 123, 3) := dk_180 0 123 (dk_at dksX3_noSink_1 4 rfl rfl)
theorem dX3_noSink_30 : decode cX3_noSink 30 = .ok (.ifCond .le 7, 3) := dk_158 0 7 (dk_at dksX3_noSink_1 7 rfl rfl)
theorem dX3_noSink_33 : decode cX3_noSink 33 = .ok (.iconst 1, 1) := dk_4 (dk_at dksX3_noSink_1 10 rfl rfl)
theorem dX3_noSink_34 : decode cX3_noSink 34 = .ok (.goto 4, 3) := dk_167 0 4 (dk_at dksX3_noSink_1 11 rfl rfl)
theorem dX3_noSink_37 : decode cX3_noSink 37 = .ok (.iconst 0, 1) := dk_3 (dk_at dksX3_noSink_1 14 rfl rfl)
theorem dX3_noSink_38 : decode cX3_noSink 38 = .ok (.ireturn, 1) := dk_172 (dk_at dksX3_noSink_1 15 rfl rfl)
abbrev cX3_shownAt : ByteArray := prog_16_method_55_code
def yX3_shownAt : MethodName := ⟨RX3, "shownAt", "(II)C"⟩
def dkwX3_shownAt_2 : List UInt8 := [181, 0, 123, 42, 180, 0, 123, 158, 0, 8, 16, 32, 167, 0, 8, 45, 28, 182, 0, 42, 172]
abbrev dktX3_shownAt_2 : List UInt8 := dkwX3_shownAt_2 ++ []
def dkwX3_shownAt_1 : List UInt8 := [180, 1, 74, 78, 42, 28, 3, 45, 182, 0, 18, 4, 100, 184, 0, 220, 153, 0, 7, 3, 167, 0, 4, 5]
abbrev dktX3_shownAt_1 : List UInt8 := dkwX3_shownAt_1 ++ dktX3_shownAt_2
def dkwX3_shownAt_0 : List UInt8 := [42, 27, 182, 1, 82, 153, 0, 6, 16, 32, 172, 42, 180, 0, 106, 27, 182, 0, 158, 192, 1, 69]
abbrev dktX3_shownAt_0 : List UInt8 := dkwX3_shownAt_0 ++ dktX3_shownAt_1
theorem dksX3_shownAt_0 : cX3_shownAt.data.toList.drop 0 = dktX3_shownAt_0 := by decide +kernel
theorem dksX3_shownAt_1 : cX3_shownAt.data.toList.drop 22 = dktX3_shownAt_1 := dk_seg dksX3_shownAt_0 22 rfl rfl
theorem dksX3_shownAt_2 : cX3_shownAt.data.toList.drop 46 = dktX3_shownAt_2 := dk_seg dksX3_shownAt_1 24 rfl rfl
theorem dX3_shownAt_0 : decode cX3_shownAt 0 = .ok (.aload_n 0, 1) := dk_42 (dk_at dksX3_shownAt_0 0 rfl rfl)
theorem dX3_shownAt_1 : decode cX3_shownAt 1 = .ok (.iload_n 1, 1) := dk_27 (dk_at dksX3_shownAt_0 1 rfl rfl)
theorem dX3_shownAt_2 : decode cX3_shownAt 2 = .ok (.invokevirtual 338, 3) := dk_182 1 82 (dk_at dksX3_shownAt_0 2 rfl rfl)
theorem dX3_shownAt_5 : decode cX3_shownAt 5 = .ok (.ifCond .eq 6, 3) := dk_153 0 6 (dk_at dksX3_shownAt_0 5 rfl rfl)
theorem dX3_shownAt_8 : decode cX3_shownAt 8 = .ok (.bipush 32, 2) := dk_16 32 (dk_at dksX3_shownAt_0 8 rfl rfl)
theorem dX3_shownAt_10 : decode cX3_shownAt 10 = .ok (.ireturn, 1) := dk_172 (dk_at dksX3_shownAt_0 10 rfl rfl)
theorem dX3_shownAt_11 : decode cX3_shownAt 11 = .ok (.aload_n 0, 1) := dk_42 (dk_at dksX3_shownAt_0 11 rfl rfl)
theorem dX3_shownAt_12 : decode cX3_shownAt 12 = .ok (.getfield 106, 3) := dk_180 0 106 (dk_at dksX3_shownAt_0 12 rfl rfl)
theorem dX3_shownAt_15 : decode cX3_shownAt 15 = .ok (.iload_n 1, 1) := dk_27 (dk_at dksX3_shownAt_0 15 rfl rfl)
theorem dX3_shownAt_16 : decode cX3_shownAt 16 = .ok (.invokevirtual 158, 3) := dk_182 0 158 (dk_at dksX3_shownAt_0 16 rfl rfl)
theorem dX3_shownAt_19 : decode cX3_shownAt 19 = .ok (.checkcast 325, 3) := dk_192 1 69 (dk_at dksX3_shownAt_0 19 rfl rfl)
theorem dX3_shownAt_22 : decode cX3_shownAt 22 = .ok (.getfield 330, 3) := dk_180 1 74 (dk_at dksX3_shownAt_1 0 rfl rfl)
theorem dX3_shownAt_25 : decode cX3_shownAt 25 = .ok (.astore_n 3, 1) := dk_78 (dk_at dksX3_shownAt_1 3 rfl rfl)
theorem dX3_shownAt_26 : decode cX3_shownAt 26 = .ok (.aload_n 0, 1) := dk_42 (dk_at dksX3_shownAt_1 4 rfl rfl)
theorem dX3_shownAt_27 : decode cX3_shownAt 27 = .ok (.iload_n 2, 1) := dk_28 (dk_at dksX3_shownAt_1 5 rfl rfl)
theorem dX3_shownAt_28 : decode cX3_shownAt 28 = .ok (.iconst 0, 1) := dk_3 (dk_at dksX3_shownAt_1 6 rfl rfl)
theorem dX3_shownAt_29 : decode cX3_shownAt 29 = .ok (.aload_n 3, 1) := dk_45 (dk_at dksX3_shownAt_1 7 rfl rfl)
theorem dX3_shownAt_30 : decode cX3_shownAt 30 = .ok (.invokevirtual 18, 3) := dk_182 0 18 (dk_at dksX3_shownAt_1 8 rfl rfl)
theorem dX3_shownAt_33 : decode cX3_shownAt 33 = .ok (.iconst 1, 1) := dk_4 (dk_at dksX3_shownAt_1 11 rfl rfl)
theorem dX3_shownAt_34 : decode cX3_shownAt 34 = .ok (.isub, 1) := dk_100 (dk_at dksX3_shownAt_1 12 rfl rfl)
theorem dX3_shownAt_35 : decode cX3_shownAt 35 = .ok (.invokestatic 220, 3) := dk_184 0 220 (dk_at dksX3_shownAt_1 13 rfl rfl)
theorem dX3_shownAt_38 : decode cX3_shownAt 38 = .ok (.ifCond .eq 7, 3) := dk_153 0 7 (dk_at dksX3_shownAt_1 16 rfl rfl)
theorem dX3_shownAt_41 : decode cX3_shownAt 41 = .ok (.iconst 0, 1) := dk_3 (dk_at dksX3_shownAt_1 19 rfl rfl)
theorem dX3_shownAt_42 : decode cX3_shownAt 42 = .ok (.goto 4, 3) := dk_167 0 4 (dk_at dksX3_shownAt_1 20 rfl rfl)
theorem dX3_shownAt_45 : decode cX3_shownAt 45 = .ok (.iconst 2, 1) := dk_5 (dk_at dksX3_shownAt_1 23 rfl rfl)
theorem dX3_shownAt_46 : decode cX3_shownAt 46 = .ok (.putfield 123, 3) := dk_181 0 123 (dk_at dksX3_shownAt_2 0 rfl rfl)
theorem dX3_shownAt_49 : decode cX3_shownAt 49 = .ok (.aload_n 0, 1) := dk_42 (dk_at dksX3_shownAt_2 3 rfl rfl)
theorem dX3_shownAt_50 : decode cX3_shownAt 50 = .ok (.getfield 123, 3) := dk_180 0 123 (dk_at dksX3_shownAt_2 4 rfl rfl)
theorem dX3_shownAt_53 : decode cX3_shownAt 53 = .ok (.ifCond .le 8, 3) := dk_158 0 8 (dk_at dksX3_shownAt_2 7 rfl rfl)
theorem dX3_shownAt_56 : decode cX3_shownAt 56 = .ok (.bipush 32, 2) := dk_16 32 (dk_at dksX3_shownAt_2 10 rfl rfl)
theorem dX3_shownAt_58 : decode cX3_shownAt 58 = .ok (.goto 8, 3) := dk_167 0 8 (dk_at dksX3_shownAt_2 12 rfl rfl)
theorem dX3_shownAt_61 : decode cX3_shownAt 61 = .ok (.aload_n 3, 1) := dk_45 (dk_at dksX3_shownAt_2 15 rfl rfl)
theorem dX3_shownAt_62 : decode cX3_shownAt 62 = .ok (.iload_n 2, 1) := dk_28 (dk_at dksX3_shownAt_2 16 rfl rfl)
theorem dX3_shownAt_63 : decode cX3_shownAt 63 = .ok (.invokevirtual 42, 3) := dk_182 0 42 (dk_at dksX3_shownAt_2 17 rfl rfl)
theorem dX3_shownAt_66 : decode cX3_shownAt 66 = .ok (.ireturn, 1) := dk_172 (dk_at dksX3_shownAt_2 20 rfl rfl)
abbrev cX3_takenBack : ByteArray := prog_16_method_56_code
def yX3_takenBack : MethodName := ⟨RX3, "takenBack", "(I)I"⟩
def dkwX3_takenBack_1 : List UInt8 := [180, 1, 77, 172]
abbrev dktX3_takenBack_1 : List UInt8 := dkwX3_takenBack_1 ++ []
def dkwX3_takenBack_0 : List UInt8 := [42, 27, 182, 1, 82, 153, 0, 7, 3, 167, 0, 17, 42, 180, 0, 106, 27, 182, 0, 158, 192, 1, 69]
abbrev dktX3_takenBack_0 : List UInt8 := dkwX3_takenBack_0 ++ dktX3_takenBack_1
theorem dksX3_takenBack_0 : cX3_takenBack.data.toList.drop 0 = dktX3_takenBack_0 := by decide +kernel
theorem dksX3_takenBack_1 : cX3_takenBack.data.toList.drop 23 = dktX3_takenBack_1 := dk_seg dksX3_takenBack_0 23 rfl rfl
theorem dX3_takenBack_0 : decode cX3_takenBack 0 = .ok (.aload_n 0, 1) := dk_42 (dk_at dksX3_takenBack_0 0 rfl rfl)
theorem dX3_takenBack_1 : decode cX3_takenBack 1 = .ok (.iload_n 1, 1) := dk_27 (dk_at dksX3_takenBack_0 1 rfl rfl)
theorem dX3_takenBack_2 : decode cX3_takenBack 2 = .ok (.invokevirtual 338, 3) := dk_182 1 82 (dk_at dksX3_takenBack_0 2 rfl rfl)
theorem dX3_takenBack_5 : decode cX3_takenBack 5 = .ok (.ifCond .eq 7, 3) := dk_153 0 7 (dk_at dksX3_takenBack_0 5 rfl rfl)
theorem dX3_takenBack_8 : decode cX3_takenBack 8 = .ok (.iconst 0, 1) := dk_3 (dk_at dksX3_takenBack_0 8 rfl rfl)
theorem dX3_takenBack_9 : decode cX3_takenBack 9 = .ok (.goto 17, 3) := dk_167 0 17 (dk_at dksX3_takenBack_0 9 rfl rfl)
theorem dX3_takenBack_12 : decode cX3_takenBack 12 = .ok (.aload_n 0, 1) := dk_42 (dk_at dksX3_takenBack_0 12 rfl rfl)
theorem dX3_takenBack_13 : decode cX3_takenBack 13 = .ok (.getfield 106, 3) := dk_180 0 106 (dk_at dksX3_takenBack_0 13 rfl rfl)
theorem dX3_takenBack_16 : decode cX3_takenBack 16 = .ok (.iload_n 1, 1) := dk_27 (dk_at dksX3_takenBack_0 16 rfl rfl)
theorem dX3_takenBack_17 : decode cX3_takenBack 17 = .ok (.invokevirtual 158, 3) := dk_182 0 158 (dk_at dksX3_takenBack_0 17 rfl rfl)
theorem dX3_takenBack_20 : decode cX3_takenBack 20 = .ok (.checkcast 325, 3) := dk_192 1 69 (dk_at dksX3_takenBack_0 20 rfl rfl)
theorem dX3_takenBack_23 : decode cX3_takenBack 23 = .ok (.getfield 333, 3) := dk_180 1 77 (dk_at dksX3_takenBack_1 0 rfl rfl)
theorem dX3_takenBack_26 : decode cX3_takenBack 26 = .ok (.ireturn, 1) := dk_172 (dk_at dksX3_takenBack_1 3 rfl rfl)
abbrev cX3_paper : ByteArray := prog_16_method_57_code
def yX3_paper : MethodName := ⟨RX3, "paper", "(II)I"⟩
def dkwX3_paper_2 : List UInt8 := [180, 0, 113, 96, 62, 42, 27, 181, 0, 109, 42, 28, 181, 0, 113, 29, 172]
abbrev dktX3_paper_2 : List UInt8 := dkwX3_paper_2 ++ []
def dkwX3_paper_1 : List UInt8 := [167, 0, 4, 4, 181, 0, 123, 42, 180, 0, 123, 158, 0, 5, 3, 172, 16, 100, 42, 180, 0, 109, 104, 42]
abbrev dktX3_paper_1 : List UInt8 := dkwX3_paper_1 ++ dktX3_paper_2
def dkwX3_paper_0 : List UInt8 := [42, 27, 16, 10, 16, 80, 184, 0, 220, 153, 0, 17, 28, 5, 16, 30, 184, 0, 220, 153, 0, 7, 3]
abbrev dktX3_paper_0 : List UInt8 := dkwX3_paper_0 ++ dktX3_paper_1
theorem dksX3_paper_0 : cX3_paper.data.toList.drop 0 = dktX3_paper_0 := by decide +kernel
theorem dksX3_paper_1 : cX3_paper.data.toList.drop 23 = dktX3_paper_1 := dk_seg dksX3_paper_0 23 rfl rfl
theorem dksX3_paper_2 : cX3_paper.data.toList.drop 47 = dktX3_paper_2 := dk_seg dksX3_paper_1 24 rfl rfl
theorem dX3_paper_0 : decode cX3_paper 0 = .ok (.aload_n 0, 1) := dk_42 (dk_at dksX3_paper_0 0 rfl rfl)
theorem dX3_paper_1 : decode cX3_paper 1 = .ok (.iload_n 1, 1) := dk_27 (dk_at dksX3_paper_0 1 rfl rfl)
theorem dX3_paper_2 : decode cX3_paper 2 = .ok (.bipush 10, 2) := dk_16 10 (dk_at dksX3_paper_0 2 rfl rfl)
theorem dX3_paper_4 : decode cX3_paper 4 = .ok (.bipush 80, 2) := dk_16 80 (dk_at dksX3_paper_0 4 rfl rfl)
theorem dX3_paper_6 : decode cX3_paper 6 = .ok (.invokestatic 220, 3) := dk_184 0 220 (dk_at dksX3_paper_0 6 rfl rfl)
theorem dX3_paper_9 : decode cX3_paper 9 = .ok (.ifCond .eq 17, 3) := dk_153 0 17 (dk_at dksX3_paper_0 9 rfl rfl)
theorem dX3_paper_12 : decode cX3_paper 12 = .ok (.iload_n 2, 1) := dk_28 (dk_at dksX3_paper_0 12 rfl rfl)
theorem dX3_paper_13 : decode cX3_paper 13 = .ok (.iconst 2, 1) := dk_5 (dk_at dksX3_paper_0 13 rfl rfl)
theorem dX3_paper_14 : decode cX3_paper 14 = .ok (.bipush 30, 2) := dk_16 30 (dk_at dksX3_paper_0 14 rfl rfl)
theorem dX3_paper_16 : decode cX3_paper 16 = .ok (.invokestatic 220, 3) := dk_184 0 220 (dk_at dksX3_paper_0 16 rfl rfl)
theorem dX3_paper_19 : decode cX3_paper 19 = .ok (.ifCond .eq 7, 3) := dk_153 0 7 (dk_at dksX3_paper_0 19 rfl rfl)
theorem dX3_paper_22 : decode cX3_paper 22 = .ok (.iconst 0, 1) := dk_3 (dk_at dksX3_paper_0 22 rfl rfl)
theorem dX3_paper_23 : decode cX3_paper 23 = .ok (.goto 4, 3) := dk_167 0 4 (dk_at dksX3_paper_1 0 rfl rfl)
theorem dX3_paper_26 : decode cX3_paper 26 = .ok (.iconst 1, 1) := dk_4 (dk_at dksX3_paper_1 3 rfl rfl)
theorem dX3_paper_27 : decode cX3_paper 27 = .ok (.putfield 123, 3) := dk_181 0 123 (dk_at dksX3_paper_1 4 rfl rfl)
theorem dX3_paper_30 : decode cX3_paper 30 = .ok (.aload_n 0, 1) := dk_42 (dk_at dksX3_paper_1 7 rfl rfl)
theorem dX3_paper_31 : decode cX3_paper 31 = .ok (.getfield 123, 3) := dk_180 0 123 (dk_at dksX3_paper_1 8 rfl rfl)
theorem dX3_paper_34 : decode cX3_paper 34 = .ok (.ifCond .le 5, 3) := dk_158 0 5 (dk_at dksX3_paper_1 11 rfl rfl)
theorem dX3_paper_37 : decode cX3_paper 37 = .ok (.iconst 0, 1) := dk_3 (dk_at dksX3_paper_1 14 rfl rfl)
theorem dX3_paper_38 : decode cX3_paper 38 = .ok (.ireturn, 1) := dk_172 (dk_at dksX3_paper_1 15 rfl rfl)
theorem dX3_paper_39 : decode cX3_paper 39 = .ok (.bipush 100, 2) := dk_16 100 (dk_at dksX3_paper_1 16 rfl rfl)
theorem dX3_paper_41 : decode cX3_paper 41 = .ok (.aload_n 0, 1) := dk_42 (dk_at dksX3_paper_1 18 rfl rfl)
theorem dX3_paper_42 : decode cX3_paper 42 = .ok (.getfield 109, 3) := dk_180 0 109 (dk_at dksX3_paper_1 19 rfl rfl)
theorem dX3_paper_45 : decode cX3_paper 45 = .ok (.imul, 1) := dk_104 (dk_at dksX3_paper_1 22 rfl rfl)
theorem dX3_paper_46 : decode cX3_paper 46 = .ok (.aload_n 0, 1) := dk_42 (dk_at dksX3_paper_1 23 rfl rfl)
theorem dX3_paper_47 : decode cX3_paper 47 = .ok (.getfield 113, 3) := dk_180 0 113 (dk_at dksX3_paper_2 0 rfl rfl)
theorem dX3_paper_50 : decode cX3_paper 50 = .ok (.iadd, 1) := dk_96 (dk_at dksX3_paper_2 3 rfl rfl)
theorem dX3_paper_51 : decode cX3_paper 51 = .ok (.istore_n 3, 1) := dk_62 (dk_at dksX3_paper_2 4 rfl rfl)
theorem dX3_paper_52 : decode cX3_paper 52 = .ok (.aload_n 0, 1) := dk_42 (dk_at dksX3_paper_2 5 rfl rfl)
theorem dX3_paper_53 : decode cX3_paper 53 = .ok (.iload_n 1, 1) := dk_27 (dk_at dksX3_paper_2 6 rfl rfl)
theorem dX3_paper_54 : decode cX3_paper 54 = .ok (.putfield 109, 3) := dk_181 0 109 (dk_at dksX3_paper_2 7 rfl rfl)
theorem dX3_paper_57 : decode cX3_paper 57 = .ok (.aload_n 0, 1) := dk_42 (dk_at dksX3_paper_2 10 rfl rfl)
theorem dX3_paper_58 : decode cX3_paper 58 = .ok (.iload_n 2, 1) := dk_28 (dk_at dksX3_paper_2 11 rfl rfl)
theorem dX3_paper_59 : decode cX3_paper 59 = .ok (.putfield 113, 3) := dk_181 0 113 (dk_at dksX3_paper_2 12 rfl rfl)
theorem dX3_paper_62 : decode cX3_paper 62 = .ok (.iload_n 3, 1) := dk_29 (dk_at dksX3_paper_2 15 rfl rfl)
theorem dX3_paper_63 : decode cX3_paper 63 = .ok (.ireturn, 1) := dk_172 (dk_at dksX3_paper_2 16 rfl rfl)
abbrev cX3_lines : ByteArray := prog_16_method_59_code
def yX3_lines : MethodName := ⟨RX3, "lines", "()I"⟩
def dkwX3_lines_1 : List UInt8 := [46, 4, 96, 172]
abbrev dktX3_lines_1 : List UInt8 := dkwX3_lines_1 ++ []
def dkwX3_lines_0 : List UInt8 := [42, 3, 181, 0, 123, 42, 182, 1, 85, 76, 43, 190, 154, 0, 7, 3, 167, 0, 11, 43, 43, 190, 4, 100]
abbrev dktX3_lines_0 : List UInt8 := dkwX3_lines_0 ++ dktX3_lines_1
theorem dksX3_lines_0 : cX3_lines.data.toList.drop 0 = dktX3_lines_0 := by decide +kernel
theorem dksX3_lines_1 : cX3_lines.data.toList.drop 24 = dktX3_lines_1 := dk_seg dksX3_lines_0 24 rfl rfl
theorem dX3_lines_0 : decode cX3_lines 0 = .ok (.aload_n 0, 1) := dk_42 (dk_at dksX3_lines_0 0 rfl rfl)
theorem dX3_lines_1 : decode cX3_lines 1 = .ok (.iconst 0, 1) := dk_3 (dk_at dksX3_lines_0 1 rfl rfl)
theorem dX3_lines_2 : decode cX3_lines 2 = .ok (.putfield 123, 3) := dk_181 0 123 (dk_at dksX3_lines_0 2 rfl rfl)
theorem dX3_lines_5 : decode cX3_lines 5 = .ok (.aload_n 0, 1) := dk_42 (dk_at dksX3_lines_0 5 rfl rfl)
theorem dX3_lines_6 : decode cX3_lines 6 = .ok (.invokevirtual 341, 3) := dk_182 1 85 (dk_at dksX3_lines_0 6 rfl rfl)
theorem dX3_lines_9 : decode cX3_lines 9 = .ok (.astore_n 1, 1) := dk_76 (dk_at dksX3_lines_0 9 rfl rfl)
theorem dX3_lines_10 : decode cX3_lines 10 = .ok (.aload_n 1, 1) := dk_43 (dk_at dksX3_lines_0 10 rfl rfl)
theorem dX3_lines_11 : decode cX3_lines 11 = .ok (.arraylength, 1) := dk_190 (dk_at dksX3_lines_0 11 rfl rfl)
theorem dX3_lines_12 : decode cX3_lines 12 = .ok (.ifCond .ne 7, 3) := dk_154 0 7 (dk_at dksX3_lines_0 12 rfl rfl)
theorem dX3_lines_15 : decode cX3_lines 15 = .ok (.iconst 0, 1) := dk_3 (dk_at dksX3_lines_0 15 rfl rfl)
theorem dX3_lines_16 : decode cX3_lines 16 = .ok (.goto 11, 3) := dk_167 0 11 (dk_at dksX3_lines_0 16 rfl rfl)
theorem dX3_lines_19 : decode cX3_lines 19 = .ok (.aload_n 1, 1) := dk_43 (dk_at dksX3_lines_0 19 rfl rfl)
theorem dX3_lines_20 : decode cX3_lines 20 = .ok (.aload_n 1, 1) := dk_43 (dk_at dksX3_lines_0 20 rfl rfl)
theorem dX3_lines_21 : decode cX3_lines 21 = .ok (.arraylength, 1) := dk_190 (dk_at dksX3_lines_0 21 rfl rfl)
theorem dX3_lines_22 : decode cX3_lines 22 = .ok (.iconst 1, 1) := dk_4 (dk_at dksX3_lines_0 22 rfl rfl)
theorem dX3_lines_23 : decode cX3_lines 23 = .ok (.isub, 1) := dk_100 (dk_at dksX3_lines_0 23 rfl rfl)
theorem dX3_lines_24 : decode cX3_lines 24 = .ok (.iaload, 1) := dk_46 (dk_at dksX3_lines_1 0 rfl rfl)
theorem dX3_lines_25 : decode cX3_lines 25 = .ok (.iconst 1, 1) := dk_4 (dk_at dksX3_lines_1 1 rfl rfl)
theorem dX3_lines_26 : decode cX3_lines 26 = .ok (.iadd, 1) := dk_96 (dk_at dksX3_lines_1 2 rfl rfl)
theorem dX3_lines_27 : decode cX3_lines 27 = .ok (.ireturn, 1) := dk_172 (dk_at dksX3_lines_1 3 rfl rfl)
abbrev cX3_linesOf : ByteArray := prog_16_method_58_code
def yX3_linesOf : MethodName := ⟨RX3, "linesOf", "()[I"⟩
def dkwX3_linesOf_9 : List UInt8 := [167, 255, 223, 167, 255, 59, 44, 176]
abbrev dktX3_linesOf_9 : List UInt8 := dkwX3_linesOf_9 ++ []
def dkwX3_linesOf_8 : List UInt8 := [42, 180, 0, 109, 160, 0, 9, 132, 3, 1, 3, 54, 4, 44, 21, 5, 29, 79, 132, 4, 1, 132, 5, 1]
abbrev dktX3_linesOf_8 : List UInt8 := dkwX3_linesOf_8 ++ dktX3_linesOf_9
def dkwX3_linesOf_7 : List UInt8 := [21, 4, 21, 9, 153, 0, 7, 4, 167, 0, 4, 3, 96, 54, 4, 21, 5, 21, 7, 162, 0, 32, 21, 4]
abbrev dktX3_linesOf_7 : List UInt8 := dkwX3_linesOf_7 ++ dktX3_linesOf_8
def dkwX3_linesOf_6 : List UInt8 := [4, 167, 0, 4, 3, 54, 9, 21, 4, 158, 0, 14, 21, 9, 154, 0, 9, 132, 3, 1, 3, 54, 4]
abbrev dktX3_linesOf_6 : List UInt8 := dkwX3_linesOf_6 ++ dktX3_linesOf_7
def dkwX3_linesOf_5 : List UInt8 := [21, 5, 100, 54, 8, 21, 4, 158, 0, 21, 21, 4, 4, 96, 21, 8, 96, 42, 180, 0, 109, 163, 0, 7]
abbrev dktX3_linesOf_5 : List UInt8 := dkwX3_linesOf_5 ++ dktX3_linesOf_6
def dkwX3_linesOf_4 : List UInt8 := [16, 32, 159, 0, 20, 43, 21, 7, 182, 0, 42, 16, 124, 159, 0, 9, 132, 7, 1, 167, 255, 222, 21, 7]
abbrev dktX3_linesOf_4 : List UInt8 := dkwX3_linesOf_4 ++ dktX3_linesOf_5
def dkwX3_linesOf_3 : List UInt8 := [29, 79, 132, 5, 1, 21, 5, 54, 7, 21, 7, 43, 182, 0, 18, 162, 0, 31, 43, 21, 7, 182, 0, 42]
abbrev dktX3_linesOf_3 : List UInt8 := dkwX3_linesOf_3 ++ dktX3_linesOf_4
def dkwX3_linesOf_2 : List UInt8 := [29, 79, 132, 3, 1, 3, 54, 4, 132, 5, 1, 167, 255, 218, 21, 6, 16, 32, 160, 0, 11, 44, 21, 5]
abbrev dktX3_linesOf_2 : List UInt8 := dkwX3_linesOf_2 ++ dktX3_linesOf_3
def dkwX3_linesOf_1 : List UInt8 := [182, 0, 18, 162, 0, 194, 43, 21, 5, 182, 0, 42, 54, 6, 21, 6, 16, 124, 160, 0, 20, 44, 21, 5]
abbrev dktX3_linesOf_1 : List UInt8 := dkwX3_linesOf_1 ++ dktX3_linesOf_2
def dkwX3_linesOf_0 : List UInt8 := [42, 182, 1, 54, 76, 43, 182, 0, 18, 188, 10, 77, 3, 62, 3, 54, 4, 3, 54, 5, 21, 5, 43]
abbrev dktX3_linesOf_0 : List UInt8 := dkwX3_linesOf_0 ++ dktX3_linesOf_1
theorem dksX3_linesOf_0 : cX3_linesOf.data.toList.drop 0 = dktX3_linesOf_0 := by decide +kernel
theorem dksX3_linesOf_1 : cX3_linesOf.data.toList.drop 23 = dktX3_linesOf_1 := dk_seg dksX3_linesOf_0 23 rfl rfl
theorem dksX3_linesOf_2 : cX3_linesOf.data.toList.drop 47 = dktX3_linesOf_2 := dk_seg dksX3_linesOf_1 24 rfl rfl
theorem dksX3_linesOf_3 : cX3_linesOf.data.toList.drop 71 = dktX3_linesOf_3 := dk_seg dksX3_linesOf_2 24 rfl rfl
theorem dksX3_linesOf_4 : cX3_linesOf.data.toList.drop 95 = dktX3_linesOf_4 := dk_seg dksX3_linesOf_3 24 rfl rfl
theorem dksX3_linesOf_5 : cX3_linesOf.data.toList.drop 119 = dktX3_linesOf_5 := dk_seg dksX3_linesOf_4 24 rfl rfl
theorem dksX3_linesOf_6 : cX3_linesOf.data.toList.drop 143 = dktX3_linesOf_6 := dk_seg dksX3_linesOf_5 24 rfl rfl
theorem dksX3_linesOf_7 : cX3_linesOf.data.toList.drop 166 = dktX3_linesOf_7 := dk_seg dksX3_linesOf_6 23 rfl rfl
theorem dksX3_linesOf_8 : cX3_linesOf.data.toList.drop 190 = dktX3_linesOf_8 := dk_seg dksX3_linesOf_7 24 rfl rfl
theorem dksX3_linesOf_9 : cX3_linesOf.data.toList.drop 214 = dktX3_linesOf_9 := dk_seg dksX3_linesOf_8 24 rfl rfl
theorem dX3_linesOf_0 : decode cX3_linesOf 0 = .ok (.aload_n 0, 1) := dk_42 (dk_at dksX3_linesOf_0 0 rfl rfl)
theorem dX3_linesOf_1 : decode cX3_linesOf 1 = .ok (.invokevirtual 310, 3) := dk_182 1 54 (dk_at dksX3_linesOf_0 1 rfl rfl)
theorem dX3_linesOf_4 : decode cX3_linesOf 4 = .ok (.astore_n 1, 1) := dk_76 (dk_at dksX3_linesOf_0 4 rfl rfl)
theorem dX3_linesOf_5 : decode cX3_linesOf 5 = .ok (.aload_n 1, 1) := dk_43 (dk_at dksX3_linesOf_0 5 rfl rfl)
theorem dX3_linesOf_6 : decode cX3_linesOf 6 = .ok (.invokevirtual 18, 3) := dk_182 0 18 (dk_at dksX3_linesOf_0 6 rfl rfl)
theorem dX3_linesOf_9 : decode cX3_linesOf 9 = .ok (.newarray .int, 2) := dk_188_10 (dk_at dksX3_linesOf_0 9 rfl rfl)
theorem dX3_linesOf_11 : decode cX3_linesOf 11 = .ok (.astore_n 2, 1) := dk_77 (dk_at dksX3_linesOf_0 11 rfl rfl)
theorem dX3_linesOf_12 : decode cX3_linesOf 12 = .ok (.iconst 0, 1) := dk_3 (dk_at dksX3_linesOf_0 12 rfl rfl)
theorem dX3_linesOf_13 : decode cX3_linesOf 13 = .ok (.istore_n 3, 1) := dk_62 (dk_at dksX3_linesOf_0 13 rfl rfl)
theorem dX3_linesOf_14 : decode cX3_linesOf 14 = .ok (.iconst 0, 1) := dk_3 (dk_at dksX3_linesOf_0 14 rfl rfl)
theorem dX3_linesOf_15 : decode cX3_linesOf 15 = .ok (.istore 4, 2) := dk_54 4 (dk_at dksX3_linesOf_0 15 rfl rfl)
theorem dX3_linesOf_17 : decode cX3_linesOf 17 = .ok (.iconst 0, 1) := dk_3 (dk_at dksX3_linesOf_0 17 rfl rfl)
theorem dX3_linesOf_18 : decode cX3_linesOf 18 = .ok (.istore 5, 2) := dk_54 5 (dk_at dksX3_linesOf_0 18 rfl rfl)
theorem dX3_linesOf_20 : decode cX3_linesOf 20 = .ok (.iload 5, 2) := dk_21 5 (dk_at dksX3_linesOf_0 20 rfl rfl)
theorem dX3_linesOf_22 : decode cX3_linesOf 22 = .ok (.aload_n 1, 1) := dk_43 (dk_at dksX3_linesOf_0 22 rfl rfl)
theorem dX3_linesOf_23 : decode cX3_linesOf 23 = .ok (.invokevirtual 18, 3) := dk_182 0 18 (dk_at dksX3_linesOf_1 0 rfl rfl)
theorem dX3_linesOf_26 : decode cX3_linesOf 26 = .ok (.if_icmp .ge 194, 3) := dk_162 0 194 (dk_at dksX3_linesOf_1 3 rfl rfl)
theorem dX3_linesOf_29 : decode cX3_linesOf 29 = .ok (.aload_n 1, 1) := dk_43 (dk_at dksX3_linesOf_1 6 rfl rfl)
theorem dX3_linesOf_30 : decode cX3_linesOf 30 = .ok (.iload 5, 2) := dk_21 5 (dk_at dksX3_linesOf_1 7 rfl rfl)
theorem dX3_linesOf_32 : decode cX3_linesOf 32 = .ok (.invokevirtual 42, 3) := dk_182 0 42 (dk_at dksX3_linesOf_1 9 rfl rfl)
theorem dX3_linesOf_35 : decode cX3_linesOf 35 = .ok (.istore 6, 2) := dk_54 6 (dk_at dksX3_linesOf_1 12 rfl rfl)
theorem dX3_linesOf_37 : decode cX3_linesOf 37 = .ok (.iload 6, 2) := dk_21 6 (dk_at dksX3_linesOf_1 14 rfl rfl)
theorem dX3_linesOf_39 : decode cX3_linesOf 39 = .ok (.bipush 124, 2) := dk_16 124 (dk_at dksX3_linesOf_1 16 rfl rfl)
theorem dX3_linesOf_41 : decode cX3_linesOf 41 = .ok (.if_icmp .ne 20, 3) := dk_160 0 20 (dk_at dksX3_linesOf_1 18 rfl rfl)
theorem dX3_linesOf_44 : decode cX3_linesOf 44 = .ok (.aload_n 2, 1) := dk_44 (dk_at dksX3_linesOf_1 21 rfl rfl)
theorem dX3_linesOf_45 : decode cX3_linesOf 45 = .ok (.iload 5, 2) := dk_21 5 (dk_at dksX3_linesOf_1 22 rfl rfl)
theorem dX3_linesOf_47 : decode cX3_linesOf 47 = .ok (.iload_n 3, 1) := dk_29 (dk_at dksX3_linesOf_2 0 rfl rfl)
theorem dX3_linesOf_48 : decode cX3_linesOf 48 = .ok (.iastore, 1) := dk_79 (dk_at dksX3_linesOf_2 1 rfl rfl)
theorem dX3_linesOf_49 : decode cX3_linesOf 49 = .ok (.iinc 3 1, 3) := dk_132 3 1 (dk_at dksX3_linesOf_2 2 rfl rfl)
theorem dX3_linesOf_52 : decode cX3_linesOf 52 = .ok (.iconst 0, 1) := dk_3 (dk_at dksX3_linesOf_2 5 rfl rfl)
theorem dX3_linesOf_53 : decode cX3_linesOf 53 = .ok (.istore 4, 2) := dk_54 4 (dk_at dksX3_linesOf_2 6 rfl rfl)
theorem dX3_linesOf_55 : decode cX3_linesOf 55 = .ok (.iinc 5 1, 3) := dk_132 5 1 (dk_at dksX3_linesOf_2 8 rfl rfl)
theorem dX3_linesOf_58 : decode cX3_linesOf 58 = .ok (.goto (-38), 3) := dk_167 255 218 (dk_at dksX3_linesOf_2 11 rfl rfl)
theorem dX3_linesOf_61 : decode cX3_linesOf 61 = .ok (.iload 6, 2) := dk_21 6 (dk_at dksX3_linesOf_2 14 rfl rfl)
theorem dX3_linesOf_63 : decode cX3_linesOf 63 = .ok (.bipush 32, 2) := dk_16 32 (dk_at dksX3_linesOf_2 16 rfl rfl)
theorem dX3_linesOf_65 : decode cX3_linesOf 65 = .ok (.if_icmp .ne 11, 3) := dk_160 0 11 (dk_at dksX3_linesOf_2 18 rfl rfl)
theorem dX3_linesOf_68 : decode cX3_linesOf 68 = .ok (.aload_n 2, 1) := dk_44 (dk_at dksX3_linesOf_2 21 rfl rfl)
theorem dX3_linesOf_69 : decode cX3_linesOf 69 = .ok (.iload 5, 2) := dk_21 5 (dk_at dksX3_linesOf_2 22 rfl rfl)
theorem dX3_linesOf_71 : decode cX3_linesOf 71 = .ok (.iload_n 3, 1) := dk_29 (dk_at dksX3_linesOf_3 0 rfl rfl)
theorem dX3_linesOf_72 : decode cX3_linesOf 72 = .ok (.iastore, 1) := dk_79 (dk_at dksX3_linesOf_3 1 rfl rfl)
theorem dX3_linesOf_73 : decode cX3_linesOf 73 = .ok (.iinc 5 1, 3) := dk_132 5 1 (dk_at dksX3_linesOf_3 2 rfl rfl)
theorem dX3_linesOf_76 : decode cX3_linesOf 76 = .ok (.iload 5, 2) := dk_21 5 (dk_at dksX3_linesOf_3 5 rfl rfl)
theorem dX3_linesOf_78 : decode cX3_linesOf 78 = .ok (.istore 7, 2) := dk_54 7 (dk_at dksX3_linesOf_3 7 rfl rfl)
theorem dX3_linesOf_80 : decode cX3_linesOf 80 = .ok (.iload 7, 2) := dk_21 7 (dk_at dksX3_linesOf_3 9 rfl rfl)
theorem dX3_linesOf_82 : decode cX3_linesOf 82 = .ok (.aload_n 1, 1) := dk_43 (dk_at dksX3_linesOf_3 11 rfl rfl)
theorem dX3_linesOf_83 : decode cX3_linesOf 83 = .ok (.invokevirtual 18, 3) := dk_182 0 18 (dk_at dksX3_linesOf_3 12 rfl rfl)
theorem dX3_linesOf_86 : decode cX3_linesOf 86 = .ok (.if_icmp .ge 31, 3) := dk_162 0 31 (dk_at dksX3_linesOf_3 15 rfl rfl)
theorem dX3_linesOf_89 : decode cX3_linesOf 89 = .ok (.aload_n 1, 1) := dk_43 (dk_at dksX3_linesOf_3 18 rfl rfl)
theorem dX3_linesOf_90 : decode cX3_linesOf 90 = .ok (.iload 7, 2) := dk_21 7 (dk_at dksX3_linesOf_3 19 rfl rfl)
theorem dX3_linesOf_92 : decode cX3_linesOf 92 = .ok (.invokevirtual 42, 3) := dk_182 0 42 (dk_at dksX3_linesOf_3 21 rfl rfl)
theorem dX3_linesOf_95 : decode cX3_linesOf 95 = .ok (.bipush 32, 2) := dk_16 32 (dk_at dksX3_linesOf_4 0 rfl rfl)
theorem dX3_linesOf_97 : decode cX3_linesOf 97 = .ok (.if_icmp .eq 20, 3) := dk_159 0 20 (dk_at dksX3_linesOf_4 2 rfl rfl)
theorem dX3_linesOf_100 : decode cX3_linesOf 100 = .ok (.aload_n 1, 1) := dk_43 (dk_at dksX3_linesOf_4 5 rfl rfl)
theorem dX3_linesOf_101 : decode cX3_linesOf 101 = .ok (.iload 7, 2) := dk_21 7 (dk_at dksX3_linesOf_4 6 rfl rfl)
theorem dX3_linesOf_103 : decode cX3_linesOf 103 = .ok (.invokevirtual 42, 3) := dk_182 0 42 (dk_at dksX3_linesOf_4 8 rfl rfl)
theorem dX3_linesOf_106 : decode cX3_linesOf 106 = .ok (.bipush 124, 2) := dk_16 124 (dk_at dksX3_linesOf_4 11 rfl rfl)
theorem dX3_linesOf_108 : decode cX3_linesOf 108 = .ok (.if_icmp .eq 9, 3) := dk_159 0 9 (dk_at dksX3_linesOf_4 13 rfl rfl)
theorem dX3_linesOf_111 : decode cX3_linesOf 111 = .ok (.iinc 7 1, 3) := dk_132 7 1 (dk_at dksX3_linesOf_4 16 rfl rfl)
theorem dX3_linesOf_114 : decode cX3_linesOf 114 = .ok (.goto (-34), 3) := dk_167 255 222 (dk_at dksX3_linesOf_4 19 rfl rfl)
theorem dX3_linesOf_117 : decode cX3_linesOf 117 = .ok (.iload 7, 2) := dk_21 7 (dk_at dksX3_linesOf_4 22 rfl rfl)
theorem dX3_linesOf_119 : decode cX3_linesOf 119 = .ok (.iload 5, 2) := dk_21 5 (dk_at dksX3_linesOf_5 0 rfl rfl)
theorem dX3_linesOf_121 : decode cX3_linesOf 121 = .ok (.isub, 1) := dk_100 (dk_at dksX3_linesOf_5 2 rfl rfl)
theorem dX3_linesOf_122 : decode cX3_linesOf 122 = .ok (.istore 8, 2) := dk_54 8 (dk_at dksX3_linesOf_5 3 rfl rfl)
theorem dX3_linesOf_124 : decode cX3_linesOf 124 = .ok (.iload 4, 2) := dk_21 4 (dk_at dksX3_linesOf_5 5 rfl rfl)
theorem dX3_linesOf_126 : decode cX3_linesOf 126 = .ok (.ifCond .le 21, 3) := dk_158 0 21 (dk_at dksX3_linesOf_5 7 rfl rfl)
theorem dX3_linesOf_129 : decode cX3_linesOf 129 = .ok (.iload 4, 2) := dk_21 4 (dk_at dksX3_linesOf_5 10 rfl rfl)
theorem dX3_linesOf_131 : decode cX3_linesOf 131 = .ok (.iconst 1, 1) := dk_4 (dk_at dksX3_linesOf_5 12 rfl rfl)
theorem dX3_linesOf_132 : decode cX3_linesOf 132 = .ok (.iadd, 1) := dk_96 (dk_at dksX3_linesOf_5 13 rfl rfl)
theorem dX3_linesOf_133 : decode cX3_linesOf 133 = .ok (.iload 8, 2) := dk_21 8 (dk_at dksX3_linesOf_5 14 rfl rfl)
theorem dX3_linesOf_135 : decode cX3_linesOf 135 = .ok (.iadd, 1) := dk_96 (dk_at dksX3_linesOf_5 16 rfl rfl)
theorem dX3_linesOf_136 : decode cX3_linesOf 136 = .ok (.aload_n 0, 1) := dk_42 (dk_at dksX3_linesOf_5 17 rfl rfl)
theorem dX3_linesOf_137 : decode cX3_linesOf 137 = .ok (.getfield 109, 3) := dk_180 0 109 (dk_at dksX3_linesOf_5 18 rfl rfl)
theorem dX3_linesOf_140 : decode cX3_linesOf 140 = .ok (.if_icmp .gt 7, 3) := dk_163 0 7 (dk_at dksX3_linesOf_5 21 rfl rfl)
theorem dX3_linesOf_143 : decode cX3_linesOf 143 = .ok (.iconst 1, 1) := dk_4 (dk_at dksX3_linesOf_6 0 rfl rfl)
theorem dX3_linesOf_144 : decode cX3_linesOf 144 = .ok (.goto 4, 3) := dk_167 0 4 (dk_at dksX3_linesOf_6 1 rfl rfl)
theorem dX3_linesOf_147 : decode cX3_linesOf 147 = .ok (.iconst 0, 1) := dk_3 (dk_at dksX3_linesOf_6 4 rfl rfl)
theorem dX3_linesOf_148 : decode cX3_linesOf 148 = .ok (.istore 9, 2) := dk_54 9 (dk_at dksX3_linesOf_6 5 rfl rfl)
theorem dX3_linesOf_150 : decode cX3_linesOf 150 = .ok (.iload 4, 2) := dk_21 4 (dk_at dksX3_linesOf_6 7 rfl rfl)
theorem dX3_linesOf_152 : decode cX3_linesOf 152 = .ok (.ifCond .le 14, 3) := dk_158 0 14 (dk_at dksX3_linesOf_6 9 rfl rfl)
theorem dX3_linesOf_155 : decode cX3_linesOf 155 = .ok (.iload 9, 2) := dk_21 9 (dk_at dksX3_linesOf_6 12 rfl rfl)
theorem dX3_linesOf_157 : decode cX3_linesOf 157 = .ok (.ifCond .ne 9, 3) := dk_154 0 9 (dk_at dksX3_linesOf_6 14 rfl rfl)
theorem dX3_linesOf_160 : decode cX3_linesOf 160 = .ok (.iinc 3 1, 3) := dk_132 3 1 (dk_at dksX3_linesOf_6 17 rfl rfl)
theorem dX3_linesOf_163 : decode cX3_linesOf 163 = .ok (.iconst 0, 1) := dk_3 (dk_at dksX3_linesOf_6 20 rfl rfl)
theorem dX3_linesOf_164 : decode cX3_linesOf 164 = .ok (.istore 4, 2) := dk_54 4 (dk_at dksX3_linesOf_6 21 rfl rfl)
theorem dX3_linesOf_166 : decode cX3_linesOf 166 = .ok (.iload 4, 2) := dk_21 4 (dk_at dksX3_linesOf_7 0 rfl rfl)
theorem dX3_linesOf_168 : decode cX3_linesOf 168 = .ok (.iload 9, 2) := dk_21 9 (dk_at dksX3_linesOf_7 2 rfl rfl)
theorem dX3_linesOf_170 : decode cX3_linesOf 170 = .ok (.ifCond .eq 7, 3) := dk_153 0 7 (dk_at dksX3_linesOf_7 4 rfl rfl)
theorem dX3_linesOf_173 : decode cX3_linesOf 173 = .ok (.iconst 1, 1) := dk_4 (dk_at dksX3_linesOf_7 7 rfl rfl)
theorem dX3_linesOf_174 : decode cX3_linesOf 174 = .ok (.goto 4, 3) := dk_167 0 4 (dk_at dksX3_linesOf_7 8 rfl rfl)
theorem dX3_linesOf_177 : decode cX3_linesOf 177 = .ok (.iconst 0, 1) := dk_3 (dk_at dksX3_linesOf_7 11 rfl rfl)
theorem dX3_linesOf_178 : decode cX3_linesOf 178 = .ok (.iadd, 1) := dk_96 (dk_at dksX3_linesOf_7 12 rfl rfl)
theorem dX3_linesOf_179 : decode cX3_linesOf 179 = .ok (.istore 4, 2) := dk_54 4 (dk_at dksX3_linesOf_7 13 rfl rfl)
theorem dX3_linesOf_181 : decode cX3_linesOf 181 = .ok (.iload 5, 2) := dk_21 5 (dk_at dksX3_linesOf_7 15 rfl rfl)
theorem dX3_linesOf_183 : decode cX3_linesOf 183 = .ok (.iload 7, 2) := dk_21 7 (dk_at dksX3_linesOf_7 17 rfl rfl)
theorem dX3_linesOf_185 : decode cX3_linesOf 185 = .ok (.if_icmp .ge 32, 3) := dk_162 0 32 (dk_at dksX3_linesOf_7 19 rfl rfl)
theorem dX3_linesOf_188 : decode cX3_linesOf 188 = .ok (.iload 4, 2) := dk_21 4 (dk_at dksX3_linesOf_7 22 rfl rfl)
theorem dX3_linesOf_190 : decode cX3_linesOf 190 = .ok (.aload_n 0, 1) := dk_42 (dk_at dksX3_linesOf_8 0 rfl rfl)
theorem dX3_linesOf_191 : decode cX3_linesOf 191 = .ok (.getfield 109, 3) := dk_180 0 109 (dk_at dksX3_linesOf_8 1 rfl rfl)
theorem dX3_linesOf_194 : decode cX3_linesOf 194 = .ok (.if_icmp .ne 9, 3) := dk_160 0 9 (dk_at dksX3_linesOf_8 4 rfl rfl)
theorem dX3_linesOf_197 : decode cX3_linesOf 197 = .ok (.iinc 3 1, 3) := dk_132 3 1 (dk_at dksX3_linesOf_8 7 rfl rfl)
theorem dX3_linesOf_200 : decode cX3_linesOf 200 = .ok (.iconst 0, 1) := dk_3 (dk_at dksX3_linesOf_8 10 rfl rfl)
theorem dX3_linesOf_201 : decode cX3_linesOf 201 = .ok (.istore 4, 2) := dk_54 4 (dk_at dksX3_linesOf_8 11 rfl rfl)
theorem dX3_linesOf_203 : decode cX3_linesOf 203 = .ok (.aload_n 2, 1) := dk_44 (dk_at dksX3_linesOf_8 13 rfl rfl)
theorem dX3_linesOf_204 : decode cX3_linesOf 204 = .ok (.iload 5, 2) := dk_21 5 (dk_at dksX3_linesOf_8 14 rfl rfl)
theorem dX3_linesOf_206 : decode cX3_linesOf 206 = .ok (.iload_n 3, 1) := dk_29 (dk_at dksX3_linesOf_8 16 rfl rfl)
theorem dX3_linesOf_207 : decode cX3_linesOf 207 = .ok (.iastore, 1) := dk_79 (dk_at dksX3_linesOf_8 17 rfl rfl)
theorem dX3_linesOf_208 : decode cX3_linesOf 208 = .ok (.iinc 4 1, 3) := dk_132 4 1 (dk_at dksX3_linesOf_8 18 rfl rfl)
theorem dX3_linesOf_211 : decode cX3_linesOf 211 = .ok (.iinc 5 1, 3) := dk_132 5 1 (dk_at dksX3_linesOf_8 21 rfl rfl)
theorem dX3_linesOf_214 : decode cX3_linesOf 214 = .ok (.goto (-33), 3) := dk_167 255 223 (dk_at dksX3_linesOf_9 0 rfl rfl)
theorem dX3_linesOf_217 : decode cX3_linesOf 217 = .ok (.goto (-197), 3) := dk_167 255 59 (dk_at dksX3_linesOf_9 3 rfl rfl)
theorem dX3_linesOf_220 : decode cX3_linesOf 220 = .ok (.aload_n 2, 1) := dk_44 (dk_at dksX3_linesOf_9 6 rfl rfl)
theorem dX3_linesOf_221 : decode cX3_linesOf 221 = .ok (.areturn, 1) := dk_176 (dk_at dksX3_linesOf_9 7 rfl rfl)
abbrev cX3_lineOf : ByteArray := prog_16_method_60_code
def yX3_lineOf : MethodName := ⟨RX3, "lineOf", "(I)I"⟩
def dkwX3_lineOf_1 : List UInt8 := [181, 0, 123, 42, 180, 0, 123, 158, 0, 7, 3, 167, 0, 6, 44, 27, 46, 172]
abbrev dktX3_lineOf_1 : List UInt8 := dkwX3_lineOf_1 ++ []
def dkwX3_lineOf_0 : List UInt8 := [42, 182, 1, 85, 77, 42, 27, 3, 44, 190, 4, 100, 184, 0, 220, 153, 0, 7, 3, 167, 0, 4, 4]
abbrev dktX3_lineOf_0 : List UInt8 := dkwX3_lineOf_0 ++ dktX3_lineOf_1
theorem dksX3_lineOf_0 : cX3_lineOf.data.toList.drop 0 = dktX3_lineOf_0 := by decide +kernel
theorem dksX3_lineOf_1 : cX3_lineOf.data.toList.drop 23 = dktX3_lineOf_1 := dk_seg dksX3_lineOf_0 23 rfl rfl
theorem dX3_lineOf_0 : decode cX3_lineOf 0 = .ok (.aload_n 0, 1) := dk_42 (dk_at dksX3_lineOf_0 0 rfl rfl)
theorem dX3_lineOf_1 : decode cX3_lineOf 1 = .ok (.invokevirtual 341, 3) := dk_182 1 85 (dk_at dksX3_lineOf_0 1 rfl rfl)
theorem dX3_lineOf_4 : decode cX3_lineOf 4 = .ok (.astore_n 2, 1) := dk_77 (dk_at dksX3_lineOf_0 4 rfl rfl)
theorem dX3_lineOf_5 : decode cX3_lineOf 5 = .ok (.aload_n 0, 1) := dk_42 (dk_at dksX3_lineOf_0 5 rfl rfl)
theorem dX3_lineOf_6 : decode cX3_lineOf 6 = .ok (.iload_n 1, 1) := dk_27 (dk_at dksX3_lineOf_0 6 rfl rfl)
theorem dX3_lineOf_7 : decode cX3_lineOf 7 = .ok (.iconst 0, 1) := dk_3 (dk_at dksX3_lineOf_0 7 rfl rfl)
theorem dX3_lineOf_8 : decode cX3_lineOf 8 = .ok (.aload_n 2, 1) := dk_44 (dk_at dksX3_lineOf_0 8 rfl rfl)
theorem dX3_lineOf_9 : decode cX3_lineOf 9 = .ok (.arraylength, 1) := dk_190 (dk_at dksX3_lineOf_0 9 rfl rfl)
theorem dX3_lineOf_10 : decode cX3_lineOf 10 = .ok (.iconst 1, 1) := dk_4 (dk_at dksX3_lineOf_0 10 rfl rfl)
theorem dX3_lineOf_11 : decode cX3_lineOf 11 = .ok (.isub, 1) := dk_100 (dk_at dksX3_lineOf_0 11 rfl rfl)
theorem dX3_lineOf_12 : decode cX3_lineOf 12 = .ok (.invokestatic 220, 3) := dk_184 0 220 (dk_at dksX3_lineOf_0 12 rfl rfl)
theorem dX3_lineOf_15 : decode cX3_lineOf 15 = .ok (.ifCond .eq 7, 3) := dk_153 0 7 (dk_at dksX3_lineOf_0 15 rfl rfl)
theorem dX3_lineOf_18 : decode cX3_lineOf 18 = .ok (.iconst 0, 1) := dk_3 (dk_at dksX3_lineOf_0 18 rfl rfl)
theorem dX3_lineOf_19 : decode cX3_lineOf 19 = .ok (.goto 4, 3) := dk_167 0 4 (dk_at dksX3_lineOf_0 19 rfl rfl)
theorem dX3_lineOf_22 : decode cX3_lineOf 22 = .ok (.iconst 1, 1) := dk_4 (dk_at dksX3_lineOf_0 22 rfl rfl)
theorem dX3_lineOf_23 : decode cX3_lineOf 23 = .ok (.putfield 123, 3) := dk_181 0 123 (dk_at dksX3_lineOf_1 0 rfl rfl)
theorem dX3_lineOf_26 : decode cX3_lineOf 26 = .ok (.aload_n 0, 1) := dk_42 (dk_at dksX3_lineOf_1 3 rfl rfl)
theorem dX3_lineOf_27 : decode cX3_lineOf 27 = .ok (.getfield 123, 3) := dk_180 0 123 (dk_at dksX3_lineOf_1 4 rfl rfl)
theorem dX3_lineOf_30 : decode cX3_lineOf 30 = .ok (.ifCond .le 7, 3) := dk_158 0 7 (dk_at dksX3_lineOf_1 7 rfl rfl)
theorem dX3_lineOf_33 : decode cX3_lineOf 33 = .ok (.iconst 0, 1) := dk_3 (dk_at dksX3_lineOf_1 10 rfl rfl)
theorem dX3_lineOf_34 : decode cX3_lineOf 34 = .ok (.goto 6, 3) := dk_167 0 6 (dk_at dksX3_lineOf_1 11 rfl rfl)
theorem dX3_lineOf_37 : decode cX3_lineOf 37 = .ok (.aload_n 2, 1) := dk_44 (dk_at dksX3_lineOf_1 14 rfl rfl)
theorem dX3_lineOf_38 : decode cX3_lineOf 38 = .ok (.iload_n 1, 1) := dk_27 (dk_at dksX3_lineOf_1 15 rfl rfl)
theorem dX3_lineOf_39 : decode cX3_lineOf 39 = .ok (.iaload, 1) := dk_46 (dk_at dksX3_lineOf_1 16 rfl rfl)
theorem dX3_lineOf_40 : decode cX3_lineOf 40 = .ok (.ireturn, 1) := dk_172 (dk_at dksX3_lineOf_1 17 rfl rfl)
abbrev cX3_pageOf : ByteArray := prog_16_method_61_code
def yX3_pageOf : MethodName := ⟨RX3, "pageOf", "(I)I"⟩
def dkwX3_pageOf_0 : List UInt8 := [42, 27, 182, 1, 89, 61, 42, 180, 0, 123, 158, 0, 7, 3, 167, 0, 9, 28, 42, 180, 0, 113, 108, 172]
abbrev dktX3_pageOf_0 : List UInt8 := dkwX3_pageOf_0 ++ []
theorem dksX3_pageOf_0 : cX3_pageOf.data.toList.drop 0 = dktX3_pageOf_0 := by decide +kernel
theorem dX3_pageOf_0 : decode cX3_pageOf 0 = .ok (.aload_n 0, 1) := dk_42 (dk_at dksX3_pageOf_0 0 rfl rfl)
theorem dX3_pageOf_1 : decode cX3_pageOf 1 = .ok (.iload_n 1, 1) := dk_27 (dk_at dksX3_pageOf_0 1 rfl rfl)
theorem dX3_pageOf_2 : decode cX3_pageOf 2 = .ok (.invokevirtual 345, 3) := dk_182 1 89 (dk_at dksX3_pageOf_0 2 rfl rfl)
theorem dX3_pageOf_5 : decode cX3_pageOf 5 = .ok (.istore_n 2, 1) := dk_61 (dk_at dksX3_pageOf_0 5 rfl rfl)
theorem dX3_pageOf_6 : decode cX3_pageOf 6 = .ok (.aload_n 0, 1) := dk_42 (dk_at dksX3_pageOf_0 6 rfl rfl)
theorem dX3_pageOf_7 : decode cX3_pageOf 7 = .ok (.getfield 123, 3) := dk_180 0 123 (dk_at dksX3_pageOf_0 7 rfl rfl)
theorem dX3_pageOf_10 : decode cX3_pageOf 10 = .ok (.ifCond .le 7, 3) := dk_158 0 7 (dk_at dksX3_pageOf_0 10 rfl rfl)
theorem dX3_pageOf_13 : decode cX3_pageOf 13 = .ok (.iconst 0, 1) := dk_3 (dk_at dksX3_pageOf_0 13 rfl rfl)
theorem dX3_pageOf_14 : decode cX3_pageOf 14 = .ok (.goto 9, 3) := dk_167 0 9 (dk_at dksX3_pageOf_0 14 rfl rfl)
theorem dX3_pageOf_17 : decode cX3_pageOf 17 = .ok (.iload_n 2, 1) := dk_28 (dk_at dksX3_pageOf_0 17 rfl rfl)
theorem dX3_pageOf_18 : decode cX3_pageOf 18 = .ok (.aload_n 0, 1) := dk_42 (dk_at dksX3_pageOf_0 18 rfl rfl)
theorem dX3_pageOf_19 : decode cX3_pageOf 19 = .ok (.getfield 113, 3) := dk_180 0 113 (dk_at dksX3_pageOf_0 19 rfl rfl)
theorem dX3_pageOf_22 : decode cX3_pageOf 22 = .ok (.idiv, 1) := dk_108 (dk_at dksX3_pageOf_0 22 rfl rfl)
theorem dX3_pageOf_23 : decode cX3_pageOf 23 = .ok (.ireturn, 1) := dk_172 (dk_at dksX3_pageOf_0 23 rfl rfl)
abbrev cX3_contract : ByteArray := prog_16_method_62_code
def yX3_contract : MethodName := ⟨RX3, "contract", "(I)I"⟩
def dkwX3_contract_6 : List UInt8 := [182, 0, 255, 172]
abbrev dktX3_contract_6 : List UInt8 := dkwX3_contract_6 ++ []
def dkwX3_contract_5 : List UInt8 := [42, 180, 0, 79, 27, 184, 0, 234, 182, 1, 3, 87, 42, 18, 77, 181, 0, 79, 42, 180, 0, 119]
abbrev dktX3_contract_5 : List UInt8 := dkwX3_contract_5 ++ dktX3_contract_6
def dkwX3_contract_4 : List UInt8 := [160, 0, 7, 6, 167, 0, 4, 3, 181, 0, 123, 42, 180, 0, 123, 158, 0, 5, 3, 172, 42, 180, 0, 119]
abbrev dktX3_contract_4 : List UInt8 := dkwX3_contract_4 ++ dktX3_contract_5
def dkwX3_contract_3 : List UInt8 := [154, 0, 7, 4, 167, 0, 28, 28, 153, 0, 7, 5, 167, 0, 20, 42, 180, 0, 119, 182, 0, 255, 16, 20]
abbrev dktX3_contract_3 : List UInt8 := dkwX3_contract_3 ++ dktX3_contract_4
def dkwX3_contract_2 : List UInt8 := [180, 0, 79, 182, 0, 251, 153, 0, 7, 4, 167, 0, 4, 3, 61, 42, 27, 16, 27, 16, 63, 184, 0, 220]
abbrev dktX3_contract_2 : List UInt8 := dkwX3_contract_2 ++ dktX3_contract_3
def dkwX3_contract_1 : List UInt8 := [153, 0, 31, 42, 180, 0, 119, 27, 184, 0, 234, 182, 1, 92, 154, 0, 17, 42, 180, 0, 119, 42]
abbrev dktX3_contract_1 : List UInt8 := dkwX3_contract_1 ++ dktX3_contract_2
def dkwX3_contract_0 : List UInt8 := [42, 180, 0, 79, 184, 1, 23, 153, 0, 46, 42, 180, 0, 79, 182, 0, 18, 5, 7, 184, 0, 220]
abbrev dktX3_contract_0 : List UInt8 := dkwX3_contract_0 ++ dktX3_contract_1
theorem dksX3_contract_0 : cX3_contract.data.toList.drop 0 = dktX3_contract_0 := by decide +kernel
theorem dksX3_contract_1 : cX3_contract.data.toList.drop 22 = dktX3_contract_1 := dk_seg dksX3_contract_0 22 rfl rfl
theorem dksX3_contract_2 : cX3_contract.data.toList.drop 44 = dktX3_contract_2 := dk_seg dksX3_contract_1 22 rfl rfl
theorem dksX3_contract_3 : cX3_contract.data.toList.drop 68 = dktX3_contract_3 := dk_seg dksX3_contract_2 24 rfl rfl
theorem dksX3_contract_4 : cX3_contract.data.toList.drop 92 = dktX3_contract_4 := dk_seg dksX3_contract_3 24 rfl rfl
theorem dksX3_contract_5 : cX3_contract.data.toList.drop 116 = dktX3_contract_5 := dk_seg dksX3_contract_4 24 rfl rfl
theorem dksX3_contract_6 : cX3_contract.data.toList.drop 138 = dktX3_contract_6 := dk_seg dksX3_contract_5 22 rfl rfl
theorem dX3_contract_0 : decode cX3_contract 0 = .ok (.aload_n 0, 1) := dk_42 (dk_at dksX3_contract_0 0 rfl rfl)
theorem dX3_contract_1 : decode cX3_contract 1 = .ok (.getfield 79, 3) := dk_180 0 79 (dk_at dksX3_contract_0 1 rfl rfl)
theorem dX3_contract_4 : decode cX3_contract 4 = .ok (.invokestatic 279, 3) := dk_184 1 23 (dk_at dksX3_contract_0 4 rfl rfl)
theorem dX3_contract_7 : decode cX3_contract 7 = .ok (.ifCond .eq 46, 3) := dk_153 0 46 (dk_at dksX3_contract_0 7 rfl rfl)
theorem dX3_contract_10 : decode cX3_contract 10 = .ok (.aload_n 0, 1) := dk_42 (dk_at dksX3_contract_0 10 rfl rfl)
theorem dX3_contract_11 : decode cX3_contract 11 = .ok (.getfield 79, 3) := dk_180 0 79 (dk_at dksX3_contract_0 11 rfl rfl)
theorem dX3_contract_14 : decode cX3_contract 14 = .ok (.invokevirtual 18, 3) := dk_182 0 18 (dk_at dksX3_contract_0 14 rfl rfl)
theorem dX3_contract_17 : decode cX3_contract 17 = .ok (.iconst 2, 1) := dk_5 (dk_at dksX3_contract_0 17 rfl rfl)
theorem dX3_contract_18 : decode cX3_contract 18 = .ok (.iconst 4, 1) := dk_7 (dk_at dksX3_contract_0 18 rfl rfl)
theorem dX3_contract_19 : decode cX3_contract 19 = .ok (.invokestatic 220, 3) := dk_184 0 220 (dk_at dksX3_contract_0 19 rfl rfl)
theorem dX3_contract_22 : decode cX3_contract 22 = .ok (.ifCond .eq 31, 3) := dk_153 0 31 (dk_at dksX3_contract_1 0 rfl rfl)
theorem dX3_contract_25 : decode cX3_contract 25 = .ok (.aload_n 0, 1) := dk_42 (dk_at dksX3_contract_1 3 rfl rfl)
theorem dX3_contract_26 : decode cX3_contract 26 = .ok (.getfield 119, 3) := dk_180 0 119 (dk_at dksX3_contract_1 4 rfl rfl)
theorem dX3_contract_29 : decode cX3_contract 29 = .ok (.iload_n 1, 1) := dk_27 (dk_at dksX3_contract_1 7 rfl rfl)
theorem dX3_contract_30 : decode cX3_contract 30 = .ok (.invokestatic 234, 3) := dk_184 0 234 (dk_at dksX3_contract_1 8 rfl rfl)
theorem dX3_contract_33 : decode cX3_contract 33 = .ok (.invokevirtual 348, 3) := dk_182 1 92 (dk_at dksX3_contract_1 11 rfl rfl)
theorem dX3_contract_36 : decode cX3_contract 36 = .ok (.ifCond .ne 17, 3) := dk_154 0 17 (dk_at dksX3_contract_1 14 rfl rfl)
theorem dX3_contract_39 : decode cX3_contract 39 = .ok (.aload_n 0, 1) := dk_42 (dk_at dksX3_contract_1 17 rfl rfl)
theorem dX3_contract_40 : decode cX3_contract 40 = .ok (.getfield 119, 3) := dk_180 0 119 (dk_at dksX3_contract_1 18 rfl rfl)
theorem dX3_contract_43 : decode cX3_contract 43 = .ok (.aload_n 0, 1) := dk_42 (dk_at dksX3_contract_1 21 rfl rfl)
theorem dX3_contract_44 : decode cX3_contract 44 = .ok (.getfield 79, 3) := dk_180 0 79 (dk_at dksX3_contract_2 0 rfl rfl)
theorem dX3_contract_47 : decode cX3_contract 47 = .ok (.invokevirtual 251, 3) := dk_182 0 251 (dk_at dksX3_contract_2 3 rfl rfl)
theorem dX3_contract_50 : decode cX3_contract 50 = .ok (.ifCond .eq 7, 3) := dk_153 0 7 (dk_at dksX3_contract_2 6 rfl rfl)
theorem dX3_contract_53 : decode cX3_contract 53 = .ok (.iconst 1, 1) := dk_4 (dk_at dksX3_contract_2 9 rfl rfl)
theorem dX3_contract_54 : decode cX3_contract 54 = .ok (.goto 4, 3) := dk_167 0 4 (dk_at dksX3_contract_2 10 rfl rfl)
theorem dX3_contract_57 : decode cX3_contract 57 = .ok (.iconst 0, 1) := dk_3 (dk_at dksX3_contract_2 13 rfl rfl)
theorem dX3_contract_58 : decode cX3_contract 58 = .ok (.istore_n 2, 1) := dk_61 (dk_at dksX3_contract_2 14 rfl rfl)
theorem dX3_contract_59 : decode cX3_contract 59 = .ok (.aload_n 0, 1) := dk_42 (dk_at dksX3_contract_2 15 rfl rfl)
theorem dX3_contract_60 : decode cX3_contract 60 = .ok (.iload_n 1, 1) := dk_27 (dk_at dksX3_contract_2 16 rfl rfl)
theorem dX3_contract_61 : decode cX3_contract 61 = .ok (.bipush 27, 2) := dk_16 27 (dk_at dksX3_contract_2 17 rfl rfl)
theorem dX3_contract_63 : decode cX3_contract 63 = .ok (.bipush 63, 2) := dk_16 63 (dk_at dksX3_contract_2 19 rfl rfl)
theorem dX3_contract_65 : decode cX3_contract 65 = .ok (.invokestatic 220, 3) := dk_184 0 220 (dk_at dksX3_contract_2 21 rfl rfl)
theorem dX3_contract_68 : decode cX3_contract 68 = .ok (.ifCond .ne 7, 3) := dk_154 0 7 (dk_at dksX3_contract_3 0 rfl rfl)
theorem dX3_contract_71 : decode cX3_contract 71 = .ok (.iconst 1, 1) := dk_4 (dk_at dksX3_contract_3 3 rfl rfl)
theorem dX3_contract_72 : decode cX3_contract 72 = .ok (.goto 28, 3) := dk_167 0 28 (dk_at dksX3_contract_3 4 rfl rfl)
theorem dX3_contract_75 : decode cX3_contract 75 = .ok (.iload_n 2, 1) := dk_28 (dk_at dksX3_contract_3 7 rfl rfl)
theorem dX3_contract_76 : decode cX3_contract 76 = .ok (.ifCond .eq 7, 3) := dk_153 0 7 (dk_at dksX3_contract_3 8 rfl rfl)
theorem dX3_contract_79 : decode cX3_contract 79 = .ok (.iconst 2, 1) := dk_5 (dk_at dksX3_contract_3 11 rfl rfl)
theorem dX3_contract_80 : decode cX3_contract 80 = .ok (.goto 20, 3) := dk_167 0 20 (dk_at dksX3_contract_3 12 rfl rfl)
theorem dX3_contract_83 : decode cX3_contract 83 = .ok (.aload_n 0, 1) := dk_42 (dk_at dksX3_contract_3 15 rfl rfl)
theorem dX3_contract_84 : decode cX3_contract 84 = .ok (.getfield 119, 3) := dk_180 0 119 (dk_at dksX3_contract_3 16 rfl rfl)
theorem dX3_contract_87 : decode cX3_contract 87 = .ok (.invokevirtual 255, 3) := dk_182 0 255 (dk_at dksX3_contract_3 19 rfl rfl)
theorem dX3_contract_90 : decode cX3_contract 90 = .ok (.bipush 20, 2) := dk_16 20 (dk_at dksX3_contract_3 22 rfl rfl)
theorem dX3_contract_92 : decode cX3_contract 92 = .ok (.if_icmp .ne 7, 3) := dk_160 0 7 (dk_at dksX3_contract_4 0 rfl rfl)
theorem dX3_contract_95 : decode cX3_contract 95 = .ok (.iconst 3, 1) := dk_6 (dk_at dksX3_contract_4 3 rfl rfl)
theorem dX3_contract_96 : decode cX3_contract 96 = .ok (.goto 4, 3) := dk_167 0 4 (dk_at dksX3_contract_4 4 rfl rfl)
theorem dX3_contract_99 : decode cX3_contract 99 = .ok (.iconst 0, 1) := dk_3 (dk_at dksX3_contract_4 7 rfl rfl)
theorem dX3_contract_100 : decode cX3_contract 100 = .ok (.putfield 123, 3) := dk_181 0 123 (dk_at dksX3_contract_4 8 rfl rfl)
theorem dX3_contract_103 : decode cX3_contract 103 = .ok (.aload_n 0, 1) := dk_42 (dk_at dksX3_contract_4 11 rfl rfl)
theorem dX3_contract_104 : decode cX3_contract 104 = .ok (.getfield 123, 3) := dk_180 0 123 (dk_at dksX3_contract_4 12 rfl rfl)
theorem dX3_contract_107 : decode cX3_contract 107 = .ok (.ifCond .le 5, 3) := dk_158 0 5 (dk_at dksX3_contract_4 15 rfl rfl)
theorem dX3_contract_110 : decode cX3_contract 110 = .ok (.iconst 0, 1) := dk_3 (dk_at dksX3_contract_4 18 rfl rfl)
theorem dX3_contract_111 : decode cX3_contract 111 = .ok (.ireturn, 1) := dk_172 (dk_at dksX3_contract_4 19 rfl rfl)
theorem dX3_contract_112 : decode cX3_contract 112 = .ok (.aload_n 0, 1) := dk_42 (dk_at dksX3_contract_4 20 rfl rfl)
theorem dX3_contract_113 : decode cX3_contract 113 = .ok (.getfield 119, 3) := dk_180 0 119 (dk_at dksX3_contract_4 21 rfl rfl)
theorem dX3_contract_116 : decode cX3_contract 116 = .ok (.aload_n 0, 1) := dk_42 (dk_at dksX3_contract_5 0 rfl rfl)
theorem dX3_contract_117 : decode cX3_contract 117 = .ok (.getfield 79, 3) := dk_180 0 79 (dk_at dksX3_contract_5 1 rfl rfl)
theorem dX3_contract_120 : decode cX3_contract 120 = .ok (.iload_n 1, 1) := dk_27 (dk_at dksX3_contract_5 4 rfl rfl)
theorem dX3_contract_121 : decode cX3_contract 121 = .ok (.invokestatic 234, 3) := dk_184 0 234 (dk_at dksX3_contract_5 5 rfl rfl)
theorem dX3_contract_124 : decode cX3_contract 124 = .ok (.invokevirtual 259, 3) := dk_182 1 3 (dk_at dksX3_contract_5 8 rfl rfl)
theorem dX3_contract_127 : decode cX3_contract 127 = .ok (.pop, 1) := dk_87 (dk_at dksX3_contract_5 11 rfl rfl)
theorem dX3_contract_128 : decode cX3_contract 128 = .ok (.aload_n 0, 1) := dk_42 (dk_at dksX3_contract_5 12 rfl rfl)
theorem dX3_contract_129 : decode cX3_contract 129 = .ok (.ldc 77, 2) := dk_18 77 (dk_at dksX3_contract_5 13 rfl rfl)
theorem dX3_contract_131 : decode cX3_contract 131 = .ok (.putfield 79, 3) := dk_181 0 79 (dk_at dksX3_contract_5 15 rfl rfl)
theorem dX3_contract_134 : decode cX3_contract 134 = .ok (.aload_n 0, 1) := dk_42 (dk_at dksX3_contract_5 18 rfl rfl)
theorem dX3_contract_135 : decode cX3_contract 135 = .ok (.getfield 119, 3) := dk_180 0 119 (dk_at dksX3_contract_5 19 rfl rfl)
theorem dX3_contract_138 : decode cX3_contract 138 = .ok (.invokevirtual 255, 3) := dk_182 0 255 (dk_at dksX3_contract_6 0 rfl rfl)
theorem dX3_contract_141 : decode cX3_contract 141 = .ok (.ireturn, 1) := dk_172 (dk_at dksX3_contract_6 3 rfl rfl)
abbrev cX3_brailleLength : ByteArray := prog_16_method_64_code
def yX3_brailleLength : MethodName := ⟨RX3, "brailleLength", "()I"⟩
def dkwX3_brailleLength_0 : List UInt8 := [42, 3, 181, 0, 123, 42, 182, 1, 99, 182, 0, 163, 172]
abbrev dktX3_brailleLength_0 : List UInt8 := dkwX3_brailleLength_0 ++ []
theorem dksX3_brailleLength_0 : cX3_brailleLength.data.toList.drop 0 = dktX3_brailleLength_0 := by decide +kernel
theorem dX3_brailleLength_0 : decode cX3_brailleLength 0 = .ok (.aload_n 0, 1) := dk_42 (dk_at dksX3_brailleLength_0 0 rfl rfl)
theorem dX3_brailleLength_1 : decode cX3_brailleLength 1 = .ok (.iconst 0, 1) := dk_3 (dk_at dksX3_brailleLength_0 1 rfl rfl)
theorem dX3_brailleLength_2 : decode cX3_brailleLength 2 = .ok (.putfield 123, 3) := dk_181 0 123 (dk_at dksX3_brailleLength_0 2 rfl rfl)
theorem dX3_brailleLength_5 : decode cX3_brailleLength 5 = .ok (.aload_n 0, 1) := dk_42 (dk_at dksX3_brailleLength_0 5 rfl rfl)
theorem dX3_brailleLength_6 : decode cX3_brailleLength 6 = .ok (.invokevirtual 355, 3) := dk_182 1 99 (dk_at dksX3_brailleLength_0 6 rfl rfl)
theorem dX3_brailleLength_9 : decode cX3_brailleLength 9 = .ok (.invokevirtual 163, 3) := dk_182 0 163 (dk_at dksX3_brailleLength_0 9 rfl rfl)
theorem dX3_brailleLength_12 : decode cX3_brailleLength 12 = .ok (.ireturn, 1) := dk_172 (dk_at dksX3_brailleLength_0 12 rfl rfl)
abbrev cX3_cells : ByteArray := prog_16_method_63_code
def yX3_cells : MethodName := ⟨RX3, "cells", "()Ljava/util/ArrayList;"⟩
def dkwX3_cells_12 : List UInt8 := [184, 0, 234, 182, 0, 202, 87, 21, 5, 62, 167, 254, 239, 44, 176]
abbrev dktX3_cells_12 : List UInt8 := dkwX3_cells_12 ++ []
def dkwX3_cells_11 : List UInt8 := [182, 0, 152, 192, 0, 140, 182, 0, 142, 167, 0, 13, 21, 4, 184, 1, 95, 16, 97, 100, 4, 96]
abbrev dktX3_cells_11 : List UInt8 := dkwX3_cells_11 ++ dktX3_cells_12
def dkwX3_cells_10 : List UInt8 := [21, 4, 184, 1, 95, 182, 0, 46, 43, 29, 4, 96, 21, 5, 182, 0, 22, 182, 0, 32, 182, 0, 38]
abbrev dktX3_cells_10 : List UInt8 := dkwX3_cells_10 ++ dktX3_cells_11
def dkwX3_cells_9 : List UInt8 := [167, 255, 205, 44, 21, 5, 29, 4, 96, 164, 0, 49, 42, 180, 0, 119, 187, 0, 26, 89, 183, 0, 28]
abbrev dktX3_cells_9 : List UInt8 := dkwX3_cells_9 ++ dktX3_cells_10
def dkwX3_cells_8 : List UInt8 := [4, 96, 21, 5, 182, 0, 22, 182, 0, 32, 182, 0, 38, 182, 0, 251, 154, 0, 9, 132, 5, 255]
abbrev dktX3_cells_8 : List UInt8 := dkwX3_cells_8 ++ dktX3_cells_9
def dkwX3_cells_7 : List UInt8 := [164, 0, 49, 42, 180, 0, 119, 187, 0, 26, 89, 183, 0, 28, 21, 4, 184, 1, 95, 182, 0, 46, 43, 29]
abbrev dktX3_cells_7 : List UInt8 := dkwX3_cells_7 ++ dktX3_cells_8
def dkwX3_cells_6 : List UInt8 := [21, 5, 182, 0, 42, 184, 0, 1, 153, 0, 9, 132, 5, 1, 167, 255, 224, 21, 5, 29, 4, 96]
abbrev dktX3_cells_6 : List UInt8 := dkwX3_cells_6 ++ dktX3_cells_7
def dkwX3_cells_5 : List UInt8 := [29, 4, 96, 54, 5, 21, 5, 43, 182, 0, 18, 162, 0, 29, 21, 5, 29, 7, 96, 162, 0, 21, 43]
abbrev dktX3_cells_5 : List UInt8 := dkwX3_cells_5 ++ dktX3_cells_6
def dkwX3_cells_4 : List UInt8 := [132, 3, 1, 167, 255, 173, 21, 4, 184, 0, 1, 154, 0, 13, 44, 16, 64, 184, 0, 234, 182, 0, 202, 87]
abbrev dktX3_cells_4 : List UInt8 := dkwX3_cells_4 ++ dktX3_cells_5
def dkwX3_cells_3 : List UInt8 := [167, 0, 17, 21, 4, 16, 44, 160, 0, 8, 16, 68, 167, 0, 5, 16, 69, 184, 0, 234, 182, 0, 202, 87]
abbrev dktX3_cells_3 : List UInt8 := dkwX3_cells_3 ++ dktX3_cells_4
def dkwX3_cells_2 : List UInt8 := [167, 0, 41, 21, 4, 16, 124, 160, 0, 8, 16, 66, 167, 0, 29, 21, 4, 16, 46, 160, 0, 8, 16, 67]
abbrev dktX3_cells_2 : List UInt8 := dkwX3_cells_2 ++ dktX3_cells_3
def dkwX3_cells_1 : List UInt8 := [29, 182, 0, 42, 54, 4, 21, 4, 184, 0, 15, 154, 0, 66, 44, 21, 4, 16, 32, 160, 0, 7, 3]
abbrev dktX3_cells_1 : List UInt8 := dkwX3_cells_1 ++ dktX3_cells_2
def dkwX3_cells_0 : List UInt8 := [42, 182, 1, 54, 76, 187, 0, 67, 89, 183, 0, 69, 77, 3, 62, 29, 43, 182, 0, 18, 162, 1, 15, 43]
abbrev dktX3_cells_0 : List UInt8 := dkwX3_cells_0 ++ dktX3_cells_1
theorem dksX3_cells_0 : cX3_cells.data.toList.drop 0 = dktX3_cells_0 := by decide +kernel
theorem dksX3_cells_1 : cX3_cells.data.toList.drop 24 = dktX3_cells_1 := dk_seg dksX3_cells_0 24 rfl rfl
theorem dksX3_cells_2 : cX3_cells.data.toList.drop 47 = dktX3_cells_2 := dk_seg dksX3_cells_1 23 rfl rfl
theorem dksX3_cells_3 : cX3_cells.data.toList.drop 71 = dktX3_cells_3 := dk_seg dksX3_cells_2 24 rfl rfl
theorem dksX3_cells_4 : cX3_cells.data.toList.drop 95 = dktX3_cells_4 := dk_seg dksX3_cells_3 24 rfl rfl
theorem dksX3_cells_5 : cX3_cells.data.toList.drop 119 = dktX3_cells_5 := dk_seg dksX3_cells_4 24 rfl rfl
theorem dksX3_cells_6 : cX3_cells.data.toList.drop 142 = dktX3_cells_6 := dk_seg dksX3_cells_5 23 rfl rfl
theorem dksX3_cells_7 : cX3_cells.data.toList.drop 164 = dktX3_cells_7 := dk_seg dksX3_cells_6 22 rfl rfl
theorem dksX3_cells_8 : cX3_cells.data.toList.drop 188 = dktX3_cells_8 := dk_seg dksX3_cells_7 24 rfl rfl
theorem dksX3_cells_9 : cX3_cells.data.toList.drop 210 = dktX3_cells_9 := dk_seg dksX3_cells_8 22 rfl rfl
theorem dksX3_cells_10 : cX3_cells.data.toList.drop 233 = dktX3_cells_10 := dk_seg dksX3_cells_9 23 rfl rfl
theorem dksX3_cells_11 : cX3_cells.data.toList.drop 256 = dktX3_cells_11 := dk_seg dksX3_cells_10 23 rfl rfl
theorem dksX3_cells_12 : cX3_cells.data.toList.drop 278 = dktX3_cells_12 := dk_seg dksX3_cells_11 22 rfl rfl
theorem dX3_cells_0 : decode cX3_cells 0 = .ok (.aload_n 0, 1) := dk_42 (dk_at dksX3_cells_0 0 rfl rfl)
theorem dX3_cells_1 : decode cX3_cells 1 = .ok (.invokevirtual 310, 3) := dk_182 1 54 (dk_at dksX3_cells_0 1 rfl rfl)
theorem dX3_cells_4 : decode cX3_cells 4 = .ok (.astore_n 1, 1) := dk_76 (dk_at dksX3_cells_0 4 rfl rfl)
theorem dX3_cells_5 : decode cX3_cells 5 = .ok (.new 67, 3) := dk_187 0 67 (dk_at dksX3_cells_0 5 rfl rfl)
theorem dX3_cells_8 : decode cX3_cells 8 = .ok (.dup, 1) := dk_89 (dk_at dksX3_cells_0 8 rfl rfl)
theorem dX3_cells_9 : decode cX3_cells 9 = .ok (.invokespecial 69, 3) := dk_183 0 69 (dk_at dksX3_cells_0 9 rfl rfl)
theorem dX3_cells_12 : decode cX3_cells 12 = .ok (.astore_n 2, 1) := dk_77 (dk_at dksX3_cells_0 12 rfl rfl)
theorem dX3_cells_13 : decode cX3_cells 13 = .ok (.iconst 0, 1) := dk_3 (dk_at dksX3_cells_0 13 rfl rfl)
theorem dX3_cells_14 : decode cX3_cells 14 = .ok (.istore_n 3, 1) := dk_62 (dk_at dksX3_cells_0 14 rfl rfl)
theorem dX3_cells_15 : decode cX3_cells 15 = .ok (.iload_n 3, 1) := dk_29 (dk_at dksX3_cells_0 15 rfl rfl)
theorem dX3_cells_16 : decode cX3_cells 16 = .ok (.aload_n 1, 1) := dk_43 (dk_at dksX3_cells_0 16 rfl rfl)
theorem dX3_cells_17 : decode cX3_cells 17 = .ok (.invokevirtual 18, 3) := dk_182 0 18 (dk_at dksX3_cells_0 17 rfl rfl)
theorem dX3_cells_20 : decode cX3_cells 20 = .ok (.if_icmp .ge 271, 3) := dk_162 1 15 (dk_at dksX3_cells_0 20 rfl rfl)
theorem dX3_cells_23 : decode cX3_cells 23 = .ok (.aload_n 1, 1) := dk_43 (dk_at dksX3_cells_0 23 rfl rfl)
theorem dX3_cells_24 : decode cX3_cells 24 = .ok (.iload_n 3, 1) := dk_29 (dk_at dksX3_cells_1 0 rfl rfl)
theorem dX3_cells_25 : decode cX3_cells 25 = .ok (.invokevirtual 42, 3) := dk_182 0 42 (dk_at dksX3_cells_1 1 rfl rfl)
theorem dX3_cells_28 : decode cX3_cells 28 = .ok (.istore 4, 2) := dk_54 4 (dk_at dksX3_cells_1 4 rfl rfl)
theorem dX3_cells_30 : decode cX3_cells 30 = .ok (.iload 4, 2) := dk_21 4 (dk_at dksX3_cells_1 6 rfl rfl)
theorem dX3_cells_32 : decode cX3_cells 32 = .ok (.invokestatic 15, 3) := dk_184 0 15 (dk_at dksX3_cells_1 8 rfl rfl)
theorem dX3_cells_35 : decode cX3_cells 35 = .ok (.ifCond .ne 66, 3) := dk_154 0 66 (dk_at dksX3_cells_1 11 rfl rfl)
theorem dX3_cells_38 : decode cX3_cells 38 = .ok (.aload_n 2, 1) := dk_44 (dk_at dksX3_cells_1 14 rfl rfl)
theorem dX3_cells_39 : decode cX3_cells 39 = .ok (.iload 4, 2) := dk_21 4 (dk_at dksX3_cells_1 15 rfl rfl)
theorem dX3_cells_41 : decode cX3_cells 41 = .ok (.bipush 32, 2) := dk_16 32 (dk_at dksX3_cells_1 17 rfl rfl)
theorem dX3_cells_43 : decode cX3_cells 43 = .ok (.if_icmp .ne 7, 3) := dk_160 0 7 (dk_at dksX3_cells_1 19 rfl rfl)
theorem dX3_cells_46 : decode cX3_cells 46 = .ok (.iconst 0, 1) := dk_3 (dk_at dksX3_cells_1 22 rfl rfl)
theorem dX3_cells_47 : decode cX3_cells 47 = .ok (.goto 41, 3) := dk_167 0 41 (dk_at dksX3_cells_2 0 rfl rfl)
theorem dX3_cells_50 : decode cX3_cells 50 = .ok (.iload 4, 2) := dk_21 4 (dk_at dksX3_cells_2 3 rfl rfl)
theorem dX3_cells_52 : decode cX3_cells 52 = .ok (.bipush 124, 2) := dk_16 124 (dk_at dksX3_cells_2 5 rfl rfl)
theorem dX3_cells_54 : decode cX3_cells 54 = .ok (.if_icmp .ne 8, 3) := dk_160 0 8 (dk_at dksX3_cells_2 7 rfl rfl)
theorem dX3_cells_57 : decode cX3_cells 57 = .ok (.bipush 66, 2) := dk_16 66 (dk_at dksX3_cells_2 10 rfl rfl)
theorem dX3_cells_59 : decode cX3_cells 59 = .ok (.goto 29, 3) := dk_167 0 29 (dk_at dksX3_cells_2 12 rfl rfl)
theorem dX3_cells_62 : decode cX3_cells 62 = .ok (.iload 4, 2) := dk_21 4 (dk_at dksX3_cells_2 15 rfl rfl)
theorem dX3_cells_64 : decode cX3_cells 64 = .ok (.bipush 46, 2) := dk_16 46 (dk_at dksX3_cells_2 17 rfl rfl)
theorem dX3_cells_66 : decode cX3_cells 66 = .ok (.if_icmp .ne 8, 3) := dk_160 0 8 (dk_at dksX3_cells_2 19 rfl rfl)
theorem dX3_cells_69 : decode cX3_cells 69 = .ok (.bipush 67, 2) := dk_16 67 (dk_at dksX3_cells_2 22 rfl rfl)
theorem dX3_cells_71 : decode cX3_cells 71 = .ok (.goto 17, 3) := dk_167 0 17 (dk_at dksX3_cells_3 0 rfl rfl)
theorem dX3_cells_74 : decode cX3_cells 74 = .ok (.iload 4, 2) := dk_21 4 (dk_at dksX3_cells_3 3 rfl rfl)
theorem dX3_cells_76 : decode cX3_cells 76 = .ok (.bipush 44, 2) := dk_16 44 (dk_at dksX3_cells_3 5 rfl rfl)
theorem dX3_cells_78 : decode cX3_cells 78 = .ok (.if_icmp .ne 8, 3) := dk_160 0 8 (dk_at dksX3_cells_3 7 rfl rfl)
theorem dX3_cells_81 : decode cX3_cells 81 = .ok (.bipush 68, 2) := dk_16 68 (dk_at dksX3_cells_3 10 rfl rfl)
theorem dX3_cells_83 : decode cX3_cells 83 = .ok (.goto 5, 3) := dk_167 0 5 (dk_at dksX3_cells_3 12 rfl rfl)
theorem dX3_cells_86 : decode cX3_cells 86 = .ok (.bipush 69, 2) := dk_16 69 (dk_at dksX3_cells_3 15 rfl rfl)
theorem dX3_cells_88 : decode cX3_cells 88 = .ok (.invokestatic 234, 3) := dk_184 0 234 (dk_at dksX3_cells_3 17 rfl rfl)
theorem dX3_cells_91 : decode cX3_cells 91 = .ok (.invokevirtual 202, 3) := dk_182 0 202 (dk_at dksX3_cells_3 20 rfl rfl)
theorem dX3_cells_94 : decode cX3_cells 94 = .ok (.pop, 1) := dk_87 (dk_at dksX3_cells_3 23 rfl rfl)
theorem dX3_cells_95 : decode cX3_cells 95 = .ok (.iinc 3 1, 3) := dk_132 3 1 (dk_at dksX3_cells_4 0 rfl rfl)
theorem dX3_cells_98 : decode cX3_cells 98 = .ok (.goto (-83), 3) := dk_167 255 173 (dk_at dksX3_cells_4 3 rfl rfl)
theorem dX3_cells_101 : decode cX3_cells 101 = .ok (.iload 4, 2) := dk_21 4 (dk_at dksX3_cells_4 6 rfl rfl)
theorem dX3_cells_103 : decode cX3_cells 103 = .ok (.invokestatic 1, 3) := dk_184 0 1 (dk_at dksX3_cells_4 8 rfl rfl)
theorem dX3_cells_106 : decode cX3_cells 106 = .ok (.ifCond .ne 13, 3) := dk_154 0 13 (dk_at dksX3_cells_4 11 rfl rfl)
theorem dX3_cells_109 : decode cX3_cells 109 = .ok (.aload_n 2, 1) := dk_44 (dk_at dksX3_cells_4 14 rfl rfl)
theorem dX3_cells_110 : decode cX3_cells 110 = .ok (.bipush 64, 2) := dk_16 64 (dk_at dksX3_cells_4 15 rfl rfl)
theorem dX3_cells_112 : decode cX3_cells 112 = .ok (.invokestatic 234, 3) := dk_184 0 234 (dk_at dksX3_cells_4 17 rfl rfl)
theorem dX3_cells_115 : decode cX3_cells 115 = .ok (.invokevirtual 202, 3) := dk_182 0 202 (dk_at dksX3_cells_4 20 rfl rfl)
theorem dX3_cells_118 : decode cX3_cells 118 = .ok (.pop, 1) := dk_87 (dk_at dksX3_cells_4 23 rfl rfl)
theorem dX3_cells_119 : decode cX3_cells 119 = .ok (.iload_n 3, 1) := dk_29 (dk_at dksX3_cells_5 0 rfl rfl)
theorem dX3_cells_120 : decode cX3_cells 120 = .ok (.iconst 1, 1) := dk_4 (dk_at dksX3_cells_5 1 rfl rfl)
theorem dX3_cells_121 : decode cX3_cells 121 = .ok (.iadd, 1) := dk_96 (dk_at dksX3_cells_5 2 rfl rfl)
theorem dX3_cells_122 : decode cX3_cells 122 = .ok (.istore 5, 2) := dk_54 5 (dk_at dksX3_cells_5 3 rfl rfl)
theorem dX3_cells_124 : decode cX3_cells 124 = .ok (.iload 5, 2) := dk_21 5 (dk_at dksX3_cells_5 5 rfl rfl)
theorem dX3_cells_126 : decode cX3_cells 126 = .ok (.aload_n 1, 1) := dk_43 (dk_at dksX3_cells_5 7 rfl rfl)
theorem dX3_cells_127 : decode cX3_cells 127 = .ok (.invokevirtual 18, 3) := dk_182 0 18 (dk_at dksX3_cells_5 8 rfl rfl)
theorem dX3_cells_130 : decode cX3_cells 130 = .ok (.if_icmp .ge 29, 3) := dk_162 0 29 (dk_at dksX3_cells_5 11 rfl rfl)
theorem dX3_cells_133 : decode cX3_cells 133 = .ok (.iload 5, 2) := dk_21 5 (dk_at dksX3_cells_5 14 rfl rfl)
theorem dX3_cells_135 : decode cX3_cells 135 = .ok (.iload_n 3, 1) := dk_29 (dk_at dksX3_cells_5 16 rfl rfl)
theorem dX3_cells_136 : decode cX3_cells 136 = .ok (.iconst 4, 1) := dk_7 (dk_at dksX3_cells_5 17 rfl rfl)
theorem dX3_cells_137 : decode cX3_cells 137 = .ok (.iadd, 1) := dk_96 (dk_at dksX3_cells_5 18 rfl rfl)
theorem dX3_cells_138 : decode cX3_cells 138 = .ok (.if_icmp .ge 21, 3) := dk_162 0 21 (dk_at dksX3_cells_5 19 rfl rfl)
theorem dX3_cells_141 : decode cX3_cells 141 = .ok (.aload_n 1, 1) := dk_43 (dk_at dksX3_cells_5 22 rfl rfl)
theorem dX3_cells_142 : decode cX3_cells 142 = .ok (.iload 5, 2) := dk_21 5 (dk_at dksX3_cells_6 0 rfl rfl)
theorem dX3_cells_144 : decode cX3_cells 144 = .ok (.invokevirtual 42, 3) := dk_182 0 42 (dk_at dksX3_cells_6 2 rfl rfl)
theorem dX3_cells_147 : decode cX3_cells 147 = .ok (.invokestatic 1, 3) := dk_184 0 1 (dk_at dksX3_cells_6 5 rfl rfl)
theorem dX3_cells_150 : decode cX3_cells 150 = .ok (.ifCond .eq 9, 3) := dk_153 0 9 (dk_at dksX3_cells_6 8 rfl rfl)
theorem dX3_cells_153 : decode cX3_cells 153 = .ok (.iinc 5 1, 3) := dk_132 5 1 (dk_at dksX3_cells_6 11 rfl rfl)
theorem dX3_cells_156 : decode cX3_cells 156 = .ok (.goto (-32), 3) := dk_167 255 224 (dk_at dksX3_cells_6 14 rfl rfl)
theorem dX3_cells_159 : decode cX3_cells 159 = .ok (.iload 5, 2) := dk_21 5 (dk_at dksX3_cells_6 17 rfl rfl)
theorem dX3_cells_161 : decode cX3_cells 161 = .ok (.iload_n 3, 1) := dk_29 (dk_at dksX3_cells_6 19 rfl rfl)
theorem dX3_cells_162 : decode cX3_cells 162 = .ok (.iconst 1, 1) := dk_4 (dk_at dksX3_cells_6 20 rfl rfl)
theorem dX3_cells_163 : decode cX3_cells 163 = .ok (.iadd, 1) := dk_96 (dk_at dksX3_cells_6 21 rfl rfl)
theorem dX3_cells_164 : decode cX3_cells 164 = .ok (.if_icmp .le 49, 3) := dk_164 0 49 (dk_at dksX3_cells_7 0 rfl rfl)
theorem dX3_cells_167 : decode cX3_cells 167 = .ok (.aload_n 0, 1) := dk_42 (dk_at dksX3_cells_7 3 rfl rfl)
theorem dX3_cells_168 : decode cX3_cells 168 = .ok (.getfield 119, 3) := dk_180 0 119 (dk_at dksX3_cells_7 4 rfl rfl)
theorem dX3_cells_171 : decode cX3_cells 171 = .ok (.new 26, 3) := dk_187 0 26 (dk_at dksX3_cells_7 7 rfl rfl)
theorem dX3_cells_174 : decode cX3_cells 174 = .ok (.dup, 1) := dk_89 (dk_at dksX3_cells_7 10 rfl rfl)
theorem dX3_cells_175 : decode cX3_cells 175 = .ok (.invokespecial 28, 3) := dk_183 0 28 (dk_at dksX3_cells_7 11 rfl rfl)
theorem dX3_cells_178 : decode cX3_cells 178 = .ok (.iload 4, 2) := dk_21 4 (dk_at dksX3_cells_7 14 rfl rfl)
theorem dX3_cells_180 : decode cX3_cells 180 = .ok (.invokestatic 351, 3) := dk_184 1 95 (dk_at dksX3_cells_7 16 rfl rfl)
theorem dX3_cells_183 : decode cX3_cells 183 = .ok (.invokevirtual 46, 3) := dk_182 0 46 (dk_at dksX3_cells_7 19 rfl rfl)
theorem dX3_cells_186 : decode cX3_cells 186 = .ok (.aload_n 1, 1) := dk_43 (dk_at dksX3_cells_7 22 rfl rfl)
theorem dX3_cells_187 : decode cX3_cells 187 = .ok (.iload_n 3, 1) := dk_29 (dk_at dksX3_cells_7 23 rfl rfl)
theorem dX3_cells_188 : decode cX3_cells 188 = .ok (.iconst 1, 1) := dk_4 (dk_at dksX3_cells_8 0 rfl rfl)
theorem dX3_cells_189 : decode cX3_cells 189 = .ok (.iadd, 1) := dk_96 (dk_at dksX3_cells_8 1 rfl rfl)
theorem dX3_cells_190 : decode cX3_cells 190 = .ok (.iload 5, 2) := dk_21 5 (dk_at dksX3_cells_8 2 rfl rfl)
theorem dX3_cells_192 : decode cX3_cells 192 = .ok (.invokevirtual 22, 3) := dk_182 0 22 (dk_at dksX3_cells_8 4 rfl rfl)
theorem dX3_cells_195 : decode cX3_cells 195 = .ok (.invokevirtual 32, 3) := dk_182 0 32 (dk_at dksX3_cells_8 7 rfl rfl)
theorem dX3_cells_198 : decode cX3_cells 198 = .ok (.invokevirtual 38, 3) := dk_182 0 38 (dk_at dksX3_cells_8 10 rfl rfl)
theorem dX3_cells_201 : decode cX3_cells 201 = .ok (.invokevirtual 251, 3) := dk_182 0 251 (dk_at dksX3_cells_8 13 rfl rfl)
theorem dX3_cells_204 : decode cX3_cells 204 = .ok (.ifCond .ne 9, 3) := dk_154 0 9 (dk_at dksX3_cells_8 16 rfl rfl)
theorem dX3_cells_207 : decode cX3_cells 207 = .ok (.iinc 5 (-1), 3) := dk_132 5 255 (dk_at dksX3_cells_8 19 rfl rfl)
theorem dX3_cells_210 : decode cX3_cells 210 = .ok (.goto (-51), 3) := dk_167 255 205 (dk_at dksX3_cells_9 0 rfl rfl)
theorem dX3_cells_213 : decode cX3_cells 213 = .ok (.aload_n 2, 1) := dk_44 (dk_at dksX3_cells_9 3 rfl rfl)
theorem dX3_cells_214 : decode cX3_cells 214 = .ok (.iload 5, 2) := dk_21 5 (dk_at dksX3_cells_9 4 rfl rfl)
theorem dX3_cells_216 : decode cX3_cells 216 = .ok (.iload_n 3, 1) := dk_29 (dk_at dksX3_cells_9 6 rfl rfl)
theorem dX3_cells_217 : decode cX3_cells 217 = .ok (.iconst 1, 1) := dk_4 (dk_at dksX3_cells_9 7 rfl rfl)
theorem dX3_cells_218 : decode cX3_cells 218 = .ok (.iadd, 1) := dk_96 (dk_at dksX3_cells_9 8 rfl rfl)
theorem dX3_cells_219 : decode cX3_cells 219 = .ok (.if_icmp .le 49, 3) := dk_164 0 49 (dk_at dksX3_cells_9 9 rfl rfl)
theorem dX3_cells_222 : decode cX3_cells 222 = .ok (.aload_n 0, 1) := dk_42 (dk_at dksX3_cells_9 12 rfl rfl)
theorem dX3_cells_223 : decode cX3_cells 223 = .ok (.getfield 119, 3) := dk_180 0 119 (dk_at dksX3_cells_9 13 rfl rfl)
theorem dX3_cells_226 : decode cX3_cells 226 = .ok (.new 26, 3) := dk_187 0 26 (dk_at dksX3_cells_9 16 rfl rfl)
theorem dX3_cells_229 : decode cX3_cells 229 = .ok (.dup, 1) := dk_89 (dk_at dksX3_cells_9 19 rfl rfl)
theorem dX3_cells_230 : decode cX3_cells 230 = .ok (.invokespecial 28, 3) := dk_183 0 28 (dk_at dksX3_cells_9 20 rfl rfl)
theorem dX3_cells_233 : decode cX3_cells 233 = .ok (.iload 4, 2) := dk_21 4 (dk_at dksX3_cells_10 0 rfl rfl)
theorem dX3_cells_235 : decode cX3_cells 235 = .ok (.invokestatic 351, 3) := dk_184 1 95 (dk_at dksX3_cells_10 2 rfl rfl)
theorem dX3_cells_238 : decode cX3_cells 238 = .ok (.invokevirtual 46, 3) := dk_182 0 46 (dk_at dksX3_cells_10 5 rfl rfl)
theorem dX3_cells_241 : decode cX3_cells 241 = .ok (.aload_n 1, 1) := dk_43 (dk_at dksX3_cells_10 8 rfl rfl)
theorem dX3_cells_242 : decode cX3_cells 242 = .ok (.iload_n 3, 1) := dk_29 (dk_at dksX3_cells_10 9 rfl rfl)
theorem dX3_cells_243 : decode cX3_cells 243 = .ok (.iconst 1, 1) := dk_4 (dk_at dksX3_cells_10 10 rfl rfl)
theorem dX3_cells_244 : decode cX3_cells 244 = .ok (.iadd, 1) := dk_96 (dk_at dksX3_cells_10 11 rfl rfl)
theorem dX3_cells_245 : decode cX3_cells 245 = .ok (.iload 5, 2) := dk_21 5 (dk_at dksX3_cells_10 12 rfl rfl)
theorem dX3_cells_247 : decode cX3_cells 247 = .ok (.invokevirtual 22, 3) := dk_182 0 22 (dk_at dksX3_cells_10 14 rfl rfl)
theorem dX3_cells_250 : decode cX3_cells 250 = .ok (.invokevirtual 32, 3) := dk_182 0 32 (dk_at dksX3_cells_10 17 rfl rfl)
theorem dX3_cells_253 : decode cX3_cells 253 = .ok (.invokevirtual 38, 3) := dk_182 0 38 (dk_at dksX3_cells_10 20 rfl rfl)
theorem dX3_cells_256 : decode cX3_cells 256 = .ok (.invokevirtual 152, 3) := dk_182 0 152 (dk_at dksX3_cells_11 0 rfl rfl)
theorem dX3_cells_259 : decode cX3_cells 259 = .ok (.checkcast 140, 3) := dk_192 0 140 (dk_at dksX3_cells_11 3 rfl rfl)
theorem dX3_cells_262 : decode cX3_cells 262 = .ok (.invokevirtual 142, 3) := dk_182 0 142 (dk_at dksX3_cells_11 6 rfl rfl)
theorem dX3_cells_265 : decode cX3_cells 265 = .ok (.goto 13, 3) := dk_167 0 13 (dk_at dksX3_cells_11 9 rfl rfl)
theorem dX3_cells_268 : decode cX3_cells 268 = .ok (.iload 4, 2) := dk_21 4 (dk_at dksX3_cells_11 12 rfl rfl)
theorem dX3_cells_270 : decode cX3_cells 270 = .ok (.invokestatic 351, 3) := dk_184 1 95 (dk_at dksX3_cells_11 14 rfl rfl)
theorem dX3_cells_273 : decode cX3_cells 273 = .ok (.bipush 97, 2) := dk_16 97 (dk_at dksX3_cells_11 17 rfl rfl)
theorem dX3_cells_275 : decode cX3_cells 275 = .ok (.isub, 1) := dk_100 (dk_at dksX3_cells_11 19 rfl rfl)
theorem dX3_cells_276 : decode cX3_cells 276 = .ok (.iconst 1, 1) := dk_4 (dk_at dksX3_cells_11 20 rfl rfl)
theorem dX3_cells_277 : decode cX3_cells 277 = .ok (.iadd, 1) := dk_96 (dk_at dksX3_cells_11 21 rfl rfl)
theorem dX3_cells_278 : decode cX3_cells 278 = .ok (.invokestatic 234, 3) := dk_184 0 234 (dk_at dksX3_cells_12 0 rfl rfl)
theorem dX3_cells_281 : decode cX3_cells 281 = .ok (.invokevirtual 202, 3) := dk_182 0 202 (dk_at dksX3_cells_12 3 rfl rfl)
theorem dX3_cells_284 : decode cX3_cells 284 = .ok (.pop, 1) := dk_87 (dk_at dksX3_cells_12 6 rfl rfl)
theorem dX3_cells_285 : decode cX3_cells 285 = .ok (.iload 5, 2) := dk_21 5 (dk_at dksX3_cells_12 7 rfl rfl)
theorem dX3_cells_287 : decode cX3_cells 287 = .ok (.istore_n 3, 1) := dk_62 (dk_at dksX3_cells_12 9 rfl rfl)
theorem dX3_cells_288 : decode cX3_cells 288 = .ok (.goto (-273), 3) := dk_167 254 239 (dk_at dksX3_cells_12 10 rfl rfl)
theorem dX3_cells_291 : decode cX3_cells 291 = .ok (.aload_n 2, 1) := dk_44 (dk_at dksX3_cells_12 13 rfl rfl)
theorem dX3_cells_292 : decode cX3_cells 292 = .ok (.areturn, 1) := dk_176 (dk_at dksX3_cells_12 14 rfl rfl)
abbrev cX3_cellAt : ByteArray := prog_16_method_65_code
def yX3_cellAt : MethodName := ⟨RX3, "cellAt", "(I)I"⟩
def dkwX3_cellAt_2 : List UInt8 := [182, 0, 142, 172]
abbrev dktX3_cellAt_2 : List UInt8 := dkwX3_cellAt_2 ++ []
def dkwX3_cellAt_1 : List UInt8 := [4, 181, 0, 123, 42, 180, 0, 123, 158, 0, 7, 3, 167, 0, 14, 44, 27, 182, 0, 158, 192, 0, 140]
abbrev dktX3_cellAt_1 : List UInt8 := dkwX3_cellAt_1 ++ dktX3_cellAt_2
def dkwX3_cellAt_0 : List UInt8 := [42, 182, 1, 99, 77, 42, 27, 3, 44, 182, 0, 163, 4, 100, 184, 0, 220, 153, 0, 7, 3, 167, 0, 4]
abbrev dktX3_cellAt_0 : List UInt8 := dkwX3_cellAt_0 ++ dktX3_cellAt_1
theorem dksX3_cellAt_0 : cX3_cellAt.data.toList.drop 0 = dktX3_cellAt_0 := by decide +kernel
theorem dksX3_cellAt_1 : cX3_cellAt.data.toList.drop 24 = dktX3_cellAt_1 := dk_seg dksX3_cellAt_0 24 rfl rfl
theorem dksX3_cellAt_2 : cX3_cellAt.data.toList.drop 47 = dktX3_cellAt_2 := dk_seg dksX3_cellAt_1 23 rfl rfl
theorem dX3_cellAt_0 : decode cX3_cellAt 0 = .ok (.aload_n 0, 1) := dk_42 (dk_at dksX3_cellAt_0 0 rfl rfl)
theorem dX3_cellAt_1 : decode cX3_cellAt 1 = .ok (.invokevirtual 355, 3) := dk_182 1 99 (dk_at dksX3_cellAt_0 1 rfl rfl)
theorem dX3_cellAt_4 : decode cX3_cellAt 4 = .ok (.astore_n 2, 1) := dk_77 (dk_at dksX3_cellAt_0 4 rfl rfl)
theorem dX3_cellAt_5 : decode cX3_cellAt 5 = .ok (.aload_n 0, 1) := dk_42 (dk_at dksX3_cellAt_0 5 rfl rfl)
theorem dX3_cellAt_6 : decode cX3_cellAt 6 = .ok (.iload_n 1, 1) := dk_27 (dk_at dksX3_cellAt_0 6 rfl rfl)
theorem dX3_cellAt_7 : decode cX3_cellAt 7 = .ok (.iconst 0, 1) := dk_3 (dk_at dksX3_cellAt_0 7 rfl rfl)
theorem dX3_cellAt_8 : decode cX3_cellAt 8 = .ok (.aload_n 2, 1) := dk_44 (dk_at dksX3_cellAt_0 8 rfl rfl)
theorem dX3_cellAt_9 : decode cX3_cellAt 9 = .ok (.invokevirtual 163, 3) := dk_182 0 163 (dk_at dksX3_cellAt_0 9 rfl rfl)
theorem dX3_cellAt_12 : decode cX3_cellAt 12 = .ok (.iconst 1, 1) := dk_4 (dk_at dksX3_cellAt_0 12 rfl rfl)
theorem dX3_cellAt_13 : decode cX3_cellAt 13 = .ok (.isub, 1) := dk_100 (dk_at dksX3_cellAt_0 13 rfl rfl)
theorem dX3_cellAt_14 : decode cX3_cellAt 14 = .ok (.invokestatic 220, 3) := dk_184 0 220 (dk_at dksX3_cellAt_0 14 rfl rfl)
theorem dX3_cellAt_17 : decode cX3_cellAt 17 = .ok (.ifCond .eq 7, 3) := dk_153 0 7 (dk_at dksX3_cellAt_0 17 rfl rfl)
theorem dX3_cellAt_20 : decode cX3_cellAt 20 = .ok (.iconst 0, 1) := dk_3 (dk_at dksX3_cellAt_0 20 rfl rfl)
theorem dX3_cellAt_21 : decode cX3_cellAt 21 = .ok (.goto 4, 3) := dk_167 0 4 (dk_at dksX3_cellAt_0 21 rfl rfl)
theorem dX3_cellAt_24 : decode cX3_cellAt 24 = .ok (.iconst 1, 1) := dk_4 (dk_at dksX3_cellAt_1 0 rfl rfl)
theorem dX3_cellAt_25 : decode cX3_cellAt 25 = .ok (.putfield 123, 3) := dk_181 0 123 (dk_at dksX3_cellAt_1 1 rfl rfl)
theorem dX3_cellAt_28 : decode cX3_cellAt 28 = .ok (.aload_n 0, 1) := dk_42 (dk_at dksX3_cellAt_1 4 rfl rfl)
theorem dX3_cellAt_29 : decode cX3_cellAt 29 = .ok (.getfield 123, 3) := dk_180 0 123 (dk_at dksX3_cellAt_1 5 rfl rfl)
theorem dX3_cellAt_32 : decode cX3_cellAt 32 = .ok (.ifCond .le 7, 3) := dk_158 0 7 (dk_at dksX3_cellAt_1 8 rfl rfl)
theorem dX3_cellAt_35 : decode cX3_cellAt 35 = .ok (.iconst 0, 1) := dk_3 (dk_at dksX3_cellAt_1 11 rfl rfl)
theorem dX3_cellAt_36 : decode cX3_cellAt 36 = .ok (.goto 14, 3) := dk_167 0 14 (dk_at dksX3_cellAt_1 12 rfl rfl)
theorem dX3_cellAt_39 : decode cX3_cellAt 39 = .ok (.aload_n 2, 1) := dk_44 (dk_at dksX3_cellAt_1 15 rfl rfl)
theorem dX3_cellAt_40 : decode cX3_cellAt 40 = .ok (.iload_n 1, 1) := dk_27 (dk_at dksX3_cellAt_1 16 rfl rfl)
theorem dX3_cellAt_41 : decode cX3_cellAt 41 = .ok (.invokevirtual 158, 3) := dk_182 0 158 (dk_at dksX3_cellAt_1 17 rfl rfl)
theorem dX3_cellAt_44 : decode cX3_cellAt 44 = .ok (.checkcast 140, 3) := dk_192 0 140 (dk_at dksX3_cellAt_1 20 rfl rfl)
theorem dX3_cellAt_47 : decode cX3_cellAt 47 = .ok (.invokevirtual 142, 3) := dk_182 0 142 (dk_at dksX3_cellAt_2 0 rfl rfl)
theorem dX3_cellAt_50 : decode cX3_cellAt 50 = .ok (.ireturn, 1) := dk_172 (dk_at dksX3_cellAt_2 3 rfl rfl)
abbrev cX3_misses : ByteArray := prog_16_method_66_code
def yX3_misses : MethodName := ⟨RX3, "misses", "()I"⟩
def dkwX3_misses_3 : List UInt8 := [182, 1, 28, 54, 4, 167, 255, 205, 43, 182, 1, 27, 172]
abbrev dktX3_misses_3 : List UInt8 := dkwX3_misses_3 ++ []
def dkwX3_misses_2 : List UInt8 := [199, 0, 28, 43, 42, 180, 0, 70, 45, 180, 1, 102, 182, 0, 158, 192, 0, 161, 3, 46, 184, 0, 234]
abbrev dktX3_misses_2 : List UInt8 := dkwX3_misses_2 ++ dktX3_misses_3
def dkwX3_misses_1 : List UInt8 := [185, 0, 130, 1, 0, 153, 0, 48, 44, 185, 0, 136, 1, 0, 192, 0, 170, 78, 45, 180, 0, 172]
abbrev dktX3_misses_1 : List UInt8 := dkwX3_misses_1 ++ dktX3_misses_2
def dkwX3_misses_0 : List UInt8 := [42, 3, 181, 0, 123, 187, 0, 90, 89, 183, 0, 92, 76, 42, 180, 0, 100, 182, 0, 126, 77, 44]
abbrev dktX3_misses_0 : List UInt8 := dkwX3_misses_0 ++ dktX3_misses_1
theorem dksX3_misses_0 : cX3_misses.data.toList.drop 0 = dktX3_misses_0 := by decide +kernel
theorem dksX3_misses_1 : cX3_misses.data.toList.drop 22 = dktX3_misses_1 := dk_seg dksX3_misses_0 22 rfl rfl
theorem dksX3_misses_2 : cX3_misses.data.toList.drop 44 = dktX3_misses_2 := dk_seg dksX3_misses_1 22 rfl rfl
theorem dksX3_misses_3 : cX3_misses.data.toList.drop 67 = dktX3_misses_3 := dk_seg dksX3_misses_2 23 rfl rfl
theorem dX3_misses_0 : decode cX3_misses 0 = .ok (.aload_n 0, 1) := dk_42 (dk_at dksX3_misses_0 0 rfl rfl)
theorem dX3_misses_1 : decode cX3_misses 1 = .ok (.iconst 0, 1) := dk_3 (dk_at dksX3_misses_0 1 rfl rfl)
theorem dX3_misses_2 : decode cX3_misses 2 = .ok (.putfield 123, 3) := dk_181 0 123 (dk_at dksX3_misses_0 2 rfl rfl)
theorem dX3_misses_5 : decode cX3_misses 5 = .ok (.new 90, 3) := dk_187 0 90 (dk_at dksX3_misses_0 5 rfl rfl)
theorem dX3_misses_8 : decode cX3_misses 8 = .ok (.dup, 1) := dk_89 (dk_at dksX3_misses_0 8 rfl rfl)
theorem dX3_misses_9 : decode cX3_misses 9 = .ok (.invokespecial 92, 3) := dk_183 0 92 (dk_at dksX3_misses_0 9 rfl rfl)
theorem dX3_misses_12 : decode cX3_misses 12 = .ok (.astore_n 1, 1) := dk_76 (dk_at dksX3_misses_0 12 rfl rfl)
theorem dX3_misses_13 : decode cX3_misses 13 = .ok (.aload_n 0, 1) := dk_42 (dk_at dksX3_misses_0 13 rfl rfl)
theorem dX3_misses_14 : decode cX3_misses 14 = .ok (.getfield 100, 3) := dk_180 0 100 (dk_at dksX3_misses_0 14 rfl rfl)
theorem dX3_misses_17 : decode cX3_misses 17 = .ok (.invokevirtual 126, 3) := dk_182 0 126 (dk_at dksX3_misses_0 17 rfl rfl)
theorem dX3_misses_20 : decode cX3_misses 20 = .ok (.astore_n 2, 1) := dk_77 (dk_at dksX3_misses_0 20 rfl rfl)
theorem dX3_misses_21 : decode cX3_misses 21 = .ok (.aload_n 2, 1) := dk_44 (dk_at dksX3_misses_0 21 rfl rfl)
theorem dX3_misses_22 : decode cX3_misses 22 = .ok (.invokeinterface 130 1, 5) := by decide +kernel
theorem dX3_misses_27 : decode cX3_misses 27 = .ok (.ifCond .eq 48, 3) := dk_153 0 48 (dk_at dksX3_misses_1 5 rfl rfl)
theorem dX3_misses_30 : decode cX3_misses 30 = .ok (.aload_n 2, 1) := dk_44 (dk_at dksX3_misses_1 8 rfl rfl)
theorem dX3_misses_31 : decode cX3_misses 31 = .ok (.invokeinterface 136 1, 5) := by decide +kernel
theorem dX3_misses_36 : decode cX3_misses 36 = .ok (.checkcast 170, 3) := dk_192 0 170 (dk_at dksX3_misses_1 14 rfl rfl)
theorem dX3_misses_39 : decode cX3_misses 39 = .ok (.astore_n 3, 1) := dk_78 (dk_at dksX3_misses_1 17 rfl rfl)
theorem dX3_misses_40 : decode cX3_misses 40 = .ok (.aload_n 3, 1) := dk_45 (dk_at dksX3_misses_1 18 rfl rfl)
theorem dX3_misses_41 : decode cX3_misses 41 = .ok (.getfield 172, 3) := dk_180 0 172 (dk_at dksX3_misses_1 19 rfl rfl)
theorem dX3_misses_44 : decode cX3_misses 44 = .ok (.ifnonnull 28, 3) := dk_199 0 28 (dk_at dksX3_misses_2 0 rfl rfl)
theorem dX3_misses_47 : decode cX3_misses 47 = .ok (.aload_n 1, 1) := dk_43 (dk_at dksX3_misses_2 3 rfl rfl)
theorem dX3_misses_48 : decode cX3_misses 48 = .ok (.aload_n 0, 1) := dk_42 (dk_at dksX3_misses_2 4 rfl rfl)
theorem dX3_misses_49 : decode cX3_misses 49 = .ok (.getfield 70, 3) := dk_180 0 70 (dk_at dksX3_misses_2 5 rfl rfl)
theorem dX3_misses_52 : decode cX3_misses 52 = .ok (.aload_n 3, 1) := dk_45 (dk_at dksX3_misses_2 8 rfl rfl)
theorem dX3_misses_53 : decode cX3_misses 53 = .ok (.getfield 358, 3) := dk_180 1 102 (dk_at dksX3_misses_2 9 rfl rfl)
theorem dX3_misses_56 : decode cX3_misses 56 = .ok (.invokevirtual 158, 3) := dk_182 0 158 (dk_at dksX3_misses_2 12 rfl rfl)
theorem dX3_misses_59 : decode cX3_misses 59 = .ok (.checkcast 161, 3) := dk_192 0 161 (dk_at dksX3_misses_2 15 rfl rfl)
theorem dX3_misses_62 : decode cX3_misses 62 = .ok (.iconst 0, 1) := dk_3 (dk_at dksX3_misses_2 18 rfl rfl)
theorem dX3_misses_63 : decode cX3_misses 63 = .ok (.iaload, 1) := dk_46 (dk_at dksX3_misses_2 19 rfl rfl)
theorem dX3_misses_64 : decode cX3_misses 64 = .ok (.invokestatic 234, 3) := dk_184 0 234 (dk_at dksX3_misses_2 20 rfl rfl)
theorem dX3_misses_67 : decode cX3_misses 67 = .ok (.invokevirtual 284, 3) := dk_182 1 28 (dk_at dksX3_misses_3 0 rfl rfl)
theorem dX3_misses_70 : decode cX3_misses 70 = .ok (.istore 4, 2) := dk_54 4 (dk_at dksX3_misses_3 3 rfl rfl)
theorem dX3_misses_72 : decode cX3_misses 72 = .ok (.goto (-51), 3) := dk_167 255 205 (dk_at dksX3_misses_3 5 rfl rfl)
theorem dX3_misses_75 : decode cX3_misses 75 = .ok (.aload_n 1, 1) := dk_43 (dk_at dksX3_misses_3 8 rfl rfl)
theorem dX3_misses_76 : decode cX3_misses 76 = .ok (.invokevirtual 283, 3) := dk_182 1 27 (dk_at dksX3_misses_3 9 rfl rfl)
theorem dX3_misses_79 : decode cX3_misses 79 = .ok (.ireturn, 1) := dk_172 (dk_at dksX3_misses_3 12 rfl rfl)
abbrev cX3_nearest : ByteArray := prog_16_method_67_code
def yX3_nearest : MethodName := ⟨RX3, "nearest", "(I)I"⟩
def dkwX3_nearest_8 : List UInt8 := [181, 0, 123, 28, 172]
abbrev dktX3_nearest_8 : List UInt8 := dkwX3_nearest_8 ++ []
def dkwX3_nearest_7 : List UInt8 := [21, 11, 62, 167, 255, 164, 132, 6, 1, 167, 255, 129, 42, 28, 154, 0, 7, 5, 167, 0, 4, 3]
abbrev dktX3_nearest_7 : List UInt8 := dkwX3_nearest_7 ++ dktX3_nearest_8
def dkwX3_nearest_6 : List UInt8 := [153, 0, 27, 21, 11, 29, 161, 0, 15, 21, 11, 29, 160, 0, 15, 21, 10, 28, 162, 0, 9, 21, 10, 61]
abbrev dktX3_nearest_6 : List UInt8 := dkwX3_nearest_6 ++ dktX3_nearest_7
def dkwX3_nearest_5 : List UInt8 := [180, 0, 145, 153, 0, 16, 25, 9, 182, 0, 18, 4, 160, 0, 7, 4, 167, 0, 4, 3, 54, 12, 21, 12]
abbrev dktX3_nearest_5 : List UInt8 := dkwX3_nearest_5 ++ dktX3_nearest_6
def dkwX3_nearest_4 : List UInt8 := [192, 0, 10, 58, 9, 25, 9, 3, 182, 0, 42, 54, 10, 21, 10, 27, 130, 184, 0, 224, 54, 11, 25, 7]
abbrev dktX3_nearest_4 : List UInt8 := dkwX3_nearest_4 ++ dktX3_nearest_5
def dkwX3_nearest_3 : List UInt8 := [185, 1, 109, 1, 0, 58, 8, 25, 8, 185, 0, 130, 1, 0, 153, 0, 88, 25, 8, 185, 0, 136, 1, 0]
abbrev dktX3_nearest_3 : List UInt8 := dkwX3_nearest_3 ++ dktX3_nearest_4
def dkwX3_nearest_2 : List UInt8 := [21, 6, 21, 5, 162, 0, 126, 25, 4, 21, 6, 50, 58, 7, 25, 7, 180, 0, 149, 182, 1, 105]
abbrev dktX3_nearest_2 : List UInt8 := dkwX3_nearest_2 ++ dktX3_nearest_3
def dkwX3_nearest_1 : List UInt8 := [158, 0, 5, 3, 172, 3, 61, 16, 17, 62, 42, 180, 0, 86, 58, 4, 25, 4, 190, 54, 5, 3, 54, 6]
abbrev dktX3_nearest_1 : List UInt8 := dkwX3_nearest_1 ++ dktX3_nearest_2
def dkwX3_nearest_0 : List UInt8 := [42, 27, 4, 18, 230, 184, 0, 220, 153, 0, 7, 3, 167, 0, 4, 4, 181, 0, 123, 42, 180, 0, 123]
abbrev dktX3_nearest_0 : List UInt8 := dkwX3_nearest_0 ++ dktX3_nearest_1
theorem dksX3_nearest_0 : cX3_nearest.data.toList.drop 0 = dktX3_nearest_0 := by decide +kernel
theorem dksX3_nearest_1 : cX3_nearest.data.toList.drop 23 = dktX3_nearest_1 := dk_seg dksX3_nearest_0 23 rfl rfl
theorem dksX3_nearest_2 : cX3_nearest.data.toList.drop 47 = dktX3_nearest_2 := dk_seg dksX3_nearest_1 24 rfl rfl
theorem dksX3_nearest_3 : cX3_nearest.data.toList.drop 69 = dktX3_nearest_3 := dk_seg dksX3_nearest_2 22 rfl rfl
theorem dksX3_nearest_4 : cX3_nearest.data.toList.drop 93 = dktX3_nearest_4 := dk_seg dksX3_nearest_3 24 rfl rfl
theorem dksX3_nearest_5 : cX3_nearest.data.toList.drop 117 = dktX3_nearest_5 := dk_seg dksX3_nearest_4 24 rfl rfl
theorem dksX3_nearest_6 : cX3_nearest.data.toList.drop 141 = dktX3_nearest_6 := dk_seg dksX3_nearest_5 24 rfl rfl
theorem dksX3_nearest_7 : cX3_nearest.data.toList.drop 165 = dktX3_nearest_7 := dk_seg dksX3_nearest_6 24 rfl rfl
theorem dksX3_nearest_8 : cX3_nearest.data.toList.drop 187 = dktX3_nearest_8 := dk_seg dksX3_nearest_7 22 rfl rfl
theorem dX3_nearest_0 : decode cX3_nearest 0 = .ok (.aload_n 0, 1) := dk_42 (dk_at dksX3_nearest_0 0 rfl rfl)
theorem dX3_nearest_1 : decode cX3_nearest 1 = .ok (.iload_n 1, 1) := dk_27 (dk_at dksX3_nearest_0 1 rfl rfl)
theorem dX3_nearest_2 : decode cX3_nearest 2 = .ok (.iconst 1, 1) := dk_4 (dk_at dksX3_nearest_0 2 rfl rfl)
theorem dX3_nearest_3 : decode cX3_nearest 3 = .ok (.ldc 230, 2) := dk_18 230 (dk_at dksX3_nearest_0 3 rfl rfl)
theorem dX3_nearest_5 : decode cX3_nearest 5 = .ok (.invokestatic 220, 3) := dk_184 0 220 (dk_at dksX3_nearest_0 5 rfl rfl)
theorem dX3_nearest_8 : decode cX3_nearest 8 = .ok (.ifCond .eq 7, 3) := dk_153 0 7 (dk_at dksX3_nearest_0 8 rfl rfl)
theorem dX3_nearest_11 : decode cX3_nearest 11 = .ok (.iconst 0, 1) := dk_3 (dk_at dksX3_nearest_0 11 rfl rfl)
theorem dX3_nearest_12 : decode cX3_nearest 12 = .ok (.goto 4, 3) := dk_167 0 4 (dk_at dksX3_nearest_0 12 rfl rfl)
theorem dX3_nearest_15 : decode cX3_nearest 15 = .ok (.iconst 1, 1) := dk_4 (dk_at dksX3_nearest_0 15 rfl rfl)
theorem dX3_nearest_16 : decode cX3_nearest 16 = .ok (.putfield 123, 3) := dk_181 0 123 (dk_at dksX3_nearest_0 16 rfl rfl)
theorem dX3_nearest_19 : decode cX3_nearest 19 = .ok (.aload_n 0, 1) := dk_42 (dk_at dksX3_nearest_0 19 rfl rfl)
theorem dX3_nearest_20 : decode cX3_nearest 20 = .ok (.getfield 123, 3) := dk_180 0 123 (dk_at dksX3_nearest_0 20 rfl rfl)
theorem dX3_nearest_23 : decode cX3_nearest 23 = .ok (.ifCond .le 5, 3) := dk_158 0 5 (dk_at dksX3_nearest_1 0 rfl rfl)
theorem dX3_nearest_26 : decode cX3_nearest 26 = .ok (.iconst 0, 1) := dk_3 (dk_at dksX3_nearest_1 3 rfl rfl)
theorem dX3_nearest_27 : decode cX3_nearest 27 = .ok (.ireturn, 1) := dk_172 (dk_at dksX3_nearest_1 4 rfl rfl)
theorem dX3_nearest_28 : decode cX3_nearest 28 = .ok (.iconst 0, 1) := dk_3 (dk_at dksX3_nearest_1 5 rfl rfl)
theorem dX3_nearest_29 : decode cX3_nearest 29 = .ok (.istore_n 2, 1) := dk_61 (dk_at dksX3_nearest_1 6 rfl rfl)
theorem dX3_nearest_30 : decode cX3_nearest 30 = .ok (.bipush 17, 2) := dk_16 17 (dk_at dksX3_nearest_1 7 rfl rfl)
theorem dX3_nearest_32 : decode cX3_nearest 32 = .ok (.istore_n 3, 1) := dk_62 (dk_at dksX3_nearest_1 9 rfl rfl)
theorem dX3_nearest_33 : decode cX3_nearest 33 = .ok (.aload_n 0, 1) := dk_42 (dk_at dksX3_nearest_1 10 rfl rfl)
theorem dX3_nearest_34 : decode cX3_nearest 34 = .ok (.getfield 86, 3) := dk_180 0 86 (dk_at dksX3_nearest_1 11 rfl rfl)
theorem dX3_nearest_37 : decode cX3_nearest 37 = .ok (.astore 4, 2) := dk_58 4 (dk_at dksX3_nearest_1 14 rfl rfl)
theorem dX3_nearest_39 : decode cX3_nearest 39 = .ok (.aload 4, 2) := dk_25 4 (dk_at dksX3_nearest_1 16 rfl rfl)
theorem dX3_nearest_41 : decode cX3_nearest 41 = .ok (.arraylength, 1) := dk_190 (dk_at dksX3_nearest_1 18 rfl rfl)
theorem dX3_nearest_42 : decode cX3_nearest 42 = .ok (.istore 5, 2) := dk_54 5 (dk_at dksX3_nearest_1 19 rfl rfl)
theorem dX3_nearest_44 : decode cX3_nearest 44 = .ok (.iconst 0, 1) := dk_3 (dk_at dksX3_nearest_1 21 rfl rfl)
theorem dX3_nearest_45 : decode cX3_nearest 45 = .ok (.istore 6, 2) := dk_54 6 (dk_at dksX3_nearest_1 22 rfl rfl)
theorem dX3_nearest_47 : decode cX3_nearest 47 = .ok (.iload 6, 2) := dk_21 6 (dk_at dksX3_nearest_2 0 rfl rfl)
theorem dX3_nearest_49 : decode cX3_nearest 49 = .ok (.iload 5, 2) := dk_21 5 (dk_at dksX3_nearest_2 2 rfl rfl)
theorem dX3_nearest_51 : decode cX3_nearest 51 = .ok (.if_icmp .ge 126, 3) := dk_162 0 126 (dk_at dksX3_nearest_2 4 rfl rfl)
theorem dX3_nearest_54 : decode cX3_nearest 54 = .ok (.aload 4, 2) := dk_25 4 (dk_at dksX3_nearest_2 7 rfl rfl)
theorem dX3_nearest_56 : decode cX3_nearest 56 = .ok (.iload 6, 2) := dk_21 6 (dk_at dksX3_nearest_2 9 rfl rfl)
theorem dX3_nearest_58 : decode cX3_nearest 58 = .ok (.aaload, 1) := dk_50 (dk_at dksX3_nearest_2 11 rfl rfl)
theorem dX3_nearest_59 : decode cX3_nearest 59 = .ok (.astore 7, 2) := dk_58 7 (dk_at dksX3_nearest_2 12 rfl rfl)
theorem dX3_nearest_61 : decode cX3_nearest 61 = .ok (.aload 7, 2) := dk_25 7 (dk_at dksX3_nearest_2 14 rfl rfl)
theorem dX3_nearest_63 : decode cX3_nearest 63 = .ok (.getfield 149, 3) := dk_180 0 149 (dk_at dksX3_nearest_2 16 rfl rfl)
theorem dX3_nearest_66 : decode cX3_nearest 66 = .ok (.invokevirtual 361, 3) := dk_182 1 105 (dk_at dksX3_nearest_2 19 rfl rfl)
theorem dX3_nearest_69 : decode cX3_nearest 69 = .ok (.invokeinterface 365 1, 5) := by decide +kernel
theorem dX3_nearest_74 : decode cX3_nearest 74 = .ok (.astore 8, 2) := dk_58 8 (dk_at dksX3_nearest_3 5 rfl rfl)
theorem dX3_nearest_76 : decode cX3_nearest 76 = .ok (.aload 8, 2) := dk_25 8 (dk_at dksX3_nearest_3 7 rfl rfl)
theorem dX3_nearest_78 : decode cX3_nearest 78 = .ok (.invokeinterface 130 1, 5) := by decide +kernel
theorem dX3_nearest_83 : decode cX3_nearest 83 = .ok (.ifCond .eq 88, 3) := dk_153 0 88 (dk_at dksX3_nearest_3 14 rfl rfl)
theorem dX3_nearest_86 : decode cX3_nearest 86 = .ok (.aload 8, 2) := dk_25 8 (dk_at dksX3_nearest_3 17 rfl rfl)
theorem dX3_nearest_88 : decode cX3_nearest 88 = .ok (.invokeinterface 136 1, 5) := by decide +kernel
theorem dX3_nearest_93 : decode cX3_nearest 93 = .ok (.checkcast 10, 3) := dk_192 0 10 (dk_at dksX3_nearest_4 0 rfl rfl)
theorem dX3_nearest_96 : decode cX3_nearest 96 = .ok (.astore 9, 2) := dk_58 9 (dk_at dksX3_nearest_4 3 rfl rfl)
theorem dX3_nearest_98 : decode cX3_nearest 98 = .ok (.aload 9, 2) := dk_25 9 (dk_at dksX3_nearest_4 5 rfl rfl)
theorem dX3_nearest_100 : decode cX3_nearest 100 = .ok (.iconst 0, 1) := dk_3 (dk_at dksX3_nearest_4 7 rfl rfl)
theorem dX3_nearest_101 : decode cX3_nearest 101 = .ok (.invokevirtual 42, 3) := dk_182 0 42 (dk_at dksX3_nearest_4 8 rfl rfl)
theorem dX3_nearest_104 : decode cX3_nearest 104 = .ok (.istore 10, 2) := dk_54 10 (dk_at dksX3_nearest_4 11 rfl rfl)
theorem dX3_nearest_106 : decode cX3_nearest 106 = .ok (.iload 10, 2) := dk_21 10 (dk_at dksX3_nearest_4 13 rfl rfl)
theorem dX3_nearest_108 : decode cX3_nearest 108 = .ok (.iload_n 1, 1) := dk_27 (dk_at dksX3_nearest_4 15 rfl rfl)
theorem dX3_nearest_109 : decode cX3_nearest 109 = .ok (.ixor, 1) := dk_130 (dk_at dksX3_nearest_4 16 rfl rfl)
theorem dX3_nearest_110 : decode cX3_nearest 110 = .ok (.invokestatic 224, 3) := dk_184 0 224 (dk_at dksX3_nearest_4 17 rfl rfl)
theorem dX3_nearest_113 : decode cX3_nearest 113 = .ok (.istore 11, 2) := dk_54 11 (dk_at dksX3_nearest_4 20 rfl rfl)
theorem dX3_nearest_115 : decode cX3_nearest 115 = .ok (.aload 7, 2) := dk_25 7 (dk_at dksX3_nearest_4 22 rfl rfl)
theorem dX3_nearest_117 : decode cX3_nearest 117 = .ok (.getfield 145, 3) := dk_180 0 145 (dk_at dksX3_nearest_5 0 rfl rfl)
theorem dX3_nearest_120 : decode cX3_nearest 120 = .ok (.ifCond .eq 16, 3) := dk_153 0 16 (dk_at dksX3_nearest_5 3 rfl rfl)
theorem dX3_nearest_123 : decode cX3_nearest 123 = .ok (.aload 9, 2) := dk_25 9 (dk_at dksX3_nearest_5 6 rfl rfl)
theorem dX3_nearest_125 : decode cX3_nearest 125 = .ok (.invokevirtual 18, 3) := dk_182 0 18 (dk_at dksX3_nearest_5 8 rfl rfl)
theorem dX3_nearest_128 : decode cX3_nearest 128 = .ok (.iconst 1, 1) := dk_4 (dk_at dksX3_nearest_5 11 rfl rfl)
theorem dX3_nearest_129 : decode cX3_nearest 129 = .ok (.if_icmp .ne 7, 3) := dk_160 0 7 (dk_at dksX3_nearest_5 12 rfl rfl)
theorem dX3_nearest_132 : decode cX3_nearest 132 = .ok (.iconst 1, 1) := dk_4 (dk_at dksX3_nearest_5 15 rfl rfl)
theorem dX3_nearest_133 : decode cX3_nearest 133 = .ok (.goto 4, 3) := dk_167 0 4 (dk_at dksX3_nearest_5 16 rfl rfl)
theorem dX3_nearest_136 : decode cX3_nearest 136 = .ok (.iconst 0, 1) := dk_3 (dk_at dksX3_nearest_5 19 rfl rfl)
theorem dX3_nearest_137 : decode cX3_nearest 137 = .ok (.istore 12, 2) := dk_54 12 (dk_at dksX3_nearest_5 20 rfl rfl)
theorem dX3_nearest_139 : decode cX3_nearest 139 = .ok (.iload 12, 2) := dk_21 12 (dk_at dksX3_nearest_5 22 rfl rfl)
theorem dX3_nearest_141 : decode cX3_nearest 141 = .ok (.ifCond .eq 27, 3) := dk_153 0 27 (dk_at dksX3_nearest_6 0 rfl rfl)
theorem dX3_nearest_144 : decode cX3_nearest 144 = .ok (.iload 11, 2) := dk_21 11 (dk_at dksX3_nearest_6 3 rfl rfl)
theorem dX3_nearest_146 : decode cX3_nearest 146 = .ok (.iload_n 3, 1) := dk_29 (dk_at dksX3_nearest_6 5 rfl rfl)
theorem dX3_nearest_147 : decode cX3_nearest 147 = .ok (.if_icmp .lt 15, 3) := dk_161 0 15 (dk_at dksX3_nearest_6 6 rfl rfl)
theorem dX3_nearest_150 : decode cX3_nearest 150 = .ok (.iload 11, 2) := dk_21 11 (dk_at dksX3_nearest_6 9 rfl rfl)
theorem dX3_nearest_152 : decode cX3_nearest 152 = .ok (.iload_n 3, 1) := dk_29 (dk_at dksX3_nearest_6 11 rfl rfl)
theorem dX3_nearest_153 : decode cX3_nearest 153 = .ok (.if_icmp .ne 15, 3) := dk_160 0 15 (dk_at dksX3_nearest_6 12 rfl rfl)
theorem dX3_nearest_156 : decode cX3_nearest 156 = .ok (.iload 10, 2) := dk_21 10 (dk_at dksX3_nearest_6 15 rfl rfl)
theorem dX3_nearest_158 : decode cX3_nearest 158 = .ok (.iload_n 2, 1) := dk_28 (dk_at dksX3_nearest_6 17 rfl rfl)
theorem dX3_nearest_159 : decode cX3_nearest 159 = .ok (.if_icmp .ge 9, 3) := dk_162 0 9 (dk_at dksX3_nearest_6 18 rfl rfl)
theorem dX3_nearest_162 : decode cX3_nearest 162 = .ok (.iload 10, 2) := dk_21 10 (dk_at dksX3_nearest_6 21 rfl rfl)
theorem dX3_nearest_164 : decode cX3_nearest 164 = .ok (.istore_n 2, 1) := dk_61 (dk_at dksX3_nearest_6 23 rfl rfl)
theorem dX3_nearest_165 : decode cX3_nearest 165 = .ok (.iload 11, 2) := dk_21 11 (dk_at dksX3_nearest_7 0 rfl rfl)
theorem dX3_nearest_167 : decode cX3_nearest 167 = .ok (.istore_n 3, 1) := dk_62 (dk_at dksX3_nearest_7 2 rfl rfl)
theorem dX3_nearest_168 : decode cX3_nearest 168 = .ok (.goto (-92), 3) := dk_167 255 164 (dk_at dksX3_nearest_7 3 rfl rfl)
theorem dX3_nearest_171 : decode cX3_nearest 171 = .ok (.iinc 6 1, 3) := dk_132 6 1 (dk_at dksX3_nearest_7 6 rfl rfl)
theorem dX3_nearest_174 : decode cX3_nearest 174 = .ok (.goto (-127), 3) := dk_167 255 129 (dk_at dksX3_nearest_7 9 rfl rfl)
theorem dX3_nearest_177 : decode cX3_nearest 177 = .ok (.aload_n 0, 1) := dk_42 (dk_at dksX3_nearest_7 12 rfl rfl)
theorem dX3_nearest_178 : decode cX3_nearest 178 = .ok (.iload_n 2, 1) := dk_28 (dk_at dksX3_nearest_7 13 rfl rfl)
theorem dX3_nearest_179 : decode cX3_nearest 179 = .ok (.ifCond .ne 7, 3) := dk_154 0 7 (dk_at dksX3_nearest_7 14 rfl rfl)
theorem dX3_nearest_182 : decode cX3_nearest 182 = .ok (.iconst 2, 1) := dk_5 (dk_at dksX3_nearest_7 17 rfl rfl)
theorem dX3_nearest_183 : decode cX3_nearest 183 = .ok (.goto 4, 3) := dk_167 0 4 (dk_at dksX3_nearest_7 18 rfl rfl)
theorem dX3_nearest_186 : decode cX3_nearest 186 = .ok (.iconst 0, 1) := dk_3 (dk_at dksX3_nearest_7 21 rfl rfl)
theorem dX3_nearest_187 : decode cX3_nearest 187 = .ok (.putfield 123, 3) := dk_181 0 123 (dk_at dksX3_nearest_8 0 rfl rfl)
theorem dX3_nearest_190 : decode cX3_nearest 190 = .ok (.iload_n 2, 1) := dk_28 (dk_at dksX3_nearest_8 3 rfl rfl)
theorem dX3_nearest_191 : decode cX3_nearest 191 = .ok (.ireturn, 1) := dk_172 (dk_at dksX3_nearest_8 4 rfl rfl)
abbrev cX3_saving : ByteArray := prog_16_method_68_code
def yX3_saving : MethodName := ⟨RX3, "saving", "()I"⟩
def dkwX3_saving_10 : List UInt8 := [45, 25, 6, 182, 0, 152, 192, 0, 140, 182, 0, 142, 104, 184, 0, 183, 54, 4, 167, 255, 202, 21, 4, 172]
abbrev dktX3_saving_10 : List UInt8 := dkwX3_saving_10 ++ []
def dkwX3_saving_9 : List UInt8 := [185, 0, 136, 1, 0, 192, 0, 10, 58, 6, 21, 4, 44, 25, 6, 182, 0, 152, 192, 0, 140, 182, 0, 142]
abbrev dktX3_saving_9 : List UInt8 := dkwX3_saving_9 ++ dktX3_saving_10
def dkwX3_saving_8 : List UInt8 := [182, 1, 105, 185, 1, 109, 1, 0, 58, 5, 25, 5, 185, 0, 130, 1, 0, 153, 0, 50, 25, 5]
abbrev dktX3_saving_8 : List UInt8 := dkwX3_saving_8 ++ dktX3_saving_9
def dkwX3_saving_7 : List UInt8 := [180, 0, 181, 4, 100, 184, 0, 234, 182, 1, 3, 87, 132, 4, 1, 167, 255, 115, 3, 54, 4, 44]
abbrev dktX3_saving_7 : List UInt8 := dkwX3_saving_7 ++ dktX3_saving_8
def dkwX3_saving_6 : List UInt8 := [184, 0, 234, 182, 1, 3, 87, 45, 25, 6, 42, 180, 0, 100, 21, 4, 182, 0, 158, 192, 0, 170]
abbrev dktX3_saving_6 : List UInt8 := dkwX3_saving_6 ++ dktX3_saving_7
def dkwX3_saving_5 : List UInt8 := [182, 0, 251, 153, 0, 20, 44, 25, 6, 182, 0, 152, 192, 0, 140, 182, 0, 142, 4, 96, 167, 0, 4, 4]
abbrev dktX3_saving_5 : List UInt8 := dkwX3_saving_5 ++ dktX3_saving_6
def dkwX3_saving_4 : List UInt8 := [180, 1, 63, 21, 4, 46, 4, 100, 182, 0, 158, 192, 0, 10, 58, 6, 44, 25, 6, 44, 25, 6]
abbrev dktX3_saving_4 : List UInt8 := dkwX3_saving_4 ++ dktX3_saving_5
def dkwX3_saving_3 : List UInt8 := [180, 1, 63, 21, 4, 46, 154, 0, 11, 25, 5, 180, 0, 176, 167, 0, 23, 25, 5, 180, 1, 18, 43]
abbrev dktX3_saving_3 : List UInt8 := dkwX3_saving_3 ++ dktX3_saving_4
def dkwX3_saving_2 : List UInt8 := [180, 0, 100, 21, 4, 182, 0, 158, 192, 0, 170, 180, 0, 172, 58, 5, 25, 5, 198, 0, 107, 43]
abbrev dktX3_saving_2 : List UInt8 := dkwX3_saving_2 ++ dktX3_saving_3
def dkwX3_saving_1 : List UInt8 := [187, 0, 116, 89, 183, 0, 118, 78, 3, 54, 4, 21, 4, 42, 180, 0, 100, 182, 0, 163, 162, 0, 135, 42]
abbrev dktX3_saving_1 : List UInt8 := dkwX3_saving_1 ++ dktX3_saving_2
def dkwX3_saving_0 : List UInt8 := [42, 3, 181, 0, 123, 187, 1, 34, 89, 42, 183, 1, 36, 76, 187, 0, 116, 89, 183, 0, 118, 77]
abbrev dktX3_saving_0 : List UInt8 := dkwX3_saving_0 ++ dktX3_saving_1
theorem dksX3_saving_0 : cX3_saving.data.toList.drop 0 = dktX3_saving_0 := by decide +kernel
theorem dksX3_saving_1 : cX3_saving.data.toList.drop 22 = dktX3_saving_1 := dk_seg dksX3_saving_0 22 rfl rfl
theorem dksX3_saving_2 : cX3_saving.data.toList.drop 46 = dktX3_saving_2 := dk_seg dksX3_saving_1 24 rfl rfl
theorem dksX3_saving_3 : cX3_saving.data.toList.drop 68 = dktX3_saving_3 := dk_seg dksX3_saving_2 22 rfl rfl
theorem dksX3_saving_4 : cX3_saving.data.toList.drop 91 = dktX3_saving_4 := dk_seg dksX3_saving_3 23 rfl rfl
theorem dksX3_saving_5 : cX3_saving.data.toList.drop 113 = dktX3_saving_5 := dk_seg dksX3_saving_4 22 rfl rfl
theorem dksX3_saving_6 : cX3_saving.data.toList.drop 137 = dktX3_saving_6 := dk_seg dksX3_saving_5 24 rfl rfl
theorem dksX3_saving_7 : cX3_saving.data.toList.drop 159 = dktX3_saving_7 := dk_seg dksX3_saving_6 22 rfl rfl
theorem dksX3_saving_8 : cX3_saving.data.toList.drop 181 = dktX3_saving_8 := dk_seg dksX3_saving_7 22 rfl rfl
theorem dksX3_saving_9 : cX3_saving.data.toList.drop 203 = dktX3_saving_9 := dk_seg dksX3_saving_8 22 rfl rfl
theorem dksX3_saving_10 : cX3_saving.data.toList.drop 227 = dktX3_saving_10 := dk_seg dksX3_saving_9 24 rfl rfl
theorem dX3_saving_0 : decode cX3_saving 0 = .ok (.aload_n 0, 1) := dk_42 (dk_at dksX3_saving_0 0 rfl rfl)
theorem dX3_saving_1 : decode cX3_saving 1 = .ok (.iconst 0, 1) := dk_3 (dk_at dksX3_saving_0 1 rfl rfl)
theorem dX3_saving_2 : decode cX3_saving 2 = .ok (.putfield 123, 3) := dk_181 0 123 (dk_at dksX3_saving_0 2 rfl rfl)
theorem dX3_saving_5 : decode cX3_saving 5 = .ok (.new 290, 3) := dk_187 1 34 (dk_at dksX3_saving_0 5 rfl rfl)
theorem dX3_saving_8 : decode cX3_saving 8 = .ok (.dup, 1) := dk_89 (dk_at dksX3_saving_0 8 rfl rfl)
theorem dX3_saving_9 : decode cX3_saving 9 = .ok (.aload_n 0, 1) := dk_42 (dk_at dksX3_saving_0 9 rfl rfl)
theorem dX3_saving_10 : decode cX3_saving 10 = .ok (.invokespecial 292, 3) := dk_183 1 36 (dk_at dksX3_saving_0 10 rfl rfl)
theorem dX3_saving_13 : decode cX3_saving 13 = .ok (.astore_n 1, 1) := dk_76 (dk_at dksX3_saving_0 13 rfl rfl)
theorem dX3_saving_14 : decode cX3_saving 14 = .ok (.new 116, 3) := dk_187 0 116 (dk_at dksX3_saving_0 14 rfl rfl)
theorem dX3_saving_17 : decode cX3_saving 17 = .ok (.dup, 1) := dk_89 (dk_at dksX3_saving_0 17 rfl rfl)
theorem dX3_saving_18 : decode cX3_saving 18 = .ok (.invokespecial 118, 3) := dk_183 0 118 (dk_at dksX3_saving_0 18 rfl rfl)
theorem dX3_saving_21 : decode cX3_saving 21 = .ok (.astore_n 2, 1) := dk_77 (dk_at dksX3_saving_0 21 rfl rfl)
theorem dX3_saving_22 : decode cX3_saving 22 = .ok (.new 116, 3) := dk_187 0 116 (dk_at dksX3_saving_1 0 rfl rfl)
theorem dX3_saving_25 : decode cX3_saving 25 = .ok (.dup, 1) := dk_89 (dk_at dksX3_saving_1 3 rfl rfl)
theorem dX3_saving_26 : decode cX3_saving 26 = .ok (.invokespecial 118, 3) := dk_183 0 118 (dk_at dksX3_saving_1 4 rfl rfl)
theorem dX3_saving_29 : decode cX3_saving 29 = .ok (.astore_n 3, 1) := dk_78 (dk_at dksX3_saving_1 7 rfl rfl)
theorem dX3_saving_30 : decode cX3_saving 30 = .ok (.iconst 0, 1) := dk_3 (dk_at dksX3_saving_1 8 rfl rfl)
theorem dX3_saving_31 : decode cX3_saving 31 = .ok (.istore 4, 2) := dk_54 4 (dk_at dksX3_saving_1 9 rfl rfl)
theorem dX3_saving_33 : decode cX3_saving 33 = .ok (.iload 4, 2) := dk_21 4 (dk_at dksX3_saving_1 11 rfl rfl)
theorem dX3_saving_35 : decode cX3_saving 35 = .ok (.aload_n 0, 1) := dk_42 (dk_at dksX3_saving_1 13 rfl rfl)
theorem dX3_saving_36 : decode cX3_saving 36 = .ok (.getfield 100, 3) := dk_180 0 100 (dk_at dksX3_saving_1 14 rfl rfl)
theorem dX3_saving_39 : decode cX3_saving 39 = .ok (.invokevirtual 163, 3) := dk_182 0 163 (dk_at dksX3_saving_1 17 rfl rfl)
theorem dX3_saving_42 : decode cX3_saving 42 = .ok (.if_icmp .ge 135, 3) := dk_162 0 135 (dk_at dksX3_saving_1 20 rfl rfl)
theorem dX3_saving_45 : decode cX3_saving 45 = .ok (.aload_n 0, 1) := dk_42 (dk_at dksX3_saving_1 23 rfl rfl)
theorem dX3_saving_46 : decode cX3_saving 46 = .ok (.getfield 100, 3) := dk_180 0 100 (dk_at dksX3_saving_2 0 rfl rfl)
theorem dX3_saving_49 : decode cX3_saving 49 = .ok (.iload 4, 2) := dk_21 4 (dk_at dksX3_saving_2 3 rfl rfl)
theorem dX3_saving_51 : decode cX3_saving 51 = .ok (.invokevirtual 158, 3) := dk_182 0 158 (dk_at dksX3_saving_2 5 rfl rfl)
theorem dX3_saving_54 : decode cX3_saving 54 = .ok (.checkcast 170, 3) := dk_192 0 170 (dk_at dksX3_saving_2 8 rfl rfl)
theorem dX3_saving_57 : decode cX3_saving 57 = .ok (.getfield 172, 3) := dk_180 0 172 (dk_at dksX3_saving_2 11 rfl rfl)
theorem dX3_saving_60 : decode cX3_saving 60 = .ok (.astore 5, 2) := dk_58 5 (dk_at dksX3_saving_2 14 rfl rfl)
theorem dX3_saving_62 : decode cX3_saving 62 = .ok (.aload 5, 2) := dk_25 5 (dk_at dksX3_saving_2 16 rfl rfl)
theorem dX3_saving_64 : decode cX3_saving 64 = .ok (.ifnull 107, 3) := dk_198 0 107 (dk_at dksX3_saving_2 18 rfl rfl)
theorem dX3_saving_67 : decode cX3_saving 67 = .ok (.aload_n 1, 1) := dk_43 (dk_at dksX3_saving_2 21 rfl rfl)
theorem dX3_saving_68 : decode cX3_saving 68 = .ok (.getfield 319, 3) := dk_180 1 63 (dk_at dksX3_saving_3 0 rfl rfl)
theorem dX3_saving_71 : decode cX3_saving 71 = .ok (.iload 4, 2) := dk_21 4 (dk_at dksX3_saving_3 3 rfl rfl)
theorem dX3_saving_73 : decode cX3_saving 73 = .ok (.iaload, 1) := dk_46 (dk_at dksX3_saving_3 5 rfl rfl)
theorem dX3_saving_74 : decode cX3_saving 74 = .ok (.ifCond .ne 11, 3) := dk_154 0 11 (dk_at dksX3_saving_3 6 rfl rfl)
theorem dX3_saving_77 : decode cX3_saving 77 = .ok (.aload 5, 2) := dk_25 5 (dk_at dksX3_saving_3 9 rfl rfl)
theorem dX3_saving_79 : decode cX3_saving 79 = .ok (.getfield 176, 3) := dk_180 0 176 (dk_at dksX3_saving_3 11 rfl rfl)
theorem dX3_saving_82 : decode cX3_saving 82 = .ok (.goto 23, 3) := dk_167 0 23 (dk_at dksX3_saving_3 14 rfl rfl)
theorem dX3_saving_85 : decode cX3_saving 85 = .ok (.aload 5, 2) := dk_25 5 (dk_at dksX3_saving_3 17 rfl rfl)
theorem dX3_saving_87 : decode cX3_saving 87 = .ok (.getfield 274, 3) := dk_180 1 18 (dk_at dksX3_saving_3 19 rfl rfl)
theorem dX3_saving_90 : decode cX3_saving 90 = .ok (.aload_n 1, 1) := dk_43 (dk_at dksX3_saving_3 22 rfl rfl)
theorem dX3_saving_91 : decode cX3_saving 91 = .ok (.getfield 319, 3) := dk_180 1 63 (dk_at dksX3_saving_4 0 rfl rfl)
theorem dX3_saving_94 : decode cX3_saving 94 = .ok (.iload 4, 2) := dk_21 4 (dk_at dksX3_saving_4 3 rfl rfl)
theorem dX3_saving_96 : decode cX3_saving 96 = .ok (.iaload, 1) := dk_46 (dk_at dksX3_saving_4 5 rfl rfl)
theorem dX3_saving_97 : decode cX3_saving 97 = .ok (.iconst 1, 1) := dk_4 (dk_at dksX3_saving_4 6 rfl rfl)
theorem dX3_saving_98 : decode cX3_saving 98 = .ok (.isub, 1) := dk_100 (dk_at dksX3_saving_4 7 rfl rfl)
theorem dX3_saving_99 : decode cX3_saving 99 = .ok (.invokevirtual 158, 3) := dk_182 0 158 (dk_at dksX3_saving_4 8 rfl rfl)
theorem dX3_saving_102 : decode cX3_saving 102 = .ok (.checkcast 10, 3) := dk_192 0 10 (dk_at dksX3_saving_4 11 rfl rfl)
theorem dX3_saving_105 : decode cX3_saving 105 = .ok (.astore 6, 2) := dk_58 6 (dk_at dksX3_saving_4 14 rfl rfl)
theorem dX3_saving_107 : decode cX3_saving 107 = .ok (.aload_n 2, 1) := dk_44 (dk_at dksX3_saving_4 16 rfl rfl)
theorem dX3_saving_108 : decode cX3_saving 108 = .ok (.aload 6, 2) := dk_25 6 (dk_at dksX3_saving_4 17 rfl rfl)
theorem dX3_saving_110 : decode cX3_saving 110 = .ok (.aload_n 2, 1) := dk_44 (dk_at dksX3_saving_4 19 rfl rfl)
theorem dX3_saving_111 : decode cX3_saving 111 = .ok (.aload 6, 2) := dk_25 6 (dk_at dksX3_saving_4 20 rfl rfl)
theorem dX3_saving_113 : decode cX3_saving 113 = .ok (.invokevirtual 251, 3) := dk_182 0 251 (dk_at dksX3_saving_5 0 rfl rfl)
theorem dX3_saving_116 : decode cX3_saving 116 = .ok (.ifCond .eq 20, 3) := dk_153 0 20 (dk_at dksX3_saving_5 3 rfl rfl)
theorem dX3_saving_119 : decode cX3_saving 119 = .ok (.aload_n 2, 1) := dk_44 (dk_at dksX3_saving_5 6 rfl rfl)
theorem dX3_saving_120 : decode cX3_saving 120 = .ok (.aload 6, 2) := dk_25 6 (dk_at dksX3_saving_5 7 rfl rfl)
theorem dX3_saving_122 : decode cX3_saving 122 = .ok (.invokevirtual 152, 3) := dk_182 0 152 (dk_at dksX3_saving_5 9 rfl rfl)
theorem dX3_saving_125 : decode cX3_saving 125 = .ok (.checkcast 140, 3) := dk_192 0 140 (dk_at dksX3_saving_5 12 rfl rfl)
theorem dX3_saving_128 : decode cX3_saving 128 = .ok (.invokevirtual 142, 3) := dk_182 0 142 (dk_at dksX3_saving_5 15 rfl rfl)
theorem dX3_saving_131 : decode cX3_saving 131 = .ok (.iconst 1, 1) := dk_4 (dk_at dksX3_saving_5 18 rfl rfl)
theorem dX3_saving_132 : decode cX3_saving 132 = .ok (.iadd, 1) := dk_96 (dk_at dksX3_saving_5 19 rfl rfl)
theorem dX3_saving_133 : decode cX3_saving 133 = .ok (.goto 4, 3) := dk_167 0 4 (dk_at dksX3_saving_5 20 rfl rfl)
theorem dX3_saving_136 : decode cX3_saving 136 = .ok (.iconst 1, 1) := dk_4 (dk_at dksX3_saving_5 23 rfl rfl)
theorem dX3_saving_137 : decode cX3_saving 137 = .ok (.invokestatic 234, 3) := dk_184 0 234 (dk_at dksX3_saving_6 0 rfl rfl)
theorem dX3_saving_140 : decode cX3_saving 140 = .ok (.invokevirtual 259, 3) := dk_182 1 3 (dk_at dksX3_saving_6 3 rfl rfl)
theorem dX3_saving_143 : decode cX3_saving 143 = .ok (.pop, 1) := dk_87 (dk_at dksX3_saving_6 6 rfl rfl)
theorem dX3_saving_144 : decode cX3_saving 144 = .ok (.aload_n 3, 1) := dk_45 (dk_at dksX3_saving_6 7 rfl rfl)
theorem dX3_saving_145 : decode cX3_saving 145 = .ok (.aload 6, 2) := dk_25 6 (dk_at dksX3_saving_6 8 rfl rfl)
theorem dX3_saving_147 : decode cX3_saving 147 = .ok (.aload_n 0, 1) := dk_42 (dk_at dksX3_saving_6 10 rfl rfl)
theorem dX3_saving_148 : decode cX3_saving 148 = .ok (.getfield 100, 3) := dk_180 0 100 (dk_at dksX3_saving_6 11 rfl rfl)
theorem dX3_saving_151 : decode cX3_saving 151 = .ok (.iload 4, 2) := dk_21 4 (dk_at dksX3_saving_6 14 rfl rfl)
theorem dX3_saving_153 : decode cX3_saving 153 = .ok (.invokevirtual 158, 3) := dk_182 0 158 (dk_at dksX3_saving_6 16 rfl rfl)
theorem dX3_saving_156 : decode cX3_saving 156 = .ok (.checkcast 170, 3) := dk_192 0 170 (dk_at dksX3_saving_6 19 rfl rfl)
theorem dX3_saving_159 : decode cX3_saving 159 = .ok (.getfield 181, 3) := dk_180 0 181 (dk_at dksX3_saving_7 0 rfl rfl)
theorem dX3_saving_162 : decode cX3_saving 162 = .ok (.iconst 1, 1) := dk_4 (dk_at dksX3_saving_7 3 rfl rfl)
theorem dX3_saving_163 : decode cX3_saving 163 = .ok (.isub, 1) := dk_100 (dk_at dksX3_saving_7 4 rfl rfl)
theorem dX3_saving_164 : decode cX3_saving 164 = .ok (.invokestatic 234, 3) := dk_184 0 234 (dk_at dksX3_saving_7 5 rfl rfl)
theorem dX3_saving_167 : decode cX3_saving 167 = .ok (.invokevirtual 259, 3) := dk_182 1 3 (dk_at dksX3_saving_7 8 rfl rfl)
theorem dX3_saving_170 : decode cX3_saving 170 = .ok (.pop, 1) := dk_87 (dk_at dksX3_saving_7 11 rfl rfl)
theorem dX3_saving_171 : decode cX3_saving 171 = .ok (.iinc 4 1, 3) := dk_132 4 1 (dk_at dksX3_saving_7 12 rfl rfl)
theorem dX3_saving_174 : decode cX3_saving 174 = .ok (.goto (-141), 3) := dk_167 255 115 (dk_at dksX3_saving_7 15 rfl rfl)
theorem dX3_saving_177 : decode cX3_saving 177 = .ok (.iconst 0, 1) := dk_3 (dk_at dksX3_saving_7 18 rfl rfl)
theorem dX3_saving_178 : decode cX3_saving 178 = .ok (.istore 4, 2) := dk_54 4 (dk_at dksX3_saving_7 19 rfl rfl)
theorem dX3_saving_180 : decode cX3_saving 180 = .ok (.aload_n 2, 1) := dk_44 (dk_at dksX3_saving_7 21 rfl rfl)
theorem dX3_saving_181 : decode cX3_saving 181 = .ok (.invokevirtual 361, 3) := dk_182 1 105 (dk_at dksX3_saving_8 0 rfl rfl)
theorem dX3_saving_184 : decode cX3_saving 184 = .ok (.invokeinterface 365 1, 5) := by decide +kernel
theorem dX3_saving_189 : decode cX3_saving 189 = .ok (.astore 5, 2) := dk_58 5 (dk_at dksX3_saving_8 8 rfl rfl)
theorem dX3_saving_191 : decode cX3_saving 191 = .ok (.aload 5, 2) := dk_25 5 (dk_at dksX3_saving_8 10 rfl rfl)
theorem dX3_saving_193 : decode cX3_saving 193 = .ok (.invokeinterface 130 1, 5) := by decide +kernel
theorem dX3_saving_198 : decode cX3_saving 198 = .ok (.ifCond .eq 50, 3) := dk_153 0 50 (dk_at dksX3_saving_8 17 rfl rfl)
theorem dX3_saving_201 : decode cX3_saving 201 = .ok (.aload 5, 2) := dk_25 5 (dk_at dksX3_saving_8 20 rfl rfl)
theorem dX3_saving_203 : decode cX3_saving 203 = .ok (.invokeinterface 136 1, 5) := by decide +kernel
theorem dX3_saving_208 : decode cX3_saving 208 = .ok (.checkcast 10, 3) := dk_192 0 10 (dk_at dksX3_saving_9 5 rfl rfl)
theorem dX3_saving_211 : decode cX3_saving 211 = .ok (.astore 6, 2) := dk_58 6 (dk_at dksX3_saving_9 8 rfl rfl)
theorem dX3_saving_213 : decode cX3_saving 213 = .ok (.iload 4, 2) := dk_21 4 (dk_at dksX3_saving_9 10 rfl rfl)
theorem dX3_saving_215 : decode cX3_saving 215 = .ok (.aload_n 2, 1) := dk_44 (dk_at dksX3_saving_9 12 rfl rfl)
theorem dX3_saving_216 : decode cX3_saving 216 = .ok (.aload 6, 2) := dk_25 6 (dk_at dksX3_saving_9 13 rfl rfl)
theorem dX3_saving_218 : decode cX3_saving 218 = .ok (.invokevirtual 152, 3) := dk_182 0 152 (dk_at dksX3_saving_9 15 rfl rfl)
theorem dX3_saving_221 : decode cX3_saving 221 = .ok (.checkcast 140, 3) := dk_192 0 140 (dk_at dksX3_saving_9 18 rfl rfl)
theorem dX3_saving_224 : decode cX3_saving 224 = .ok (.invokevirtual 142, 3) := dk_182 0 142 (dk_at dksX3_saving_9 21 rfl rfl)
theorem dX3_saving_227 : decode cX3_saving 227 = .ok (.aload_n 3, 1) := dk_45 (dk_at dksX3_saving_10 0 rfl rfl)
theorem dX3_saving_228 : decode cX3_saving 228 = .ok (.aload 6, 2) := dk_25 6 (dk_at dksX3_saving_10 1 rfl rfl)
theorem dX3_saving_230 : decode cX3_saving 230 = .ok (.invokevirtual 152, 3) := dk_182 0 152 (dk_at dksX3_saving_10 3 rfl rfl)
theorem dX3_saving_233 : decode cX3_saving 233 = .ok (.checkcast 140, 3) := dk_192 0 140 (dk_at dksX3_saving_10 6 rfl rfl)
theorem dX3_saving_236 : decode cX3_saving 236 = .ok (.invokevirtual 142, 3) := dk_182 0 142 (dk_at dksX3_saving_10 9 rfl rfl)
theorem dX3_saving_239 : decode cX3_saving 239 = .ok (.imul, 1) := dk_104 (dk_at dksX3_saving_10 12 rfl rfl)
theorem dX3_saving_240 : decode cX3_saving 240 = .ok (.invokestatic 183, 3) := dk_184 0 183 (dk_at dksX3_saving_10 13 rfl rfl)
theorem dX3_saving_243 : decode cX3_saving 243 = .ok (.istore 4, 2) := dk_54 4 (dk_at dksX3_saving_10 16 rfl rfl)
theorem dX3_saving_245 : decode cX3_saving 245 = .ok (.goto (-54), 3) := dk_167 255 202 (dk_at dksX3_saving_10 18 rfl rfl)
theorem dX3_saving_248 : decode cX3_saving 248 = .ok (.iload 4, 2) := dk_21 4 (dk_at dksX3_saving_10 21 rfl rfl)
theorem dX3_saving_250 : decode cX3_saving 250 = .ok (.ireturn, 1) := dk_172 (dk_at dksX3_saving_10 23 rfl rfl)
abbrev cX3_brief : ByteArray := prog_16_method_69_code
def yX3_brief : MethodName := ⟨RX3, "brief", "()F"⟩
def dkwX3_brief_2 : List UInt8 := [174]
abbrev dktX3_brief_2 : List UInt8 := dkwX3_brief_2 ++ []
def dkwX3_brief_1 : List UInt8 := [158, 0, 7, 11, 167, 0, 20, 42, 182, 1, 41, 182, 0, 163, 134, 42, 180, 0, 70, 182, 0, 163, 134, 110]
abbrev dktX3_brief_1 : List UInt8 := dkwX3_brief_1 ++ dktX3_brief_2
def dkwX3_brief_0 : List UInt8 := [42, 42, 180, 0, 70, 182, 0, 231, 153, 0, 7, 4, 167, 0, 4, 3, 181, 0, 123, 42, 180, 0, 123]
abbrev dktX3_brief_0 : List UInt8 := dkwX3_brief_0 ++ dktX3_brief_1
theorem dksX3_brief_0 : cX3_brief.data.toList.drop 0 = dktX3_brief_0 := by decide +kernel
theorem dksX3_brief_1 : cX3_brief.data.toList.drop 23 = dktX3_brief_1 := dk_seg dksX3_brief_0 23 rfl rfl
theorem dksX3_brief_2 : cX3_brief.data.toList.drop 47 = dktX3_brief_2 := dk_seg dksX3_brief_1 24 rfl rfl
theorem dX3_brief_0 : decode cX3_brief 0 = .ok (.aload_n 0, 1) := dk_42 (dk_at dksX3_brief_0 0 rfl rfl)
theorem dX3_brief_1 : decode cX3_brief 1 = .ok (.aload_n 0, 1) := dk_42 (dk_at dksX3_brief_0 1 rfl rfl)
theorem dX3_brief_2 : decode cX3_brief 2 = .ok (.getfield 70, 3) := dk_180 0 70 (dk_at dksX3_brief_0 2 rfl rfl)
theorem dX3_brief_5 : decode cX3_brief 5 = .ok (.invokevirtual 231, 3) := dk_182 0 231 (dk_at dksX3_brief_0 5 rfl rfl)
theorem dX3_brief_8 : decode cX3_brief 8 = .ok (.ifCond .eq 7, 3) := dk_153 0 7 (dk_at dksX3_brief_0 8 rfl rfl)
theorem dX3_brief_11 : decode cX3_brief 11 = .ok (.iconst 1, 1) := dk_4 (dk_at dksX3_brief_0 11 rfl rfl)
theorem dX3_brief_12 : decode cX3_brief 12 = .ok (.goto 4, 3) := dk_167 0 4 (dk_at dksX3_brief_0 12 rfl rfl)
theorem dX3_brief_15 : decode cX3_brief 15 = .ok (.iconst 0, 1) := dk_3 (dk_at dksX3_brief_0 15 rfl rfl)
theorem dX3_brief_16 : decode cX3_brief 16 = .ok (.putfield 123, 3) := dk_181 0 123 (dk_at dksX3_brief_0 16 rfl rfl)
theorem dX3_brief_19 : decode cX3_brief 19 = .ok (.aload_n 0, 1) := dk_42 (dk_at dksX3_brief_0 19 rfl rfl)
theorem dX3_brief_20 : decode cX3_brief 20 = .ok (.getfield 123, 3) := dk_180 0 123 (dk_at dksX3_brief_0 20 rfl rfl)
theorem dX3_brief_23 : decode cX3_brief 23 = .ok (.ifCond .le 7, 3) := dk_158 0 7 (dk_at dksX3_brief_1 0 rfl rfl)
theorem dX3_brief_26 : decode cX3_brief 26 = .ok (.fconst 0, 1) := dk_11 (dk_at dksX3_brief_1 3 rfl rfl)
theorem dX3_brief_27 : decode cX3_brief 27 = .ok (.goto 20, 3) := dk_167 0 20 (dk_at dksX3_brief_1 4 rfl rfl)
theorem dX3_brief_30 : decode cX3_brief 30 = .ok (.aload_n 0, 1) := dk_42 (dk_at dksX3_brief_1 7 rfl rfl)
theorem dX3_brief_31 : decode cX3_brief 31 = .ok (.invokevirtual 297, 3) := dk_182 1 41 (dk_at dksX3_brief_1 8 rfl rfl)
theorem dX3_brief_34 : decode cX3_brief 34 = .ok (.invokevirtual 163, 3) := dk_182 0 163 (dk_at dksX3_brief_1 11 rfl rfl)
theorem dX3_brief_37 : decode cX3_brief 37 = .ok (.i2f, 1) := dk_134 (dk_at dksX3_brief_1 14 rfl rfl)
theorem dX3_brief_38 : decode cX3_brief 38 = .ok (.aload_n 0, 1) := dk_42 (dk_at dksX3_brief_1 15 rfl rfl)
theorem dX3_brief_39 : decode cX3_brief 39 = .ok (.getfield 70, 3) := dk_180 0 70 (dk_at dksX3_brief_1 16 rfl rfl)
theorem dX3_brief_42 : decode cX3_brief 42 = .ok (.invokevirtual 163, 3) := dk_182 0 163 (dk_at dksX3_brief_1 19 rfl rfl)
theorem dX3_brief_45 : decode cX3_brief 45 = .ok (.i2f, 1) := dk_134 (dk_at dksX3_brief_1 22 rfl rfl)
theorem dX3_brief_46 : decode cX3_brief 46 = .ok (.fdiv, 1) := dk_110 (dk_at dksX3_brief_1 23 rfl rfl)
theorem dX3_brief_47 : decode cX3_brief 47 = .ok (.freturn, 1) := dk_174 (dk_at dksX3_brief_2 0 rfl rfl)
abbrev cX3_delay : ByteArray := prog_16_method_70_code
def yX3_delay : MethodName := ⟨RX3, "delay", "()D"⟩
def dkwX3_delay_2 : List UInt8 := [46, 42, 180, 0, 70, 3, 182, 0, 158, 192, 0, 161, 4, 46, 100, 135, 27, 4, 100, 135, 111, 175]
abbrev dktX3_delay_2 : List UInt8 := dkwX3_delay_2 ++ []
def dkwX3_delay_1 : List UInt8 := [180, 0, 123, 158, 0, 7, 14, 167, 0, 38, 42, 180, 0, 70, 27, 4, 100, 182, 0, 158, 192, 0, 161, 4]
abbrev dktX3_delay_1 : List UInt8 := dkwX3_delay_1 ++ dktX3_delay_2
def dkwX3_delay_0 : List UInt8 := [42, 180, 0, 70, 182, 0, 163, 60, 42, 27, 5, 162, 0, 7, 4, 167, 0, 4, 3, 181, 0, 123, 42]
abbrev dktX3_delay_0 : List UInt8 := dkwX3_delay_0 ++ dktX3_delay_1
theorem dksX3_delay_0 : cX3_delay.data.toList.drop 0 = dktX3_delay_0 := by decide +kernel
theorem dksX3_delay_1 : cX3_delay.data.toList.drop 23 = dktX3_delay_1 := dk_seg dksX3_delay_0 23 rfl rfl
theorem dksX3_delay_2 : cX3_delay.data.toList.drop 47 = dktX3_delay_2 := dk_seg dksX3_delay_1 24 rfl rfl
theorem dX3_delay_0 : decode cX3_delay 0 = .ok (.aload_n 0, 1) := dk_42 (dk_at dksX3_delay_0 0 rfl rfl)
theorem dX3_delay_1 : decode cX3_delay 1 = .ok (.getfield 70, 3) := dk_180 0 70 (dk_at dksX3_delay_0 1 rfl rfl)
theorem dX3_delay_4 : decode cX3_delay 4 = .ok (.invokevirtual 163, 3) := dk_182 0 163 (dk_at dksX3_delay_0 4 rfl rfl)
theorem dX3_delay_7 : decode cX3_delay 7 = .ok (.istore_n 1, 1) := dk_60 (dk_at dksX3_delay_0 7 rfl rfl)
theorem dX3_delay_8 : decode cX3_delay 8 = .ok (.aload_n 0, 1) := dk_42 (dk_at dksX3_delay_0 8 rfl rfl)
theorem dX3_delay_9 : decode cX3_delay 9 = .ok (.iload_n 1, 1) := dk_27 (dk_at dksX3_delay_0 9 rfl rfl)
theorem dX3_delay_10 : decode cX3_delay 10 = .ok (.iconst 2, 1) := dk_5 (dk_at dksX3_delay_0 10 rfl rfl)
theorem dX3_delay_11 : decode cX3_delay 11 = .ok (.if_icmp .ge 7, 3) := dk_162 0 7 (dk_at dksX3_delay_0 11 rfl rfl)
theorem dX3_delay_14 : decode cX3_delay 14 = .ok (.iconst 1, 1) := dk_4 (dk_at dksX3_delay_0 14 rfl rfl)
theorem dX3_delay_15 : decode cX3_delay 15 = .ok (.goto 4, 3) := dk_167 0 4 (dk_at dksX3_delay_0 15 rfl rfl)
theorem dX3_delay_18 : decode cX3_delay 18 = .ok (.iconst 0, 1) := dk_3 (dk_at dksX3_delay_0 18 rfl rfl)
theorem dX3_delay_19 : decode cX3_delay 19 = .ok (.putfield 123, 3) := dk_181 0 123 (dk_at dksX3_delay_0 19 rfl rfl)
theorem dX3_delay_22 : decode cX3_delay 22 = .ok (.aload_n 0, 1) := dk_42 (dk_at dksX3_delay_0 22 rfl rfl)
theorem dX3_delay_23 : decode cX3_delay 23 = .ok (.getfield 123, 3) := dk_180 0 123 (dk_at dksX3_delay_1 0 rfl rfl)
theorem dX3_delay_26 : decode cX3_delay 26 = .ok (.ifCond .le 7, 3) := dk_158 0 7 (dk_at dksX3_delay_1 3 rfl rfl)
theorem dX3_delay_29 : decode cX3_delay 29 = .ok (.dconst 0, 1) := dk_14 (dk_at dksX3_delay_1 6 rfl rfl)
theorem dX3_delay_30 : decode cX3_delay 30 = .ok (.goto 38, 3) := dk_167 0 38 (dk_at dksX3_delay_1 7 rfl rfl)
theorem dX3_delay_33 : decode cX3_delay 33 = .ok (.aload_n 0, 1) := dk_42 (dk_at dksX3_delay_1 10 rfl rfl)
theorem dX3_delay_34 : decode cX3_delay 34 = .ok (.getfield 70, 3) := dk_180 0 70 (dk_at dksX3_delay_1 11 rfl rfl)
theorem dX3_delay_37 : decode cX3_delay 37 = .ok (.iload_n 1, 1) := dk_27 (dk_at dksX3_delay_1 14 rfl rfl)
theorem dX3_delay_38 : decode cX3_delay 38 = .ok (.iconst 1, 1) := dk_4 (dk_at dksX3_delay_1 15 rfl rfl)
theorem dX3_delay_39 : decode cX3_delay 39 = .ok (.isub, 1) := dk_100 (dk_at dksX3_delay_1 16 rfl rfl)
theorem dX3_delay_40 : decode cX3_delay 40 = .ok (.invokevirtual 158, 3) := dk_182 0 158 (dk_at dksX3_delay_1 17 rfl rfl)
theorem dX3_delay_43 : decode cX3_delay 43 = .ok (.checkcast 161, 3) := dk_192 0 161 (dk_at dksX3_delay_1 20 rfl rfl)
theorem dX3_delay_46 : decode cX3_delay 46 = .ok (.iconst 1, 1) := dk_4 (dk_at dksX3_delay_1 23 rfl rfl)
theorem dX3_delay_47 : decode cX3_delay 47 = .ok (.iaload, 1) := dk_46 (dk_at dksX3_delay_2 0 rfl rfl)
theorem dX3_delay_48 : decode cX3_delay 48 = .ok (.aload_n 0, 1) := dk_42 (dk_at dksX3_delay_2 1 rfl rfl)
theorem dX3_delay_49 : decode cX3_delay 49 = .ok (.getfield 70, 3) := dk_180 0 70 (dk_at dksX3_delay_2 2 rfl rfl)
theorem dX3_delay_52 : decode cX3_delay 52 = .ok (.iconst 0, 1) := dk_3 (dk_at dksX3_delay_2 5 rfl rfl)
theorem dX3_delay_53 : decode cX3_delay 53 = .ok (.invokevirtual 158, 3) := dk_182 0 158 (dk_at dksX3_delay_2 6 rfl rfl)
theorem dX3_delay_56 : decode cX3_delay 56 = .ok (.checkcast 161, 3) := dk_192 0 161 (dk_at dksX3_delay_2 9 rfl rfl)
theorem dX3_delay_59 : decode cX3_delay 59 = .ok (.iconst 1, 1) := dk_4 (dk_at dksX3_delay_2 12 rfl rfl)
theorem dX3_delay_60 : decode cX3_delay 60 = .ok (.iaload, 1) := dk_46 (dk_at dksX3_delay_2 13 rfl rfl)
theorem dX3_delay_61 : decode cX3_delay 61 = .ok (.isub, 1) := dk_100 (dk_at dksX3_delay_2 14 rfl rfl)
theorem dX3_delay_62 : decode cX3_delay 62 = .ok (.i2d, 1) := dk_135 (dk_at dksX3_delay_2 15 rfl rfl)
theorem dX3_delay_63 : decode cX3_delay 63 = .ok (.iload_n 1, 1) := dk_27 (dk_at dksX3_delay_2 16 rfl rfl)
theorem dX3_delay_64 : decode cX3_delay 64 = .ok (.iconst 1, 1) := dk_4 (dk_at dksX3_delay_2 17 rfl rfl)
theorem dX3_delay_65 : decode cX3_delay 65 = .ok (.isub, 1) := dk_100 (dk_at dksX3_delay_2 18 rfl rfl)
theorem dX3_delay_66 : decode cX3_delay 66 = .ok (.i2d, 1) := dk_135 (dk_at dksX3_delay_2 19 rfl rfl)
theorem dX3_delay_67 : decode cX3_delay 67 = .ok (.ddiv, 1) := dk_111 (dk_at dksX3_delay_2 20 rfl rfl)
theorem dX3_delay_68 : decode cX3_delay 68 = .ok (.dreturn, 1) := dk_175 (dk_at dksX3_delay_2 21 rfl rfl)
abbrev cX3_checksum : ByteArray := prog_16_method_71_code
def yX3_checksum : MethodName := ⟨RX3, "checksum", "()J"⟩
def dkwX3_checksum_4 : List UInt8 := [20, 1, 114, 31, 105, 25, 5, 180, 0, 181, 133, 97, 64, 167, 255, 221, 31, 173]
abbrev dktX3_checksum_4 : List UInt8 := dkwX3_checksum_4 ++ []
def dkwX3_checksum_3 : List UInt8 := [25, 4, 185, 0, 130, 1, 0, 153, 0, 31, 25, 4, 185, 0, 136, 1, 0, 192, 0, 170, 58, 5]
abbrev dktX3_checksum_3 : List UInt8 := dkwX3_checksum_3 ++ dktX3_checksum_4
def dkwX3_checksum_2 : List UInt8 := [45, 21, 4, 182, 0, 42, 133, 97, 64, 132, 4, 1, 167, 255, 214, 42, 180, 0, 100, 182, 0, 126, 58, 4]
abbrev dktX3_checksum_2 : List UInt8 := dkwX3_checksum_2 ++ dktX3_checksum_3
def dkwX3_checksum_1 : List UInt8 := [162, 0, 39, 20, 1, 114, 31, 105, 45, 21, 4, 182, 0, 42, 16, 124, 160, 0, 8, 16, 10, 167, 0, 9]
abbrev dktX3_checksum_1 : List UInt8 := dkwX3_checksum_1 ++ dktX3_checksum_2
def dkwX3_checksum_0 : List UInt8 := [42, 3, 181, 0, 123, 20, 1, 112, 64, 42, 182, 1, 54, 78, 3, 54, 4, 21, 4, 45, 182, 0, 18]
abbrev dktX3_checksum_0 : List UInt8 := dkwX3_checksum_0 ++ dktX3_checksum_1
theorem dksX3_checksum_0 : cX3_checksum.data.toList.drop 0 = dktX3_checksum_0 := by decide +kernel
theorem dksX3_checksum_1 : cX3_checksum.data.toList.drop 23 = dktX3_checksum_1 := dk_seg dksX3_checksum_0 23 rfl rfl
theorem dksX3_checksum_2 : cX3_checksum.data.toList.drop 47 = dktX3_checksum_2 := dk_seg dksX3_checksum_1 24 rfl rfl
theorem dksX3_checksum_3 : cX3_checksum.data.toList.drop 71 = dktX3_checksum_3 := dk_seg dksX3_checksum_2 24 rfl rfl
theorem dksX3_checksum_4 : cX3_checksum.data.toList.drop 93 = dktX3_checksum_4 := dk_seg dksX3_checksum_3 22 rfl rfl
theorem dX3_checksum_0 : decode cX3_checksum 0 = .ok (.aload_n 0, 1) := dk_42 (dk_at dksX3_checksum_0 0 rfl rfl)
theorem dX3_checksum_1 : decode cX3_checksum 1 = .ok (.iconst 0, 1) := dk_3 (dk_at dksX3_checksum_0 1 rfl rfl)
theorem dX3_checksum_2 : decode cX3_checksum 2 = .ok (.putfield 123, 3) := dk_181 0 123 (dk_at dksX3_checksum_0 2 rfl rfl)
theorem dX3_checksum_5 : decode cX3_checksum 5 = .ok (.ldc2_w 368, 3) := dk_20 1 112 (dk_at dksX3_checksum_0 5 rfl rfl)
theorem dX3_checksum_8 : decode cX3_checksum 8 = .ok (.lstore_n 1, 1) := dk_64 (dk_at dksX3_checksum_0 8 rfl rfl)
theorem dX3_checksum_9 : decode cX3_checksum 9 = .ok (.aload_n 0, 1) := dk_42 (dk_at dksX3_checksum_0 9 rfl rfl)
theorem dX3_checksum_10 : decode cX3_checksum 10 = .ok (.invokevirtual 310, 3) := dk_182 1 54 (dk_at dksX3_checksum_0 10 rfl rfl)
theorem dX3_checksum_13 : decode cX3_checksum 13 = .ok (.astore_n 3, 1) := dk_78 (dk_at dksX3_checksum_0 13 rfl rfl)
theorem dX3_checksum_14 : decode cX3_checksum 14 = .ok (.iconst 0, 1) := dk_3 (dk_at dksX3_checksum_0 14 rfl rfl)
theorem dX3_checksum_15 : decode cX3_checksum 15 = .ok (.istore 4, 2) := dk_54 4 (dk_at dksX3_checksum_0 15 rfl rfl)
theorem dX3_checksum_17 : decode cX3_checksum 17 = .ok (.iload 4, 2) := dk_21 4 (dk_at dksX3_checksum_0 17 rfl rfl)
theorem dX3_checksum_19 : decode cX3_checksum 19 = .ok (.aload_n 3, 1) := dk_45 (dk_at dksX3_checksum_0 19 rfl rfl)
theorem dX3_checksum_20 : decode cX3_checksum 20 = .ok (.invokevirtual 18, 3) := dk_182 0 18 (dk_at dksX3_checksum_0 20 rfl rfl)
theorem dX3_checksum_23 : decode cX3_checksum 23 = .ok (.if_icmp .ge 39, 3) := dk_162 0 39 (dk_at dksX3_checksum_1 0 rfl rfl)
theorem dX3_checksum_26 : decode cX3_checksum 26 = .ok (.ldc2_w 370, 3) := dk_20 1 114 (dk_at dksX3_checksum_1 3 rfl rfl)
theorem dX3_checksum_29 : decode cX3_checksum 29 = .ok (.lload_n 1, 1) := dk_31 (dk_at dksX3_checksum_1 6 rfl rfl)
theorem dX3_checksum_30 : decode cX3_checksum 30 = .ok (.lmul, 1) := dk_105 (dk_at dksX3_checksum_1 7 rfl rfl)
theorem dX3_checksum_31 : decode cX3_checksum 31 = .ok (.aload_n 3, 1) := dk_45 (dk_at dksX3_checksum_1 8 rfl rfl)
theorem dX3_checksum_32 : decode cX3_checksum 32 = .ok (.iload 4, 2) := dk_21 4 (dk_at dksX3_checksum_1 9 rfl rfl)
theorem dX3_checksum_34 : decode cX3_checksum 34 = .ok (.invokevirtual 42, 3) := dk_182 0 42 (dk_at dksX3_checksum_1 11 rfl rfl)
theorem dX3_checksum_37 : decode cX3_checksum 37 = .ok (.bipush 124, 2) := dk_16 124 (dk_at dksX3_checksum_1 14 rfl rfl)
theorem dX3_checksum_39 : decode cX3_checksum 39 = .ok (.if_icmp .ne 8, 3) := dk_160 0 8 (dk_at dksX3_checksum_1 16 rfl rfl)
theorem dX3_checksum_42 : decode cX3_checksum 42 = .ok (.bipush 10, 2) := dk_16 10 (dk_at dksX3_checksum_1 19 rfl rfl)
theorem dX3_checksum_44 : decode cX3_checksum 44 = .ok (.goto 9, 3) := dk_167 0 9 (dk_at dksX3_checksum_1 21 rfl rfl)
theorem dX3_checksum_47 : decode cX3_checksum 47 = .ok (.aload_n 3, 1) := dk_45 (dk_at dksX3_checksum_2 0 rfl rfl)
theorem dX3_checksum_48 : decode cX3_checksum 48 = .ok (.iload 4, 2) := dk_21 4 (dk_at dksX3_checksum_2 1 rfl rfl)
theorem dX3_checksum_50 : decode cX3_checksum 50 = .ok (.invokevirtual 42, 3) := dk_182 0 42 (dk_at dksX3_checksum_2 3 rfl rfl)
theorem dX3_checksum_53 : decode cX3_checksum 53 = .ok (.i2l, 1) := dk_133 (dk_at dksX3_checksum_2 6 rfl rfl)
theorem dX3_checksum_54 : decode cX3_checksum 54 = .ok (.ladd, 1) := dk_97 (dk_at dksX3_checksum_2 7 rfl rfl)
theorem dX3_checksum_55 : decode cX3_checksum 55 = .ok (.lstore_n 1, 1) := dk_64 (dk_at dksX3_checksum_2 8 rfl rfl)
theorem dX3_checksum_56 : decode cX3_checksum 56 = .ok (.iinc 4 1, 3) := dk_132 4 1 (dk_at dksX3_checksum_2 9 rfl rfl)
theorem dX3_checksum_59 : decode cX3_checksum 59 = .ok (.goto (-42), 3) := dk_167 255 214 (dk_at dksX3_checksum_2 12 rfl rfl)
theorem dX3_checksum_62 : decode cX3_checksum 62 = .ok (.aload_n 0, 1) := dk_42 (dk_at dksX3_checksum_2 15 rfl rfl)
theorem dX3_checksum_63 : decode cX3_checksum 63 = .ok (.getfield 100, 3) := dk_180 0 100 (dk_at dksX3_checksum_2 16 rfl rfl)
theorem dX3_checksum_66 : decode cX3_checksum 66 = .ok (.invokevirtual 126, 3) := dk_182 0 126 (dk_at dksX3_checksum_2 19 rfl rfl)
theorem dX3_checksum_69 : decode cX3_checksum 69 = .ok (.astore 4, 2) := dk_58 4 (dk_at dksX3_checksum_2 22 rfl rfl)
theorem dX3_checksum_71 : decode cX3_checksum 71 = .ok (.aload 4, 2) := dk_25 4 (dk_at dksX3_checksum_3 0 rfl rfl)
theorem dX3_checksum_73 : decode cX3_checksum 73 = .ok (.invokeinterface 130 1, 5) := by decide +kernel
theorem dX3_checksum_78 : decode cX3_checksum 78 = .ok (.ifCond .eq 31, 3) := dk_153 0 31 (dk_at dksX3_checksum_3 7 rfl rfl)
theorem dX3_checksum_81 : decode cX3_checksum 81 = .ok (.aload 4, 2) := dk_25 4 (dk_at dksX3_checksum_3 10 rfl rfl)
theorem dX3_checksum_83 : decode cX3_checksum 83 = .ok (.invokeinterface 136 1, 5) := by decide +kernel
theorem dX3_checksum_88 : decode cX3_checksum 88 = .ok (.checkcast 170, 3) := dk_192 0 170 (dk_at dksX3_checksum_3 17 rfl rfl)
theorem dX3_checksum_91 : decode cX3_checksum 91 = .ok (.astore 5, 2) := dk_58 5 (dk_at dksX3_checksum_3 20 rfl rfl)
theorem dX3_checksum_93 : decode cX3_checksum 93 = .ok (.ldc2_w 370, 3) := dk_20 1 114 (dk_at dksX3_checksum_4 0 rfl rfl)
theorem dX3_checksum_96 : decode cX3_checksum 96 = .ok (.lload_n 1, 1) := dk_31 (dk_at dksX3_checksum_4 3 rfl rfl)
theorem dX3_checksum_97 : decode cX3_checksum 97 = .ok (.lmul, 1) := dk_105 (dk_at dksX3_checksum_4 4 rfl rfl)
theorem dX3_checksum_98 : decode cX3_checksum 98 = .ok (.aload 5, 2) := dk_25 5 (dk_at dksX3_checksum_4 5 rfl rfl)
theorem dX3_checksum_100 : decode cX3_checksum 100 = .ok (.getfield 181, 3) := dk_180 0 181 (dk_at dksX3_checksum_4 7 rfl rfl)
theorem dX3_checksum_103 : decode cX3_checksum 103 = .ok (.i2l, 1) := dk_133 (dk_at dksX3_checksum_4 10 rfl rfl)
theorem dX3_checksum_104 : decode cX3_checksum 104 = .ok (.ladd, 1) := dk_97 (dk_at dksX3_checksum_4 11 rfl rfl)
theorem dX3_checksum_105 : decode cX3_checksum 105 = .ok (.lstore_n 1, 1) := dk_64 (dk_at dksX3_checksum_4 12 rfl rfl)
theorem dX3_checksum_106 : decode cX3_checksum 106 = .ok (.goto (-35), 3) := dk_167 255 221 (dk_at dksX3_checksum_4 13 rfl rfl)
theorem dX3_checksum_109 : decode cX3_checksum 109 = .ok (.lload_n 1, 1) := dk_31 (dk_at dksX3_checksum_4 16 rfl rfl)
theorem dX3_checksum_110 : decode cX3_checksum 110 = .ok (.lreturn, 1) := dk_173 (dk_at dksX3_checksum_4 17 rfl rfl)
abbrev cX3_isSound : ByteArray := prog_16_method_72_code
def yX3_isSound : MethodName := ⟨RX3, "isSound", "()Z"⟩
def dkwX3_isSound_0 : List UInt8 := [42, 3, 181, 0, 123, 4, 172]
abbrev dktX3_isSound_0 : List UInt8 := dkwX3_isSound_0 ++ []
theorem dksX3_isSound_0 : cX3_isSound.data.toList.drop 0 = dktX3_isSound_0 := by decide +kernel
theorem dX3_isSound_0 : decode cX3_isSound 0 = .ok (.aload_n 0, 1) := dk_42 (dk_at dksX3_isSound_0 0 rfl rfl)
theorem dX3_isSound_1 : decode cX3_isSound 1 = .ok (.iconst 0, 1) := dk_3 (dk_at dksX3_isSound_0 1 rfl rfl)
theorem dX3_isSound_2 : decode cX3_isSound 2 = .ok (.putfield 123, 3) := dk_181 0 123 (dk_at dksX3_isSound_0 2 rfl rfl)
theorem dX3_isSound_5 : decode cX3_isSound 5 = .ok (.iconst 1, 1) := dk_4 (dk_at dksX3_isSound_0 5 rfl rfl)
theorem dX3_isSound_6 : decode cX3_isSound 6 = .ok (.ireturn, 1) := dk_172 (dk_at dksX3_isSound_0 6 rfl rfl)
theorem q100 : (Jvm.Cond.initialized "StenohallModel") ∈ lw_all := lw_g (lw_at lw_m1 26 rfl) rfl
theorem q316 : (Jvm.Cond.selects "StenohallModel" ({ cls := "java/lang/Object", name := "getClass", desc := "()Ljava/lang/Class;" } : Jvm.MethodName) ({ cls := "java/lang/Object", name := "getClass", desc := "()Ljava/lang/Class;" } : Jvm.MethodName)) ∈ lw_all := lw_g (lw_at lw_m2 2 rfl) rfl
theorem q969 : (Jvm.Cond.selects "StenohallModel" ({ cls := "java/lang/Object", name := "equals", desc := "(Ljava/lang/Object;)Z" } : Jvm.MethodName) ({ cls := "java/lang/Object", name := "equals", desc := "(Ljava/lang/Object;)Z" } : Jvm.MethodName)) ∈ lw_all := lw_g (lw_at lw_m4 175 rfl) rfl
theorem q3293 : (Jvm.Cond.instantiable "StenohallModel" (17 : Nat)) ∈ lw_all := lw_g (lw_at lw_m14 99 rfl) rfl
theorem q3295 : (Jvm.Cond.instanceMethod ({ cls := "StenohallModel", name := "<init>", desc := "()V" } : Jvm.MethodName)) ∈ lw_all := lw_g (lw_at lw_m14 101 rfl) rfl
theorem q3296 : (Jvm.Cond.code ({ cls := "StenohallModel", name := "<init>", desc := "()V" } : Jvm.MethodName) prog_16_method_9_code (1 : Nat) (Option.none : Option Jvm.ClassFile.FieldType)) ∈ lw_all := lw_g (lw_at lw_m14 102 rfl) rfl
theorem q3297 : (Jvm.Cond.methodLink "StenohallModel" (64 : Nat) ({ cls := "java/lang/Object", name := "<init>", desc := "()V" } : Jvm.MethodName)) ∈ lw_all := lw_g (lw_at lw_m14 103 rfl) rfl
theorem q3298 : (Jvm.Cond.classLink "StenohallModel" (67 : Nat) "java/util/ArrayList") ∈ lw_all := lw_g (lw_at lw_m14 104 rfl) rfl
theorem q3299 : (Jvm.Cond.methodLink "StenohallModel" (69 : Nat) ({ cls := "java/util/ArrayList", name := "<init>", desc := "()V" } : Jvm.MethodName)) ∈ lw_all := lw_g (lw_at lw_m14 105 rfl) rfl
theorem q3300 : (Jvm.Cond.stringRef "StenohallModel" (77 : Nat) "") ∈ lw_tbl := lw_at lw_m14 106 rfl
theorem q3301 : (Jvm.Cond.classLink "StenohallModel" (83 : Nat) "StenohallModel$Layer") ∈ lw_all := lw_g (lw_at lw_m14 107 rfl) rfl
theorem q3304 : (Jvm.Cond.methodLinkNest "StenohallModel" (85 : Nat) ({ cls := "StenohallModel$Layer", name := "<init>", desc := "()V" } : Jvm.MethodName) "StenohallModel") ∈ lw_tbl := lw_at lw_m14 110 rfl
theorem q3343 : (Jvm.Cond.fieldLinkNest "StenohallModel" (145 : Nat) "StenohallModel$Layer" "isOn" "Z" "StenohallModel") ∈ lw_tbl := lw_at lw_m14 149 rfl
theorem q3345 : (Jvm.Cond.fieldLinkNest "StenohallModel" (149 : Nat) "StenohallModel$Layer" "entries" "Ljava/util/TreeMap;" "StenohallModel") ∈ lw_tbl := lw_at lw_m14 151 rfl
theorem q3351 : (Jvm.Cond.classLink "StenohallModel" (90 : Nat) "java/util/TreeSet") ∈ lw_all := lw_g (lw_at lw_m14 157 rfl) rfl
theorem q3353 : (Jvm.Cond.methodLink "StenohallModel" (92 : Nat) ({ cls := "java/util/TreeSet", name := "<init>", desc := "()V" } : Jvm.MethodName)) ∈ lw_all := lw_g (lw_at lw_m14 159 rfl) rfl
theorem q3366 : (Jvm.Cond.classLink "StenohallModel" (116 : Nat) "java/util/TreeMap") ∈ lw_all := lw_g (lw_at lw_m14 172 rfl) rfl
theorem q3367 : (Jvm.Cond.methodLink "StenohallModel" (118 : Nat) ({ cls := "java/util/TreeMap", name := "<init>", desc := "()V" } : Jvm.MethodName)) ∈ lw_all := lw_g (lw_at lw_m14 173 rfl) rfl
theorem q3368 : (Jvm.Cond.fieldLink "StenohallModel" (123 : Nat) "StenohallModel" "thrown" "I") ∈ lw_all := lw_g (lw_at lw_m14 174 rfl) rfl
theorem q3369 : (Jvm.Cond.fieldLink "StenohallModel" (211 : Nat) "StenohallModel" "isFirst" "Z") ∈ lw_all := lw_g (lw_at lw_m14 175 rfl) rfl
theorem q3370 : (Jvm.Cond.fieldLink "StenohallModel" (208 : Nat) "StenohallModel" "down" "I") ∈ lw_all := lw_g (lw_at lw_m14 176 rfl) rfl
theorem q3371 : (Jvm.Cond.fieldLink "StenohallModel" (217 : Nat) "StenohallModel" "went" "I") ∈ lw_all := lw_g (lw_at lw_m14 177 rfl) rfl
theorem q3372 : (Jvm.Cond.fieldLink "StenohallModel" (214 : Nat) "StenohallModel" "isFresh" "Z") ∈ lw_all := lw_g (lw_at lw_m14 178 rfl) rfl
theorem q3374 : (Jvm.Cond.fieldLink "StenohallModel" (70 : Nat) "StenohallModel" "strokes" "Ljava/util/ArrayList;") ∈ lw_all := lw_g (lw_at lw_m14 180 rfl) rfl
theorem q3375 : (Jvm.Cond.fieldLink "StenohallModel" (74 : Nat) "StenohallModel" "chords" "Ljava/util/ArrayList;") ∈ lw_all := lw_g (lw_at lw_m14 181 rfl) rfl
theorem q3376 : (Jvm.Cond.fieldLink "StenohallModel" (79 : Nat) "StenohallModel" "signs" "Ljava/lang/String;") ∈ lw_all := lw_g (lw_at lw_m14 182 rfl) rfl
theorem q3377 : (Jvm.Cond.fieldLink "StenohallModel" (86 : Nat) "StenohallModel" "layers" "[LStenohallModel$Layer;") ∈ lw_all := lw_g (lw_at lw_m14 183 rfl) rfl
theorem q3378 : (Jvm.Cond.fieldLink "StenohallModel" (93 : Nat) "StenohallModel" "words" "Ljava/util/TreeSet;") ∈ lw_all := lw_g (lw_at lw_m14 184 rfl) rfl
theorem q3380 : (Jvm.Cond.fieldLink "StenohallModel" (97 : Nat) "StenohallModel" "rules" "Ljava/lang/String;") ∈ lw_all := lw_g (lw_at lw_m14 186 rfl) rfl
theorem q3383 : (Jvm.Cond.fieldLink "StenohallModel" (100 : Nat) "StenohallModel" "translations" "Ljava/util/ArrayList;") ∈ lw_all := lw_g (lw_at lw_m14 189 rfl) rfl
theorem q3384 : (Jvm.Cond.fieldLink "StenohallModel" (103 : Nat) "StenohallModel" "kept" "Ljava/util/ArrayList;") ∈ lw_all := lw_g (lw_at lw_m14 190 rfl) rfl
theorem q3385 : (Jvm.Cond.fieldLink "StenohallModel" (106 : Nat) "StenohallModel" "sinks" "Ljava/util/ArrayList;") ∈ lw_all := lw_g (lw_at lw_m14 191 rfl) rfl
theorem q3386 : (Jvm.Cond.fieldLink "StenohallModel" (109 : Nat) "StenohallModel" "width" "I") ∈ lw_all := lw_g (lw_at lw_m14 192 rfl) rfl
theorem q3387 : (Jvm.Cond.fieldLink "StenohallModel" (113 : Nat) "StenohallModel" "lines" "I") ∈ lw_all := lw_g (lw_at lw_m14 193 rfl) rfl
theorem q3388 : (Jvm.Cond.fieldLink "StenohallModel" (119 : Nat) "StenohallModel" "contractions" "Ljava/util/TreeMap;") ∈ lw_all := lw_g (lw_at lw_m14 194 rfl) rfl
theorem q3389 : (Jvm.Cond.lays "StenohallModel" "StenohallModel" "thrown" "I") ∈ lw_all := lw_g (lw_at lw_m14 195 rfl) rfl
theorem q3390 : (Jvm.Cond.soleField "StenohallModel" "thrown") ∈ lw_all := lw_g (lw_at lw_m14 196 rfl) rfl
theorem q3391 : (Jvm.Cond.lays "StenohallModel" "StenohallModel" "isFirst" "Z") ∈ lw_all := lw_g (lw_at lw_m14 197 rfl) rfl
theorem q3392 : (Jvm.Cond.soleField "StenohallModel" "isFirst") ∈ lw_all := lw_g (lw_at lw_m14 198 rfl) rfl
theorem q3393 : (Jvm.Cond.lays "StenohallModel" "StenohallModel" "down" "I") ∈ lw_all := lw_g (lw_at lw_m14 199 rfl) rfl
theorem q3394 : (Jvm.Cond.soleField "StenohallModel" "down") ∈ lw_all := lw_g (lw_at lw_m14 200 rfl) rfl
theorem q3395 : (Jvm.Cond.lays "StenohallModel" "StenohallModel" "went" "I") ∈ lw_all := lw_g (lw_at lw_m14 201 rfl) rfl
theorem q3396 : (Jvm.Cond.soleField "StenohallModel" "went") ∈ lw_all := lw_g (lw_at lw_m14 202 rfl) rfl
theorem q3397 : (Jvm.Cond.lays "StenohallModel" "StenohallModel" "isFresh" "Z") ∈ lw_all := lw_g (lw_at lw_m14 203 rfl) rfl
theorem q3398 : (Jvm.Cond.soleField "StenohallModel" "isFresh") ∈ lw_all := lw_g (lw_at lw_m14 204 rfl) rfl
theorem q3399 : (Jvm.Cond.laysFinal "StenohallModel" "StenohallModel" "strokes" "Ljava/util/ArrayList;") ∈ lw_all := lw_g (lw_at lw_m14 205 rfl) rfl
theorem q3400 : (Jvm.Cond.soleField "StenohallModel" "strokes") ∈ lw_all := lw_g (lw_at lw_m14 206 rfl) rfl
theorem q3401 : (Jvm.Cond.laysFinal "StenohallModel" "StenohallModel" "chords" "Ljava/util/ArrayList;") ∈ lw_all := lw_g (lw_at lw_m14 207 rfl) rfl
theorem q3402 : (Jvm.Cond.soleField "StenohallModel" "chords") ∈ lw_all := lw_g (lw_at lw_m14 208 rfl) rfl
theorem q3403 : (Jvm.Cond.lays "StenohallModel" "StenohallModel" "signs" "Ljava/lang/String;") ∈ lw_all := lw_g (lw_at lw_m14 209 rfl) rfl
theorem q3404 : (Jvm.Cond.soleField "StenohallModel" "signs") ∈ lw_all := lw_g (lw_at lw_m14 210 rfl) rfl
theorem q3405 : (Jvm.Cond.laysFinal "StenohallModel" "StenohallModel" "layers" "[LStenohallModel$Layer;") ∈ lw_all := lw_g (lw_at lw_m14 211 rfl) rfl
theorem q3406 : (Jvm.Cond.soleField "StenohallModel" "layers") ∈ lw_all := lw_g (lw_at lw_m14 212 rfl) rfl
theorem q3407 : (Jvm.Cond.laysFinal "StenohallModel" "StenohallModel" "words" "Ljava/util/TreeSet;") ∈ lw_all := lw_g (lw_at lw_m14 213 rfl) rfl
theorem q3408 : (Jvm.Cond.soleField "StenohallModel" "words") ∈ lw_all := lw_g (lw_at lw_m14 214 rfl) rfl
theorem q3409 : (Jvm.Cond.lays "StenohallModel" "StenohallModel" "rules" "Ljava/lang/String;") ∈ lw_all := lw_g (lw_at lw_m14 215 rfl) rfl
theorem q3410 : (Jvm.Cond.soleField "StenohallModel" "rules") ∈ lw_all := lw_g (lw_at lw_m14 216 rfl) rfl
theorem q3411 : (Jvm.Cond.lays "StenohallModel" "StenohallModel" "translations" "Ljava/util/ArrayList;") ∈ lw_all := lw_g (lw_at lw_m14 217 rfl) rfl
theorem q3412 : (Jvm.Cond.soleField "StenohallModel" "translations") ∈ lw_all := lw_g (lw_at lw_m14 218 rfl) rfl
theorem q3413 : (Jvm.Cond.laysFinal "StenohallModel" "StenohallModel" "kept" "Ljava/util/ArrayList;") ∈ lw_all := lw_g (lw_at lw_m14 219 rfl) rfl
theorem q3414 : (Jvm.Cond.soleField "StenohallModel" "kept") ∈ lw_all := lw_g (lw_at lw_m14 220 rfl) rfl
theorem q3415 : (Jvm.Cond.laysFinal "StenohallModel" "StenohallModel" "sinks" "Ljava/util/ArrayList;") ∈ lw_all := lw_g (lw_at lw_m14 221 rfl) rfl
theorem q3416 : (Jvm.Cond.soleField "StenohallModel" "sinks") ∈ lw_all := lw_g (lw_at lw_m14 222 rfl) rfl
theorem q3417 : (Jvm.Cond.lays "StenohallModel" "StenohallModel" "width" "I") ∈ lw_all := lw_g (lw_at lw_m14 223 rfl) rfl
theorem q3418 : (Jvm.Cond.soleField "StenohallModel" "width") ∈ lw_all := lw_g (lw_at lw_m14 224 rfl) rfl
theorem q3419 : (Jvm.Cond.lays "StenohallModel" "StenohallModel" "lines" "I") ∈ lw_all := lw_g (lw_at lw_m14 225 rfl) rfl
theorem q3420 : (Jvm.Cond.soleField "StenohallModel" "lines") ∈ lw_all := lw_g (lw_at lw_m14 226 rfl) rfl
theorem q3421 : (Jvm.Cond.laysFinal "StenohallModel" "StenohallModel" "contractions" "Ljava/util/TreeMap;") ∈ lw_all := lw_g (lw_at lw_m14 227 rfl) rfl
theorem q3422 : (Jvm.Cond.soleField "StenohallModel" "contractions") ∈ lw_all := lw_g (lw_at lw_m14 228 rfl) rfl
theorem q3423 : (Jvm.Cond.superclass "StenohallModel" "java/lang/Object") ∈ lw_all := lw_g (lw_at lw_m14 229 rfl) rfl
theorem q3425 : (Jvm.Cond.instanceMethod ({ cls := "StenohallModel", name := "thrown", desc := "()I" } : Jvm.MethodName)) ∈ lw_all := lw_g (lw_at lw_m14 231 rfl) rfl
theorem q3426 : (Jvm.Cond.selects "StenohallModel" ({ cls := "StenohallModel", name := "thrown", desc := "()I" } : Jvm.MethodName) ({ cls := "StenohallModel", name := "thrown", desc := "()I" } : Jvm.MethodName)) ∈ lw_all := lw_g (lw_at lw_m14 232 rfl) rfl
theorem q3427 : (Jvm.Cond.code ({ cls := "StenohallModel", name := "thrown", desc := "()I" } : Jvm.MethodName) prog_16_method_10_code (1 : Nat) (Option.some Jvm.ClassFile.FieldType.int)) ∈ lw_all := lw_g (lw_at lw_m14 233 rfl) rfl
theorem q3429 : (Jvm.Cond.instanceMethod ({ cls := "StenohallModel", name := "mode", desc := "(C)Z" } : Jvm.MethodName)) ∈ lw_all := lw_g (lw_at lw_m14 235 rfl) rfl
theorem q3430 : (Jvm.Cond.selects "StenohallModel" ({ cls := "StenohallModel", name := "mode", desc := "(C)Z" } : Jvm.MethodName) ({ cls := "StenohallModel", name := "mode", desc := "(C)Z" } : Jvm.MethodName)) ∈ lw_all := lw_g (lw_at lw_m14 236 rfl) rfl
theorem q3431 : (Jvm.Cond.code ({ cls := "StenohallModel", name := "mode", desc := "(C)Z" } : Jvm.MethodName) prog_16_method_17_code (3 : Nat) (Option.some Jvm.ClassFile.FieldType.boolean)) ∈ lw_all := lw_g (lw_at lw_m14 237 rfl) rfl
theorem q3433 : (Jvm.Cond.instanceMethod ({ cls := "StenohallModel", name := "down", desc := "(I)I" } : Jvm.MethodName)) ∈ lw_all := lw_g (lw_at lw_m14 239 rfl) rfl
theorem q3434 : (Jvm.Cond.selects "StenohallModel" ({ cls := "StenohallModel", name := "down", desc := "(I)I" } : Jvm.MethodName) ({ cls := "StenohallModel", name := "down", desc := "(I)I" } : Jvm.MethodName)) ∈ lw_all := lw_g (lw_at lw_m15 0 rfl) rfl
theorem q3435 : (Jvm.Cond.code ({ cls := "StenohallModel", name := "down", desc := "(I)I" } : Jvm.MethodName) prog_16_method_18_code (2 : Nat) (Option.some Jvm.ClassFile.FieldType.int)) ∈ lw_all := lw_g (lw_at lw_m15 1 rfl) rfl
theorem q3436 : (Jvm.Cond.methodLink "StenohallModel" (220 : Nat) ({ cls := "StenohallModel", name := "in", desc := "(III)Z" } : Jvm.MethodName)) ∈ lw_all := lw_g (lw_at lw_m15 2 rfl) rfl
theorem q3437 : (Jvm.Cond.static ({ cls := "StenohallModel", name := "in", desc := "(III)Z" } : Jvm.MethodName)) ∈ lw_all := lw_g (lw_at lw_m15 3 rfl) rfl
theorem q3438 : (Jvm.Cond.code ({ cls := "StenohallModel", name := "in", desc := "(III)Z" } : Jvm.MethodName) prog_16_method_1_code (3 : Nat) (Option.some Jvm.ClassFile.FieldType.boolean)) ∈ lw_all := lw_g (lw_at lw_m15 4 rfl) rfl
theorem q3439 : (Jvm.Cond.methodLink "StenohallModel" (224 : Nat) ({ cls := "java/lang/Integer", name := "bitCount", desc := "(I)I" } : Jvm.MethodName)) ∈ lw_all := lw_g (lw_at lw_m15 5 rfl) rfl
theorem q3441 : (Jvm.Cond.instanceMethod ({ cls := "StenohallModel", name := "up", desc := "(I)I" } : Jvm.MethodName)) ∈ lw_all := lw_g (lw_at lw_m15 7 rfl) rfl
theorem q3442 : (Jvm.Cond.selects "StenohallModel" ({ cls := "StenohallModel", name := "up", desc := "(I)I" } : Jvm.MethodName) ({ cls := "StenohallModel", name := "up", desc := "(I)I" } : Jvm.MethodName)) ∈ lw_all := lw_g (lw_at lw_m15 8 rfl) rfl
theorem q3443 : (Jvm.Cond.code ({ cls := "StenohallModel", name := "up", desc := "(I)I" } : Jvm.MethodName) prog_16_method_19_code (4 : Nat) (Option.some Jvm.ClassFile.FieldType.int)) ∈ lw_all := lw_g (lw_at lw_m15 9 rfl) rfl
theorem q3444 : (Jvm.Cond.methodLink "StenohallModel" (163 : Nat) ({ cls := "java/util/ArrayList", name := "size", desc := "()I" } : Jvm.MethodName)) ∈ lw_all := lw_g (lw_at lw_m15 10 rfl) rfl
theorem q3445 : (Jvm.Cond.methodLink "StenohallModel" (227 : Nat) ({ cls := "StenohallModel", name := "adds", desc := "(IZ)V" } : Jvm.MethodName)) ∈ lw_all := lw_g (lw_at lw_m15 11 rfl) rfl
theorem q3446 : (Jvm.Cond.privateMethod ({ cls := "StenohallModel", name := "adds", desc := "(IZ)V" } : Jvm.MethodName)) ∈ lw_tbl := lw_at lw_m15 12 rfl
theorem q3447 : (Jvm.Cond.instanceMethod ({ cls := "StenohallModel", name := "adds", desc := "(IZ)V" } : Jvm.MethodName)) ∈ lw_all := lw_g (lw_at lw_m15 13 rfl) rfl
theorem q3448 : (Jvm.Cond.code ({ cls := "StenohallModel", name := "adds", desc := "(IZ)V" } : Jvm.MethodName) prog_16_method_16_code (3 : Nat) (Option.none : Option Jvm.ClassFile.FieldType)) ∈ lw_all := lw_g (lw_at lw_m15 14 rfl) rfl
theorem q3449 : (Jvm.Cond.methodLink "StenohallModel" (202 : Nat) ({ cls := "java/util/ArrayList", name := "add", desc := "(Ljava/lang/Object;)Z" } : Jvm.MethodName)) ∈ lw_all := lw_g (lw_at lw_m15 15 rfl) rfl
theorem q3450 : (Jvm.Cond.methodLink "StenohallModel" (205 : Nat) ({ cls := "StenohallModel", name := "translate", desc := "()V" } : Jvm.MethodName)) ∈ lw_all := lw_g (lw_at lw_m15 16 rfl) rfl
theorem q3451 : (Jvm.Cond.privateMethod ({ cls := "StenohallModel", name := "translate", desc := "()V" } : Jvm.MethodName)) ∈ lw_tbl := lw_at lw_m15 17 rfl
theorem q3452 : (Jvm.Cond.instanceMethod ({ cls := "StenohallModel", name := "translate", desc := "()V" } : Jvm.MethodName)) ∈ lw_all := lw_g (lw_at lw_m15 18 rfl) rfl
theorem q3453 : (Jvm.Cond.code ({ cls := "StenohallModel", name := "translate", desc := "()V" } : Jvm.MethodName) prog_16_method_14_code (5 : Nat) (Option.none : Option Jvm.ClassFile.FieldType)) ∈ lw_all := lw_g (lw_at lw_m15 19 rfl) rfl
theorem q3454 : (Jvm.Cond.methodLink "StenohallModel" (166 : Nat) ({ cls := "StenohallModel", name := "adds", desc := "(I)V" } : Jvm.MethodName)) ∈ lw_all := lw_g (lw_at lw_m15 20 rfl) rfl
theorem q3455 : (Jvm.Cond.privateMethod ({ cls := "StenohallModel", name := "adds", desc := "(I)V" } : Jvm.MethodName)) ∈ lw_tbl := lw_at lw_m15 21 rfl
theorem q3456 : (Jvm.Cond.instanceMethod ({ cls := "StenohallModel", name := "adds", desc := "(I)V" } : Jvm.MethodName)) ∈ lw_all := lw_g (lw_at lw_m15 22 rfl) rfl
theorem q3457 : (Jvm.Cond.code ({ cls := "StenohallModel", name := "adds", desc := "(I)V" } : Jvm.MethodName) prog_16_method_15_code (9 : Nat) (Option.none : Option Jvm.ClassFile.FieldType)) ∈ lw_all := lw_g (lw_at lw_m15 23 rfl) rfl
theorem q3458 : (Jvm.Cond.methodLink "StenohallModel" (192 : Nat) ({ cls := "StenohallModel", name := "keysOf", desc := "(II)Ljava/lang/String;" } : Jvm.MethodName)) ∈ lw_all := lw_g (lw_at lw_m15 24 rfl) rfl
theorem q3459 : (Jvm.Cond.privateMethod ({ cls := "StenohallModel", name := "keysOf", desc := "(II)Ljava/lang/String;" } : Jvm.MethodName)) ∈ lw_tbl := lw_at lw_m15 25 rfl
theorem q3460 : (Jvm.Cond.instanceMethod ({ cls := "StenohallModel", name := "keysOf", desc := "(II)Ljava/lang/String;" } : Jvm.MethodName)) ∈ lw_all := lw_g (lw_at lw_m15 26 rfl) rfl
theorem q3461 : (Jvm.Cond.code ({ cls := "StenohallModel", name := "keysOf", desc := "(II)Ljava/lang/String;" } : Jvm.MethodName) prog_16_method_13_code (5 : Nat) (Option.some (Jvm.ClassFile.FieldType.object "java/lang/String"))) ∈ lw_all := lw_g (lw_at lw_m15 27 rfl) rfl
theorem q3462 : (Jvm.Cond.classLink "StenohallModel" (26 : Nat) "java/lang/StringBuilder") ∈ lw_all := lw_g (lw_at lw_m15 28 rfl) rfl
theorem q3463 : (Jvm.Cond.methodLink "StenohallModel" (28 : Nat) ({ cls := "java/lang/StringBuilder", name := "<init>", desc := "()V" } : Jvm.MethodName)) ∈ lw_all := lw_g (lw_at lw_m15 29 rfl) rfl
theorem q3464 : (Jvm.Cond.methodLink "StenohallModel" (158 : Nat) ({ cls := "java/util/ArrayList", name := "get", desc := "(I)Ljava/lang/Object;" } : Jvm.MethodName)) ∈ lw_all := lw_g (lw_at lw_m15 30 rfl) rfl
theorem q3465 : (Jvm.Cond.classLink "StenohallModel" (161 : Nat) "[I") ∈ lw_all := lw_g (lw_at lw_m15 31 rfl) rfl
theorem q3466 : (Jvm.Cond.methodLink "StenohallModel" (46 : Nat) ({ cls := "java/lang/StringBuilder", name := "append", desc := "(C)Ljava/lang/StringBuilder;" } : Jvm.MethodName)) ∈ lw_all := lw_g (lw_at lw_m15 32 rfl) rfl
theorem q3467 : (Jvm.Cond.methodLink "StenohallModel" (38 : Nat) ({ cls := "java/lang/StringBuilder", name := "toString", desc := "()Ljava/lang/String;" } : Jvm.MethodName)) ∈ lw_all := lw_g (lw_at lw_m15 33 rfl) rfl
theorem q3468 : (Jvm.Cond.methodLink "StenohallModel" (195 : Nat) ({ cls := "StenohallModel", name := "entryOf", desc := "(Ljava/lang/String;)LStenohallModel$Entry;" } : Jvm.MethodName)) ∈ lw_all := lw_g (lw_at lw_m15 34 rfl) rfl
theorem q3469 : (Jvm.Cond.privateMethod ({ cls := "StenohallModel", name := "entryOf", desc := "(Ljava/lang/String;)LStenohallModel$Entry;" } : Jvm.MethodName)) ∈ lw_tbl := lw_at lw_m15 35 rfl
theorem q3470 : (Jvm.Cond.instanceMethod ({ cls := "StenohallModel", name := "entryOf", desc := "(Ljava/lang/String;)LStenohallModel$Entry;" } : Jvm.MethodName)) ∈ lw_all := lw_g (lw_at lw_m15 36 rfl) rfl
theorem q3471 : (Jvm.Cond.code ({ cls := "StenohallModel", name := "entryOf", desc := "(Ljava/lang/String;)LStenohallModel$Entry;" } : Jvm.MethodName) prog_16_method_12_code (8 : Nat) (Option.some (Jvm.ClassFile.FieldType.object "StenohallModel$Entry"))) ∈ lw_all := lw_g (lw_at lw_m15 37 rfl) rfl
theorem q3472 : (Jvm.Cond.methodLink "StenohallModel" (152 : Nat) ({ cls := "java/util/TreeMap", name := "get", desc := "(Ljava/lang/Object;)Ljava/lang/Object;" } : Jvm.MethodName)) ∈ lw_all := lw_g (lw_at lw_m15 38 rfl) rfl
theorem q3696 : (Jvm.Cond.classLink "StenohallModel" (156 : Nat) "StenohallModel$Entry") ∈ lw_all := lw_g (lw_at lw_m16 22 rfl) rfl
theorem q3697 : (Jvm.Cond.classLink "StenohallModel" (170 : Nat) "StenohallModel$Translation") ∈ lw_all := lw_g (lw_at lw_m16 23 rfl) rfl
theorem q3698 : (Jvm.Cond.methodLink "StenohallModel" (189 : Nat) ({ cls := "java/util/ArrayList", name := "remove", desc := "(I)Ljava/lang/Object;" } : Jvm.MethodName)) ∈ lw_all := lw_g (lw_at lw_m16 24 rfl) rfl
theorem q3700 : (Jvm.Cond.methodLink "StenohallModel" (183 : Nat) ({ cls := "java/lang/Math", name := "max", desc := "(II)I" } : Jvm.MethodName)) ∈ lw_all := lw_g (lw_at lw_m16 26 rfl) rfl
theorem q3701 : (Jvm.Cond.methodLink "StenohallModel" (199 : Nat) ({ cls := "StenohallModel$Translation", name := "<init>", desc := "(IILStenohallModel$Entry;)V" } : Jvm.MethodName)) ∈ lw_all := lw_g (lw_at lw_m16 27 rfl) rfl
theorem q3706 : (Jvm.Cond.fieldLinkNest "StenohallModel" (181 : Nat) "StenohallModel$Translation" "strokes" "I" "StenohallModel") ∈ lw_tbl := lw_at lw_m16 32 rfl
theorem q3709 : (Jvm.Cond.fieldLinkNest "StenohallModel" (358 : Nat) "StenohallModel$Translation" "last" "I" "StenohallModel") ∈ lw_tbl := lw_at lw_m16 35 rfl
theorem q3712 : (Jvm.Cond.fieldLinkNest "StenohallModel" (172 : Nat) "StenohallModel$Translation" "entry" "LStenohallModel$Entry;" "StenohallModel") ∈ lw_tbl := lw_at lw_m16 38 rfl
theorem q3720 : (Jvm.Cond.stringRef "StenohallModel" (179 : Nat) "=") ∈ lw_tbl := lw_at lw_m16 46 rfl
theorem q3721 : (Jvm.Cond.methodLink "StenohallModel" (60 : Nat) ({ cls := "java/lang/String", name := "equals", desc := "(Ljava/lang/Object;)Z" } : Jvm.MethodName)) ∈ lw_all := lw_g (lw_at lw_m16 47 rfl) rfl
theorem q3723 : (Jvm.Cond.instanceMethod ({ cls := "StenohallModel", name := "stroke", desc := "(I)I" } : Jvm.MethodName)) ∈ lw_all := lw_g (lw_at lw_m16 49 rfl) rfl
theorem q3724 : (Jvm.Cond.selects "StenohallModel" ({ cls := "StenohallModel", name := "stroke", desc := "(I)I" } : Jvm.MethodName) ({ cls := "StenohallModel", name := "stroke", desc := "(I)I" } : Jvm.MethodName)) ∈ lw_all := lw_g (lw_at lw_m16 50 rfl) rfl
theorem q3725 : (Jvm.Cond.code ({ cls := "StenohallModel", name := "stroke", desc := "(I)I" } : Jvm.MethodName) prog_16_method_20_code (2 : Nat) (Option.some Jvm.ClassFile.FieldType.int)) ∈ lw_all := lw_g (lw_at lw_m16 51 rfl) rfl
theorem q3726 : (Jvm.Cond.constant "StenohallModel" (230 : Nat) (65535 : Int32)) ∈ lw_all := lw_g (lw_at lw_m16 52 rfl) rfl
theorem q3728 : (Jvm.Cond.instanceMethod ({ cls := "StenohallModel", name := "undo", desc := "()I" } : Jvm.MethodName)) ∈ lw_all := lw_g (lw_at lw_m16 54 rfl) rfl
theorem q3729 : (Jvm.Cond.selects "StenohallModel" ({ cls := "StenohallModel", name := "undo", desc := "()I" } : Jvm.MethodName) ({ cls := "StenohallModel", name := "undo", desc := "()I" } : Jvm.MethodName)) ∈ lw_all := lw_g (lw_at lw_m16 55 rfl) rfl
theorem q3730 : (Jvm.Cond.code ({ cls := "StenohallModel", name := "undo", desc := "()I" } : Jvm.MethodName) prog_16_method_21_code (2 : Nat) (Option.some Jvm.ClassFile.FieldType.int)) ∈ lw_all := lw_g (lw_at lw_m16 56 rfl) rfl
theorem q3731 : (Jvm.Cond.methodLink "StenohallModel" (231 : Nat) ({ cls := "java/util/ArrayList", name := "isEmpty", desc := "()Z" } : Jvm.MethodName)) ∈ lw_all := lw_g (lw_at lw_m16 57 rfl) rfl
theorem q3733 : (Jvm.Cond.instanceMethod ({ cls := "StenohallModel", name := "strokes", desc := "()I" } : Jvm.MethodName)) ∈ lw_all := lw_g (lw_at lw_m16 59 rfl) rfl
theorem q3734 : (Jvm.Cond.selects "StenohallModel" ({ cls := "StenohallModel", name := "strokes", desc := "()I" } : Jvm.MethodName) ({ cls := "StenohallModel", name := "strokes", desc := "()I" } : Jvm.MethodName)) ∈ lw_all := lw_g (lw_at lw_m16 60 rfl) rfl
theorem q3735 : (Jvm.Cond.code ({ cls := "StenohallModel", name := "strokes", desc := "()I" } : Jvm.MethodName) prog_16_method_22_code (1 : Nat) (Option.some Jvm.ClassFile.FieldType.int)) ∈ lw_all := lw_g (lw_at lw_m16 61 rfl) rfl
theorem q3737 : (Jvm.Cond.instanceMethod ({ cls := "StenohallModel", name := "strokeAt", desc := "(I)I" } : Jvm.MethodName)) ∈ lw_all := lw_g (lw_at lw_m16 63 rfl) rfl
theorem q3738 : (Jvm.Cond.selects "StenohallModel" ({ cls := "StenohallModel", name := "strokeAt", desc := "(I)I" } : Jvm.MethodName) ({ cls := "StenohallModel", name := "strokeAt", desc := "(I)I" } : Jvm.MethodName)) ∈ lw_all := lw_g (lw_at lw_m16 64 rfl) rfl
theorem q3739 : (Jvm.Cond.code ({ cls := "StenohallModel", name := "strokeAt", desc := "(I)I" } : Jvm.MethodName) prog_16_method_23_code (2 : Nat) (Option.some Jvm.ClassFile.FieldType.int)) ∈ lw_all := lw_g (lw_at lw_m16 65 rfl) rfl
theorem q3741 : (Jvm.Cond.instanceMethod ({ cls := "StenohallModel", name := "chord", desc := "(I)I" } : Jvm.MethodName)) ∈ lw_all := lw_g (lw_at lw_m16 67 rfl) rfl
theorem q3742 : (Jvm.Cond.selects "StenohallModel" ({ cls := "StenohallModel", name := "chord", desc := "(I)I" } : Jvm.MethodName) ({ cls := "StenohallModel", name := "chord", desc := "(I)I" } : Jvm.MethodName)) ∈ lw_all := lw_g (lw_at lw_m16 68 rfl) rfl
theorem q3743 : (Jvm.Cond.code ({ cls := "StenohallModel", name := "chord", desc := "(I)I" } : Jvm.MethodName) prog_16_method_24_code (2 : Nat) (Option.some Jvm.ClassFile.FieldType.int)) ∈ lw_all := lw_g (lw_at lw_m16 69 rfl) rfl
theorem q3744 : (Jvm.Cond.methodLink "StenohallModel" (234 : Nat) ({ cls := "java/lang/Integer", name := "valueOf", desc := "(I)Ljava/lang/Integer;" } : Jvm.MethodName)) ∈ lw_all := lw_g (lw_at lw_m16 70 rfl) rfl
theorem q3746 : (Jvm.Cond.instanceMethod ({ cls := "StenohallModel", name := "sign", desc := "(C)I" } : Jvm.MethodName)) ∈ lw_all := lw_g (lw_at lw_m16 72 rfl) rfl
theorem q3747 : (Jvm.Cond.selects "StenohallModel" ({ cls := "StenohallModel", name := "sign", desc := "(C)I" } : Jvm.MethodName) ({ cls := "StenohallModel", name := "sign", desc := "(C)I" } : Jvm.MethodName)) ∈ lw_all := lw_g (lw_at lw_m16 73 rfl) rfl
theorem q3748 : (Jvm.Cond.code ({ cls := "StenohallModel", name := "sign", desc := "(C)I" } : Jvm.MethodName) prog_16_method_25_code (2 : Nat) (Option.some Jvm.ClassFile.FieldType.int)) ∈ lw_all := lw_g (lw_at lw_m16 74 rfl) rfl
theorem q3749 : (Jvm.Cond.methodLink "StenohallModel" (1 : Nat) ({ cls := "StenohallModel", name := "isSmall", desc := "(C)Z" } : Jvm.MethodName)) ∈ lw_all := lw_g (lw_at lw_m16 75 rfl) rfl
theorem q3750 : (Jvm.Cond.static ({ cls := "StenohallModel", name := "isSmall", desc := "(C)Z" } : Jvm.MethodName)) ∈ lw_all := lw_g (lw_at lw_m16 76 rfl) rfl
theorem q3751 : (Jvm.Cond.code ({ cls := "StenohallModel", name := "isSmall", desc := "(C)Z" } : Jvm.MethodName) prog_16_method_2_code (1 : Nat) (Option.some Jvm.ClassFile.FieldType.boolean)) ∈ lw_all := lw_g (lw_at lw_m16 77 rfl) rfl
theorem q3752 : (Jvm.Cond.stringRef "StenohallModel" (238 : Nat) "^-<.,#|=") ∈ lw_tbl := lw_at lw_m16 78 rfl
theorem q3753 : (Jvm.Cond.methodLink "StenohallModel" (9 : Nat) ({ cls := "java/lang/String", name := "indexOf", desc := "(I)I" } : Jvm.MethodName)) ∈ lw_all := lw_g (lw_at lw_m16 79 rfl) rfl
theorem q3754 : (Jvm.Cond.methodLink "StenohallModel" (18 : Nat) ({ cls := "java/lang/String", name := "length", desc := "()I" } : Jvm.MethodName)) ∈ lw_all := lw_g (lw_at lw_m16 80 rfl) rfl
theorem q3755 : (Jvm.Cond.methodLink "StenohallModel" (32 : Nat) ({ cls := "java/lang/StringBuilder", name := "append", desc := "(Ljava/lang/String;)Ljava/lang/StringBuilder;" } : Jvm.MethodName)) ∈ lw_all := lw_g (lw_at lw_m16 81 rfl) rfl
theorem q3757 : (Jvm.Cond.instanceMethod ({ cls := "StenohallModel", name := "wipe", desc := "()I" } : Jvm.MethodName)) ∈ lw_all := lw_g (lw_at lw_m16 83 rfl) rfl
theorem q3758 : (Jvm.Cond.selects "StenohallModel" ({ cls := "StenohallModel", name := "wipe", desc := "()I" } : Jvm.MethodName) ({ cls := "StenohallModel", name := "wipe", desc := "()I" } : Jvm.MethodName)) ∈ lw_all := lw_g (lw_at lw_m16 84 rfl) rfl
theorem q3759 : (Jvm.Cond.code ({ cls := "StenohallModel", name := "wipe", desc := "()I" } : Jvm.MethodName) prog_16_method_26_code (2 : Nat) (Option.some Jvm.ClassFile.FieldType.int)) ∈ lw_all := lw_g (lw_at lw_m16 85 rfl) rfl
theorem q3760 : (Jvm.Cond.methodLink "StenohallModel" (240 : Nat) ({ cls := "java/util/ArrayList", name := "clear", desc := "()V" } : Jvm.MethodName)) ∈ lw_all := lw_g (lw_at lw_m16 86 rfl) rfl
theorem q3762 : (Jvm.Cond.instanceMethod ({ cls := "StenohallModel", name := "entry", desc := "(I)Z" } : Jvm.MethodName)) ∈ lw_all := lw_g (lw_at lw_m16 88 rfl) rfl
theorem q3763 : (Jvm.Cond.selects "StenohallModel" ({ cls := "StenohallModel", name := "entry", desc := "(I)Z" } : Jvm.MethodName) ({ cls := "StenohallModel", name := "entry", desc := "(I)Z" } : Jvm.MethodName)) ∈ lw_all := lw_g (lw_at lw_m16 89 rfl) rfl
theorem q3764 : (Jvm.Cond.code ({ cls := "StenohallModel", name := "entry", desc := "(I)Z" } : Jvm.MethodName) prog_16_method_28_code (6 : Nat) (Option.some Jvm.ClassFile.FieldType.boolean)) ∈ lw_all := lw_g (lw_at lw_m16 90 rfl) rfl
theorem q3765 : (Jvm.Cond.methodLink "StenohallModel" (243 : Nat) ({ cls := "StenohallModel", name := "noLayer", desc := "(I)Z" } : Jvm.MethodName)) ∈ lw_all := lw_g (lw_at lw_m16 91 rfl) rfl
theorem q3766 : (Jvm.Cond.privateMethod ({ cls := "StenohallModel", name := "noLayer", desc := "(I)Z" } : Jvm.MethodName)) ∈ lw_tbl := lw_at lw_m16 92 rfl
theorem q3767 : (Jvm.Cond.instanceMethod ({ cls := "StenohallModel", name := "noLayer", desc := "(I)Z" } : Jvm.MethodName)) ∈ lw_all := lw_g (lw_at lw_m16 93 rfl) rfl
theorem q3768 : (Jvm.Cond.code ({ cls := "StenohallModel", name := "noLayer", desc := "(I)Z" } : Jvm.MethodName) prog_16_method_27_code (2 : Nat) (Option.some Jvm.ClassFile.FieldType.boolean)) ∈ lw_all := lw_g (lw_at lw_m16 94 rfl) rfl
theorem q3769 : (Jvm.Cond.methodLink "StenohallModel" (247 : Nat) ({ cls := "StenohallModel", name := "outline", desc := "(Ljava/util/ArrayList;)Ljava/lang/String;" } : Jvm.MethodName)) ∈ lw_all := lw_g (lw_at lw_m16 95 rfl) rfl
theorem q3770 : (Jvm.Cond.static ({ cls := "StenohallModel", name := "outline", desc := "(Ljava/util/ArrayList;)Ljava/lang/String;" } : Jvm.MethodName)) ∈ lw_all := lw_g (lw_at lw_m16 96 rfl) rfl
theorem q3771 : (Jvm.Cond.code ({ cls := "StenohallModel", name := "outline", desc := "(Ljava/util/ArrayList;)Ljava/lang/String;" } : Jvm.MethodName) prog_16_method_11_code (4 : Nat) (Option.some (Jvm.ClassFile.FieldType.object "java/lang/String"))) ∈ lw_all := lw_g (lw_at lw_m16 97 rfl) rfl
theorem q3772 : (Jvm.Cond.methodLink "StenohallModel" (126 : Nat) ({ cls := "java/util/ArrayList", name := "iterator", desc := "()Ljava/util/Iterator;" } : Jvm.MethodName)) ∈ lw_all := lw_g (lw_at lw_m16 98 rfl) rfl
theorem q3773 : (Jvm.Cond.interfaceEntry "StenohallModel" (130 : Nat)) ∈ lw_tbl := lw_at lw_m16 99 rfl
theorem q3774 : (Jvm.Cond.methodLink "StenohallModel" (130 : Nat) ({ cls := "java/util/Iterator", name := "hasNext", desc := "()Z" } : Jvm.MethodName)) ∈ lw_all := lw_g (lw_at lw_m16 100 rfl) rfl
theorem q3775 : (Jvm.Cond.interfaceEntry "StenohallModel" (136 : Nat)) ∈ lw_tbl := lw_at lw_m16 101 rfl
theorem q3776 : (Jvm.Cond.methodLink "StenohallModel" (136 : Nat) ({ cls := "java/util/Iterator", name := "next", desc := "()Ljava/lang/Object;" } : Jvm.MethodName)) ∈ lw_all := lw_g (lw_at lw_m16 102 rfl) rfl
theorem q3777 : (Jvm.Cond.classLink "StenohallModel" (140 : Nat) "java/lang/Integer") ∈ lw_all := lw_g (lw_at lw_m16 103 rfl) rfl
theorem q3778 : (Jvm.Cond.methodLink "StenohallModel" (142 : Nat) ({ cls := "java/lang/Integer", name := "intValue", desc := "()I" } : Jvm.MethodName)) ∈ lw_all := lw_g (lw_at lw_m16 104 rfl) rfl
theorem q3779 : (Jvm.Cond.methodLink "StenohallModel" (251 : Nat) ({ cls := "java/util/TreeMap", name := "containsKey", desc := "(Ljava/lang/Object;)Z" } : Jvm.MethodName)) ∈ lw_all := lw_g (lw_at lw_m16 105 rfl) rfl
theorem q3783 : (Jvm.Cond.methodLink "StenohallModel" (254 : Nat) ({ cls := "java/lang/String", name := "isEmpty", desc := "()Z" } : Jvm.MethodName)) ∈ lw_all := lw_g (lw_at lw_m16 109 rfl) rfl
theorem q3784 : (Jvm.Cond.methodLink "StenohallModel" (255 : Nat) ({ cls := "java/util/TreeMap", name := "size", desc := "()I" } : Jvm.MethodName)) ∈ lw_all := lw_g (lw_at lw_m16 110 rfl) rfl
theorem q3786 : (Jvm.Cond.methodLink "StenohallModel" (256 : Nat) ({ cls := "StenohallModel$Entry", name := "<init>", desc := "(ILjava/lang/String;)V" } : Jvm.MethodName)) ∈ lw_all := lw_g (lw_at lw_m16 112 rfl) rfl
theorem q3793 : (Jvm.Cond.fieldLinkNest "StenohallModel" (316 : Nat) "StenohallModel$Entry" "layer" "I" "StenohallModel") ∈ lw_tbl := lw_at lw_m16 119 rfl
theorem q3796 : (Jvm.Cond.fieldLinkNest "StenohallModel" (176 : Nat) "StenohallModel$Entry" "content" "Ljava/lang/String;" "StenohallModel") ∈ lw_tbl := lw_at lw_m16 122 rfl
theorem q3799 : (Jvm.Cond.fieldLinkNest "StenohallModel" (266 : Nat) "StenohallModel$Entry" "letters" "Ljava/util/ArrayList;" "StenohallModel") ∈ lw_tbl := lw_at lw_m16 125 rfl
theorem q3802 : (Jvm.Cond.fieldLinkNest "StenohallModel" (274 : Nat) "StenohallModel$Entry" "contents" "Ljava/util/ArrayList;" "StenohallModel") ∈ lw_tbl := lw_at lw_m16 128 rfl
theorem q3812 : (Jvm.Cond.methodLink "StenohallModel" (259 : Nat) ({ cls := "java/util/TreeMap", name := "put", desc := "(Ljava/lang/Object;Ljava/lang/Object;)Ljava/lang/Object;" } : Jvm.MethodName)) ∈ lw_all := lw_g (lw_at lw_m16 138 rfl) rfl
theorem q3868 : (Jvm.Cond.methodLink "StenohallModel" (263 : Nat) ({ cls := "StenohallModel", name := "wipe", desc := "()I" } : Jvm.MethodName)) ∈ lw_all := lw_g (lw_at lw_m16 194 rfl) rfl
theorem q3870 : (Jvm.Cond.instanceMethod ({ cls := "StenohallModel", name := "alternative", desc := "(IC)I" } : Jvm.MethodName)) ∈ lw_all := lw_g (lw_at lw_m16 196 rfl) rfl
theorem q3871 : (Jvm.Cond.selects "StenohallModel" ({ cls := "StenohallModel", name := "alternative", desc := "(IC)I" } : Jvm.MethodName) ({ cls := "StenohallModel", name := "alternative", desc := "(IC)I" } : Jvm.MethodName)) ∈ lw_all := lw_g (lw_at lw_m16 197 rfl) rfl
theorem q3872 : (Jvm.Cond.code ({ cls := "StenohallModel", name := "alternative", desc := "(IC)I" } : Jvm.MethodName) prog_16_method_29_code (5 : Nat) (Option.some Jvm.ClassFile.FieldType.int)) ∈ lw_all := lw_g (lw_at lw_m16 198 rfl) rfl
theorem q3873 : (Jvm.Cond.methodLink "StenohallModel" (269 : Nat) ({ cls := "java/lang/Character", name := "valueOf", desc := "(C)Ljava/lang/Character;" } : Jvm.MethodName)) ∈ lw_all := lw_g (lw_at lw_m16 199 rfl) rfl
theorem q3875 : (Jvm.Cond.instanceMethod ({ cls := "StenohallModel", name := "remove", desc := "(I)Z" } : Jvm.MethodName)) ∈ lw_all := lw_g (lw_at lw_m16 201 rfl) rfl
theorem q3876 : (Jvm.Cond.selects "StenohallModel" ({ cls := "StenohallModel", name := "remove", desc := "(I)Z" } : Jvm.MethodName) ({ cls := "StenohallModel", name := "remove", desc := "(I)Z" } : Jvm.MethodName)) ∈ lw_all := lw_g (lw_at lw_m16 202 rfl) rfl
theorem q3877 : (Jvm.Cond.code ({ cls := "StenohallModel", name := "remove", desc := "(I)Z" } : Jvm.MethodName) prog_16_method_30_code (4 : Nat) (Option.some Jvm.ClassFile.FieldType.boolean)) ∈ lw_all := lw_g (lw_at lw_m16 203 rfl) rfl
theorem q3878 : (Jvm.Cond.methodLink "StenohallModel" (277 : Nat) ({ cls := "java/util/TreeMap", name := "remove", desc := "(Ljava/lang/Object;)Ljava/lang/Object;" } : Jvm.MethodName)) ∈ lw_all := lw_g (lw_at lw_m16 204 rfl) rfl
theorem q3884 : (Jvm.Cond.instanceMethod ({ cls := "StenohallModel", name := "turn", desc := "(IZ)Z" } : Jvm.MethodName)) ∈ lw_all := lw_g (lw_at lw_m16 210 rfl) rfl
theorem q3885 : (Jvm.Cond.selects "StenohallModel" ({ cls := "StenohallModel", name := "turn", desc := "(IZ)Z" } : Jvm.MethodName) ({ cls := "StenohallModel", name := "turn", desc := "(IZ)Z" } : Jvm.MethodName)) ∈ lw_all := lw_g (lw_at lw_m16 211 rfl) rfl
theorem q3886 : (Jvm.Cond.code ({ cls := "StenohallModel", name := "turn", desc := "(IZ)Z" } : Jvm.MethodName) prog_16_method_31_code (4 : Nat) (Option.some Jvm.ClassFile.FieldType.boolean)) ∈ lw_all := lw_g (lw_at lw_m16 212 rfl) rfl
theorem q3888 : (Jvm.Cond.instanceMethod ({ cls := "StenohallModel", name := "entries", desc := "(I)I" } : Jvm.MethodName)) ∈ lw_all := lw_g (lw_at lw_m16 214 rfl) rfl
theorem q3889 : (Jvm.Cond.selects "StenohallModel" ({ cls := "StenohallModel", name := "entries", desc := "(I)I" } : Jvm.MethodName) ({ cls := "StenohallModel", name := "entries", desc := "(I)I" } : Jvm.MethodName)) ∈ lw_all := lw_g (lw_at lw_m16 215 rfl) rfl
theorem q3890 : (Jvm.Cond.code ({ cls := "StenohallModel", name := "entries", desc := "(I)I" } : Jvm.MethodName) prog_16_method_32_code (2 : Nat) (Option.some Jvm.ClassFile.FieldType.int)) ∈ lw_all := lw_g (lw_at lw_m16 216 rfl) rfl
theorem q3892 : (Jvm.Cond.instanceMethod ({ cls := "StenohallModel", name := "word", desc := "()I" } : Jvm.MethodName)) ∈ lw_all := lw_g (lw_at lw_m16 218 rfl) rfl
theorem q3893 : (Jvm.Cond.selects "StenohallModel" ({ cls := "StenohallModel", name := "word", desc := "()I" } : Jvm.MethodName) ({ cls := "StenohallModel", name := "word", desc := "()I" } : Jvm.MethodName)) ∈ lw_all := lw_g (lw_at lw_m16 219 rfl) rfl
theorem q3894 : (Jvm.Cond.code ({ cls := "StenohallModel", name := "word", desc := "()I" } : Jvm.MethodName) prog_16_method_34_code (2 : Nat) (Option.some Jvm.ClassFile.FieldType.int)) ∈ lw_all := lw_g (lw_at lw_m16 220 rfl) rfl
theorem q3895 : (Jvm.Cond.methodLink "StenohallModel" (279 : Nat) ({ cls := "StenohallModel", name := "areLetters", desc := "(Ljava/lang/String;)Z" } : Jvm.MethodName)) ∈ lw_all := lw_g (lw_at lw_m16 221 rfl) rfl
theorem q3896 : (Jvm.Cond.static ({ cls := "StenohallModel", name := "areLetters", desc := "(Ljava/lang/String;)Z" } : Jvm.MethodName)) ∈ lw_all := lw_g (lw_at lw_m16 222 rfl) rfl
theorem q3897 : (Jvm.Cond.code ({ cls := "StenohallModel", name := "areLetters", desc := "(Ljava/lang/String;)Z" } : Jvm.MethodName) prog_16_method_33_code (3 : Nat) (Option.some Jvm.ClassFile.FieldType.boolean)) ∈ lw_all := lw_g (lw_at lw_m16 223 rfl) rfl
theorem q3898 : (Jvm.Cond.methodLink "StenohallModel" (42 : Nat) ({ cls := "java/lang/String", name := "charAt", desc := "(I)C" } : Jvm.MethodName)) ∈ lw_all := lw_g (lw_at lw_m16 224 rfl) rfl
theorem q3899 : (Jvm.Cond.methodLink "StenohallModel" (283 : Nat) ({ cls := "java/util/TreeSet", name := "size", desc := "()I" } : Jvm.MethodName)) ∈ lw_all := lw_g (lw_at lw_m16 225 rfl) rfl
theorem q3900 : (Jvm.Cond.methodLink "StenohallModel" (284 : Nat) ({ cls := "java/util/TreeSet", name := "add", desc := "(Ljava/lang/Object;)Z" } : Jvm.MethodName)) ∈ lw_all := lw_g (lw_at lw_m16 226 rfl) rfl
theorem q3913 : (Jvm.Cond.instanceMethod ({ cls := "StenohallModel", name := "isWord", desc := "()Z" } : Jvm.MethodName)) ∈ lw_all := lw_g (lw_at lw_m16 239 rfl) rfl
theorem q3914 : (Jvm.Cond.selects "StenohallModel" ({ cls := "StenohallModel", name := "isWord", desc := "()Z" } : Jvm.MethodName) ({ cls := "StenohallModel", name := "isWord", desc := "()Z" } : Jvm.MethodName)) ∈ lw_all := lw_g (lw_at lw_m17 0 rfl) rfl
theorem q3915 : (Jvm.Cond.code ({ cls := "StenohallModel", name := "isWord", desc := "()Z" } : Jvm.MethodName) prog_16_method_35_code (1 : Nat) (Option.some Jvm.ClassFile.FieldType.boolean)) ∈ lw_all := lw_g (lw_at lw_m17 1 rfl) rfl
theorem q3916 : (Jvm.Cond.methodLink "StenohallModel" (285 : Nat) ({ cls := "java/util/TreeSet", name := "contains", desc := "(Ljava/lang/Object;)Z" } : Jvm.MethodName)) ∈ lw_all := lw_g (lw_at lw_m17 2 rfl) rfl
theorem q3927 : (Jvm.Cond.instanceMethod ({ cls := "StenohallModel", name := "rule", desc := "(C)I" } : Jvm.MethodName)) ∈ lw_all := lw_g (lw_at lw_m17 13 rfl) rfl
theorem q3928 : (Jvm.Cond.selects "StenohallModel" ({ cls := "StenohallModel", name := "rule", desc := "(C)I" } : Jvm.MethodName) ({ cls := "StenohallModel", name := "rule", desc := "(C)I" } : Jvm.MethodName)) ∈ lw_all := lw_g (lw_at lw_m17 14 rfl) rfl
theorem q3929 : (Jvm.Cond.code ({ cls := "StenohallModel", name := "rule", desc := "(C)I" } : Jvm.MethodName) prog_16_method_36_code (2 : Nat) (Option.some Jvm.ClassFile.FieldType.int)) ∈ lw_all := lw_g (lw_at lw_m17 15 rfl) rfl
theorem q3930 : (Jvm.Cond.stringRef "StenohallModel" (288 : Nat) "eyds") ∈ lw_tbl := lw_at lw_m17 16 rfl
theorem q3932 : (Jvm.Cond.instanceMethod ({ cls := "StenohallModel", name := "forget", desc := "()I" } : Jvm.MethodName)) ∈ lw_all := lw_g (lw_at lw_m17 18 rfl) rfl
theorem q3933 : (Jvm.Cond.selects "StenohallModel" ({ cls := "StenohallModel", name := "forget", desc := "()I" } : Jvm.MethodName) ({ cls := "StenohallModel", name := "forget", desc := "()I" } : Jvm.MethodName)) ∈ lw_all := lw_g (lw_at lw_m17 19 rfl) rfl
theorem q3934 : (Jvm.Cond.code ({ cls := "StenohallModel", name := "forget", desc := "()I" } : Jvm.MethodName) prog_16_method_37_code (2 : Nat) (Option.some Jvm.ClassFile.FieldType.int)) ∈ lw_all := lw_g (lw_at lw_m17 20 rfl) rfl
theorem q3936 : (Jvm.Cond.instanceMethod ({ cls := "StenohallModel", name := "length", desc := "()I" } : Jvm.MethodName)) ∈ lw_all := lw_g (lw_at lw_m17 22 rfl) rfl
theorem q3937 : (Jvm.Cond.selects "StenohallModel" ({ cls := "StenohallModel", name := "length", desc := "()I" } : Jvm.MethodName) ({ cls := "StenohallModel", name := "length", desc := "()I" } : Jvm.MethodName)) ∈ lw_all := lw_g (lw_at lw_m17 23 rfl) rfl
theorem q3938 : (Jvm.Cond.code ({ cls := "StenohallModel", name := "length", desc := "()I" } : Jvm.MethodName) prog_16_method_40_code (1 : Nat) (Option.some Jvm.ClassFile.FieldType.int)) ∈ lw_all := lw_g (lw_at lw_m17 24 rfl) rfl
theorem q3939 : (Jvm.Cond.methodLink "StenohallModel" (297 : Nat) ({ cls := "StenohallModel", name := "written", desc := "()Ljava/util/ArrayList;" } : Jvm.MethodName)) ∈ lw_all := lw_g (lw_at lw_m17 25 rfl) rfl
theorem q3940 : (Jvm.Cond.privateMethod ({ cls := "StenohallModel", name := "written", desc := "()Ljava/util/ArrayList;" } : Jvm.MethodName)) ∈ lw_tbl := lw_at lw_m17 26 rfl
theorem q3941 : (Jvm.Cond.instanceMethod ({ cls := "StenohallModel", name := "written", desc := "()Ljava/util/ArrayList;" } : Jvm.MethodName)) ∈ lw_all := lw_g (lw_at lw_m17 27 rfl) rfl
theorem q3942 : (Jvm.Cond.code ({ cls := "StenohallModel", name := "written", desc := "()Ljava/util/ArrayList;" } : Jvm.MethodName) prog_16_method_38_code (1 : Nat) (Option.some (Jvm.ClassFile.FieldType.object "java/util/ArrayList"))) ∈ lw_all := lw_g (lw_at lw_m17 28 rfl) rfl
theorem q3943 : (Jvm.Cond.classLink "StenohallModel" (290 : Nat) "StenohallModel$Writing") ∈ lw_all := lw_g (lw_at lw_m17 29 rfl) rfl
theorem q3945 : (Jvm.Cond.methodLink "StenohallModel" (292 : Nat) ({ cls := "StenohallModel$Writing", name := "<init>", desc := "(LStenohallModel;)V" } : Jvm.MethodName)) ∈ lw_all := lw_g (lw_at lw_m17 31 rfl) rfl
theorem q3997 : (Jvm.Cond.fieldLinkNest "StenohallModel" (303 : Nat) "StenohallModel$Sign" "c" "C" "StenohallModel") ∈ lw_tbl := lw_at lw_m17 83 rfl
theorem q4000 : (Jvm.Cond.fieldLinkNest "StenohallModel" (307 : Nat) "StenohallModel$Sign" "time" "I" "StenohallModel") ∈ lw_tbl := lw_at lw_m17 86 rfl
theorem q4003 : (Jvm.Cond.fieldLinkNest "StenohallModel" (322 : Nat) "StenohallModel$Sign" "writer" "I" "StenohallModel") ∈ lw_tbl := lw_at lw_m17 89 rfl
theorem q4018 : (Jvm.Cond.static ({ cls := "StenohallModel", name := "capital", desc := "(C)C" } : Jvm.MethodName)) ∈ lw_all := lw_g (lw_at lw_m17 104 rfl) rfl
theorem q4019 : (Jvm.Cond.code ({ cls := "StenohallModel", name := "capital", desc := "(C)C" } : Jvm.MethodName) prog_16_method_6_code (1 : Nat) (Option.some Jvm.ClassFile.FieldType.char)) ∈ lw_all := lw_g (lw_at lw_m17 105 rfl) rfl
theorem q4030 : (Jvm.Cond.static ({ cls := "StenohallModel", name := "isLetter", desc := "(C)Z" } : Jvm.MethodName)) ∈ lw_all := lw_g (lw_at lw_m17 116 rfl) rfl
theorem q4031 : (Jvm.Cond.code ({ cls := "StenohallModel", name := "isLetter", desc := "(C)Z" } : Jvm.MethodName) prog_16_method_3_code (1 : Nat) (Option.some Jvm.ClassFile.FieldType.boolean)) ∈ lw_all := lw_g (lw_at lw_m17 117 rfl) rfl
theorem q4035 : (Jvm.Cond.static ({ cls := "StenohallModel", name := "small", desc := "(C)C" } : Jvm.MethodName)) ∈ lw_all := lw_g (lw_at lw_m17 121 rfl) rfl
theorem q4036 : (Jvm.Cond.code ({ cls := "StenohallModel", name := "small", desc := "(C)C" } : Jvm.MethodName) prog_16_method_5_code (1 : Nat) (Option.some Jvm.ClassFile.FieldType.char)) ∈ lw_all := lw_g (lw_at lw_m17 122 rfl) rfl
theorem q4037 : (Jvm.Cond.methodLink "StenohallModel" (15 : Nat) ({ cls := "StenohallModel", name := "isLetter", desc := "(C)Z" } : Jvm.MethodName)) ∈ lw_all := lw_g (lw_at lw_m17 123 rfl) rfl
theorem q4045 : (Jvm.Cond.static ({ cls := "StenohallModel", name := "holds", desc := "(CLjava/lang/String;Ljava/lang/String;)Z" } : Jvm.MethodName)) ∈ lw_all := lw_g (lw_at lw_m17 131 rfl) rfl
theorem q4046 : (Jvm.Cond.code ({ cls := "StenohallModel", name := "holds", desc := "(CLjava/lang/String;Ljava/lang/String;)Z" } : Jvm.MethodName) prog_16_method_8_code (8 : Nat) (Option.some Jvm.ClassFile.FieldType.boolean)) ∈ lw_all := lw_g (lw_at lw_m17 132 rfl) rfl
theorem q4047 : (Jvm.Cond.methodLink "StenohallModel" (51 : Nat) ({ cls := "StenohallModel", name := "isVowel", desc := "(C)Z" } : Jvm.MethodName)) ∈ lw_all := lw_g (lw_at lw_m17 133 rfl) rfl
theorem q4048 : (Jvm.Cond.static ({ cls := "StenohallModel", name := "isVowel", desc := "(C)Z" } : Jvm.MethodName)) ∈ lw_all := lw_g (lw_at lw_m17 134 rfl) rfl
theorem q4049 : (Jvm.Cond.code ({ cls := "StenohallModel", name := "isVowel", desc := "(C)Z" } : Jvm.MethodName) prog_16_method_4_code (1 : Nat) (Option.some Jvm.ClassFile.FieldType.boolean)) ∈ lw_all := lw_g (lw_at lw_m17 135 rfl) rfl
theorem q4050 : (Jvm.Cond.stringRef "StenohallModel" (7 : Nat) "aeiou") ∈ lw_tbl := lw_at lw_m17 136 rfl
theorem q4051 : (Jvm.Cond.stringRef "StenohallModel" (54 : Nat) "wxy") ∈ lw_tbl := lw_at lw_m17 137 rfl
theorem q4052 : (Jvm.Cond.stringRef "StenohallModel" (56 : Nat) "cs") ∈ lw_tbl := lw_at lw_m17 138 rfl
theorem q4053 : (Jvm.Cond.stringRef "StenohallModel" (58 : Nat) "s") ∈ lw_tbl := lw_at lw_m17 139 rfl
theorem q4055 : (Jvm.Cond.static ({ cls := "StenohallModel", name := "joined", desc := "(CLjava/lang/String;)Ljava/lang/String;" } : Jvm.MethodName)) ∈ lw_all := lw_g (lw_at lw_m17 141 rfl) rfl
theorem q4056 : (Jvm.Cond.code ({ cls := "StenohallModel", name := "joined", desc := "(CLjava/lang/String;)Ljava/lang/String;" } : Jvm.MethodName) prog_16_method_7_code (3 : Nat) (Option.some (Jvm.ClassFile.FieldType.object "java/lang/String"))) ∈ lw_all := lw_g (lw_at lw_m17 142 rfl) rfl
theorem q4057 : (Jvm.Cond.methodLink "StenohallModel" (22 : Nat) ({ cls := "java/lang/String", name := "substring", desc := "(II)Ljava/lang/String;" } : Jvm.MethodName)) ∈ lw_all := lw_g (lw_at lw_m17 143 rfl) rfl
theorem q4058 : (Jvm.Cond.stringRef "StenohallModel" (36 : Nat) "i") ∈ lw_tbl := lw_at lw_m17 144 rfl
theorem q4059 : (Jvm.Cond.stringRef "StenohallModel" (49 : Nat) "e") ∈ lw_tbl := lw_at lw_m17 145 rfl
theorem q4077 : (Jvm.Cond.fieldLinkNest "StenohallModel" (295 : Nat) "StenohallModel$Writing" "signs" "Ljava/util/ArrayList;" "StenohallModel") ∈ lw_tbl := lw_at lw_m17 163 rfl
theorem q4079 : (Jvm.Cond.fieldLinkNest "StenohallModel" (319 : Nat) "StenohallModel$Writing" "chosen" "[I" "StenohallModel") ∈ lw_tbl := lw_at lw_m17 165 rfl
theorem q4104 : (Jvm.Cond.instanceMethod ({ cls := "StenohallModel", name := "at", desc := "(I)C" } : Jvm.MethodName)) ∈ lw_all := lw_g (lw_at lw_m17 190 rfl) rfl
theorem q4105 : (Jvm.Cond.selects "StenohallModel" ({ cls := "StenohallModel", name := "at", desc := "(I)C" } : Jvm.MethodName) ({ cls := "StenohallModel", name := "at", desc := "(I)C" } : Jvm.MethodName)) ∈ lw_all := lw_g (lw_at lw_m17 191 rfl) rfl
theorem q4106 : (Jvm.Cond.code ({ cls := "StenohallModel", name := "at", desc := "(I)C" } : Jvm.MethodName) prog_16_method_41_code (3 : Nat) (Option.some Jvm.ClassFile.FieldType.char)) ∈ lw_all := lw_g (lw_at lw_m17 192 rfl) rfl
theorem q4107 : (Jvm.Cond.classLink "StenohallModel" (301 : Nat) "StenohallModel$Sign") ∈ lw_all := lw_g (lw_at lw_m17 193 rfl) rfl
theorem q4109 : (Jvm.Cond.instanceMethod ({ cls := "StenohallModel", name := "time", desc := "(I)I" } : Jvm.MethodName)) ∈ lw_all := lw_g (lw_at lw_m17 195 rfl) rfl
theorem q4110 : (Jvm.Cond.selects "StenohallModel" ({ cls := "StenohallModel", name := "time", desc := "(I)I" } : Jvm.MethodName) ({ cls := "StenohallModel", name := "time", desc := "(I)I" } : Jvm.MethodName)) ∈ lw_all := lw_g (lw_at lw_m17 196 rfl) rfl
theorem q4111 : (Jvm.Cond.code ({ cls := "StenohallModel", name := "time", desc := "(I)I" } : Jvm.MethodName) prog_16_method_42_code (3 : Nat) (Option.some Jvm.ClassFile.FieldType.int)) ∈ lw_all := lw_g (lw_at lw_m17 197 rfl) rfl
theorem q4113 : (Jvm.Cond.instanceMethod ({ cls := "StenohallModel", name := "words", desc := "()I" } : Jvm.MethodName)) ∈ lw_all := lw_g (lw_at lw_m17 199 rfl) rfl
theorem q4114 : (Jvm.Cond.selects "StenohallModel" ({ cls := "StenohallModel", name := "words", desc := "()I" } : Jvm.MethodName) ({ cls := "StenohallModel", name := "words", desc := "()I" } : Jvm.MethodName)) ∈ lw_all := lw_g (lw_at lw_m17 200 rfl) rfl
theorem q4115 : (Jvm.Cond.code ({ cls := "StenohallModel", name := "words", desc := "()I" } : Jvm.MethodName) prog_16_method_43_code (4 : Nat) (Option.some Jvm.ClassFile.FieldType.int)) ∈ lw_all := lw_g (lw_at lw_m17 201 rfl) rfl
theorem q4116 : (Jvm.Cond.methodLink "StenohallModel" (310 : Nat) ({ cls := "StenohallModel", name := "text", desc := "()Ljava/lang/String;" } : Jvm.MethodName)) ∈ lw_all := lw_g (lw_at lw_m17 202 rfl) rfl
theorem q4117 : (Jvm.Cond.privateMethod ({ cls := "StenohallModel", name := "text", desc := "()Ljava/lang/String;" } : Jvm.MethodName)) ∈ lw_tbl := lw_at lw_m17 203 rfl
theorem q4118 : (Jvm.Cond.instanceMethod ({ cls := "StenohallModel", name := "text", desc := "()Ljava/lang/String;" } : Jvm.MethodName)) ∈ lw_all := lw_g (lw_at lw_m17 204 rfl) rfl
theorem q4119 : (Jvm.Cond.code ({ cls := "StenohallModel", name := "text", desc := "()Ljava/lang/String;" } : Jvm.MethodName) prog_16_method_39_code (4 : Nat) (Option.some (Jvm.ClassFile.FieldType.object "java/lang/String"))) ∈ lw_all := lw_g (lw_at lw_m17 205 rfl) rfl
theorem q4121 : (Jvm.Cond.instanceMethod ({ cls := "StenohallModel", name := "translations", desc := "()I" } : Jvm.MethodName)) ∈ lw_all := lw_g (lw_at lw_m17 207 rfl) rfl
theorem q4122 : (Jvm.Cond.selects "StenohallModel" ({ cls := "StenohallModel", name := "translations", desc := "()I" } : Jvm.MethodName) ({ cls := "StenohallModel", name := "translations", desc := "()I" } : Jvm.MethodName)) ∈ lw_all := lw_g (lw_at lw_m17 208 rfl) rfl
theorem q4123 : (Jvm.Cond.code ({ cls := "StenohallModel", name := "translations", desc := "()I" } : Jvm.MethodName) prog_16_method_44_code (1 : Nat) (Option.some Jvm.ClassFile.FieldType.int)) ∈ lw_all := lw_g (lw_at lw_m17 209 rfl) rfl
theorem q4125 : (Jvm.Cond.instanceMethod ({ cls := "StenohallModel", name := "strokesOf", desc := "(I)I" } : Jvm.MethodName)) ∈ lw_all := lw_g (lw_at lw_m17 211 rfl) rfl
theorem q4126 : (Jvm.Cond.selects "StenohallModel" ({ cls := "StenohallModel", name := "strokesOf", desc := "(I)I" } : Jvm.MethodName) ({ cls := "StenohallModel", name := "strokesOf", desc := "(I)I" } : Jvm.MethodName)) ∈ lw_all := lw_g (lw_at lw_m17 212 rfl) rfl
theorem q4127 : (Jvm.Cond.code ({ cls := "StenohallModel", name := "strokesOf", desc := "(I)I" } : Jvm.MethodName) prog_16_method_46_code (2 : Nat) (Option.some Jvm.ClassFile.FieldType.int)) ∈ lw_all := lw_g (lw_at lw_m17 213 rfl) rfl
theorem q4128 : (Jvm.Cond.methodLink "StenohallModel" (313 : Nat) ({ cls := "StenohallModel", name := "noTranslation", desc := "(I)Z" } : Jvm.MethodName)) ∈ lw_all := lw_g (lw_at lw_m17 214 rfl) rfl
theorem q4129 : (Jvm.Cond.privateMethod ({ cls := "StenohallModel", name := "noTranslation", desc := "(I)Z" } : Jvm.MethodName)) ∈ lw_tbl := lw_at lw_m17 215 rfl
theorem q4130 : (Jvm.Cond.instanceMethod ({ cls := "StenohallModel", name := "noTranslation", desc := "(I)Z" } : Jvm.MethodName)) ∈ lw_all := lw_g (lw_at lw_m17 216 rfl) rfl
theorem q4131 : (Jvm.Cond.code ({ cls := "StenohallModel", name := "noTranslation", desc := "(I)Z" } : Jvm.MethodName) prog_16_method_45_code (2 : Nat) (Option.some Jvm.ClassFile.FieldType.boolean)) ∈ lw_all := lw_g (lw_at lw_m17 217 rfl) rfl
theorem q4133 : (Jvm.Cond.instanceMethod ({ cls := "StenohallModel", name := "layerOf", desc := "(I)I" } : Jvm.MethodName)) ∈ lw_all := lw_g (lw_at lw_m17 219 rfl) rfl
theorem q4134 : (Jvm.Cond.selects "StenohallModel" ({ cls := "StenohallModel", name := "layerOf", desc := "(I)I" } : Jvm.MethodName) ({ cls := "StenohallModel", name := "layerOf", desc := "(I)I" } : Jvm.MethodName)) ∈ lw_all := lw_g (lw_at lw_m17 220 rfl) rfl
theorem q4135 : (Jvm.Cond.code ({ cls := "StenohallModel", name := "layerOf", desc := "(I)I" } : Jvm.MethodName) prog_16_method_47_code (3 : Nat) (Option.some Jvm.ClassFile.FieldType.int)) ∈ lw_all := lw_g (lw_at lw_m17 221 rfl) rfl
theorem q4137 : (Jvm.Cond.instanceMethod ({ cls := "StenohallModel", name := "chosen", desc := "(I)I" } : Jvm.MethodName)) ∈ lw_all := lw_g (lw_at lw_m17 223 rfl) rfl
theorem q4138 : (Jvm.Cond.selects "StenohallModel" ({ cls := "StenohallModel", name := "chosen", desc := "(I)I" } : Jvm.MethodName) ({ cls := "StenohallModel", name := "chosen", desc := "(I)I" } : Jvm.MethodName)) ∈ lw_all := lw_g (lw_at lw_m17 224 rfl) rfl
theorem q4139 : (Jvm.Cond.code ({ cls := "StenohallModel", name := "chosen", desc := "(I)I" } : Jvm.MethodName) prog_16_method_48_code (2 : Nat) (Option.some Jvm.ClassFile.FieldType.int)) ∈ lw_all := lw_g (lw_at lw_m17 225 rfl) rfl
theorem q4141 : (Jvm.Cond.instanceMethod ({ cls := "StenohallModel", name := "fromOf", desc := "(I)I" } : Jvm.MethodName)) ∈ lw_all := lw_g (lw_at lw_m17 227 rfl) rfl
theorem q4142 : (Jvm.Cond.selects "StenohallModel" ({ cls := "StenohallModel", name := "fromOf", desc := "(I)I" } : Jvm.MethodName) ({ cls := "StenohallModel", name := "fromOf", desc := "(I)I" } : Jvm.MethodName)) ∈ lw_all := lw_g (lw_at lw_m17 228 rfl) rfl
theorem q4143 : (Jvm.Cond.code ({ cls := "StenohallModel", name := "fromOf", desc := "(I)I" } : Jvm.MethodName) prog_16_method_49_code (4 : Nat) (Option.some Jvm.ClassFile.FieldType.int)) ∈ lw_all := lw_g (lw_at lw_m17 229 rfl) rfl
theorem q4145 : (Jvm.Cond.instanceMethod ({ cls := "StenohallModel", name := "tick", desc := "()I" } : Jvm.MethodName)) ∈ lw_all := lw_g (lw_at lw_m17 231 rfl) rfl
theorem q4146 : (Jvm.Cond.selects "StenohallModel" ({ cls := "StenohallModel", name := "tick", desc := "()I" } : Jvm.MethodName) ({ cls := "StenohallModel", name := "tick", desc := "()I" } : Jvm.MethodName)) ∈ lw_all := lw_g (lw_at lw_m17 232 rfl) rfl
theorem q4147 : (Jvm.Cond.code ({ cls := "StenohallModel", name := "tick", desc := "()I" } : Jvm.MethodName) prog_16_method_50_code (6 : Nat) (Option.some Jvm.ClassFile.FieldType.int)) ∈ lw_all := lw_g (lw_at lw_m17 233 rfl) rfl
theorem q4148 : (Jvm.Cond.classLink "StenohallModel" (325 : Nat) "StenohallModel$Sink") ∈ lw_all := lw_g (lw_at lw_m17 234 rfl) rfl
theorem q4149 : (Jvm.Cond.classLink "StenohallModel" (10 : Nat) "java/lang/String") ∈ lw_all := lw_g (lw_at lw_m17 235 rfl) rfl
theorem q4151 : (Jvm.Cond.instanceMethod ({ cls := "StenohallModel", name := "now", desc := "()I" } : Jvm.MethodName)) ∈ lw_all := lw_g (lw_at lw_m17 237 rfl) rfl
theorem q4152 : (Jvm.Cond.selects "StenohallModel" ({ cls := "StenohallModel", name := "now", desc := "()I" } : Jvm.MethodName) ({ cls := "StenohallModel", name := "now", desc := "()I" } : Jvm.MethodName)) ∈ lw_all := lw_g (lw_at lw_m17 238 rfl) rfl
theorem q4153 : (Jvm.Cond.code ({ cls := "StenohallModel", name := "now", desc := "()I" } : Jvm.MethodName) prog_16_method_51_code (1 : Nat) (Option.some Jvm.ClassFile.FieldType.int)) ∈ lw_all := lw_g (lw_at lw_m17 239 rfl) rfl
theorem q4155 : (Jvm.Cond.instanceMethod ({ cls := "StenohallModel", name := "sink", desc := "(I)I" } : Jvm.MethodName)) ∈ lw_all := lw_g (lw_at lw_m18 1 rfl) rfl
theorem q4156 : (Jvm.Cond.selects "StenohallModel" ({ cls := "StenohallModel", name := "sink", desc := "(I)I" } : Jvm.MethodName) ({ cls := "StenohallModel", name := "sink", desc := "(I)I" } : Jvm.MethodName)) ∈ lw_all := lw_g (lw_at lw_m18 2 rfl) rfl
theorem q4157 : (Jvm.Cond.code ({ cls := "StenohallModel", name := "sink", desc := "(I)I" } : Jvm.MethodName) prog_16_method_52_code (2 : Nat) (Option.some Jvm.ClassFile.FieldType.int)) ∈ lw_all := lw_g (lw_at lw_m18 3 rfl) rfl
theorem q4159 : (Jvm.Cond.methodLink "StenohallModel" (336 : Nat) ({ cls := "StenohallModel$Sink", name := "<init>", desc := "(I)V" } : Jvm.MethodName)) ∈ lw_all := lw_g (lw_at lw_m18 5 rfl) rfl
theorem q4165 : (Jvm.Cond.fieldLinkNest "StenohallModel" (327 : Nat) "StenohallModel$Sink" "delay" "I" "StenohallModel") ∈ lw_tbl := lw_at lw_m18 11 rfl
theorem q4167 : (Jvm.Cond.fieldLinkNest "StenohallModel" (330 : Nat) "StenohallModel$Sink" "shown" "Ljava/lang/String;" "StenohallModel") ∈ lw_tbl := lw_at lw_m18 13 rfl
theorem q4168 : (Jvm.Cond.fieldLinkNest "StenohallModel" (333 : Nat) "StenohallModel$Sink" "takenBack" "I" "StenohallModel") ∈ lw_tbl := lw_at lw_m18 14 rfl
theorem q4177 : (Jvm.Cond.instanceMethod ({ cls := "StenohallModel", name := "shown", desc := "(I)I" } : Jvm.MethodName)) ∈ lw_all := lw_g (lw_at lw_m18 23 rfl) rfl
theorem q4178 : (Jvm.Cond.selects "StenohallModel" ({ cls := "StenohallModel", name := "shown", desc := "(I)I" } : Jvm.MethodName) ({ cls := "StenohallModel", name := "shown", desc := "(I)I" } : Jvm.MethodName)) ∈ lw_all := lw_g (lw_at lw_m18 24 rfl) rfl
theorem q4179 : (Jvm.Cond.code ({ cls := "StenohallModel", name := "shown", desc := "(I)I" } : Jvm.MethodName) prog_16_method_54_code (2 : Nat) (Option.some Jvm.ClassFile.FieldType.int)) ∈ lw_all := lw_g (lw_at lw_m18 25 rfl) rfl
theorem q4180 : (Jvm.Cond.methodLink "StenohallModel" (338 : Nat) ({ cls := "StenohallModel", name := "noSink", desc := "(I)Z" } : Jvm.MethodName)) ∈ lw_all := lw_g (lw_at lw_m18 26 rfl) rfl
theorem q4181 : (Jvm.Cond.privateMethod ({ cls := "StenohallModel", name := "noSink", desc := "(I)Z" } : Jvm.MethodName)) ∈ lw_tbl := lw_at lw_m18 27 rfl
theorem q4182 : (Jvm.Cond.instanceMethod ({ cls := "StenohallModel", name := "noSink", desc := "(I)Z" } : Jvm.MethodName)) ∈ lw_all := lw_g (lw_at lw_m18 28 rfl) rfl
theorem q4183 : (Jvm.Cond.code ({ cls := "StenohallModel", name := "noSink", desc := "(I)Z" } : Jvm.MethodName) prog_16_method_53_code (2 : Nat) (Option.some Jvm.ClassFile.FieldType.boolean)) ∈ lw_all := lw_g (lw_at lw_m18 29 rfl) rfl
theorem q4185 : (Jvm.Cond.instanceMethod ({ cls := "StenohallModel", name := "shownAt", desc := "(II)C" } : Jvm.MethodName)) ∈ lw_all := lw_g (lw_at lw_m18 31 rfl) rfl
theorem q4186 : (Jvm.Cond.selects "StenohallModel" ({ cls := "StenohallModel", name := "shownAt", desc := "(II)C" } : Jvm.MethodName) ({ cls := "StenohallModel", name := "shownAt", desc := "(II)C" } : Jvm.MethodName)) ∈ lw_all := lw_g (lw_at lw_m18 32 rfl) rfl
theorem q4187 : (Jvm.Cond.code ({ cls := "StenohallModel", name := "shownAt", desc := "(II)C" } : Jvm.MethodName) prog_16_method_55_code (4 : Nat) (Option.some Jvm.ClassFile.FieldType.char)) ∈ lw_all := lw_g (lw_at lw_m18 33 rfl) rfl
theorem q4189 : (Jvm.Cond.instanceMethod ({ cls := "StenohallModel", name := "takenBack", desc := "(I)I" } : Jvm.MethodName)) ∈ lw_all := lw_g (lw_at lw_m18 35 rfl) rfl
theorem q4190 : (Jvm.Cond.selects "StenohallModel" ({ cls := "StenohallModel", name := "takenBack", desc := "(I)I" } : Jvm.MethodName) ({ cls := "StenohallModel", name := "takenBack", desc := "(I)I" } : Jvm.MethodName)) ∈ lw_all := lw_g (lw_at lw_m18 36 rfl) rfl
theorem q4191 : (Jvm.Cond.code ({ cls := "StenohallModel", name := "takenBack", desc := "(I)I" } : Jvm.MethodName) prog_16_method_56_code (2 : Nat) (Option.some Jvm.ClassFile.FieldType.int)) ∈ lw_all := lw_g (lw_at lw_m18 37 rfl) rfl
theorem q4193 : (Jvm.Cond.instanceMethod ({ cls := "StenohallModel", name := "paper", desc := "(II)I" } : Jvm.MethodName)) ∈ lw_all := lw_g (lw_at lw_m18 39 rfl) rfl
theorem q4194 : (Jvm.Cond.selects "StenohallModel" ({ cls := "StenohallModel", name := "paper", desc := "(II)I" } : Jvm.MethodName) ({ cls := "StenohallModel", name := "paper", desc := "(II)I" } : Jvm.MethodName)) ∈ lw_all := lw_g (lw_at lw_m18 40 rfl) rfl
theorem q4195 : (Jvm.Cond.code ({ cls := "StenohallModel", name := "paper", desc := "(II)I" } : Jvm.MethodName) prog_16_method_57_code (4 : Nat) (Option.some Jvm.ClassFile.FieldType.int)) ∈ lw_all := lw_g (lw_at lw_m18 41 rfl) rfl
theorem q4197 : (Jvm.Cond.instanceMethod ({ cls := "StenohallModel", name := "lines", desc := "()I" } : Jvm.MethodName)) ∈ lw_all := lw_g (lw_at lw_m18 43 rfl) rfl
theorem q4198 : (Jvm.Cond.selects "StenohallModel" ({ cls := "StenohallModel", name := "lines", desc := "()I" } : Jvm.MethodName) ({ cls := "StenohallModel", name := "lines", desc := "()I" } : Jvm.MethodName)) ∈ lw_all := lw_g (lw_at lw_m18 44 rfl) rfl
theorem q4199 : (Jvm.Cond.code ({ cls := "StenohallModel", name := "lines", desc := "()I" } : Jvm.MethodName) prog_16_method_59_code (2 : Nat) (Option.some Jvm.ClassFile.FieldType.int)) ∈ lw_all := lw_g (lw_at lw_m18 45 rfl) rfl
theorem q4200 : (Jvm.Cond.methodLink "StenohallModel" (341 : Nat) ({ cls := "StenohallModel", name := "linesOf", desc := "()[I" } : Jvm.MethodName)) ∈ lw_all := lw_g (lw_at lw_m18 46 rfl) rfl
theorem q4201 : (Jvm.Cond.privateMethod ({ cls := "StenohallModel", name := "linesOf", desc := "()[I" } : Jvm.MethodName)) ∈ lw_tbl := lw_at lw_m18 47 rfl
theorem q4202 : (Jvm.Cond.instanceMethod ({ cls := "StenohallModel", name := "linesOf", desc := "()[I" } : Jvm.MethodName)) ∈ lw_all := lw_g (lw_at lw_m18 48 rfl) rfl
theorem q4203 : (Jvm.Cond.code ({ cls := "StenohallModel", name := "linesOf", desc := "()[I" } : Jvm.MethodName) prog_16_method_58_code (10 : Nat) (Option.some (Jvm.ClassFile.FieldType.array Jvm.ClassFile.FieldType.int))) ∈ lw_all := lw_g (lw_at lw_m18 49 rfl) rfl
theorem q4205 : (Jvm.Cond.instanceMethod ({ cls := "StenohallModel", name := "lineOf", desc := "(I)I" } : Jvm.MethodName)) ∈ lw_all := lw_g (lw_at lw_m18 51 rfl) rfl
theorem q4206 : (Jvm.Cond.selects "StenohallModel" ({ cls := "StenohallModel", name := "lineOf", desc := "(I)I" } : Jvm.MethodName) ({ cls := "StenohallModel", name := "lineOf", desc := "(I)I" } : Jvm.MethodName)) ∈ lw_all := lw_g (lw_at lw_m18 52 rfl) rfl
theorem q4207 : (Jvm.Cond.code ({ cls := "StenohallModel", name := "lineOf", desc := "(I)I" } : Jvm.MethodName) prog_16_method_60_code (3 : Nat) (Option.some Jvm.ClassFile.FieldType.int)) ∈ lw_all := lw_g (lw_at lw_m18 53 rfl) rfl
theorem q4209 : (Jvm.Cond.instanceMethod ({ cls := "StenohallModel", name := "pageOf", desc := "(I)I" } : Jvm.MethodName)) ∈ lw_all := lw_g (lw_at lw_m18 55 rfl) rfl
theorem q4210 : (Jvm.Cond.selects "StenohallModel" ({ cls := "StenohallModel", name := "pageOf", desc := "(I)I" } : Jvm.MethodName) ({ cls := "StenohallModel", name := "pageOf", desc := "(I)I" } : Jvm.MethodName)) ∈ lw_all := lw_g (lw_at lw_m18 56 rfl) rfl
theorem q4211 : (Jvm.Cond.code ({ cls := "StenohallModel", name := "pageOf", desc := "(I)I" } : Jvm.MethodName) prog_16_method_61_code (3 : Nat) (Option.some Jvm.ClassFile.FieldType.int)) ∈ lw_all := lw_g (lw_at lw_m18 57 rfl) rfl
theorem q4212 : (Jvm.Cond.methodLink "StenohallModel" (345 : Nat) ({ cls := "StenohallModel", name := "lineOf", desc := "(I)I" } : Jvm.MethodName)) ∈ lw_all := lw_g (lw_at lw_m18 58 rfl) rfl
theorem q4214 : (Jvm.Cond.instanceMethod ({ cls := "StenohallModel", name := "contract", desc := "(I)I" } : Jvm.MethodName)) ∈ lw_all := lw_g (lw_at lw_m18 60 rfl) rfl
theorem q4215 : (Jvm.Cond.selects "StenohallModel" ({ cls := "StenohallModel", name := "contract", desc := "(I)I" } : Jvm.MethodName) ({ cls := "StenohallModel", name := "contract", desc := "(I)I" } : Jvm.MethodName)) ∈ lw_all := lw_g (lw_at lw_m18 61 rfl) rfl
theorem q4216 : (Jvm.Cond.code ({ cls := "StenohallModel", name := "contract", desc := "(I)I" } : Jvm.MethodName) prog_16_method_62_code (3 : Nat) (Option.some Jvm.ClassFile.FieldType.int)) ∈ lw_all := lw_g (lw_at lw_m18 62 rfl) rfl
theorem q4217 : (Jvm.Cond.methodLink "StenohallModel" (348 : Nat) ({ cls := "java/util/TreeMap", name := "containsValue", desc := "(Ljava/lang/Object;)Z" } : Jvm.MethodName)) ∈ lw_all := lw_g (lw_at lw_m18 63 rfl) rfl
theorem q4226 : (Jvm.Cond.instanceMethod ({ cls := "StenohallModel", name := "brailleLength", desc := "()I" } : Jvm.MethodName)) ∈ lw_all := lw_g (lw_at lw_m18 72 rfl) rfl
theorem q4227 : (Jvm.Cond.selects "StenohallModel" ({ cls := "StenohallModel", name := "brailleLength", desc := "()I" } : Jvm.MethodName) ({ cls := "StenohallModel", name := "brailleLength", desc := "()I" } : Jvm.MethodName)) ∈ lw_all := lw_g (lw_at lw_m18 73 rfl) rfl
theorem q4228 : (Jvm.Cond.code ({ cls := "StenohallModel", name := "brailleLength", desc := "()I" } : Jvm.MethodName) prog_16_method_64_code (1 : Nat) (Option.some Jvm.ClassFile.FieldType.int)) ∈ lw_all := lw_g (lw_at lw_m18 74 rfl) rfl
theorem q4229 : (Jvm.Cond.methodLink "StenohallModel" (355 : Nat) ({ cls := "StenohallModel", name := "cells", desc := "()Ljava/util/ArrayList;" } : Jvm.MethodName)) ∈ lw_all := lw_g (lw_at lw_m18 75 rfl) rfl
theorem q4230 : (Jvm.Cond.privateMethod ({ cls := "StenohallModel", name := "cells", desc := "()Ljava/util/ArrayList;" } : Jvm.MethodName)) ∈ lw_tbl := lw_at lw_m18 76 rfl
theorem q4231 : (Jvm.Cond.instanceMethod ({ cls := "StenohallModel", name := "cells", desc := "()Ljava/util/ArrayList;" } : Jvm.MethodName)) ∈ lw_all := lw_g (lw_at lw_m18 77 rfl) rfl
theorem q4232 : (Jvm.Cond.code ({ cls := "StenohallModel", name := "cells", desc := "()Ljava/util/ArrayList;" } : Jvm.MethodName) prog_16_method_63_code (6 : Nat) (Option.some (Jvm.ClassFile.FieldType.object "java/util/ArrayList"))) ∈ lw_all := lw_g (lw_at lw_m18 78 rfl) rfl
theorem q4233 : (Jvm.Cond.methodLink "StenohallModel" (351 : Nat) ({ cls := "StenohallModel", name := "small", desc := "(C)C" } : Jvm.MethodName)) ∈ lw_all := lw_g (lw_at lw_m18 79 rfl) rfl
theorem q4235 : (Jvm.Cond.instanceMethod ({ cls := "StenohallModel", name := "cellAt", desc := "(I)I" } : Jvm.MethodName)) ∈ lw_all := lw_g (lw_at lw_m18 81 rfl) rfl
theorem q4236 : (Jvm.Cond.selects "StenohallModel" ({ cls := "StenohallModel", name := "cellAt", desc := "(I)I" } : Jvm.MethodName) ({ cls := "StenohallModel", name := "cellAt", desc := "(I)I" } : Jvm.MethodName)) ∈ lw_all := lw_g (lw_at lw_m18 82 rfl) rfl
theorem q4237 : (Jvm.Cond.code ({ cls := "StenohallModel", name := "cellAt", desc := "(I)I" } : Jvm.MethodName) prog_16_method_65_code (3 : Nat) (Option.some Jvm.ClassFile.FieldType.int)) ∈ lw_all := lw_g (lw_at lw_m18 83 rfl) rfl
theorem q4239 : (Jvm.Cond.instanceMethod ({ cls := "StenohallModel", name := "misses", desc := "()I" } : Jvm.MethodName)) ∈ lw_all := lw_g (lw_at lw_m18 85 rfl) rfl
theorem q4240 : (Jvm.Cond.selects "StenohallModel" ({ cls := "StenohallModel", name := "misses", desc := "()I" } : Jvm.MethodName) ({ cls := "StenohallModel", name := "misses", desc := "()I" } : Jvm.MethodName)) ∈ lw_all := lw_g (lw_at lw_m18 86 rfl) rfl
theorem q4241 : (Jvm.Cond.code ({ cls := "StenohallModel", name := "misses", desc := "()I" } : Jvm.MethodName) prog_16_method_66_code (5 : Nat) (Option.some Jvm.ClassFile.FieldType.int)) ∈ lw_all := lw_g (lw_at lw_m18 87 rfl) rfl
theorem q4243 : (Jvm.Cond.instanceMethod ({ cls := "StenohallModel", name := "nearest", desc := "(I)I" } : Jvm.MethodName)) ∈ lw_all := lw_g (lw_at lw_m18 89 rfl) rfl
theorem q4244 : (Jvm.Cond.selects "StenohallModel" ({ cls := "StenohallModel", name := "nearest", desc := "(I)I" } : Jvm.MethodName) ({ cls := "StenohallModel", name := "nearest", desc := "(I)I" } : Jvm.MethodName)) ∈ lw_all := lw_g (lw_at lw_m18 90 rfl) rfl
theorem q4245 : (Jvm.Cond.code ({ cls := "StenohallModel", name := "nearest", desc := "(I)I" } : Jvm.MethodName) prog_16_method_67_code (13 : Nat) (Option.some Jvm.ClassFile.FieldType.int)) ∈ lw_all := lw_g (lw_at lw_m18 91 rfl) rfl
theorem q4246 : (Jvm.Cond.methodLink "StenohallModel" (361 : Nat) ({ cls := "java/util/TreeMap", name := "keySet", desc := "()Ljava/util/Set;" } : Jvm.MethodName)) ∈ lw_all := lw_g (lw_at lw_m18 92 rfl) rfl
theorem q4251 : (Jvm.Cond.interfaceEntry "StenohallModel" (365 : Nat)) ∈ lw_tbl := lw_at lw_m18 97 rfl
theorem q4252 : (Jvm.Cond.methodLink "StenohallModel" (365 : Nat) ({ cls := "java/util/Set", name := "iterator", desc := "()Ljava/util/Iterator;" } : Jvm.MethodName)) ∈ lw_all := lw_g (lw_at lw_m18 98 rfl) rfl
theorem q4264 : (Jvm.Cond.instanceMethod ({ cls := "StenohallModel", name := "saving", desc := "()I" } : Jvm.MethodName)) ∈ lw_all := lw_g (lw_at lw_m18 110 rfl) rfl
theorem q4265 : (Jvm.Cond.selects "StenohallModel" ({ cls := "StenohallModel", name := "saving", desc := "()I" } : Jvm.MethodName) ({ cls := "StenohallModel", name := "saving", desc := "()I" } : Jvm.MethodName)) ∈ lw_all := lw_g (lw_at lw_m18 111 rfl) rfl
theorem q4266 : (Jvm.Cond.code ({ cls := "StenohallModel", name := "saving", desc := "()I" } : Jvm.MethodName) prog_16_method_68_code (7 : Nat) (Option.some Jvm.ClassFile.FieldType.int)) ∈ lw_all := lw_g (lw_at lw_m18 112 rfl) rfl
theorem q4268 : (Jvm.Cond.instanceMethod ({ cls := "StenohallModel", name := "brief", desc := "()F" } : Jvm.MethodName)) ∈ lw_all := lw_g (lw_at lw_m18 114 rfl) rfl
theorem q4269 : (Jvm.Cond.selects "StenohallModel" ({ cls := "StenohallModel", name := "brief", desc := "()F" } : Jvm.MethodName) ({ cls := "StenohallModel", name := "brief", desc := "()F" } : Jvm.MethodName)) ∈ lw_all := lw_g (lw_at lw_m18 115 rfl) rfl
theorem q4270 : (Jvm.Cond.code ({ cls := "StenohallModel", name := "brief", desc := "()F" } : Jvm.MethodName) prog_16_method_69_code (1 : Nat) (Option.some Jvm.ClassFile.FieldType.float)) ∈ lw_all := lw_g (lw_at lw_m18 116 rfl) rfl
theorem q4272 : (Jvm.Cond.instanceMethod ({ cls := "StenohallModel", name := "delay", desc := "()D" } : Jvm.MethodName)) ∈ lw_all := lw_g (lw_at lw_m18 118 rfl) rfl
theorem q4273 : (Jvm.Cond.selects "StenohallModel" ({ cls := "StenohallModel", name := "delay", desc := "()D" } : Jvm.MethodName) ({ cls := "StenohallModel", name := "delay", desc := "()D" } : Jvm.MethodName)) ∈ lw_all := lw_g (lw_at lw_m18 119 rfl) rfl
theorem q4274 : (Jvm.Cond.code ({ cls := "StenohallModel", name := "delay", desc := "()D" } : Jvm.MethodName) prog_16_method_70_code (2 : Nat) (Option.some Jvm.ClassFile.FieldType.double)) ∈ lw_all := lw_g (lw_at lw_m18 120 rfl) rfl
theorem q4276 : (Jvm.Cond.instanceMethod ({ cls := "StenohallModel", name := "checksum", desc := "()J" } : Jvm.MethodName)) ∈ lw_all := lw_g (lw_at lw_m18 122 rfl) rfl
theorem q4277 : (Jvm.Cond.selects "StenohallModel" ({ cls := "StenohallModel", name := "checksum", desc := "()J" } : Jvm.MethodName) ({ cls := "StenohallModel", name := "checksum", desc := "()J" } : Jvm.MethodName)) ∈ lw_all := lw_g (lw_at lw_m18 123 rfl) rfl
theorem q4278 : (Jvm.Cond.code ({ cls := "StenohallModel", name := "checksum", desc := "()J" } : Jvm.MethodName) prog_16_method_71_code (6 : Nat) (Option.some Jvm.ClassFile.FieldType.long)) ∈ lw_all := lw_g (lw_at lw_m18 124 rfl) rfl
theorem q4279 : (Jvm.Cond.constantLong "StenohallModel" (368 : Nat) (7 : Int64)) ∈ lw_all := lw_g (lw_at lw_m18 125 rfl) rfl
theorem q4280 : (Jvm.Cond.constantLong "StenohallModel" (370 : Nat) (31 : Int64)) ∈ lw_all := lw_g (lw_at lw_m18 126 rfl) rfl
theorem q4282 : (Jvm.Cond.instanceMethod ({ cls := "StenohallModel", name := "isSound", desc := "()Z" } : Jvm.MethodName)) ∈ lw_all := lw_g (lw_at lw_m18 128 rfl) rfl
theorem q4283 : (Jvm.Cond.selects "StenohallModel" ({ cls := "StenohallModel", name := "isSound", desc := "()Z" } : Jvm.MethodName) ({ cls := "StenohallModel", name := "isSound", desc := "()Z" } : Jvm.MethodName)) ∈ lw_all := lw_g (lw_at lw_m18 129 rfl) rfl
theorem q4284 : (Jvm.Cond.code ({ cls := "StenohallModel", name := "isSound", desc := "()Z" } : Jvm.MethodName) prog_16_method_72_code (1 : Nat) (Option.some Jvm.ClassFile.FieldType.boolean)) ∈ lw_all := lw_g (lw_at lw_m18 130 rfl) rfl
theorem q4344 : (Jvm.Cond.castable "StenohallModel" "java/lang/Object") ∈ lw_tbl := lw_at lw_m18 190 rfl
theorem in_X3 : ∀ w ∈ wsX30, w ∈ lw_all := lw_in wsX30 [3389, 3391, 3393, 3395, 3397, 3399, 3401, 3403, 3405, 3407, 3409, 3411, 3413, 3415, 3417, 3419, 3421] (by decide +kernel) (by decide +kernel)
/-! StenohallModel$Layer -/
set_option maxRecDepth 100000
def RX4 : String := "StenohallModel$Layer"
def TX4 : u_T := fun k => match k with
  | 0 => ("StenohallModel$Layer", "isOn", "Z", false)
  | _ => ("StenohallModel$Layer", "entries", "Ljava/util/TreeMap;", true)
def tyX4 : Nat → FieldType := fun k => match k with
  | 0 => .boolean
  | _ => .object "java/util/TreeMap"
abbrev wsX40 : List Cond := u_ws RX4 TX4 2
theorem nmX4 : ∀ a, a < 2 → ∀ b, b < 2 → a ≠ b → (TX4 a).2.1 ≠ (TX4 b).2.1 := by decide +kernel
theorem tyX4_ok : ∀ k, k < 2 → parseFieldDescriptor (TX4 k).2.2.1 = some (tyX4 k) := by decide +kernel
abbrev cX4_init : ByteArray := prog_18_method_1_code
def yX4_init : MethodName := ⟨RX4, "<init>", "()V"⟩
def dkwX4_init_0 : List UInt8 := [42, 183, 0, 1, 42, 4, 181, 0, 7, 42, 187, 0, 13, 89, 183, 0, 15, 181, 0, 16, 177]
abbrev dktX4_init_0 : List UInt8 := dkwX4_init_0 ++ []
theorem dksX4_init_0 : cX4_init.data.toList.drop 0 = dktX4_init_0 := by decide +kernel
theorem dX4_init_0 : decode cX4_init 0 = .ok (.aload_n 0, 1) := dk_42 (dk_at dksX4_init_0 0 rfl rfl)
theorem dX4_init_1 : decode cX4_init 1 = .ok (.invokespecial 1, 3) := dk_183 0 1 (dk_at dksX4_init_0 1 rfl rfl)
theorem dX4_init_4 : decode cX4_init 4 = .ok (.aload_n 0, 1) := dk_42 (dk_at dksX4_init_0 4 rfl rfl)
theorem dX4_init_5 : decode cX4_init 5 = .ok (.iconst 1, 1) := dk_4 (dk_at dksX4_init_0 5 rfl rfl)
theorem dX4_init_6 : decode cX4_init 6 = .ok (.putfield 7, 3) := dk_181 0 7 (dk_at dksX4_init_0 6 rfl rfl)
theorem dX4_init_9 : decode cX4_init 9 = .ok (.aload_n 0, 1) := dk_42 (dk_at dksX4_init_0 9 rfl rfl)
theorem dX4_init_10 : decode cX4_init 10 = .ok (.new 13, 3) := dk_187 0 13 (dk_at dksX4_init_0 10 rfl rfl)
theorem dX4_init_13 : decode cX4_init 13 = .ok (.dup, 1) := dk_89 (dk_at dksX4_init_0 13 rfl rfl)
theorem dX4_init_14 : decode cX4_init 14 = .ok (.invokespecial 15, 3) := dk_183 0 15 (dk_at dksX4_init_0 14 rfl rfl)
theorem dX4_init_17 : decode cX4_init 17 = .ok (.putfield 16, 3) := dk_181 0 16 (dk_at dksX4_init_0 17 rfl rfl)
theorem dX4_init_20 : decode cX4_init 20 = .ok (.return_, 1) := dk_177 (dk_at dksX4_init_0 20 rfl rfl)
theorem q101 : (Jvm.Cond.initialized "StenohallModel$Layer") ∈ lw_all := lw_g (lw_at lw_m1 27 rfl) rfl
theorem q318 : (Jvm.Cond.selects "StenohallModel$Layer" ({ cls := "java/lang/Object", name := "getClass", desc := "()Ljava/lang/Class;" } : Jvm.MethodName) ({ cls := "java/lang/Object", name := "getClass", desc := "()Ljava/lang/Class;" } : Jvm.MethodName)) ∈ lw_all := lw_g (lw_at lw_m2 4 rfl) rfl
theorem q971 : (Jvm.Cond.selects "StenohallModel$Layer" ({ cls := "java/lang/Object", name := "equals", desc := "(Ljava/lang/Object;)Z" } : Jvm.MethodName) ({ cls := "java/lang/Object", name := "equals", desc := "(Ljava/lang/Object;)Z" } : Jvm.MethodName)) ∈ lw_all := lw_g (lw_at lw_m4 177 rfl) rfl
theorem q3303 : (Jvm.Cond.instantiable "StenohallModel$Layer" (2 : Nat)) ∈ lw_all := lw_g (lw_at lw_m14 109 rfl) rfl
theorem q3305 : (Jvm.Cond.instanceMethod ({ cls := "StenohallModel$Layer", name := "<init>", desc := "()V" } : Jvm.MethodName)) ∈ lw_all := lw_g (lw_at lw_m14 111 rfl) rfl
theorem q3306 : (Jvm.Cond.code ({ cls := "StenohallModel$Layer", name := "<init>", desc := "()V" } : Jvm.MethodName) prog_18_method_1_code (1 : Nat) (Option.none : Option Jvm.ClassFile.FieldType)) ∈ lw_all := lw_g (lw_at lw_m14 112 rfl) rfl
theorem q3307 : (Jvm.Cond.methodLink "StenohallModel$Layer" (1 : Nat) ({ cls := "java/lang/Object", name := "<init>", desc := "()V" } : Jvm.MethodName)) ∈ lw_all := lw_g (lw_at lw_m14 113 rfl) rfl
theorem q3308 : (Jvm.Cond.classLink "StenohallModel$Layer" (13 : Nat) "java/util/TreeMap") ∈ lw_all := lw_g (lw_at lw_m14 114 rfl) rfl
theorem q3309 : (Jvm.Cond.methodLink "StenohallModel$Layer" (15 : Nat) ({ cls := "java/util/TreeMap", name := "<init>", desc := "()V" } : Jvm.MethodName)) ∈ lw_all := lw_g (lw_at lw_m14 115 rfl) rfl
theorem q3342 : (Jvm.Cond.fieldLink "StenohallModel$Layer" (7 : Nat) "StenohallModel$Layer" "isOn" "Z") ∈ lw_all := lw_g (lw_at lw_m14 148 rfl) rfl
theorem q3344 : (Jvm.Cond.fieldLink "StenohallModel$Layer" (16 : Nat) "StenohallModel$Layer" "entries" "Ljava/util/TreeMap;") ∈ lw_all := lw_g (lw_at lw_m14 150 rfl) rfl
theorem q3346 : (Jvm.Cond.lays "StenohallModel$Layer" "StenohallModel$Layer" "isOn" "Z") ∈ lw_all := lw_g (lw_at lw_m14 152 rfl) rfl
theorem q3347 : (Jvm.Cond.soleField "StenohallModel$Layer" "isOn") ∈ lw_all := lw_g (lw_at lw_m14 153 rfl) rfl
theorem q3348 : (Jvm.Cond.laysFinal "StenohallModel$Layer" "StenohallModel$Layer" "entries" "Ljava/util/TreeMap;") ∈ lw_all := lw_g (lw_at lw_m14 154 rfl) rfl
theorem q3349 : (Jvm.Cond.soleField "StenohallModel$Layer" "entries") ∈ lw_all := lw_g (lw_at lw_m14 155 rfl) rfl
theorem q3350 : (Jvm.Cond.superclass "StenohallModel$Layer" "java/lang/Object") ∈ lw_all := lw_g (lw_at lw_m14 156 rfl) rfl
theorem q4339 : (Jvm.Cond.castable "StenohallModel$Layer" "java/lang/Object") ∈ lw_tbl := lw_at lw_m18 185 rfl
theorem in_X4 : ∀ w ∈ wsX40, w ∈ lw_all := lw_in wsX40 [3346, 3348] (by decide +kernel) (by decide +kernel)
/-! Stenohall$Stroke -/
set_option maxRecDepth 100000
def RX5 : String := "Stenohall$Stroke"
def TX5 : u_T := fun k => match k with
  | 0 => ("Stenohall$Stroke", "keys", "I", true)
  | _ => ("Stenohall$Stroke", "tick", "I", true)
def tyX5 : Nat → FieldType := fun k => match k with
  | 0 => .int
  | _ => .int
abbrev wsX50 : List Cond := u_ws RX5 TX5 2
theorem nmX5 : ∀ a, a < 2 → ∀ b, b < 2 → a ≠ b → (TX5 a).2.1 ≠ (TX5 b).2.1 := by decide +kernel
theorem tyX5_ok : ∀ k, k < 2 → parseFieldDescriptor (TX5 k).2.2.1 = some (tyX5 k) := by decide +kernel
abbrev cX5_equals : ByteArray := prog_10_method_4_code
def yX5_equals : MethodName := ⟨RX5, "equals", "(Ljava/lang/Object;)Z"⟩
def dkwX5_equals_0 : List UInt8 := [42, 43, 186, 0, 24, 0, 0, 172]
abbrev dktX5_equals_0 : List UInt8 := dkwX5_equals_0 ++ []
theorem dksX5_equals_0 : cX5_equals.data.toList.drop 0 = dktX5_equals_0 := by decide +kernel
theorem dX5_equals_0 : decode cX5_equals 0 = .ok (.aload_n 0, 1) := dk_42 (dk_at dksX5_equals_0 0 rfl rfl)
theorem dX5_equals_1 : decode cX5_equals 1 = .ok (.aload_n 1, 1) := dk_43 (dk_at dksX5_equals_0 1 rfl rfl)
theorem dX5_equals_2 : decode cX5_equals 2 = .ok (.invokedynamic 24, 5) := by decide +kernel
theorem dX5_equals_7 : decode cX5_equals 7 = .ok (.ireturn, 1) := dk_172 (dk_at dksX5_equals_0 7 rfl rfl)
abbrev cX5_keys : ByteArray := prog_10_method_5_code
def yX5_keys : MethodName := ⟨RX5, "keys", "()I"⟩
theorem dX5_keys_0 : decode cX5_keys 0 = .ok (.aload_n 0, 1) := by decide +kernel
theorem dX5_keys_1 : decode cX5_keys 1 = .ok (.getfield 7, 3) := by decide +kernel
theorem dX5_keys_4 : decode cX5_keys 4 = .ok (.ireturn, 1) := by decide +kernel
abbrev cX5_tick : ByteArray := prog_10_method_6_code
def yX5_tick : MethodName := ⟨RX5, "tick", "()I"⟩
theorem dX5_tick_0 : decode cX5_tick 0 = .ok (.aload_n 0, 1) := by decide +kernel
theorem dX5_tick_1 : decode cX5_tick 1 = .ok (.getfield 13, 3) := by decide +kernel
theorem dX5_tick_4 : decode cX5_tick 4 = .ok (.ireturn, 1) := by decide +kernel
abbrev cX5_init : ByteArray := prog_10_method_1_code
def yX5_init : MethodName := ⟨RX5, "<init>", "(II)V"⟩
def dkwX5_init_0 : List UInt8 := [42, 183, 0, 1, 42, 27, 181, 0, 7, 42, 28, 181, 0, 13, 177]
abbrev dktX5_init_0 : List UInt8 := dkwX5_init_0 ++ []
theorem dksX5_init_0 : cX5_init.data.toList.drop 0 = dktX5_init_0 := by decide +kernel
theorem dX5_init_0 : decode cX5_init 0 = .ok (.aload_n 0, 1) := dk_42 (dk_at dksX5_init_0 0 rfl rfl)
theorem dX5_init_1 : decode cX5_init 1 = .ok (.invokespecial 1, 3) := dk_183 0 1 (dk_at dksX5_init_0 1 rfl rfl)
theorem dX5_init_4 : decode cX5_init 4 = .ok (.aload_n 0, 1) := dk_42 (dk_at dksX5_init_0 4 rfl rfl)
theorem dX5_init_5 : decode cX5_init 5 = .ok (.iload_n 1, 1) := dk_27 (dk_at dksX5_init_0 5 rfl rfl)
theorem dX5_init_6 : decode cX5_init 6 = .ok (.putfield 7, 3) := dk_181 0 7 (dk_at dksX5_init_0 6 rfl rfl)
theorem dX5_init_9 : decode cX5_init 9 = .ok (.aload_n 0, 1) := dk_42 (dk_at dksX5_init_0 9 rfl rfl)
theorem dX5_init_10 : decode cX5_init 10 = .ok (.iload_n 2, 1) := dk_28 (dk_at dksX5_init_0 10 rfl rfl)
theorem dX5_init_11 : decode cX5_init 11 = .ok (.putfield 13, 3) := dk_181 0 13 (dk_at dksX5_init_0 11 rfl rfl)
theorem dX5_init_14 : decode cX5_init 14 = .ok (.return_, 1) := dk_177 (dk_at dksX5_init_0 14 rfl rfl)
theorem q109 : (Jvm.Cond.initialized "Stenohall$Stroke") ∈ lw_all := lw_g (lw_at lw_m1 35 rfl) rfl
theorem q312 : (Jvm.Cond.selects "Stenohall$Stroke" ({ cls := "java/lang/Object", name := "getClass", desc := "()Ljava/lang/Class;" } : Jvm.MethodName) ({ cls := "java/lang/Object", name := "getClass", desc := "()Ljava/lang/Class;" } : Jvm.MethodName)) ∈ lw_all := lw_g (lw_at lw_m1 238 rfl) rfl
theorem q936 : (Jvm.Cond.instanceMethod ({ cls := "Stenohall$Stroke", name := "equals", desc := "(Ljava/lang/Object;)Z" } : Jvm.MethodName)) ∈ lw_all := lw_g (lw_at lw_m4 142 rfl) rfl
theorem q937 : (Jvm.Cond.code ({ cls := "Stenohall$Stroke", name := "equals", desc := "(Ljava/lang/Object;)Z" } : Jvm.MethodName) prog_10_method_4_code (2 : Nat) (Option.some Jvm.ClassFile.FieldType.boolean)) ∈ lw_all := lw_g (lw_at lw_m4 143 rfl) rfl
theorem q965 : (Jvm.Cond.selects "Stenohall$Stroke" ({ cls := "java/lang/Object", name := "equals", desc := "(Ljava/lang/Object;)Z" } : Jvm.MethodName) ({ cls := "Stenohall$Stroke", name := "equals", desc := "(Ljava/lang/Object;)Z" } : Jvm.MethodName)) ∈ lw_all := lw_g (lw_at lw_m4 171 rfl) rfl
theorem q1889 : (Jvm.Cond.instanceMethod ({ cls := "Stenohall$Stroke", name := "keys", desc := "()I" } : Jvm.MethodName)) ∈ lw_all := lw_g (lw_at lw_m8 135 rfl) rfl
theorem q1890 : (Jvm.Cond.selects "Stenohall$Stroke" ({ cls := "Stenohall$Stroke", name := "keys", desc := "()I" } : Jvm.MethodName) ({ cls := "Stenohall$Stroke", name := "keys", desc := "()I" } : Jvm.MethodName)) ∈ lw_all := lw_g (lw_at lw_m8 136 rfl) rfl
theorem q1891 : (Jvm.Cond.code ({ cls := "Stenohall$Stroke", name := "keys", desc := "()I" } : Jvm.MethodName) prog_10_method_5_code (1 : Nat) (Option.some Jvm.ClassFile.FieldType.int)) ∈ lw_all := lw_g (lw_at lw_m8 137 rfl) rfl
theorem q2117 : (Jvm.Cond.instanceMethod ({ cls := "Stenohall$Stroke", name := "tick", desc := "()I" } : Jvm.MethodName)) ∈ lw_all := lw_g (lw_at lw_m9 123 rfl) rfl
theorem q2118 : (Jvm.Cond.selects "Stenohall$Stroke" ({ cls := "Stenohall$Stroke", name := "tick", desc := "()I" } : Jvm.MethodName) ({ cls := "Stenohall$Stroke", name := "tick", desc := "()I" } : Jvm.MethodName)) ∈ lw_all := lw_g (lw_at lw_m9 124 rfl) rfl
theorem q2119 : (Jvm.Cond.code ({ cls := "Stenohall$Stroke", name := "tick", desc := "()I" } : Jvm.MethodName) prog_10_method_6_code (1 : Nat) (Option.some Jvm.ClassFile.FieldType.int)) ∈ lw_all := lw_g (lw_at lw_m9 125 rfl) rfl
theorem q2734 : (Jvm.Cond.instantiable "Stenohall$Stroke" (2 : Nat)) ∈ lw_all := lw_g (lw_at lw_m12 20 rfl) rfl
theorem q2736 : (Jvm.Cond.instanceMethod ({ cls := "Stenohall$Stroke", name := "<init>", desc := "(II)V" } : Jvm.MethodName)) ∈ lw_all := lw_g (lw_at lw_m12 22 rfl) rfl
theorem q2737 : (Jvm.Cond.code ({ cls := "Stenohall$Stroke", name := "<init>", desc := "(II)V" } : Jvm.MethodName) prog_10_method_1_code (3 : Nat) (Option.none : Option Jvm.ClassFile.FieldType)) ∈ lw_all := lw_g (lw_at lw_m12 23 rfl) rfl
theorem q2738 : (Jvm.Cond.methodLink "Stenohall$Stroke" (1 : Nat) ({ cls := "java/lang/Record", name := "<init>", desc := "()V" } : Jvm.MethodName)) ∈ lw_all := lw_g (lw_at lw_m12 24 rfl) rfl
theorem q2739 : (Jvm.Cond.fieldLink "Stenohall$Stroke" (7 : Nat) "Stenohall$Stroke" "keys" "I") ∈ lw_all := lw_g (lw_at lw_m12 25 rfl) rfl
theorem q2740 : (Jvm.Cond.fieldLink "Stenohall$Stroke" (13 : Nat) "Stenohall$Stroke" "tick" "I") ∈ lw_all := lw_g (lw_at lw_m12 26 rfl) rfl
theorem q2741 : (Jvm.Cond.laysFinal "Stenohall$Stroke" "Stenohall$Stroke" "keys" "I") ∈ lw_all := lw_g (lw_at lw_m12 27 rfl) rfl
theorem q2742 : (Jvm.Cond.soleField "Stenohall$Stroke" "keys") ∈ lw_all := lw_g (lw_at lw_m12 28 rfl) rfl
theorem q2743 : (Jvm.Cond.laysFinal "Stenohall$Stroke" "Stenohall$Stroke" "tick" "I") ∈ lw_all := lw_g (lw_at lw_m12 29 rfl) rfl
theorem q2744 : (Jvm.Cond.soleField "Stenohall$Stroke" "tick") ∈ lw_all := lw_g (lw_at lw_m12 30 rfl) rfl
theorem q2745 : (Jvm.Cond.superclass "Stenohall$Stroke" "java/lang/Record") ∈ lw_all := lw_g (lw_at lw_m12 31 rfl) rfl
theorem q4352 : (Jvm.Cond.castable "Stenohall$Stroke" "java/lang/Object") ∈ lw_tbl := lw_at lw_m18 198 rfl
theorem in_X5 : ∀ w ∈ wsX50, w ∈ lw_all := lw_in wsX50 [2741, 2743] (by decide +kernel) (by decide +kernel)
/-! Stenohall$Found -/
set_option maxRecDepth 100000
def RX6 : String := "Stenohall$Found"
def TX6 : u_T := fun k => match k with
  | 0 => ("Stenohall$Found", "entry", "LStenohall$Entry;", true)
  | 1 => ("Stenohall$Found", "layer", "I", true)
  | _ => ("Stenohall$Found", "strokes", "Ljava/util/List;", true)
def tyX6 : Nat → FieldType := fun k => match k with
  | 0 => .object "Stenohall$Entry"
  | 1 => .int
  | _ => .object "java/util/List"
abbrev wsX60 : List Cond := u_ws RX6 TX6 3
theorem nmX6 : ∀ a, a < 3 → ∀ b, b < 3 → a ≠ b → (TX6 a).2.1 ≠ (TX6 b).2.1 := by decide +kernel
theorem tyX6_ok : ∀ k, k < 3 → parseFieldDescriptor (TX6 k).2.2.1 = some (tyX6 k) := by decide +kernel
abbrev cX6_equals : ByteArray := prog_5_method_4_code
def yX6_equals : MethodName := ⟨RX6, "equals", "(Ljava/lang/Object;)Z"⟩
def dkwX6_equals_0 : List UInt8 := [42, 43, 186, 0, 29, 0, 0, 172]
abbrev dktX6_equals_0 : List UInt8 := dkwX6_equals_0 ++ []
theorem dksX6_equals_0 : cX6_equals.data.toList.drop 0 = dktX6_equals_0 := by decide +kernel
theorem dX6_equals_0 : decode cX6_equals 0 = .ok (.aload_n 0, 1) := dk_42 (dk_at dksX6_equals_0 0 rfl rfl)
theorem dX6_equals_1 : decode cX6_equals 1 = .ok (.aload_n 1, 1) := dk_43 (dk_at dksX6_equals_0 1 rfl rfl)
theorem dX6_equals_2 : decode cX6_equals 2 = .ok (.invokedynamic 29, 5) := by decide +kernel
theorem dX6_equals_7 : decode cX6_equals 7 = .ok (.ireturn, 1) := dk_172 (dk_at dksX6_equals_0 7 rfl rfl)
abbrev cX6_init : ByteArray := prog_5_method_1_code
def yX6_init : MethodName := ⟨RX6, "<init>", "(LStenohall$Entry;ILjava/util/List;)V"⟩
def dkwX6_init_0 : List UInt8 := [42, 183, 0, 1, 42, 43, 181, 0, 7, 42, 28, 181, 0, 13, 42, 45, 181, 0, 17, 177]
abbrev dktX6_init_0 : List UInt8 := dkwX6_init_0 ++ []
theorem dksX6_init_0 : cX6_init.data.toList.drop 0 = dktX6_init_0 := by decide +kernel
theorem dX6_init_0 : decode cX6_init 0 = .ok (.aload_n 0, 1) := dk_42 (dk_at dksX6_init_0 0 rfl rfl)
theorem dX6_init_1 : decode cX6_init 1 = .ok (.invokespecial 1, 3) := dk_183 0 1 (dk_at dksX6_init_0 1 rfl rfl)
theorem dX6_init_4 : decode cX6_init 4 = .ok (.aload_n 0, 1) := dk_42 (dk_at dksX6_init_0 4 rfl rfl)
theorem dX6_init_5 : decode cX6_init 5 = .ok (.aload_n 1, 1) := dk_43 (dk_at dksX6_init_0 5 rfl rfl)
theorem dX6_init_6 : decode cX6_init 6 = .ok (.putfield 7, 3) := dk_181 0 7 (dk_at dksX6_init_0 6 rfl rfl)
theorem dX6_init_9 : decode cX6_init 9 = .ok (.aload_n 0, 1) := dk_42 (dk_at dksX6_init_0 9 rfl rfl)
theorem dX6_init_10 : decode cX6_init 10 = .ok (.iload_n 2, 1) := dk_28 (dk_at dksX6_init_0 10 rfl rfl)
theorem dX6_init_11 : decode cX6_init 11 = .ok (.putfield 13, 3) := dk_181 0 13 (dk_at dksX6_init_0 11 rfl rfl)
theorem dX6_init_14 : decode cX6_init 14 = .ok (.aload_n 0, 1) := dk_42 (dk_at dksX6_init_0 14 rfl rfl)
theorem dX6_init_15 : decode cX6_init 15 = .ok (.aload_n 3, 1) := dk_45 (dk_at dksX6_init_0 15 rfl rfl)
theorem dX6_init_16 : decode cX6_init 16 = .ok (.putfield 17, 3) := dk_181 0 17 (dk_at dksX6_init_0 16 rfl rfl)
theorem dX6_init_19 : decode cX6_init 19 = .ok (.return_, 1) := dk_177 (dk_at dksX6_init_0 19 rfl rfl)
abbrev cX6_strokes : ByteArray := prog_5_method_7_code
def yX6_strokes : MethodName := ⟨RX6, "strokes", "()Ljava/util/List;"⟩
theorem dX6_strokes_0 : decode cX6_strokes 0 = .ok (.aload_n 0, 1) := by decide +kernel
theorem dX6_strokes_1 : decode cX6_strokes 1 = .ok (.getfield 17, 3) := by decide +kernel
theorem dX6_strokes_4 : decode cX6_strokes 4 = .ok (.areturn, 1) := by decide +kernel
abbrev cX6_entry : ByteArray := prog_5_method_5_code
def yX6_entry : MethodName := ⟨RX6, "entry", "()LStenohall$Entry;"⟩
theorem dX6_entry_0 : decode cX6_entry 0 = .ok (.aload_n 0, 1) := by decide +kernel
theorem dX6_entry_1 : decode cX6_entry 1 = .ok (.getfield 7, 3) := by decide +kernel
theorem dX6_entry_4 : decode cX6_entry 4 = .ok (.areturn, 1) := by decide +kernel
abbrev cX6_layer : ByteArray := prog_5_method_6_code
def yX6_layer : MethodName := ⟨RX6, "layer", "()I"⟩
theorem dX6_layer_0 : decode cX6_layer 0 = .ok (.aload_n 0, 1) := by decide +kernel
theorem dX6_layer_1 : decode cX6_layer 1 = .ok (.getfield 13, 3) := by decide +kernel
theorem dX6_layer_4 : decode cX6_layer 4 = .ok (.ireturn, 1) := by decide +kernel
theorem q133 : (Jvm.Cond.initialized "Stenohall$Found") ∈ lw_all := lw_g (lw_at lw_m1 59 rfl) rfl
theorem q307 : (Jvm.Cond.selects "Stenohall$Found" ({ cls := "java/lang/Object", name := "getClass", desc := "()Ljava/lang/Class;" } : Jvm.MethodName) ({ cls := "java/lang/Object", name := "getClass", desc := "()Ljava/lang/Class;" } : Jvm.MethodName)) ∈ lw_all := lw_g (lw_at lw_m1 233 rfl) rfl
theorem q930 : (Jvm.Cond.instanceMethod ({ cls := "Stenohall$Found", name := "equals", desc := "(Ljava/lang/Object;)Z" } : Jvm.MethodName)) ∈ lw_all := lw_g (lw_at lw_m4 136 rfl) rfl
theorem q931 : (Jvm.Cond.code ({ cls := "Stenohall$Found", name := "equals", desc := "(Ljava/lang/Object;)Z" } : Jvm.MethodName) prog_5_method_4_code (2 : Nat) (Option.some Jvm.ClassFile.FieldType.boolean)) ∈ lw_all := lw_g (lw_at lw_m4 137 rfl) rfl
theorem q960 : (Jvm.Cond.selects "Stenohall$Found" ({ cls := "java/lang/Object", name := "equals", desc := "(Ljava/lang/Object;)Z" } : Jvm.MethodName) ({ cls := "Stenohall$Found", name := "equals", desc := "(Ljava/lang/Object;)Z" } : Jvm.MethodName)) ∈ lw_all := lw_g (lw_at lw_m4 166 rfl) rfl
theorem q1975 : (Jvm.Cond.instantiable "Stenohall$Found" (3 : Nat)) ∈ lw_all := lw_g (lw_at lw_m8 221 rfl) rfl
theorem q1977 : (Jvm.Cond.instanceMethod ({ cls := "Stenohall$Found", name := "<init>", desc := "(LStenohall$Entry;ILjava/util/List;)V" } : Jvm.MethodName)) ∈ lw_all := lw_g (lw_at lw_m8 223 rfl) rfl
theorem q1978 : (Jvm.Cond.code ({ cls := "Stenohall$Found", name := "<init>", desc := "(LStenohall$Entry;ILjava/util/List;)V" } : Jvm.MethodName) prog_5_method_1_code (4 : Nat) (Option.none : Option Jvm.ClassFile.FieldType)) ∈ lw_all := lw_g (lw_at lw_m8 224 rfl) rfl
theorem q1979 : (Jvm.Cond.methodLink "Stenohall$Found" (1 : Nat) ({ cls := "java/lang/Record", name := "<init>", desc := "()V" } : Jvm.MethodName)) ∈ lw_all := lw_g (lw_at lw_m8 225 rfl) rfl
theorem q1983 : (Jvm.Cond.fieldLink "Stenohall$Found" (7 : Nat) "Stenohall$Found" "entry" "LStenohall$Entry;") ∈ lw_all := lw_g (lw_at lw_m8 229 rfl) rfl
theorem q1984 : (Jvm.Cond.fieldLink "Stenohall$Found" (13 : Nat) "Stenohall$Found" "layer" "I") ∈ lw_all := lw_g (lw_at lw_m8 230 rfl) rfl
theorem q1985 : (Jvm.Cond.fieldLink "Stenohall$Found" (17 : Nat) "Stenohall$Found" "strokes" "Ljava/util/List;") ∈ lw_all := lw_g (lw_at lw_m8 231 rfl) rfl
theorem q1986 : (Jvm.Cond.laysFinal "Stenohall$Found" "Stenohall$Found" "entry" "LStenohall$Entry;") ∈ lw_all := lw_g (lw_at lw_m8 232 rfl) rfl
theorem q1987 : (Jvm.Cond.soleField "Stenohall$Found" "entry") ∈ lw_all := lw_g (lw_at lw_m8 233 rfl) rfl
theorem q1988 : (Jvm.Cond.laysFinal "Stenohall$Found" "Stenohall$Found" "layer" "I") ∈ lw_all := lw_g (lw_at lw_m8 234 rfl) rfl
theorem q1989 : (Jvm.Cond.soleField "Stenohall$Found" "layer") ∈ lw_all := lw_g (lw_at lw_m8 235 rfl) rfl
theorem q1990 : (Jvm.Cond.laysFinal "Stenohall$Found" "Stenohall$Found" "strokes" "Ljava/util/List;") ∈ lw_all := lw_g (lw_at lw_m8 236 rfl) rfl
theorem q1991 : (Jvm.Cond.soleField "Stenohall$Found" "strokes") ∈ lw_all := lw_g (lw_at lw_m8 237 rfl) rfl
theorem q1992 : (Jvm.Cond.superclass "Stenohall$Found" "java/lang/Record") ∈ lw_all := lw_g (lw_at lw_m8 238 rfl) rfl
theorem q1999 : (Jvm.Cond.instanceMethod ({ cls := "Stenohall$Found", name := "strokes", desc := "()Ljava/util/List;" } : Jvm.MethodName)) ∈ lw_all := lw_g (lw_at lw_m9 5 rfl) rfl
theorem q2000 : (Jvm.Cond.selects "Stenohall$Found" ({ cls := "Stenohall$Found", name := "strokes", desc := "()Ljava/util/List;" } : Jvm.MethodName) ({ cls := "Stenohall$Found", name := "strokes", desc := "()Ljava/util/List;" } : Jvm.MethodName)) ∈ lw_all := lw_g (lw_at lw_m9 6 rfl) rfl
theorem q2001 : (Jvm.Cond.code ({ cls := "Stenohall$Found", name := "strokes", desc := "()Ljava/util/List;" } : Jvm.MethodName) prog_5_method_7_code (1 : Nat) (Option.some (Jvm.ClassFile.FieldType.object "java/util/List"))) ∈ lw_all := lw_g (lw_at lw_m9 7 rfl) rfl
theorem q2021 : (Jvm.Cond.instanceMethod ({ cls := "Stenohall$Found", name := "entry", desc := "()LStenohall$Entry;" } : Jvm.MethodName)) ∈ lw_all := lw_g (lw_at lw_m9 27 rfl) rfl
theorem q2022 : (Jvm.Cond.selects "Stenohall$Found" ({ cls := "Stenohall$Found", name := "entry", desc := "()LStenohall$Entry;" } : Jvm.MethodName) ({ cls := "Stenohall$Found", name := "entry", desc := "()LStenohall$Entry;" } : Jvm.MethodName)) ∈ lw_all := lw_g (lw_at lw_m9 28 rfl) rfl
theorem q2023 : (Jvm.Cond.code ({ cls := "Stenohall$Found", name := "entry", desc := "()LStenohall$Entry;" } : Jvm.MethodName) prog_5_method_5_code (1 : Nat) (Option.some (Jvm.ClassFile.FieldType.object "Stenohall$Entry"))) ∈ lw_all := lw_g (lw_at lw_m9 29 rfl) rfl
theorem q3104 : (Jvm.Cond.instanceMethod ({ cls := "Stenohall$Found", name := "layer", desc := "()I" } : Jvm.MethodName)) ∈ lw_all := lw_g (lw_at lw_m13 150 rfl) rfl
theorem q3105 : (Jvm.Cond.selects "Stenohall$Found" ({ cls := "Stenohall$Found", name := "layer", desc := "()I" } : Jvm.MethodName) ({ cls := "Stenohall$Found", name := "layer", desc := "()I" } : Jvm.MethodName)) ∈ lw_all := lw_g (lw_at lw_m13 151 rfl) rfl
theorem q3106 : (Jvm.Cond.code ({ cls := "Stenohall$Found", name := "layer", desc := "()I" } : Jvm.MethodName) prog_5_method_6_code (1 : Nat) (Option.some Jvm.ClassFile.FieldType.int)) ∈ lw_all := lw_g (lw_at lw_m13 152 rfl) rfl
theorem q4335 : (Jvm.Cond.castable "Stenohall$Found" "Stenohall$Translation") ∈ lw_tbl := lw_at lw_m18 181 rfl
theorem q4368 : (Jvm.Cond.castable "Stenohall$Found" "java/lang/Object") ∈ lw_tbl := lw_at lw_m18 214 rfl
theorem in_X6 : ∀ w ∈ wsX60, w ∈ lw_all := lw_in wsX60 [1986, 1988, 1990] (by decide +kernel) (by decide +kernel)
/-! Stenohall$Miss -/
set_option maxRecDepth 100000
def RX7 : String := "Stenohall$Miss"
def TX7 : u_T := fun k => match k with
  | _ => ("Stenohall$Miss", "stroke", "LStenohall$Stroke;", true)
def tyX7 : Nat → FieldType := fun k => match k with
  | _ => .object "Stenohall$Stroke"
abbrev wsX70 : List Cond := u_ws RX7 TX7 1
theorem nmX7 : ∀ a, a < 1 → ∀ b, b < 1 → a ≠ b → (TX7 a).2.1 ≠ (TX7 b).2.1 := by decide +kernel
theorem tyX7_ok : ∀ k, k < 1 → parseFieldDescriptor (TX7 k).2.2.1 = some (tyX7 k) := by decide +kernel
abbrev cX7_equals : ByteArray := prog_7_method_4_code
def yX7_equals : MethodName := ⟨RX7, "equals", "(Ljava/lang/Object;)Z"⟩
def dkwX7_equals_0 : List UInt8 := [42, 43, 186, 0, 21, 0, 0, 172]
abbrev dktX7_equals_0 : List UInt8 := dkwX7_equals_0 ++ []
theorem dksX7_equals_0 : cX7_equals.data.toList.drop 0 = dktX7_equals_0 := by decide +kernel
theorem dX7_equals_0 : decode cX7_equals 0 = .ok (.aload_n 0, 1) := dk_42 (dk_at dksX7_equals_0 0 rfl rfl)
theorem dX7_equals_1 : decode cX7_equals 1 = .ok (.aload_n 1, 1) := dk_43 (dk_at dksX7_equals_0 1 rfl rfl)
theorem dX7_equals_2 : decode cX7_equals 2 = .ok (.invokedynamic 21, 5) := by decide +kernel
theorem dX7_equals_7 : decode cX7_equals 7 = .ok (.ireturn, 1) := dk_172 (dk_at dksX7_equals_0 7 rfl rfl)
abbrev cX7_init : ByteArray := prog_7_method_1_code
def yX7_init : MethodName := ⟨RX7, "<init>", "(LStenohall$Stroke;)V"⟩
def dkwX7_init_0 : List UInt8 := [42, 183, 0, 1, 42, 43, 181, 0, 7, 177]
abbrev dktX7_init_0 : List UInt8 := dkwX7_init_0 ++ []
theorem dksX7_init_0 : cX7_init.data.toList.drop 0 = dktX7_init_0 := by decide +kernel
theorem dX7_init_0 : decode cX7_init 0 = .ok (.aload_n 0, 1) := dk_42 (dk_at dksX7_init_0 0 rfl rfl)
theorem dX7_init_1 : decode cX7_init 1 = .ok (.invokespecial 1, 3) := dk_183 0 1 (dk_at dksX7_init_0 1 rfl rfl)
theorem dX7_init_4 : decode cX7_init 4 = .ok (.aload_n 0, 1) := dk_42 (dk_at dksX7_init_0 4 rfl rfl)
theorem dX7_init_5 : decode cX7_init 5 = .ok (.aload_n 1, 1) := dk_43 (dk_at dksX7_init_0 5 rfl rfl)
theorem dX7_init_6 : decode cX7_init 6 = .ok (.putfield 7, 3) := dk_181 0 7 (dk_at dksX7_init_0 6 rfl rfl)
theorem dX7_init_9 : decode cX7_init 9 = .ok (.return_, 1) := dk_177 (dk_at dksX7_init_0 9 rfl rfl)
abbrev cX7_stroke : ByteArray := prog_7_method_5_code
def yX7_stroke : MethodName := ⟨RX7, "stroke", "()LStenohall$Stroke;"⟩
theorem dX7_stroke_0 : decode cX7_stroke 0 = .ok (.aload_n 0, 1) := by decide +kernel
theorem dX7_stroke_1 : decode cX7_stroke 1 = .ok (.getfield 7, 3) := by decide +kernel
theorem dX7_stroke_4 : decode cX7_stroke 4 = .ok (.areturn, 1) := by decide +kernel
theorem q134 : (Jvm.Cond.initialized "Stenohall$Miss") ∈ lw_all := lw_g (lw_at lw_m1 60 rfl) rfl
theorem q309 : (Jvm.Cond.selects "Stenohall$Miss" ({ cls := "java/lang/Object", name := "getClass", desc := "()Ljava/lang/Class;" } : Jvm.MethodName) ({ cls := "java/lang/Object", name := "getClass", desc := "()Ljava/lang/Class;" } : Jvm.MethodName)) ∈ lw_all := lw_g (lw_at lw_m1 235 rfl) rfl
theorem q932 : (Jvm.Cond.instanceMethod ({ cls := "Stenohall$Miss", name := "equals", desc := "(Ljava/lang/Object;)Z" } : Jvm.MethodName)) ∈ lw_all := lw_g (lw_at lw_m4 138 rfl) rfl
theorem q933 : (Jvm.Cond.code ({ cls := "Stenohall$Miss", name := "equals", desc := "(Ljava/lang/Object;)Z" } : Jvm.MethodName) prog_7_method_4_code (2 : Nat) (Option.some Jvm.ClassFile.FieldType.boolean)) ∈ lw_all := lw_g (lw_at lw_m4 139 rfl) rfl
theorem q962 : (Jvm.Cond.selects "Stenohall$Miss" ({ cls := "java/lang/Object", name := "equals", desc := "(Ljava/lang/Object;)Z" } : Jvm.MethodName) ({ cls := "Stenohall$Miss", name := "equals", desc := "(Ljava/lang/Object;)Z" } : Jvm.MethodName)) ∈ lw_all := lw_g (lw_at lw_m4 168 rfl) rfl
theorem q2011 : (Jvm.Cond.instantiable "Stenohall$Miss" (1 : Nat)) ∈ lw_all := lw_g (lw_at lw_m9 17 rfl) rfl
theorem q2013 : (Jvm.Cond.instanceMethod ({ cls := "Stenohall$Miss", name := "<init>", desc := "(LStenohall$Stroke;)V" } : Jvm.MethodName)) ∈ lw_all := lw_g (lw_at lw_m9 19 rfl) rfl
theorem q2014 : (Jvm.Cond.code ({ cls := "Stenohall$Miss", name := "<init>", desc := "(LStenohall$Stroke;)V" } : Jvm.MethodName) prog_7_method_1_code (2 : Nat) (Option.none : Option Jvm.ClassFile.FieldType)) ∈ lw_all := lw_g (lw_at lw_m9 20 rfl) rfl
theorem q2015 : (Jvm.Cond.methodLink "Stenohall$Miss" (1 : Nat) ({ cls := "java/lang/Record", name := "<init>", desc := "()V" } : Jvm.MethodName)) ∈ lw_all := lw_g (lw_at lw_m9 21 rfl) rfl
theorem q2016 : (Jvm.Cond.fieldLink "Stenohall$Miss" (7 : Nat) "Stenohall$Miss" "stroke" "LStenohall$Stroke;") ∈ lw_all := lw_g (lw_at lw_m9 22 rfl) rfl
theorem q2017 : (Jvm.Cond.laysFinal "Stenohall$Miss" "Stenohall$Miss" "stroke" "LStenohall$Stroke;") ∈ lw_all := lw_g (lw_at lw_m9 23 rfl) rfl
theorem q2018 : (Jvm.Cond.soleField "Stenohall$Miss" "stroke") ∈ lw_all := lw_g (lw_at lw_m9 24 rfl) rfl
theorem q2019 : (Jvm.Cond.superclass "Stenohall$Miss" "java/lang/Record") ∈ lw_all := lw_g (lw_at lw_m9 25 rfl) rfl
theorem q2121 : (Jvm.Cond.instanceMethod ({ cls := "Stenohall$Miss", name := "stroke", desc := "()LStenohall$Stroke;" } : Jvm.MethodName)) ∈ lw_all := lw_g (lw_at lw_m9 127 rfl) rfl
theorem q2122 : (Jvm.Cond.selects "Stenohall$Miss" ({ cls := "Stenohall$Miss", name := "stroke", desc := "()LStenohall$Stroke;" } : Jvm.MethodName) ({ cls := "Stenohall$Miss", name := "stroke", desc := "()LStenohall$Stroke;" } : Jvm.MethodName)) ∈ lw_all := lw_g (lw_at lw_m9 128 rfl) rfl
theorem q2123 : (Jvm.Cond.code ({ cls := "Stenohall$Miss", name := "stroke", desc := "()LStenohall$Stroke;" } : Jvm.MethodName) prog_7_method_5_code (1 : Nat) (Option.some (Jvm.ClassFile.FieldType.object "Stenohall$Stroke"))) ∈ lw_all := lw_g (lw_at lw_m9 129 rfl) rfl
theorem q4336 : (Jvm.Cond.castable "Stenohall$Miss" "Stenohall$Translation") ∈ lw_tbl := lw_at lw_m18 182 rfl
theorem q4370 : (Jvm.Cond.castable "Stenohall$Miss" "java/lang/Object") ∈ lw_tbl := lw_at lw_m18 216 rfl
theorem in_X7 : ∀ w ∈ wsX70, w ∈ lw_all := lw_in wsX70 [2017] (by decide +kernel) (by decide +kernel)
/-! Stenohall$Undone -/
set_option maxRecDepth 100000
def RX8 : String := "Stenohall$Undone"
def TX8 : u_T := fun k => match k with
  | 0 => ("java/lang/Throwable", "cause", "Ljava/lang/Throwable;", false)
  | 1 => ("java/lang/Throwable", "stackTrace", "[Ljava/lang/StackTraceElement;", false)
  | 2 => ("java/lang/Throwable", "suppressedExceptions", "Ljava/util/List;", false)
  | 3 => ("java/lang/Throwable", "detailMessage", "Ljava/lang/String;", false)
  | 4 => ("java/lang/Throwable", "backtrace", "Ljava/lang/Object;", false)
  | 5 => ("java/lang/Throwable", "depth", "I", false)
  | 6 => ("Stenohall$Undone", "from", "I", true)
  | _ => ("Stenohall$Undone", "to", "I", true)
def tyX8 : Nat → FieldType := fun k => match k with
  | 0 => .object "java/lang/Throwable"
  | 1 => .array (.object "java/lang/StackTraceElement")
  | 2 => .object "java/util/List"
  | 3 => .object "java/lang/String"
  | 4 => .object "java/lang/Object"
  | 5 => .int
  | 6 => .int
  | _ => .int
abbrev wsX80 : List Cond := u_ws RX8 TX8 8
theorem nmX8 : ∀ a, a < 8 → ∀ b, b < 8 → a ≠ b → (TX8 a).2.1 ≠ (TX8 b).2.1 := by decide +kernel
theorem tyX8_ok : ∀ k, k < 8 → parseFieldDescriptor (TX8 k).2.2.1 = some (tyX8 k) := by decide +kernel
abbrev cX8_init : ByteArray := prog_12_method_1_code
def yX8_init : MethodName := ⟨RX8, "<init>", "(IILjava/lang/Throwable;)V"⟩
def dkwX8_init_0 : List UInt8 := [42, 1, 45, 183, 0, 1, 42, 27, 181, 0, 7, 42, 28, 181, 0, 13, 177]
abbrev dktX8_init_0 : List UInt8 := dkwX8_init_0 ++ []
theorem dksX8_init_0 : cX8_init.data.toList.drop 0 = dktX8_init_0 := by decide +kernel
theorem dX8_init_0 : decode cX8_init 0 = .ok (.aload_n 0, 1) := dk_42 (dk_at dksX8_init_0 0 rfl rfl)
theorem dX8_init_1 : decode cX8_init 1 = .ok (.aconst_null, 1) := dk_1 (dk_at dksX8_init_0 1 rfl rfl)
theorem dX8_init_2 : decode cX8_init 2 = .ok (.aload_n 3, 1) := dk_45 (dk_at dksX8_init_0 2 rfl rfl)
theorem dX8_init_3 : decode cX8_init 3 = .ok (.invokespecial 1, 3) := dk_183 0 1 (dk_at dksX8_init_0 3 rfl rfl)
theorem dX8_init_6 : decode cX8_init 6 = .ok (.aload_n 0, 1) := dk_42 (dk_at dksX8_init_0 6 rfl rfl)
theorem dX8_init_7 : decode cX8_init 7 = .ok (.iload_n 1, 1) := dk_27 (dk_at dksX8_init_0 7 rfl rfl)
theorem dX8_init_8 : decode cX8_init 8 = .ok (.putfield 7, 3) := dk_181 0 7 (dk_at dksX8_init_0 8 rfl rfl)
theorem dX8_init_11 : decode cX8_init 11 = .ok (.aload_n 0, 1) := dk_42 (dk_at dksX8_init_0 11 rfl rfl)
theorem dX8_init_12 : decode cX8_init 12 = .ok (.iload_n 2, 1) := dk_28 (dk_at dksX8_init_0 12 rfl rfl)
theorem dX8_init_13 : decode cX8_init 13 = .ok (.putfield 13, 3) := dk_181 0 13 (dk_at dksX8_init_0 13 rfl rfl)
theorem dX8_init_16 : decode cX8_init 16 = .ok (.return_, 1) := dk_177 (dk_at dksX8_init_0 16 rfl rfl)
theorem q135 : (Jvm.Cond.initialized "Stenohall$Undone") ∈ lw_all := lw_g (lw_at lw_m1 61 rfl) rfl
theorem q313 : (Jvm.Cond.selects "Stenohall$Undone" ({ cls := "java/lang/Object", name := "getClass", desc := "()Ljava/lang/Class;" } : Jvm.MethodName) ({ cls := "java/lang/Object", name := "getClass", desc := "()Ljava/lang/Class;" } : Jvm.MethodName)) ∈ lw_all := lw_g (lw_at lw_m1 239 rfl) rfl
theorem q432 : (Jvm.Cond.selects "Stenohall$Undone" ({ cls := "java/lang/Throwable", name := "fillInStackTrace", desc := "()Ljava/lang/Throwable;" } : Jvm.MethodName) ({ cls := "java/lang/Throwable", name := "fillInStackTrace", desc := "()Ljava/lang/Throwable;" } : Jvm.MethodName)) ∈ lw_all := lw_g (lw_at lw_m2 118 rfl) rfl
theorem q966 : (Jvm.Cond.selects "Stenohall$Undone" ({ cls := "java/lang/Object", name := "equals", desc := "(Ljava/lang/Object;)Z" } : Jvm.MethodName) ({ cls := "java/lang/Object", name := "equals", desc := "(Ljava/lang/Object;)Z" } : Jvm.MethodName)) ∈ lw_all := lw_g (lw_at lw_m4 172 rfl) rfl
theorem q1689 : (Jvm.Cond.selects "Stenohall$Undone" ({ cls := "java/lang/Throwable", name := "toString", desc := "()Ljava/lang/String;" } : Jvm.MethodName) ({ cls := "java/lang/Throwable", name := "toString", desc := "()Ljava/lang/String;" } : Jvm.MethodName)) ∈ lw_all := lw_g (lw_at lw_m7 175 rfl) rfl
theorem q1705 : (Jvm.Cond.selects "Stenohall$Undone" ({ cls := "java/lang/Throwable", name := "getLocalizedMessage", desc := "()Ljava/lang/String;" } : Jvm.MethodName) ({ cls := "java/lang/Throwable", name := "getLocalizedMessage", desc := "()Ljava/lang/String;" } : Jvm.MethodName)) ∈ lw_all := lw_g (lw_at lw_m7 191 rfl) rfl
theorem q1720 : (Jvm.Cond.selects "Stenohall$Undone" ({ cls := "java/lang/Throwable", name := "getMessage", desc := "()Ljava/lang/String;" } : Jvm.MethodName) ({ cls := "java/lang/Throwable", name := "getMessage", desc := "()Ljava/lang/String;" } : Jvm.MethodName)) ∈ lw_all := lw_g (lw_at lw_m7 206 rfl) rfl
theorem q2030 : (Jvm.Cond.instantiable "Stenohall$Undone" (8 : Nat)) ∈ lw_all := lw_g (lw_at lw_m9 36 rfl) rfl
theorem q2031 : (Jvm.Cond.castable "Stenohall$Undone" "Stenohall$Undone") ∈ lw_tbl := lw_at lw_m9 37 rfl
theorem q2032 : (Jvm.Cond.selects "Stenohall$Undone" ({ cls := "java/lang/Throwable", name := "fillInStackTrace", desc := "(I)Ljava/lang/Throwable;" } : Jvm.MethodName) ({ cls := "java/lang/Throwable", name := "fillInStackTrace", desc := "(I)Ljava/lang/Throwable;" } : Jvm.MethodName)) ∈ lw_all := lw_g (lw_at lw_m9 38 rfl) rfl
theorem q2033 : (Jvm.Cond.lays "Stenohall$Undone" "java/lang/Throwable" "cause" "Ljava/lang/Throwable;") ∈ lw_all := lw_g (lw_at lw_m9 39 rfl) rfl
theorem q2034 : (Jvm.Cond.lays "Stenohall$Undone" "java/lang/Throwable" "stackTrace" "[Ljava/lang/StackTraceElement;") ∈ lw_all := lw_g (lw_at lw_m9 40 rfl) rfl
theorem q2035 : (Jvm.Cond.lays "Stenohall$Undone" "java/lang/Throwable" "suppressedExceptions" "Ljava/util/List;") ∈ lw_all := lw_g (lw_at lw_m9 41 rfl) rfl
theorem q2036 : (Jvm.Cond.lays "Stenohall$Undone" "java/lang/Throwable" "detailMessage" "Ljava/lang/String;") ∈ lw_all := lw_g (lw_at lw_m9 42 rfl) rfl
theorem q2037 : (Jvm.Cond.lays "Stenohall$Undone" "java/lang/Throwable" "backtrace" "Ljava/lang/Object;") ∈ lw_all := lw_g (lw_at lw_m9 43 rfl) rfl
theorem q2040 : (Jvm.Cond.instanceMethod ({ cls := "Stenohall$Undone", name := "<init>", desc := "(IILjava/lang/Throwable;)V" } : Jvm.MethodName)) ∈ lw_all := lw_g (lw_at lw_m9 46 rfl) rfl
theorem q2041 : (Jvm.Cond.code ({ cls := "Stenohall$Undone", name := "<init>", desc := "(IILjava/lang/Throwable;)V" } : Jvm.MethodName) prog_12_method_1_code (4 : Nat) (Option.none : Option Jvm.ClassFile.FieldType)) ∈ lw_all := lw_g (lw_at lw_m9 47 rfl) rfl
theorem q2042 : (Jvm.Cond.methodLink "Stenohall$Undone" (1 : Nat) ({ cls := "java/lang/Exception", name := "<init>", desc := "(Ljava/lang/String;Ljava/lang/Throwable;)V" } : Jvm.MethodName)) ∈ lw_all := lw_g (lw_at lw_m9 48 rfl) rfl
theorem q2049 : (Jvm.Cond.fieldLink "Stenohall$Undone" (7 : Nat) "Stenohall$Undone" "from" "I") ∈ lw_all := lw_g (lw_at lw_m9 55 rfl) rfl
theorem q2052 : (Jvm.Cond.fieldLink "Stenohall$Undone" (13 : Nat) "Stenohall$Undone" "to" "I") ∈ lw_all := lw_g (lw_at lw_m9 58 rfl) rfl
theorem q2054 : (Jvm.Cond.laysFinal "Stenohall$Undone" "Stenohall$Undone" "from" "I") ∈ lw_all := lw_g (lw_at lw_m9 60 rfl) rfl
theorem q2055 : (Jvm.Cond.soleField "Stenohall$Undone" "from") ∈ lw_all := lw_g (lw_at lw_m9 61 rfl) rfl
theorem q2056 : (Jvm.Cond.laysFinal "Stenohall$Undone" "Stenohall$Undone" "to" "I") ∈ lw_all := lw_g (lw_at lw_m9 62 rfl) rfl
theorem q2057 : (Jvm.Cond.soleField "Stenohall$Undone" "to") ∈ lw_all := lw_g (lw_at lw_m9 63 rfl) rfl
theorem q2058 : (Jvm.Cond.lays "Stenohall$Undone" "java/lang/Throwable" "depth" "I") ∈ lw_all := lw_g (lw_at lw_m9 64 rfl) rfl
theorem q2059 : (Jvm.Cond.superclass "Stenohall$Undone" "java/lang/Exception") ∈ lw_all := lw_g (lw_at lw_m9 65 rfl) rfl
theorem q4371 : (Jvm.Cond.castable "Stenohall$Undone" "java/lang/Object") ∈ lw_tbl := lw_at lw_m18 217 rfl
theorem in_X8 : ∀ w ∈ wsX80, w ∈ lw_all := lw_in wsX80 [2033, 2034, 2035, 2036, 2037, 2058, 2054, 2056] (by decide +kernel) (by decide +kernel)
/-! Stenohall$UndoneInMidst -/
set_option maxRecDepth 100000
def RX9 : String := "Stenohall$UndoneInMidst"
def TX9 : u_T := fun k => match k with
  | 0 => ("java/lang/Throwable", "cause", "Ljava/lang/Throwable;", false)
  | 1 => ("java/lang/Throwable", "stackTrace", "[Ljava/lang/StackTraceElement;", false)
  | 2 => ("java/lang/Throwable", "suppressedExceptions", "Ljava/util/List;", false)
  | 3 => ("java/lang/Throwable", "detailMessage", "Ljava/lang/String;", false)
  | 4 => ("java/lang/Throwable", "backtrace", "Ljava/lang/Object;", false)
  | 5 => ("Stenohall$Undone", "from", "I", true)
  | 6 => ("Stenohall$Undone", "to", "I", true)
  | _ => ("java/lang/Throwable", "depth", "I", false)
def tyX9 : Nat → FieldType := fun k => match k with
  | 0 => .object "java/lang/Throwable"
  | 1 => .array (.object "java/lang/StackTraceElement")
  | 2 => .object "java/util/List"
  | 3 => .object "java/lang/String"
  | 4 => .object "java/lang/Object"
  | 5 => .int
  | 6 => .int
  | _ => .int
abbrev wsX90 : List Cond := u_ws RX9 TX9 8
theorem nmX9 : ∀ a, a < 8 → ∀ b, b < 8 → a ≠ b → (TX9 a).2.1 ≠ (TX9 b).2.1 := by decide +kernel
theorem tyX9_ok : ∀ k, k < 8 → parseFieldDescriptor (TX9 k).2.2.1 = some (tyX9 k) := by decide +kernel
abbrev cX9_init : ByteArray := prog_13_method_1_code
def yX9_init : MethodName := ⟨RX9, "<init>", "(LStenohall$Undone;)V"⟩
def dkwX9_init_0 : List UInt8 := [42, 43, 180, 0, 1, 43, 180, 0, 7, 43, 183, 0, 10, 177]
abbrev dktX9_init_0 : List UInt8 := dkwX9_init_0 ++ []
theorem dksX9_init_0 : cX9_init.data.toList.drop 0 = dktX9_init_0 := by decide +kernel
theorem dX9_init_0 : decode cX9_init 0 = .ok (.aload_n 0, 1) := dk_42 (dk_at dksX9_init_0 0 rfl rfl)
theorem dX9_init_1 : decode cX9_init 1 = .ok (.aload_n 1, 1) := dk_43 (dk_at dksX9_init_0 1 rfl rfl)
theorem dX9_init_2 : decode cX9_init 2 = .ok (.getfield 1, 3) := dk_180 0 1 (dk_at dksX9_init_0 2 rfl rfl)
theorem dX9_init_5 : decode cX9_init 5 = .ok (.aload_n 1, 1) := dk_43 (dk_at dksX9_init_0 5 rfl rfl)
theorem dX9_init_6 : decode cX9_init 6 = .ok (.getfield 7, 3) := dk_180 0 7 (dk_at dksX9_init_0 6 rfl rfl)
theorem dX9_init_9 : decode cX9_init 9 = .ok (.aload_n 1, 1) := dk_43 (dk_at dksX9_init_0 9 rfl rfl)
theorem dX9_init_10 : decode cX9_init 10 = .ok (.invokespecial 10, 3) := dk_183 0 10 (dk_at dksX9_init_0 10 rfl rfl)
theorem dX9_init_13 : decode cX9_init 13 = .ok (.return_, 1) := dk_177 (dk_at dksX9_init_0 13 rfl rfl)
theorem q136 : (Jvm.Cond.initialized "Stenohall$UndoneInMidst") ∈ lw_all := lw_g (lw_at lw_m1 62 rfl) rfl
theorem q314 : (Jvm.Cond.selects "Stenohall$UndoneInMidst" ({ cls := "java/lang/Object", name := "getClass", desc := "()Ljava/lang/Class;" } : Jvm.MethodName) ({ cls := "java/lang/Object", name := "getClass", desc := "()Ljava/lang/Class;" } : Jvm.MethodName)) ∈ lw_all := lw_g (lw_at lw_m2 0 rfl) rfl
theorem q433 : (Jvm.Cond.selects "Stenohall$UndoneInMidst" ({ cls := "java/lang/Throwable", name := "fillInStackTrace", desc := "()Ljava/lang/Throwable;" } : Jvm.MethodName) ({ cls := "java/lang/Throwable", name := "fillInStackTrace", desc := "()Ljava/lang/Throwable;" } : Jvm.MethodName)) ∈ lw_all := lw_g (lw_at lw_m2 119 rfl) rfl
theorem q967 : (Jvm.Cond.selects "Stenohall$UndoneInMidst" ({ cls := "java/lang/Object", name := "equals", desc := "(Ljava/lang/Object;)Z" } : Jvm.MethodName) ({ cls := "java/lang/Object", name := "equals", desc := "(Ljava/lang/Object;)Z" } : Jvm.MethodName)) ∈ lw_all := lw_g (lw_at lw_m4 173 rfl) rfl
theorem q1690 : (Jvm.Cond.selects "Stenohall$UndoneInMidst" ({ cls := "java/lang/Throwable", name := "toString", desc := "()Ljava/lang/String;" } : Jvm.MethodName) ({ cls := "java/lang/Throwable", name := "toString", desc := "()Ljava/lang/String;" } : Jvm.MethodName)) ∈ lw_all := lw_g (lw_at lw_m7 176 rfl) rfl
theorem q1706 : (Jvm.Cond.selects "Stenohall$UndoneInMidst" ({ cls := "java/lang/Throwable", name := "getLocalizedMessage", desc := "()Ljava/lang/String;" } : Jvm.MethodName) ({ cls := "java/lang/Throwable", name := "getLocalizedMessage", desc := "()Ljava/lang/String;" } : Jvm.MethodName)) ∈ lw_all := lw_g (lw_at lw_m7 192 rfl) rfl
theorem q1721 : (Jvm.Cond.selects "Stenohall$UndoneInMidst" ({ cls := "java/lang/Throwable", name := "getMessage", desc := "()Ljava/lang/String;" } : Jvm.MethodName) ({ cls := "java/lang/Throwable", name := "getMessage", desc := "()Ljava/lang/String;" } : Jvm.MethodName)) ∈ lw_all := lw_g (lw_at lw_m7 207 rfl) rfl
theorem q2048 : (Jvm.Cond.fieldLinkNest "Stenohall$UndoneInMidst" (1 : Nat) "Stenohall$Undone" "from" "I" "Stenohall") ∈ lw_tbl := lw_at lw_m9 54 rfl
theorem q2051 : (Jvm.Cond.fieldLinkNest "Stenohall$UndoneInMidst" (7 : Nat) "Stenohall$Undone" "to" "I" "Stenohall") ∈ lw_tbl := lw_at lw_m9 57 rfl
theorem q2060 : (Jvm.Cond.instantiable "Stenohall$UndoneInMidst" (8 : Nat)) ∈ lw_all := lw_g (lw_at lw_m9 66 rfl) rfl
theorem q2061 : (Jvm.Cond.castable "Stenohall$UndoneInMidst" "Stenohall$UndoneInMidst") ∈ lw_tbl := lw_at lw_m9 67 rfl
theorem q2062 : (Jvm.Cond.selects "Stenohall$UndoneInMidst" ({ cls := "java/lang/Throwable", name := "fillInStackTrace", desc := "(I)Ljava/lang/Throwable;" } : Jvm.MethodName) ({ cls := "java/lang/Throwable", name := "fillInStackTrace", desc := "(I)Ljava/lang/Throwable;" } : Jvm.MethodName)) ∈ lw_all := lw_g (lw_at lw_m9 68 rfl) rfl
theorem q2063 : (Jvm.Cond.lays "Stenohall$UndoneInMidst" "java/lang/Throwable" "cause" "Ljava/lang/Throwable;") ∈ lw_all := lw_g (lw_at lw_m9 69 rfl) rfl
theorem q2064 : (Jvm.Cond.lays "Stenohall$UndoneInMidst" "java/lang/Throwable" "stackTrace" "[Ljava/lang/StackTraceElement;") ∈ lw_all := lw_g (lw_at lw_m9 70 rfl) rfl
theorem q2065 : (Jvm.Cond.lays "Stenohall$UndoneInMidst" "java/lang/Throwable" "suppressedExceptions" "Ljava/util/List;") ∈ lw_all := lw_g (lw_at lw_m9 71 rfl) rfl
theorem q2066 : (Jvm.Cond.lays "Stenohall$UndoneInMidst" "java/lang/Throwable" "detailMessage" "Ljava/lang/String;") ∈ lw_all := lw_g (lw_at lw_m9 72 rfl) rfl
theorem q2067 : (Jvm.Cond.lays "Stenohall$UndoneInMidst" "java/lang/Throwable" "backtrace" "Ljava/lang/Object;") ∈ lw_all := lw_g (lw_at lw_m9 73 rfl) rfl
theorem q2069 : (Jvm.Cond.instanceMethod ({ cls := "Stenohall$UndoneInMidst", name := "<init>", desc := "(LStenohall$Undone;)V" } : Jvm.MethodName)) ∈ lw_all := lw_g (lw_at lw_m9 75 rfl) rfl
theorem q2070 : (Jvm.Cond.code ({ cls := "Stenohall$UndoneInMidst", name := "<init>", desc := "(LStenohall$Undone;)V" } : Jvm.MethodName) prog_13_method_1_code (2 : Nat) (Option.none : Option Jvm.ClassFile.FieldType)) ∈ lw_all := lw_g (lw_at lw_m9 76 rfl) rfl
theorem q2071 : (Jvm.Cond.methodLink "Stenohall$UndoneInMidst" (10 : Nat) ({ cls := "Stenohall$Undone", name := "<init>", desc := "(IILjava/lang/Throwable;)V" } : Jvm.MethodName)) ∈ lw_all := lw_g (lw_at lw_m9 77 rfl) rfl
theorem q2072 : (Jvm.Cond.laysFinal "Stenohall$UndoneInMidst" "Stenohall$Undone" "from" "I") ∈ lw_all := lw_g (lw_at lw_m9 78 rfl) rfl
theorem q2073 : (Jvm.Cond.laysFinal "Stenohall$UndoneInMidst" "Stenohall$Undone" "to" "I") ∈ lw_all := lw_g (lw_at lw_m9 79 rfl) rfl
theorem q2074 : (Jvm.Cond.lays "Stenohall$UndoneInMidst" "java/lang/Throwable" "depth" "I") ∈ lw_all := lw_g (lw_at lw_m9 80 rfl) rfl
theorem q2075 : (Jvm.Cond.superclass "Stenohall$UndoneInMidst" "Stenohall$Undone") ∈ lw_all := lw_g (lw_at lw_m9 81 rfl) rfl
theorem q4332 : (Jvm.Cond.castable "Stenohall$UndoneInMidst" "Stenohall$Undone") ∈ lw_tbl := lw_at lw_m18 178 rfl
theorem q4372 : (Jvm.Cond.castable "Stenohall$UndoneInMidst" "java/lang/Object") ∈ lw_tbl := lw_at lw_m18 218 rfl
theorem in_X9 : ∀ w ∈ wsX90, w ∈ lw_all := lw_in wsX90 [2063, 2064, 2065, 2066, 2067, 2072, 2073, 2074] (by decide +kernel) (by decide +kernel)
/-! Stenohall$Sign -/
set_option maxRecDepth 100000
def RX10 : String := "Stenohall$Sign"
def TX10 : u_T := fun k => match k with
  | 0 => ("Stenohall$Sign", "sign", "C", true)
  | 1 => ("Stenohall$Sign", "time", "I", true)
  | _ => ("Stenohall$Sign", "by", "I", true)
def tyX10 : Nat → FieldType := fun k => match k with
  | 0 => .char
  | 1 => .int
  | _ => .int
abbrev wsX100 : List Cond := u_ws RX10 TX10 3
theorem nmX10 : ∀ a, a < 3 → ∀ b, b < 3 → a ≠ b → (TX10 a).2.1 ≠ (TX10 b).2.1 := by decide +kernel
theorem tyX10_ok : ∀ k, k < 3 → parseFieldDescriptor (TX10 k).2.2.1 = some (tyX10 k) := by decide +kernel
abbrev cX10_equals : ByteArray := prog_8_method_4_code
def yX10_equals : MethodName := ⟨RX10, "equals", "(Ljava/lang/Object;)Z"⟩
def dkwX10_equals_0 : List UInt8 := [42, 43, 186, 0, 28, 0, 0, 172]
abbrev dktX10_equals_0 : List UInt8 := dkwX10_equals_0 ++ []
theorem dksX10_equals_0 : cX10_equals.data.toList.drop 0 = dktX10_equals_0 := by decide +kernel
theorem dX10_equals_0 : decode cX10_equals 0 = .ok (.aload_n 0, 1) := dk_42 (dk_at dksX10_equals_0 0 rfl rfl)
theorem dX10_equals_1 : decode cX10_equals 1 = .ok (.aload_n 1, 1) := dk_43 (dk_at dksX10_equals_0 1 rfl rfl)
theorem dX10_equals_2 : decode cX10_equals 2 = .ok (.invokedynamic 28, 5) := by decide +kernel
theorem dX10_equals_7 : decode cX10_equals 7 = .ok (.ireturn, 1) := dk_172 (dk_at dksX10_equals_0 7 rfl rfl)
abbrev cX10_sign : ByteArray := prog_8_method_5_code
def yX10_sign : MethodName := ⟨RX10, "sign", "()C"⟩
theorem dX10_sign_0 : decode cX10_sign 0 = .ok (.aload_n 0, 1) := by decide +kernel
theorem dX10_sign_1 : decode cX10_sign 1 = .ok (.getfield 7, 3) := by decide +kernel
theorem dX10_sign_4 : decode cX10_sign 4 = .ok (.ireturn, 1) := by decide +kernel
abbrev cX10_init : ByteArray := prog_8_method_1_code
def yX10_init : MethodName := ⟨RX10, "<init>", "(CII)V"⟩
def dkwX10_init_0 : List UInt8 := [42, 183, 0, 1, 42, 27, 181, 0, 7, 42, 28, 181, 0, 13, 42, 29, 181, 0, 17, 177]
abbrev dktX10_init_0 : List UInt8 := dkwX10_init_0 ++ []
theorem dksX10_init_0 : cX10_init.data.toList.drop 0 = dktX10_init_0 := by decide +kernel
theorem dX10_init_0 : decode cX10_init 0 = .ok (.aload_n 0, 1) := dk_42 (dk_at dksX10_init_0 0 rfl rfl)
theorem dX10_init_1 : decode cX10_init 1 = .ok (.invokespecial 1, 3) := dk_183 0 1 (dk_at dksX10_init_0 1 rfl rfl)
theorem dX10_init_4 : decode cX10_init 4 = .ok (.aload_n 0, 1) := dk_42 (dk_at dksX10_init_0 4 rfl rfl)
theorem dX10_init_5 : decode cX10_init 5 = .ok (.iload_n 1, 1) := dk_27 (dk_at dksX10_init_0 5 rfl rfl)
theorem dX10_init_6 : decode cX10_init 6 = .ok (.putfield 7, 3) := dk_181 0 7 (dk_at dksX10_init_0 6 rfl rfl)
theorem dX10_init_9 : decode cX10_init 9 = .ok (.aload_n 0, 1) := dk_42 (dk_at dksX10_init_0 9 rfl rfl)
theorem dX10_init_10 : decode cX10_init 10 = .ok (.iload_n 2, 1) := dk_28 (dk_at dksX10_init_0 10 rfl rfl)
theorem dX10_init_11 : decode cX10_init 11 = .ok (.putfield 13, 3) := dk_181 0 13 (dk_at dksX10_init_0 11 rfl rfl)
theorem dX10_init_14 : decode cX10_init 14 = .ok (.aload_n 0, 1) := dk_42 (dk_at dksX10_init_0 14 rfl rfl)
theorem dX10_init_15 : decode cX10_init 15 = .ok (.iload_n 3, 1) := dk_29 (dk_at dksX10_init_0 15 rfl rfl)
theorem dX10_init_16 : decode cX10_init 16 = .ok (.putfield 17, 3) := dk_181 0 17 (dk_at dksX10_init_0 16 rfl rfl)
theorem dX10_init_19 : decode cX10_init 19 = .ok (.return_, 1) := dk_177 (dk_at dksX10_init_0 19 rfl rfl)
abbrev cX10_time : ByteArray := prog_8_method_6_code
def yX10_time : MethodName := ⟨RX10, "time", "()I"⟩
theorem dX10_time_0 : decode cX10_time 0 = .ok (.aload_n 0, 1) := by decide +kernel
theorem dX10_time_1 : decode cX10_time 1 = .ok (.getfield 13, 3) := by decide +kernel
theorem dX10_time_4 : decode cX10_time 4 = .ok (.ireturn, 1) := by decide +kernel
abbrev cX10_by : ByteArray := prog_8_method_7_code
def yX10_by : MethodName := ⟨RX10, "by", "()I"⟩
theorem dX10_by_0 : decode cX10_by 0 = .ok (.aload_n 0, 1) := by decide +kernel
theorem dX10_by_1 : decode cX10_by 1 = .ok (.getfield 17, 3) := by decide +kernel
theorem dX10_by_4 : decode cX10_by 4 = .ok (.ireturn, 1) := by decide +kernel
theorem q137 : (Jvm.Cond.initialized "Stenohall$Sign") ∈ lw_all := lw_g (lw_at lw_m1 63 rfl) rfl
theorem q310 : (Jvm.Cond.selects "Stenohall$Sign" ({ cls := "java/lang/Object", name := "getClass", desc := "()Ljava/lang/Class;" } : Jvm.MethodName) ({ cls := "java/lang/Object", name := "getClass", desc := "()Ljava/lang/Class;" } : Jvm.MethodName)) ∈ lw_all := lw_g (lw_at lw_m1 236 rfl) rfl
theorem q934 : (Jvm.Cond.instanceMethod ({ cls := "Stenohall$Sign", name := "equals", desc := "(Ljava/lang/Object;)Z" } : Jvm.MethodName)) ∈ lw_all := lw_g (lw_at lw_m4 140 rfl) rfl
theorem q935 : (Jvm.Cond.code ({ cls := "Stenohall$Sign", name := "equals", desc := "(Ljava/lang/Object;)Z" } : Jvm.MethodName) prog_8_method_4_code (2 : Nat) (Option.some Jvm.ClassFile.FieldType.boolean)) ∈ lw_all := lw_g (lw_at lw_m4 141 rfl) rfl
theorem q963 : (Jvm.Cond.selects "Stenohall$Sign" ({ cls := "java/lang/Object", name := "equals", desc := "(Ljava/lang/Object;)Z" } : Jvm.MethodName) ({ cls := "Stenohall$Sign", name := "equals", desc := "(Ljava/lang/Object;)Z" } : Jvm.MethodName)) ∈ lw_all := lw_g (lw_at lw_m4 169 rfl) rfl
theorem q2185 : (Jvm.Cond.instanceMethod ({ cls := "Stenohall$Sign", name := "sign", desc := "()C" } : Jvm.MethodName)) ∈ lw_all := lw_g (lw_at lw_m9 191 rfl) rfl
theorem q2186 : (Jvm.Cond.selects "Stenohall$Sign" ({ cls := "Stenohall$Sign", name := "sign", desc := "()C" } : Jvm.MethodName) ({ cls := "Stenohall$Sign", name := "sign", desc := "()C" } : Jvm.MethodName)) ∈ lw_all := lw_g (lw_at lw_m9 192 rfl) rfl
theorem q2187 : (Jvm.Cond.code ({ cls := "Stenohall$Sign", name := "sign", desc := "()C" } : Jvm.MethodName) prog_8_method_5_code (1 : Nat) (Option.some Jvm.ClassFile.FieldType.char)) ∈ lw_all := lw_g (lw_at lw_m9 193 rfl) rfl
theorem q2192 : (Jvm.Cond.instantiable "Stenohall$Sign" (3 : Nat)) ∈ lw_all := lw_g (lw_at lw_m9 198 rfl) rfl
theorem q2194 : (Jvm.Cond.instanceMethod ({ cls := "Stenohall$Sign", name := "<init>", desc := "(CII)V" } : Jvm.MethodName)) ∈ lw_all := lw_g (lw_at lw_m9 200 rfl) rfl
theorem q2195 : (Jvm.Cond.code ({ cls := "Stenohall$Sign", name := "<init>", desc := "(CII)V" } : Jvm.MethodName) prog_8_method_1_code (4 : Nat) (Option.none : Option Jvm.ClassFile.FieldType)) ∈ lw_all := lw_g (lw_at lw_m9 201 rfl) rfl
theorem q2196 : (Jvm.Cond.methodLink "Stenohall$Sign" (1 : Nat) ({ cls := "java/lang/Record", name := "<init>", desc := "()V" } : Jvm.MethodName)) ∈ lw_all := lw_g (lw_at lw_m9 202 rfl) rfl
theorem q2197 : (Jvm.Cond.fieldLink "Stenohall$Sign" (7 : Nat) "Stenohall$Sign" "sign" "C") ∈ lw_all := lw_g (lw_at lw_m9 203 rfl) rfl
theorem q2198 : (Jvm.Cond.fieldLink "Stenohall$Sign" (13 : Nat) "Stenohall$Sign" "time" "I") ∈ lw_all := lw_g (lw_at lw_m9 204 rfl) rfl
theorem q2199 : (Jvm.Cond.fieldLink "Stenohall$Sign" (17 : Nat) "Stenohall$Sign" "by" "I") ∈ lw_all := lw_g (lw_at lw_m9 205 rfl) rfl
theorem q2200 : (Jvm.Cond.laysFinal "Stenohall$Sign" "Stenohall$Sign" "sign" "C") ∈ lw_all := lw_g (lw_at lw_m9 206 rfl) rfl
theorem q2201 : (Jvm.Cond.soleField "Stenohall$Sign" "sign") ∈ lw_all := lw_g (lw_at lw_m9 207 rfl) rfl
theorem q2202 : (Jvm.Cond.laysFinal "Stenohall$Sign" "Stenohall$Sign" "time" "I") ∈ lw_all := lw_g (lw_at lw_m9 208 rfl) rfl
theorem q2203 : (Jvm.Cond.soleField "Stenohall$Sign" "time") ∈ lw_all := lw_g (lw_at lw_m9 209 rfl) rfl
theorem q2204 : (Jvm.Cond.laysFinal "Stenohall$Sign" "Stenohall$Sign" "by" "I") ∈ lw_all := lw_g (lw_at lw_m9 210 rfl) rfl
theorem q2205 : (Jvm.Cond.soleField "Stenohall$Sign" "by") ∈ lw_all := lw_g (lw_at lw_m9 211 rfl) rfl
theorem q2206 : (Jvm.Cond.superclass "Stenohall$Sign" "java/lang/Record") ∈ lw_all := lw_g (lw_at lw_m9 212 rfl) rfl
theorem q2646 : (Jvm.Cond.instanceMethod ({ cls := "Stenohall$Sign", name := "time", desc := "()I" } : Jvm.MethodName)) ∈ lw_all := lw_g (lw_at lw_m11 172 rfl) rfl
theorem q2647 : (Jvm.Cond.selects "Stenohall$Sign" ({ cls := "Stenohall$Sign", name := "time", desc := "()I" } : Jvm.MethodName) ({ cls := "Stenohall$Sign", name := "time", desc := "()I" } : Jvm.MethodName)) ∈ lw_all := lw_g (lw_at lw_m11 173 rfl) rfl
theorem q2648 : (Jvm.Cond.code ({ cls := "Stenohall$Sign", name := "time", desc := "()I" } : Jvm.MethodName) prog_8_method_6_code (1 : Nat) (Option.some Jvm.ClassFile.FieldType.int)) ∈ lw_all := lw_g (lw_at lw_m11 174 rfl) rfl
theorem q3122 : (Jvm.Cond.instanceMethod ({ cls := "Stenohall$Sign", name := "by", desc := "()I" } : Jvm.MethodName)) ∈ lw_all := lw_g (lw_at lw_m13 168 rfl) rfl
theorem q3123 : (Jvm.Cond.selects "Stenohall$Sign" ({ cls := "Stenohall$Sign", name := "by", desc := "()I" } : Jvm.MethodName) ({ cls := "Stenohall$Sign", name := "by", desc := "()I" } : Jvm.MethodName)) ∈ lw_all := lw_g (lw_at lw_m13 169 rfl) rfl
theorem q3124 : (Jvm.Cond.code ({ cls := "Stenohall$Sign", name := "by", desc := "()I" } : Jvm.MethodName) prog_8_method_7_code (1 : Nat) (Option.some Jvm.ClassFile.FieldType.int)) ∈ lw_all := lw_g (lw_at lw_m13 170 rfl) rfl
theorem q4373 : (Jvm.Cond.castable "Stenohall$Sign" "java/lang/Object") ∈ lw_tbl := lw_at lw_m18 219 rfl
theorem in_X10 : ∀ w ∈ wsX100, w ∈ lw_all := lw_in wsX100 [2200, 2202, 2204] (by decide +kernel) (by decide +kernel)
/-! Stenohall$Letters -/
set_option maxRecDepth 100000
def RX11 : String := "Stenohall$Letters"
def TX11 : u_T := fun k => match k with
  | 0 => ("Stenohall$Letters", "content", "Ljava/lang/String;", true)
  | _ => ("Stenohall$Letters", "at", "I", false)
def tyX11 : Nat → FieldType := fun k => match k with
  | 0 => .object "java/lang/String"
  | _ => .int
abbrev wsX110 : List Cond := u_ws RX11 TX11 2
theorem nmX11 : ∀ a, a < 2 → ∀ b, b < 2 → a ≠ b → (TX11 a).2.1 ≠ (TX11 b).2.1 := by decide +kernel
theorem tyX11_ok : ∀ k, k < 2 → parseFieldDescriptor (TX11 k).2.2.1 = some (tyX11 k) := by decide +kernel
abbrev cX11_hasNext : ByteArray := prog_6_method_2_code
def yX11_hasNext : MethodName := ⟨RX11, "hasNext", "()Z"⟩
def dkwX11_hasNext_1 : List UInt8 := [182, 0, 23, 184, 0, 27, 153, 0, 7, 4, 167, 0, 4, 3, 172]
abbrev dktX11_hasNext_1 : List UInt8 := dkwX11_hasNext_1 ++ []
def dkwX11_hasNext_0 : List UInt8 := [42, 180, 0, 13, 42, 180, 0, 7, 182, 0, 17, 162, 0, 24, 42, 180, 0, 7, 42, 180, 0, 13]
abbrev dktX11_hasNext_0 : List UInt8 := dkwX11_hasNext_0 ++ dktX11_hasNext_1
theorem dksX11_hasNext_0 : cX11_hasNext.data.toList.drop 0 = dktX11_hasNext_0 := by decide +kernel
theorem dksX11_hasNext_1 : cX11_hasNext.data.toList.drop 22 = dktX11_hasNext_1 := dk_seg dksX11_hasNext_0 22 rfl rfl
theorem dX11_hasNext_0 : decode cX11_hasNext 0 = .ok (.aload_n 0, 1) := dk_42 (dk_at dksX11_hasNext_0 0 rfl rfl)
theorem dX11_hasNext_1 : decode cX11_hasNext 1 = .ok (.getfield 13, 3) := dk_180 0 13 (dk_at dksX11_hasNext_0 1 rfl rfl)
theorem dX11_hasNext_4 : decode cX11_hasNext 4 = .ok (.aload_n 0, 1) := dk_42 (dk_at dksX11_hasNext_0 4 rfl rfl)
theorem dX11_hasNext_5 : decode cX11_hasNext 5 = .ok (.getfield 7, 3) := dk_180 0 7 (dk_at dksX11_hasNext_0 5 rfl rfl)
theorem dX11_hasNext_8 : decode cX11_hasNext 8 = .ok (.invokevirtual 17, 3) := dk_182 0 17 (dk_at dksX11_hasNext_0 8 rfl rfl)
theorem dX11_hasNext_11 : decode cX11_hasNext 11 = .ok (.if_icmp .ge 24, 3) := dk_162 0 24 (dk_at dksX11_hasNext_0 11 rfl rfl)
theorem dX11_hasNext_14 : decode cX11_hasNext 14 = .ok (.aload_n 0, 1) := dk_42 (dk_at dksX11_hasNext_0 14 rfl rfl)
theorem dX11_hasNext_15 : decode cX11_hasNext 15 = .ok (.getfield 7, 3) := dk_180 0 7 (dk_at dksX11_hasNext_0 15 rfl rfl)
theorem dX11_hasNext_18 : decode cX11_hasNext 18 = .ok (.aload_n 0, 1) := dk_42 (dk_at dksX11_hasNext_0 18 rfl rfl)
theorem dX11_hasNext_19 : decode cX11_hasNext 19 = .ok (.getfield 13, 3) := dk_180 0 13 (dk_at dksX11_hasNext_0 19 rfl rfl)
theorem dX11_hasNext_22 : decode cX11_hasNext 22 = .ok (.invokevirtual 23, 3) := dk_182 0 23 (dk_at dksX11_hasNext_1 0 rfl rfl)
theorem dX11_hasNext_25 : decode cX11_hasNext 25 = .ok (.invokestatic 27, 3) := dk_184 0 27 (dk_at dksX11_hasNext_1 3 rfl rfl)
theorem dX11_hasNext_28 : decode cX11_hasNext 28 = .ok (.ifCond .eq 7, 3) := dk_153 0 7 (dk_at dksX11_hasNext_1 6 rfl rfl)
theorem dX11_hasNext_31 : decode cX11_hasNext 31 = .ok (.iconst 1, 1) := dk_4 (dk_at dksX11_hasNext_1 9 rfl rfl)
theorem dX11_hasNext_32 : decode cX11_hasNext 32 = .ok (.goto 4, 3) := dk_167 0 4 (dk_at dksX11_hasNext_1 10 rfl rfl)
theorem dX11_hasNext_35 : decode cX11_hasNext 35 = .ok (.iconst 0, 1) := dk_3 (dk_at dksX11_hasNext_1 13 rfl rfl)
theorem dX11_hasNext_36 : decode cX11_hasNext 36 = .ok (.ireturn, 1) := dk_172 (dk_at dksX11_hasNext_1 14 rfl rfl)
abbrev cX11_next : ByteArray := prog_6_method_4_code
def yX11_next : MethodName := ⟨RX11, "next", "()Ljava/lang/Object;"⟩
theorem dX11_next_0 : decode cX11_next 0 = .ok (.aload_n 0, 1) := by decide +kernel
theorem dX11_next_1 : decode cX11_next 1 = .ok (.invokevirtual 47, 3) := by decide +kernel
theorem dX11_next_4 : decode cX11_next 4 = .ok (.areturn, 1) := by decide +kernel
abbrev cX11_next_2 : ByteArray := prog_6_method_3_code
def yX11_next_2 : MethodName := ⟨RX11, "next", "()Ljava/lang/Character;"⟩
def dkwX11_next_2_1 : List UInt8 := [182, 0, 23, 184, 0, 41, 176]
abbrev dktX11_next_2_1 : List UInt8 := dkwX11_next_2_1 ++ []
def dkwX11_next_2_0 : List UInt8 := [42, 182, 0, 33, 184, 0, 37, 42, 180, 0, 7, 42, 89, 180, 0, 13, 90, 4, 96, 181, 0, 13]
abbrev dktX11_next_2_0 : List UInt8 := dkwX11_next_2_0 ++ dktX11_next_2_1
theorem dksX11_next_2_0 : cX11_next_2.data.toList.drop 0 = dktX11_next_2_0 := by decide +kernel
theorem dksX11_next_2_1 : cX11_next_2.data.toList.drop 22 = dktX11_next_2_1 := dk_seg dksX11_next_2_0 22 rfl rfl
theorem dX11_next_2_0 : decode cX11_next_2 0 = .ok (.aload_n 0, 1) := dk_42 (dk_at dksX11_next_2_0 0 rfl rfl)
theorem dX11_next_2_1 : decode cX11_next_2 1 = .ok (.invokevirtual 33, 3) := dk_182 0 33 (dk_at dksX11_next_2_0 1 rfl rfl)
theorem dX11_next_2_4 : decode cX11_next_2 4 = .ok (.invokestatic 37, 3) := dk_184 0 37 (dk_at dksX11_next_2_0 4 rfl rfl)
theorem dX11_next_2_7 : decode cX11_next_2 7 = .ok (.aload_n 0, 1) := dk_42 (dk_at dksX11_next_2_0 7 rfl rfl)
theorem dX11_next_2_8 : decode cX11_next_2 8 = .ok (.getfield 7, 3) := dk_180 0 7 (dk_at dksX11_next_2_0 8 rfl rfl)
theorem dX11_next_2_11 : decode cX11_next_2 11 = .ok (.aload_n 0, 1) := dk_42 (dk_at dksX11_next_2_0 11 rfl rfl)
theorem dX11_next_2_12 : decode cX11_next_2 12 = .ok (.dup, 1) := dk_89 (dk_at dksX11_next_2_0 12 rfl rfl)
theorem dX11_next_2_13 : decode cX11_next_2 13 = .ok (.getfield 13, 3) := dk_180 0 13 (dk_at dksX11_next_2_0 13 rfl rfl)
theorem dX11_next_2_16 : decode cX11_next_2 16 = .ok (.dup_x1, 1) := dk_90 (dk_at dksX11_next_2_0 16 rfl rfl)
theorem dX11_next_2_17 : decode cX11_next_2 17 = .ok (.iconst 1, 1) := dk_4 (dk_at dksX11_next_2_0 17 rfl rfl)
theorem dX11_next_2_18 : decode cX11_next_2 18 = .ok (.iadd, 1) := dk_96 (dk_at dksX11_next_2_0 18 rfl rfl)
theorem dX11_next_2_19 : decode cX11_next_2 19 = .ok (.putfield 13, 3) := dk_181 0 13 (dk_at dksX11_next_2_0 19 rfl rfl)
theorem dX11_next_2_22 : decode cX11_next_2 22 = .ok (.invokevirtual 23, 3) := dk_182 0 23 (dk_at dksX11_next_2_1 0 rfl rfl)
theorem dX11_next_2_25 : decode cX11_next_2 25 = .ok (.invokestatic 41, 3) := dk_184 0 41 (dk_at dksX11_next_2_1 3 rfl rfl)
theorem dX11_next_2_28 : decode cX11_next_2 28 = .ok (.areturn, 1) := dk_176 (dk_at dksX11_next_2_1 6 rfl rfl)
abbrev cX11_init : ByteArray := prog_6_method_1_code
def yX11_init : MethodName := ⟨RX11, "<init>", "(Ljava/lang/String;I)V"⟩
def dkwX11_init_0 : List UInt8 := [42, 183, 0, 1, 42, 43, 181, 0, 7, 42, 28, 181, 0, 13, 177]
abbrev dktX11_init_0 : List UInt8 := dkwX11_init_0 ++ []
theorem dksX11_init_0 : cX11_init.data.toList.drop 0 = dktX11_init_0 := by decide +kernel
theorem dX11_init_0 : decode cX11_init 0 = .ok (.aload_n 0, 1) := dk_42 (dk_at dksX11_init_0 0 rfl rfl)
theorem dX11_init_1 : decode cX11_init 1 = .ok (.invokespecial 1, 3) := dk_183 0 1 (dk_at dksX11_init_0 1 rfl rfl)
theorem dX11_init_4 : decode cX11_init 4 = .ok (.aload_n 0, 1) := dk_42 (dk_at dksX11_init_0 4 rfl rfl)
theorem dX11_init_5 : decode cX11_init 5 = .ok (.aload_n 1, 1) := dk_43 (dk_at dksX11_init_0 5 rfl rfl)
theorem dX11_init_6 : decode cX11_init 6 = .ok (.putfield 7, 3) := dk_181 0 7 (dk_at dksX11_init_0 6 rfl rfl)
theorem dX11_init_9 : decode cX11_init 9 = .ok (.aload_n 0, 1) := dk_42 (dk_at dksX11_init_0 9 rfl rfl)
theorem dX11_init_10 : decode cX11_init 10 = .ok (.iload_n 2, 1) := dk_28 (dk_at dksX11_init_0 10 rfl rfl)
theorem dX11_init_11 : decode cX11_init 11 = .ok (.putfield 13, 3) := dk_181 0 13 (dk_at dksX11_init_0 11 rfl rfl)
theorem dX11_init_14 : decode cX11_init 14 = .ok (.return_, 1) := dk_177 (dk_at dksX11_init_0 14 rfl rfl)
theorem q138 : (Jvm.Cond.initialized "Stenohall$Letters") ∈ lw_all := lw_g (lw_at lw_m1 64 rfl) rfl
theorem q308 : (Jvm.Cond.selects "Stenohall$Letters" ({ cls := "java/lang/Object", name := "getClass", desc := "()Ljava/lang/Class;" } : Jvm.MethodName) ({ cls := "java/lang/Object", name := "getClass", desc := "()Ljava/lang/Class;" } : Jvm.MethodName)) ∈ lw_all := lw_g (lw_at lw_m1 234 rfl) rfl
theorem q961 : (Jvm.Cond.selects "Stenohall$Letters" ({ cls := "java/lang/Object", name := "equals", desc := "(Ljava/lang/Object;)Z" } : Jvm.MethodName) ({ cls := "java/lang/Object", name := "equals", desc := "(Ljava/lang/Object;)Z" } : Jvm.MethodName)) ∈ lw_all := lw_g (lw_at lw_m4 167 rfl) rfl
theorem q1531 : (Jvm.Cond.castable "Stenohall$Letters" "java/util/Iterator") ∈ lw_tbl := lw_at lw_m7 17 rfl
theorem q1532 : (Jvm.Cond.selects "Stenohall$Letters" ({ cls := "java/util/Iterator", name := "hasNext", desc := "()Z" } : Jvm.MethodName) ({ cls := "Stenohall$Letters", name := "hasNext", desc := "()Z" } : Jvm.MethodName)) ∈ lw_all := lw_g (lw_at lw_m7 18 rfl) rfl
theorem q1533 : (Jvm.Cond.unhidden "Stenohall$Letters" "hasNext" "()Z") ∈ lw_tbl := lw_at lw_m7 19 rfl
theorem q1534 : (Jvm.Cond.instanceMethod ({ cls := "Stenohall$Letters", name := "hasNext", desc := "()Z" } : Jvm.MethodName)) ∈ lw_all := lw_g (lw_at lw_m7 20 rfl) rfl
theorem q1535 : (Jvm.Cond.publicMethod ({ cls := "Stenohall$Letters", name := "hasNext", desc := "()Z" } : Jvm.MethodName)) ∈ lw_tbl := lw_at lw_m7 21 rfl
theorem q1536 : (Jvm.Cond.code ({ cls := "Stenohall$Letters", name := "hasNext", desc := "()Z" } : Jvm.MethodName) prog_6_method_2_code (1 : Nat) (Option.some Jvm.ClassFile.FieldType.boolean)) ∈ lw_all := lw_g (lw_at lw_m7 22 rfl) rfl
theorem q1537 : (Jvm.Cond.methodLink "Stenohall$Letters" (17 : Nat) ({ cls := "java/lang/String", name := "length", desc := "()I" } : Jvm.MethodName)) ∈ lw_all := lw_g (lw_at lw_m7 23 rfl) rfl
theorem q1538 : (Jvm.Cond.methodLink "Stenohall$Letters" (23 : Nat) ({ cls := "java/lang/String", name := "charAt", desc := "(I)C" } : Jvm.MethodName)) ∈ lw_all := lw_g (lw_at lw_m7 24 rfl) rfl
theorem q1560 : (Jvm.Cond.methodLinkNest "Stenohall$Letters" (27 : Nat) ({ cls := "Stenohall", name := "isSmall", desc := "(C)Z" } : Jvm.MethodName) "Stenohall") ∈ lw_tbl := lw_at lw_m7 46 rfl
theorem q1605 : (Jvm.Cond.selects "Stenohall$Letters" ({ cls := "java/util/Iterator", name := "next", desc := "()Ljava/lang/Object;" } : Jvm.MethodName) ({ cls := "Stenohall$Letters", name := "next", desc := "()Ljava/lang/Object;" } : Jvm.MethodName)) ∈ lw_all := lw_g (lw_at lw_m7 91 rfl) rfl
theorem q1606 : (Jvm.Cond.unhidden "Stenohall$Letters" "next" "()Ljava/lang/Object;") ∈ lw_tbl := lw_at lw_m7 92 rfl
theorem q1607 : (Jvm.Cond.instanceMethod ({ cls := "Stenohall$Letters", name := "next", desc := "()Ljava/lang/Object;" } : Jvm.MethodName)) ∈ lw_all := lw_g (lw_at lw_m7 93 rfl) rfl
theorem q1608 : (Jvm.Cond.publicMethod ({ cls := "Stenohall$Letters", name := "next", desc := "()Ljava/lang/Object;" } : Jvm.MethodName)) ∈ lw_tbl := lw_at lw_m7 94 rfl
theorem q1609 : (Jvm.Cond.code ({ cls := "Stenohall$Letters", name := "next", desc := "()Ljava/lang/Object;" } : Jvm.MethodName) prog_6_method_4_code (1 : Nat) (Option.some (Jvm.ClassFile.FieldType.object "java/lang/Object"))) ∈ lw_all := lw_g (lw_at lw_m7 95 rfl) rfl
theorem q1610 : (Jvm.Cond.methodLink "Stenohall$Letters" (47 : Nat) ({ cls := "Stenohall$Letters", name := "next", desc := "()Ljava/lang/Character;" } : Jvm.MethodName)) ∈ lw_all := lw_g (lw_at lw_m7 96 rfl) rfl
theorem q1611 : (Jvm.Cond.instanceMethod ({ cls := "Stenohall$Letters", name := "next", desc := "()Ljava/lang/Character;" } : Jvm.MethodName)) ∈ lw_all := lw_g (lw_at lw_m7 97 rfl) rfl
theorem q1612 : (Jvm.Cond.selects "Stenohall$Letters" ({ cls := "Stenohall$Letters", name := "next", desc := "()Ljava/lang/Character;" } : Jvm.MethodName) ({ cls := "Stenohall$Letters", name := "next", desc := "()Ljava/lang/Character;" } : Jvm.MethodName)) ∈ lw_all := lw_g (lw_at lw_m7 98 rfl) rfl
theorem q1613 : (Jvm.Cond.code ({ cls := "Stenohall$Letters", name := "next", desc := "()Ljava/lang/Character;" } : Jvm.MethodName) prog_6_method_3_code (1 : Nat) (Option.some (Jvm.ClassFile.FieldType.object "java/lang/Character"))) ∈ lw_all := lw_g (lw_at lw_m7 99 rfl) rfl
theorem q1614 : (Jvm.Cond.methodLink "Stenohall$Letters" (33 : Nat) ({ cls := "Stenohall$Letters", name := "hasNext", desc := "()Z" } : Jvm.MethodName)) ∈ lw_all := lw_g (lw_at lw_m7 100 rfl) rfl
theorem q1615 : (Jvm.Cond.methodLinkNest "Stenohall$Letters" (37 : Nat) ({ cls := "Stenohall", name := "requireThere", desc := "(Z)V" } : Jvm.MethodName) "Stenohall") ∈ lw_tbl := lw_at lw_m7 101 rfl
theorem q1633 : (Jvm.Cond.methodLink "Stenohall$Letters" (41 : Nat) ({ cls := "java/lang/Character", name := "valueOf", desc := "(C)Ljava/lang/Character;" } : Jvm.MethodName)) ∈ lw_all := lw_g (lw_at lw_m7 119 rfl) rfl
theorem q2220 : (Jvm.Cond.instantiable "Stenohall$Letters" (2 : Nat)) ∈ lw_all := lw_g (lw_at lw_m9 226 rfl) rfl
theorem q2222 : (Jvm.Cond.instanceMethod ({ cls := "Stenohall$Letters", name := "<init>", desc := "(Ljava/lang/String;I)V" } : Jvm.MethodName)) ∈ lw_all := lw_g (lw_at lw_m9 228 rfl) rfl
theorem q2223 : (Jvm.Cond.code ({ cls := "Stenohall$Letters", name := "<init>", desc := "(Ljava/lang/String;I)V" } : Jvm.MethodName) prog_6_method_1_code (3 : Nat) (Option.none : Option Jvm.ClassFile.FieldType)) ∈ lw_all := lw_g (lw_at lw_m9 229 rfl) rfl
theorem q2224 : (Jvm.Cond.methodLink "Stenohall$Letters" (1 : Nat) ({ cls := "java/lang/Object", name := "<init>", desc := "()V" } : Jvm.MethodName)) ∈ lw_all := lw_g (lw_at lw_m9 230 rfl) rfl
theorem q2225 : (Jvm.Cond.fieldLink "Stenohall$Letters" (7 : Nat) "Stenohall$Letters" "content" "Ljava/lang/String;") ∈ lw_all := lw_g (lw_at lw_m9 231 rfl) rfl
theorem q2226 : (Jvm.Cond.fieldLink "Stenohall$Letters" (13 : Nat) "Stenohall$Letters" "at" "I") ∈ lw_all := lw_g (lw_at lw_m9 232 rfl) rfl
theorem q2227 : (Jvm.Cond.laysFinal "Stenohall$Letters" "Stenohall$Letters" "content" "Ljava/lang/String;") ∈ lw_all := lw_g (lw_at lw_m9 233 rfl) rfl
theorem q2228 : (Jvm.Cond.soleField "Stenohall$Letters" "content") ∈ lw_all := lw_g (lw_at lw_m9 234 rfl) rfl
theorem q2229 : (Jvm.Cond.lays "Stenohall$Letters" "Stenohall$Letters" "at" "I") ∈ lw_all := lw_g (lw_at lw_m9 235 rfl) rfl
theorem q2230 : (Jvm.Cond.soleField "Stenohall$Letters" "at") ∈ lw_all := lw_g (lw_at lw_m9 236 rfl) rfl
theorem q2231 : (Jvm.Cond.superclass "Stenohall$Letters" "java/lang/Object") ∈ lw_all := lw_g (lw_at lw_m9 237 rfl) rfl
theorem q2816 : (Jvm.Cond.unhidden "Stenohall$Letters" "remove" "()V") ∈ lw_tbl := lw_at lw_m12 102 rfl
theorem q4310 : (Jvm.Cond.selects "Stenohall$Letters" ({ cls := "Stenohall$Letters", name := "hasNext", desc := "()Z" } : Jvm.MethodName) ({ cls := "Stenohall$Letters", name := "hasNext", desc := "()Z" } : Jvm.MethodName)) ∈ lw_all := lw_g (lw_at lw_m18 156 rfl) rfl
theorem q4374 : (Jvm.Cond.castable "Stenohall$Letters" "java/lang/Object") ∈ lw_tbl := lw_at lw_m18 220 rfl
theorem in_X11 : ∀ w ∈ wsX110, w ∈ lw_all := lw_in wsX110 [2227, 2229] (by decide +kernel) (by decide +kernel)
/-! StenohallModel$Translation -/
set_option maxRecDepth 100000
def RX12 : String := "StenohallModel$Translation"
def TX12 : u_T := fun k => match k with
  | 0 => ("StenohallModel$Translation", "strokes", "I", true)
  | 1 => ("StenohallModel$Translation", "last", "I", true)
  | _ => ("StenohallModel$Translation", "entry", "LStenohallModel$Entry;", true)
def tyX12 : Nat → FieldType := fun k => match k with
  | 0 => .int
  | 1 => .int
  | _ => .object "StenohallModel$Entry"
abbrev wsX120 : List Cond := u_ws RX12 TX12 3
theorem nmX12 : ∀ a, a < 3 → ∀ b, b < 3 → a ≠ b → (TX12 a).2.1 ≠ (TX12 b).2.1 := by decide +kernel
theorem tyX12_ok : ∀ k, k < 3 → parseFieldDescriptor (TX12 k).2.2.1 = some (tyX12 k) := by decide +kernel
abbrev cX12_init : ByteArray := prog_21_method_1_code
def yX12_init : MethodName := ⟨RX12, "<init>", "(IILStenohallModel$Entry;)V"⟩
def dkwX12_init_0 : List UInt8 := [42, 183, 0, 1, 42, 27, 181, 0, 7, 42, 28, 181, 0, 13, 42, 45, 181, 0, 16, 177]
abbrev dktX12_init_0 : List UInt8 := dkwX12_init_0 ++ []
theorem dksX12_init_0 : cX12_init.data.toList.drop 0 = dktX12_init_0 := by decide +kernel
theorem dX12_init_0 : decode cX12_init 0 = .ok (.aload_n 0, 1) := dk_42 (dk_at dksX12_init_0 0 rfl rfl)
theorem dX12_init_1 : decode cX12_init 1 = .ok (.invokespecial 1, 3) := dk_183 0 1 (dk_at dksX12_init_0 1 rfl rfl)
theorem dX12_init_4 : decode cX12_init 4 = .ok (.aload_n 0, 1) := dk_42 (dk_at dksX12_init_0 4 rfl rfl)
theorem dX12_init_5 : decode cX12_init 5 = .ok (.iload_n 1, 1) := dk_27 (dk_at dksX12_init_0 5 rfl rfl)
theorem dX12_init_6 : decode cX12_init 6 = .ok (.putfield 7, 3) := dk_181 0 7 (dk_at dksX12_init_0 6 rfl rfl)
theorem dX12_init_9 : decode cX12_init 9 = .ok (.aload_n 0, 1) := dk_42 (dk_at dksX12_init_0 9 rfl rfl)
theorem dX12_init_10 : decode cX12_init 10 = .ok (.iload_n 2, 1) := dk_28 (dk_at dksX12_init_0 10 rfl rfl)
theorem dX12_init_11 : decode cX12_init 11 = .ok (.putfield 13, 3) := dk_181 0 13 (dk_at dksX12_init_0 11 rfl rfl)
theorem dX12_init_14 : decode cX12_init 14 = .ok (.aload_n 0, 1) := dk_42 (dk_at dksX12_init_0 14 rfl rfl)
theorem dX12_init_15 : decode cX12_init 15 = .ok (.aload_n 3, 1) := dk_45 (dk_at dksX12_init_0 15 rfl rfl)
theorem dX12_init_16 : decode cX12_init 16 = .ok (.putfield 16, 3) := dk_181 0 16 (dk_at dksX12_init_0 16 rfl rfl)
theorem dX12_init_19 : decode cX12_init 19 = .ok (.return_, 1) := dk_177 (dk_at dksX12_init_0 19 rfl rfl)
theorem q143 : (Jvm.Cond.initialized "StenohallModel$Translation") ∈ lw_all := lw_g (lw_at lw_m1 69 rfl) rfl
theorem q321 : (Jvm.Cond.selects "StenohallModel$Translation" ({ cls := "java/lang/Object", name := "getClass", desc := "()Ljava/lang/Class;" } : Jvm.MethodName) ({ cls := "java/lang/Object", name := "getClass", desc := "()Ljava/lang/Class;" } : Jvm.MethodName)) ∈ lw_all := lw_g (lw_at lw_m2 7 rfl) rfl
theorem q974 : (Jvm.Cond.selects "StenohallModel$Translation" ({ cls := "java/lang/Object", name := "equals", desc := "(Ljava/lang/Object;)Z" } : Jvm.MethodName) ({ cls := "java/lang/Object", name := "equals", desc := "(Ljava/lang/Object;)Z" } : Jvm.MethodName)) ∈ lw_all := lw_g (lw_at lw_m4 180 rfl) rfl
theorem q3699 : (Jvm.Cond.instantiable "StenohallModel$Translation" (3 : Nat)) ∈ lw_all := lw_g (lw_at lw_m16 25 rfl) rfl
theorem q3702 : (Jvm.Cond.instanceMethod ({ cls := "StenohallModel$Translation", name := "<init>", desc := "(IILStenohallModel$Entry;)V" } : Jvm.MethodName)) ∈ lw_all := lw_g (lw_at lw_m16 28 rfl) rfl
theorem q3703 : (Jvm.Cond.code ({ cls := "StenohallModel$Translation", name := "<init>", desc := "(IILStenohallModel$Entry;)V" } : Jvm.MethodName) prog_21_method_1_code (4 : Nat) (Option.none : Option Jvm.ClassFile.FieldType)) ∈ lw_all := lw_g (lw_at lw_m16 29 rfl) rfl
theorem q3704 : (Jvm.Cond.methodLink "StenohallModel$Translation" (1 : Nat) ({ cls := "java/lang/Object", name := "<init>", desc := "()V" } : Jvm.MethodName)) ∈ lw_all := lw_g (lw_at lw_m16 30 rfl) rfl
theorem q3705 : (Jvm.Cond.fieldLink "StenohallModel$Translation" (7 : Nat) "StenohallModel$Translation" "strokes" "I") ∈ lw_all := lw_g (lw_at lw_m16 31 rfl) rfl
theorem q3707 : (Jvm.Cond.fieldLink "StenohallModel$Translation" (13 : Nat) "StenohallModel$Translation" "last" "I") ∈ lw_all := lw_g (lw_at lw_m16 33 rfl) rfl
theorem q3710 : (Jvm.Cond.fieldLink "StenohallModel$Translation" (16 : Nat) "StenohallModel$Translation" "entry" "LStenohallModel$Entry;") ∈ lw_all := lw_g (lw_at lw_m16 36 rfl) rfl
theorem q3713 : (Jvm.Cond.laysFinal "StenohallModel$Translation" "StenohallModel$Translation" "strokes" "I") ∈ lw_all := lw_g (lw_at lw_m16 39 rfl) rfl
theorem q3714 : (Jvm.Cond.soleField "StenohallModel$Translation" "strokes") ∈ lw_all := lw_g (lw_at lw_m16 40 rfl) rfl
theorem q3715 : (Jvm.Cond.laysFinal "StenohallModel$Translation" "StenohallModel$Translation" "last" "I") ∈ lw_all := lw_g (lw_at lw_m16 41 rfl) rfl
theorem q3716 : (Jvm.Cond.soleField "StenohallModel$Translation" "last") ∈ lw_all := lw_g (lw_at lw_m16 42 rfl) rfl
theorem q3717 : (Jvm.Cond.laysFinal "StenohallModel$Translation" "StenohallModel$Translation" "entry" "LStenohallModel$Entry;") ∈ lw_all := lw_g (lw_at lw_m16 43 rfl) rfl
theorem q3718 : (Jvm.Cond.soleField "StenohallModel$Translation" "entry") ∈ lw_all := lw_g (lw_at lw_m16 44 rfl) rfl
theorem q3719 : (Jvm.Cond.superclass "StenohallModel$Translation" "java/lang/Object") ∈ lw_all := lw_g (lw_at lw_m16 45 rfl) rfl
theorem q4378 : (Jvm.Cond.castable "StenohallModel$Translation" "java/lang/Object") ∈ lw_tbl := lw_at lw_m18 224 rfl
theorem in_X12 : ∀ w ∈ wsX120, w ∈ lw_all := lw_in wsX120 [3713, 3715, 3717] (by decide +kernel) (by decide +kernel)
/-! Stenohall$Entry -/
set_option maxRecDepth 100000
def RX13 : String := "Stenohall$Entry"
def TX13 : u_T := fun k => match k with
  | 0 => ("Stenohall$Entry", "outline", "Ljava/util/List;", true)
  | 1 => ("Stenohall$Entry", "content", "Ljava/lang/String;", true)
  | _ => ("Stenohall$Entry", "alternatives", "Ljava/util/ArrayList;", true)
def tyX13 : Nat → FieldType := fun k => match k with
  | 0 => .object "java/util/List"
  | 1 => .object "java/lang/String"
  | _ => .object "java/util/ArrayList"
abbrev wsX130 : List Cond := u_ws RX13 TX13 3
theorem nmX13 : ∀ a, a < 3 → ∀ b, b < 3 → a ≠ b → (TX13 a).2.1 ≠ (TX13 b).2.1 := by decide +kernel
theorem tyX13_ok : ∀ k, k < 3 → parseFieldDescriptor (TX13 k).2.2.1 = some (tyX13 k) := by decide +kernel
abbrev cX13_isUndoing : ByteArray := prog_4_method_2_code
def yX13_isUndoing : MethodName := ⟨RX13, "isUndoing", "()Z"⟩
def dkwX13_isUndoing_0 : List UInt8 := [42, 180, 0, 20, 18, 24, 182, 0, 26, 172]
abbrev dktX13_isUndoing_0 : List UInt8 := dkwX13_isUndoing_0 ++ []
theorem dksX13_isUndoing_0 : cX13_isUndoing.data.toList.drop 0 = dktX13_isUndoing_0 := by decide +kernel
theorem dX13_isUndoing_0 : decode cX13_isUndoing 0 = .ok (.aload_n 0, 1) := dk_42 (dk_at dksX13_isUndoing_0 0 rfl rfl)
theorem dX13_isUndoing_1 : decode cX13_isUndoing 1 = .ok (.getfield 20, 3) := dk_180 0 20 (dk_at dksX13_isUndoing_0 1 rfl rfl)
theorem dX13_isUndoing_4 : decode cX13_isUndoing 4 = .ok (.ldc 24, 2) := dk_18 24 (dk_at dksX13_isUndoing_0 4 rfl rfl)
theorem dX13_isUndoing_6 : decode cX13_isUndoing 6 = .ok (.invokevirtual 26, 3) := dk_182 0 26 (dk_at dksX13_isUndoing_0 6 rfl rfl)
theorem dX13_isUndoing_9 : decode cX13_isUndoing 9 = .ok (.ireturn, 1) := dk_172 (dk_at dksX13_isUndoing_0 9 rfl rfl)
abbrev cX13_firstLetter : ByteArray := prog_4_method_3_code
def yX13_firstLetter : MethodName := ⟨RX13, "firstLetter", "()C"⟩
def dkwX13_firstLetter_1 : List UInt8 := [153, 0, 12, 42, 180, 0, 20, 27, 182, 0, 36, 172, 132, 1, 1, 167, 255, 219, 16, 32, 172]
abbrev dktX13_firstLetter_1 : List UInt8 := dkwX13_firstLetter_1 ++ []
def dkwX13_firstLetter_0 : List UInt8 := [3, 60, 27, 42, 180, 0, 20, 182, 0, 32, 162, 0, 32, 42, 180, 0, 20, 27, 182, 0, 36, 184, 0, 40]
abbrev dktX13_firstLetter_0 : List UInt8 := dkwX13_firstLetter_0 ++ dktX13_firstLetter_1
theorem dksX13_firstLetter_0 : cX13_firstLetter.data.toList.drop 0 = dktX13_firstLetter_0 := by decide +kernel
theorem dksX13_firstLetter_1 : cX13_firstLetter.data.toList.drop 24 = dktX13_firstLetter_1 := dk_seg dksX13_firstLetter_0 24 rfl rfl
theorem dX13_firstLetter_0 : decode cX13_firstLetter 0 = .ok (.iconst 0, 1) := dk_3 (dk_at dksX13_firstLetter_0 0 rfl rfl)
theorem dX13_firstLetter_1 : decode cX13_firstLetter 1 = .ok (.istore_n 1, 1) := dk_60 (dk_at dksX13_firstLetter_0 1 rfl rfl)
theorem dX13_firstLetter_2 : decode cX13_firstLetter 2 = .ok (.iload_n 1, 1) := dk_27 (dk_at dksX13_firstLetter_0 2 rfl rfl)
theorem dX13_firstLetter_3 : decode cX13_firstLetter 3 = .ok (.aload_n 0, 1) := dk_42 (dk_at dksX13_firstLetter_0 3 rfl rfl)
theorem dX13_firstLetter_4 : decode cX13_firstLetter 4 = .ok (.getfield 20, 3) := dk_180 0 20 (dk_at dksX13_firstLetter_0 4 rfl rfl)
theorem dX13_firstLetter_7 : decode cX13_firstLetter 7 = .ok (.invokevirtual 32, 3) := dk_182 0 32 (dk_at dksX13_firstLetter_0 7 rfl rfl)
theorem dX13_firstLetter_10 : decode cX13_firstLetter 10 = .ok (.if_icmp .ge 32, 3) := dk_162 0 32 (dk_at dksX13_firstLetter_0 10 rfl rfl)
theorem dX13_firstLetter_13 : decode cX13_firstLetter 13 = .ok (.aload_n 0, 1) := dk_42 (dk_at dksX13_firstLetter_0 13 rfl rfl)
theorem dX13_firstLetter_14 : decode cX13_firstLetter 14 = .ok (.getfield 20, 3) := dk_180 0 20 (dk_at dksX13_firstLetter_0 14 rfl rfl)
theorem dX13_firstLetter_17 : decode cX13_firstLetter 17 = .ok (.iload_n 1, 1) := dk_27 (dk_at dksX13_firstLetter_0 17 rfl rfl)
theorem dX13_firstLetter_18 : decode cX13_firstLetter 18 = .ok (.invokevirtual 36, 3) := dk_182 0 36 (dk_at dksX13_firstLetter_0 18 rfl rfl)
theorem dX13_firstLetter_21 : decode cX13_firstLetter 21 = .ok (.invokestatic 40, 3) := dk_184 0 40 (dk_at dksX13_firstLetter_0 21 rfl rfl)
theorem dX13_firstLetter_24 : decode cX13_firstLetter 24 = .ok (.ifCond .eq 12, 3) := dk_153 0 12 (dk_at dksX13_firstLetter_1 0 rfl rfl)
theorem dX13_firstLetter_27 : decode cX13_firstLetter 27 = .ok (.aload_n 0, 1) := dk_42 (dk_at dksX13_firstLetter_1 3 rfl rfl)
theorem dX13_firstLetter_28 : decode cX13_firstLetter 28 = .ok (.getfield 20, 3) := dk_180 0 20 (dk_at dksX13_firstLetter_1 4 rfl rfl)
theorem dX13_firstLetter_31 : decode cX13_firstLetter 31 = .ok (.iload_n 1, 1) := dk_27 (dk_at dksX13_firstLetter_1 7 rfl rfl)
theorem dX13_firstLetter_32 : decode cX13_firstLetter 32 = .ok (.invokevirtual 36, 3) := dk_182 0 36 (dk_at dksX13_firstLetter_1 8 rfl rfl)
theorem dX13_firstLetter_35 : decode cX13_firstLetter 35 = .ok (.ireturn, 1) := dk_172 (dk_at dksX13_firstLetter_1 11 rfl rfl)
theorem dX13_firstLetter_36 : decode cX13_firstLetter 36 = .ok (.iinc 1 1, 3) := dk_132 1 1 (dk_at dksX13_firstLetter_1 12 rfl rfl)
theorem dX13_firstLetter_39 : decode cX13_firstLetter 39 = .ok (.goto (-37), 3) := dk_167 255 219 (dk_at dksX13_firstLetter_1 15 rfl rfl)
theorem dX13_firstLetter_42 : decode cX13_firstLetter 42 = .ok (.bipush 32, 2) := dk_16 32 (dk_at dksX13_firstLetter_1 18 rfl rfl)
theorem dX13_firstLetter_44 : decode cX13_firstLetter 44 = .ok (.ireturn, 1) := dk_172 (dk_at dksX13_firstLetter_1 20 rfl rfl)
abbrev cX13_init : ByteArray := prog_4_method_1_code
def yX13_init : MethodName := ⟨RX13, "<init>", "(Ljava/util/List;Ljava/lang/String;)V"⟩
def dkwX13_init_1 : List UInt8 := [181, 0, 20, 177]
abbrev dktX13_init_1 : List UInt8 := dkwX13_init_1 ++ []
def dkwX13_init_0 : List UInt8 := [42, 183, 0, 1, 42, 187, 0, 7, 89, 183, 0, 9, 181, 0, 10, 42, 43, 181, 0, 16, 42, 44]
abbrev dktX13_init_0 : List UInt8 := dkwX13_init_0 ++ dktX13_init_1
theorem dksX13_init_0 : cX13_init.data.toList.drop 0 = dktX13_init_0 := by decide +kernel
theorem dksX13_init_1 : cX13_init.data.toList.drop 22 = dktX13_init_1 := dk_seg dksX13_init_0 22 rfl rfl
theorem dX13_init_0 : decode cX13_init 0 = .ok (.aload_n 0, 1) := dk_42 (dk_at dksX13_init_0 0 rfl rfl)
theorem dX13_init_1 : decode cX13_init 1 = .ok (.invokespecial 1, 3) := dk_183 0 1 (dk_at dksX13_init_0 1 rfl rfl)
theorem dX13_init_4 : decode cX13_init 4 = .ok (.aload_n 0, 1) := dk_42 (dk_at dksX13_init_0 4 rfl rfl)
theorem dX13_init_5 : decode cX13_init 5 = .ok (.new 7, 3) := dk_187 0 7 (dk_at dksX13_init_0 5 rfl rfl)
theorem dX13_init_8 : decode cX13_init 8 = .ok (.dup, 1) := dk_89 (dk_at dksX13_init_0 8 rfl rfl)
theorem dX13_init_9 : decode cX13_init 9 = .ok (.invokespecial 9, 3) := dk_183 0 9 (dk_at dksX13_init_0 9 rfl rfl)
theorem dX13_init_12 : decode cX13_init 12 = .ok (.putfield 10, 3) := dk_181 0 10 (dk_at dksX13_init_0 12 rfl rfl)
theorem dX13_init_15 : decode cX13_init 15 = .ok (.aload_n 0, 1) := dk_42 (dk_at dksX13_init_0 15 rfl rfl)
theorem dX13_init_16 : decode cX13_init 16 = .ok (.aload_n 1, 1) := dk_43 (dk_at dksX13_init_0 16 rfl rfl)
theorem dX13_init_17 : decode cX13_init 17 = .ok (.putfield 16, 3) := dk_181 0 16 (dk_at dksX13_init_0 17 rfl rfl)
theorem dX13_init_20 : decode cX13_init 20 = .ok (.aload_n 0, 1) := dk_42 (dk_at dksX13_init_0 20 rfl rfl)
theorem dX13_init_21 : decode cX13_init 21 = .ok (.aload_n 2, 1) := dk_44 (dk_at dksX13_init_0 21 rfl rfl)
theorem dX13_init_22 : decode cX13_init 22 = .ok (.putfield 20, 3) := dk_181 0 20 (dk_at dksX13_init_1 0 rfl rfl)
theorem dX13_init_25 : decode cX13_init 25 = .ok (.return_, 1) := dk_177 (dk_at dksX13_init_1 3 rfl rfl)
theorem q145 : (Jvm.Cond.initialized "Stenohall$Entry") ∈ lw_all := lw_g (lw_at lw_m1 71 rfl) rfl
theorem q306 : (Jvm.Cond.selects "Stenohall$Entry" ({ cls := "java/lang/Object", name := "getClass", desc := "()Ljava/lang/Class;" } : Jvm.MethodName) ({ cls := "java/lang/Object", name := "getClass", desc := "()Ljava/lang/Class;" } : Jvm.MethodName)) ∈ lw_all := lw_g (lw_at lw_m1 232 rfl) rfl
theorem q959 : (Jvm.Cond.selects "Stenohall$Entry" ({ cls := "java/lang/Object", name := "equals", desc := "(Ljava/lang/Object;)Z" } : Jvm.MethodName) ({ cls := "java/lang/Object", name := "equals", desc := "(Ljava/lang/Object;)Z" } : Jvm.MethodName)) ∈ lw_all := lw_g (lw_at lw_m4 165 rfl) rfl
theorem q2025 : (Jvm.Cond.instanceMethod ({ cls := "Stenohall$Entry", name := "isUndoing", desc := "()Z" } : Jvm.MethodName)) ∈ lw_all := lw_g (lw_at lw_m9 31 rfl) rfl
theorem q2026 : (Jvm.Cond.selects "Stenohall$Entry" ({ cls := "Stenohall$Entry", name := "isUndoing", desc := "()Z" } : Jvm.MethodName) ({ cls := "Stenohall$Entry", name := "isUndoing", desc := "()Z" } : Jvm.MethodName)) ∈ lw_all := lw_g (lw_at lw_m9 32 rfl) rfl
theorem q2027 : (Jvm.Cond.code ({ cls := "Stenohall$Entry", name := "isUndoing", desc := "()Z" } : Jvm.MethodName) prog_4_method_2_code (1 : Nat) (Option.some Jvm.ClassFile.FieldType.boolean)) ∈ lw_all := lw_g (lw_at lw_m9 33 rfl) rfl
theorem q2028 : (Jvm.Cond.stringRef "Stenohall$Entry" (24 : Nat) "=") ∈ lw_tbl := lw_at lw_m9 34 rfl
theorem q2029 : (Jvm.Cond.methodLink "Stenohall$Entry" (26 : Nat) ({ cls := "java/lang/String", name := "equals", desc := "(Ljava/lang/Object;)Z" } : Jvm.MethodName)) ∈ lw_all := lw_g (lw_at lw_m9 35 rfl) rfl
theorem q2084 : (Jvm.Cond.instanceMethod ({ cls := "Stenohall$Entry", name := "firstLetter", desc := "()C" } : Jvm.MethodName)) ∈ lw_all := lw_g (lw_at lw_m9 90 rfl) rfl
theorem q2085 : (Jvm.Cond.selects "Stenohall$Entry" ({ cls := "Stenohall$Entry", name := "firstLetter", desc := "()C" } : Jvm.MethodName) ({ cls := "Stenohall$Entry", name := "firstLetter", desc := "()C" } : Jvm.MethodName)) ∈ lw_all := lw_g (lw_at lw_m9 91 rfl) rfl
theorem q2086 : (Jvm.Cond.code ({ cls := "Stenohall$Entry", name := "firstLetter", desc := "()C" } : Jvm.MethodName) prog_4_method_3_code (2 : Nat) (Option.some Jvm.ClassFile.FieldType.char)) ∈ lw_all := lw_g (lw_at lw_m9 92 rfl) rfl
theorem q2087 : (Jvm.Cond.methodLink "Stenohall$Entry" (32 : Nat) ({ cls := "java/lang/String", name := "length", desc := "()I" } : Jvm.MethodName)) ∈ lw_all := lw_g (lw_at lw_m9 93 rfl) rfl
theorem q2088 : (Jvm.Cond.methodLink "Stenohall$Entry" (36 : Nat) ({ cls := "java/lang/String", name := "charAt", desc := "(I)C" } : Jvm.MethodName)) ∈ lw_all := lw_g (lw_at lw_m9 94 rfl) rfl
theorem q2089 : (Jvm.Cond.methodLinkNest "Stenohall$Entry" (40 : Nat) ({ cls := "Stenohall", name := "isSmall", desc := "(C)Z" } : Jvm.MethodName) "Stenohall") ∈ lw_tbl := lw_at lw_m9 95 rfl
theorem q2937 : (Jvm.Cond.instantiable "Stenohall$Entry" (3 : Nat)) ∈ lw_all := lw_g (lw_at lw_m12 223 rfl) rfl
theorem q2939 : (Jvm.Cond.instanceMethod ({ cls := "Stenohall$Entry", name := "<init>", desc := "(Ljava/util/List;Ljava/lang/String;)V" } : Jvm.MethodName)) ∈ lw_all := lw_g (lw_at lw_m12 225 rfl) rfl
theorem q2940 : (Jvm.Cond.code ({ cls := "Stenohall$Entry", name := "<init>", desc := "(Ljava/util/List;Ljava/lang/String;)V" } : Jvm.MethodName) prog_4_method_1_code (3 : Nat) (Option.none : Option Jvm.ClassFile.FieldType)) ∈ lw_all := lw_g (lw_at lw_m12 226 rfl) rfl
theorem q2941 : (Jvm.Cond.methodLink "Stenohall$Entry" (1 : Nat) ({ cls := "java/lang/Object", name := "<init>", desc := "()V" } : Jvm.MethodName)) ∈ lw_all := lw_g (lw_at lw_m12 227 rfl) rfl
theorem q2942 : (Jvm.Cond.classLink "Stenohall$Entry" (7 : Nat) "java/util/ArrayList") ∈ lw_all := lw_g (lw_at lw_m12 228 rfl) rfl
theorem q2943 : (Jvm.Cond.methodLink "Stenohall$Entry" (9 : Nat) ({ cls := "java/util/ArrayList", name := "<init>", desc := "()V" } : Jvm.MethodName)) ∈ lw_all := lw_g (lw_at lw_m12 229 rfl) rfl
theorem q2944 : (Jvm.Cond.fieldLink "Stenohall$Entry" (16 : Nat) "Stenohall$Entry" "outline" "Ljava/util/List;") ∈ lw_all := lw_g (lw_at lw_m12 230 rfl) rfl
theorem q2946 : (Jvm.Cond.fieldLink "Stenohall$Entry" (20 : Nat) "Stenohall$Entry" "content" "Ljava/lang/String;") ∈ lw_all := lw_g (lw_at lw_m12 232 rfl) rfl
theorem q2948 : (Jvm.Cond.fieldLink "Stenohall$Entry" (10 : Nat) "Stenohall$Entry" "alternatives" "Ljava/util/ArrayList;") ∈ lw_all := lw_g (lw_at lw_m12 234 rfl) rfl
theorem q2950 : (Jvm.Cond.laysFinal "Stenohall$Entry" "Stenohall$Entry" "outline" "Ljava/util/List;") ∈ lw_all := lw_g (lw_at lw_m12 236 rfl) rfl
theorem q2951 : (Jvm.Cond.soleField "Stenohall$Entry" "outline") ∈ lw_all := lw_g (lw_at lw_m12 237 rfl) rfl
theorem q2952 : (Jvm.Cond.laysFinal "Stenohall$Entry" "Stenohall$Entry" "content" "Ljava/lang/String;") ∈ lw_all := lw_g (lw_at lw_m12 238 rfl) rfl
theorem q2953 : (Jvm.Cond.soleField "Stenohall$Entry" "content") ∈ lw_all := lw_g (lw_at lw_m12 239 rfl) rfl
theorem q2954 : (Jvm.Cond.laysFinal "Stenohall$Entry" "Stenohall$Entry" "alternatives" "Ljava/util/ArrayList;") ∈ lw_all := lw_g (lw_at lw_m13 0 rfl) rfl
theorem q2955 : (Jvm.Cond.soleField "Stenohall$Entry" "alternatives") ∈ lw_all := lw_g (lw_at lw_m13 1 rfl) rfl
theorem q2956 : (Jvm.Cond.superclass "Stenohall$Entry" "java/lang/Object") ∈ lw_all := lw_g (lw_at lw_m13 2 rfl) rfl
theorem q4380 : (Jvm.Cond.castable "Stenohall$Entry" "java/lang/Object") ∈ lw_tbl := lw_at lw_m18 226 rfl
theorem in_X13 : ∀ w ∈ wsX130, w ∈ lw_all := lw_in wsX130 [2950, 2952, 2954] (by decide +kernel) (by decide +kernel)
/-! StenohallModel$Entry -/
set_option maxRecDepth 100000
def RX14 : String := "StenohallModel$Entry"
def TX14 : u_T := fun k => match k with
  | 0 => ("StenohallModel$Entry", "layer", "I", true)
  | 1 => ("StenohallModel$Entry", "content", "Ljava/lang/String;", true)
  | 2 => ("StenohallModel$Entry", "letters", "Ljava/util/ArrayList;", true)
  | _ => ("StenohallModel$Entry", "contents", "Ljava/util/ArrayList;", true)
def tyX14 : Nat → FieldType := fun k => match k with
  | 0 => .int
  | 1 => .object "java/lang/String"
  | 2 => .object "java/util/ArrayList"
  | _ => .object "java/util/ArrayList"
abbrev wsX140 : List Cond := u_ws RX14 TX14 4
theorem nmX14 : ∀ a, a < 4 → ∀ b, b < 4 → a ≠ b → (TX14 a).2.1 ≠ (TX14 b).2.1 := by decide +kernel
theorem tyX14_ok : ∀ k, k < 4 → parseFieldDescriptor (TX14 k).2.2.1 = some (tyX14 k) := by decide +kernel
abbrev cX14_init : ByteArray := prog_17_method_1_code
def yX14_init : MethodName := ⟨RX14, "<init>", "(ILjava/lang/String;)V"⟩
def dkwX14_init_1 : List UInt8 := [181, 0, 16, 42, 27, 181, 0, 19, 42, 44, 181, 0, 23, 177]
abbrev dktX14_init_1 : List UInt8 := dkwX14_init_1 ++ []
def dkwX14_init_0 : List UInt8 := [42, 183, 0, 1, 42, 187, 0, 7, 89, 183, 0, 9, 181, 0, 10, 42, 187, 0, 7, 89, 183, 0, 9]
abbrev dktX14_init_0 : List UInt8 := dkwX14_init_0 ++ dktX14_init_1
theorem dksX14_init_0 : cX14_init.data.toList.drop 0 = dktX14_init_0 := by decide +kernel
theorem dksX14_init_1 : cX14_init.data.toList.drop 23 = dktX14_init_1 := dk_seg dksX14_init_0 23 rfl rfl
theorem dX14_init_0 : decode cX14_init 0 = .ok (.aload_n 0, 1) := dk_42 (dk_at dksX14_init_0 0 rfl rfl)
theorem dX14_init_1 : decode cX14_init 1 = .ok (.invokespecial 1, 3) := dk_183 0 1 (dk_at dksX14_init_0 1 rfl rfl)
theorem dX14_init_4 : decode cX14_init 4 = .ok (.aload_n 0, 1) := dk_42 (dk_at dksX14_init_0 4 rfl rfl)
theorem dX14_init_5 : decode cX14_init 5 = .ok (.new 7, 3) := dk_187 0 7 (dk_at dksX14_init_0 5 rfl rfl)
theorem dX14_init_8 : decode cX14_init 8 = .ok (.dup, 1) := dk_89 (dk_at dksX14_init_0 8 rfl rfl)
theorem dX14_init_9 : decode cX14_init 9 = .ok (.invokespecial 9, 3) := dk_183 0 9 (dk_at dksX14_init_0 9 rfl rfl)
theorem dX14_init_12 : decode cX14_init 12 = .ok (.putfield 10, 3) := dk_181 0 10 (dk_at dksX14_init_0 12 rfl rfl)
theorem dX14_init_15 : decode cX14_init 15 = .ok (.aload_n 0, 1) := dk_42 (dk_at dksX14_init_0 15 rfl rfl)
theorem dX14_init_16 : decode cX14_init 16 = .ok (.new 7, 3) := dk_187 0 7 (dk_at dksX14_init_0 16 rfl rfl)
theorem dX14_init_19 : decode cX14_init 19 = .ok (.dup, 1) := dk_89 (dk_at dksX14_init_0 19 rfl rfl)
theorem dX14_init_20 : decode cX14_init 20 = .ok (.invokespecial 9, 3) := dk_183 0 9 (dk_at dksX14_init_0 20 rfl rfl)
theorem dX14_init_23 : decode cX14_init 23 = .ok (.putfield 16, 3) := dk_181 0 16 (dk_at dksX14_init_1 0 rfl rfl)
theorem dX14_init_26 : decode cX14_init 26 = .ok (.aload_n 0, 1) := dk_42 (dk_at dksX14_init_1 3 rfl rfl)
theorem dX14_init_27 : decode cX14_init 27 = .ok (.iload_n 1, 1) := dk_27 (dk_at dksX14_init_1 4 rfl rfl)
theorem dX14_init_28 : decode cX14_init 28 = .ok (.putfield 19, 3) := dk_181 0 19 (dk_at dksX14_init_1 5 rfl rfl)
theorem dX14_init_31 : decode cX14_init 31 = .ok (.aload_n 0, 1) := dk_42 (dk_at dksX14_init_1 8 rfl rfl)
theorem dX14_init_32 : decode cX14_init 32 = .ok (.aload_n 2, 1) := dk_44 (dk_at dksX14_init_1 9 rfl rfl)
theorem dX14_init_33 : decode cX14_init 33 = .ok (.putfield 23, 3) := dk_181 0 23 (dk_at dksX14_init_1 10 rfl rfl)
theorem dX14_init_36 : decode cX14_init 36 = .ok (.return_, 1) := dk_177 (dk_at dksX14_init_1 13 rfl rfl)
abbrev cX14_firstLetter : ByteArray := prog_17_method_2_code
def yX14_firstLetter : MethodName := ⟨RX14, "firstLetter", "()C"⟩
def dkwX14_firstLetter_1 : List UInt8 := [153, 0, 12, 42, 180, 0, 23, 27, 182, 0, 33, 172, 132, 1, 1, 167, 255, 219, 16, 32, 172]
abbrev dktX14_firstLetter_1 : List UInt8 := dkwX14_firstLetter_1 ++ []
def dkwX14_firstLetter_0 : List UInt8 := [3, 60, 27, 42, 180, 0, 23, 182, 0, 27, 162, 0, 32, 42, 180, 0, 23, 27, 182, 0, 33, 184, 0, 37]
abbrev dktX14_firstLetter_0 : List UInt8 := dkwX14_firstLetter_0 ++ dktX14_firstLetter_1
theorem dksX14_firstLetter_0 : cX14_firstLetter.data.toList.drop 0 = dktX14_firstLetter_0 := by decide +kernel
theorem dksX14_firstLetter_1 : cX14_firstLetter.data.toList.drop 24 = dktX14_firstLetter_1 := dk_seg dksX14_firstLetter_0 24 rfl rfl
theorem dX14_firstLetter_0 : decode cX14_firstLetter 0 = .ok (.iconst 0, 1) := dk_3 (dk_at dksX14_firstLetter_0 0 rfl rfl)
theorem dX14_firstLetter_1 : decode cX14_firstLetter 1 = .ok (.istore_n 1, 1) := dk_60 (dk_at dksX14_firstLetter_0 1 rfl rfl)
theorem dX14_firstLetter_2 : decode cX14_firstLetter 2 = .ok (.iload_n 1, 1) := dk_27 (dk_at dksX14_firstLetter_0 2 rfl rfl)
theorem dX14_firstLetter_3 : decode cX14_firstLetter 3 = .ok (.aload_n 0, 1) := dk_42 (dk_at dksX14_firstLetter_0 3 rfl rfl)
theorem dX14_firstLetter_4 : decode cX14_firstLetter 4 = .ok (.getfield 23, 3) := dk_180 0 23 (dk_at dksX14_firstLetter_0 4 rfl rfl)
theorem dX14_firstLetter_7 : decode cX14_firstLetter 7 = .ok (.invokevirtual 27, 3) := dk_182 0 27 (dk_at dksX14_firstLetter_0 7 rfl rfl)
theorem dX14_firstLetter_10 : decode cX14_firstLetter 10 = .ok (.if_icmp .ge 32, 3) := dk_162 0 32 (dk_at dksX14_firstLetter_0 10 rfl rfl)
theorem dX14_firstLetter_13 : decode cX14_firstLetter 13 = .ok (.aload_n 0, 1) := dk_42 (dk_at dksX14_firstLetter_0 13 rfl rfl)
theorem dX14_firstLetter_14 : decode cX14_firstLetter 14 = .ok (.getfield 23, 3) := dk_180 0 23 (dk_at dksX14_firstLetter_0 14 rfl rfl)
theorem dX14_firstLetter_17 : decode cX14_firstLetter 17 = .ok (.iload_n 1, 1) := dk_27 (dk_at dksX14_firstLetter_0 17 rfl rfl)
theorem dX14_firstLetter_18 : decode cX14_firstLetter 18 = .ok (.invokevirtual 33, 3) := dk_182 0 33 (dk_at dksX14_firstLetter_0 18 rfl rfl)
theorem dX14_firstLetter_21 : decode cX14_firstLetter 21 = .ok (.invokestatic 37, 3) := dk_184 0 37 (dk_at dksX14_firstLetter_0 21 rfl rfl)
theorem dX14_firstLetter_24 : decode cX14_firstLetter 24 = .ok (.ifCond .eq 12, 3) := dk_153 0 12 (dk_at dksX14_firstLetter_1 0 rfl rfl)
theorem dX14_firstLetter_27 : decode cX14_firstLetter 27 = .ok (.aload_n 0, 1) := dk_42 (dk_at dksX14_firstLetter_1 3 rfl rfl)
theorem dX14_firstLetter_28 : decode cX14_firstLetter 28 = .ok (.getfield 23, 3) := dk_180 0 23 (dk_at dksX14_firstLetter_1 4 rfl rfl)
theorem dX14_firstLetter_31 : decode cX14_firstLetter 31 = .ok (.iload_n 1, 1) := dk_27 (dk_at dksX14_firstLetter_1 7 rfl rfl)
theorem dX14_firstLetter_32 : decode cX14_firstLetter 32 = .ok (.invokevirtual 33, 3) := dk_182 0 33 (dk_at dksX14_firstLetter_1 8 rfl rfl)
theorem dX14_firstLetter_35 : decode cX14_firstLetter 35 = .ok (.ireturn, 1) := dk_172 (dk_at dksX14_firstLetter_1 11 rfl rfl)
theorem dX14_firstLetter_36 : decode cX14_firstLetter 36 = .ok (.iinc 1 1, 3) := dk_132 1 1 (dk_at dksX14_firstLetter_1 12 rfl rfl)
theorem dX14_firstLetter_39 : decode cX14_firstLetter 39 = .ok (.goto (-37), 3) := dk_167 255 219 (dk_at dksX14_firstLetter_1 15 rfl rfl)
theorem dX14_firstLetter_42 : decode cX14_firstLetter 42 = .ok (.bipush 32, 2) := dk_16 32 (dk_at dksX14_firstLetter_1 18 rfl rfl)
theorem dX14_firstLetter_44 : decode cX14_firstLetter 44 = .ok (.ireturn, 1) := dk_172 (dk_at dksX14_firstLetter_1 20 rfl rfl)
theorem q146 : (Jvm.Cond.initialized "StenohallModel$Entry") ∈ lw_all := lw_g (lw_at lw_m1 72 rfl) rfl
theorem q317 : (Jvm.Cond.selects "StenohallModel$Entry" ({ cls := "java/lang/Object", name := "getClass", desc := "()Ljava/lang/Class;" } : Jvm.MethodName) ({ cls := "java/lang/Object", name := "getClass", desc := "()Ljava/lang/Class;" } : Jvm.MethodName)) ∈ lw_all := lw_g (lw_at lw_m2 3 rfl) rfl
theorem q970 : (Jvm.Cond.selects "StenohallModel$Entry" ({ cls := "java/lang/Object", name := "equals", desc := "(Ljava/lang/Object;)Z" } : Jvm.MethodName) ({ cls := "java/lang/Object", name := "equals", desc := "(Ljava/lang/Object;)Z" } : Jvm.MethodName)) ∈ lw_all := lw_g (lw_at lw_m4 176 rfl) rfl
theorem q3785 : (Jvm.Cond.instantiable "StenohallModel$Entry" (4 : Nat)) ∈ lw_all := lw_g (lw_at lw_m16 111 rfl) rfl
theorem q3787 : (Jvm.Cond.instanceMethod ({ cls := "StenohallModel$Entry", name := "<init>", desc := "(ILjava/lang/String;)V" } : Jvm.MethodName)) ∈ lw_all := lw_g (lw_at lw_m16 113 rfl) rfl
theorem q3788 : (Jvm.Cond.code ({ cls := "StenohallModel$Entry", name := "<init>", desc := "(ILjava/lang/String;)V" } : Jvm.MethodName) prog_17_method_1_code (3 : Nat) (Option.none : Option Jvm.ClassFile.FieldType)) ∈ lw_all := lw_g (lw_at lw_m16 114 rfl) rfl
theorem q3789 : (Jvm.Cond.methodLink "StenohallModel$Entry" (1 : Nat) ({ cls := "java/lang/Object", name := "<init>", desc := "()V" } : Jvm.MethodName)) ∈ lw_all := lw_g (lw_at lw_m16 115 rfl) rfl
theorem q3790 : (Jvm.Cond.classLink "StenohallModel$Entry" (7 : Nat) "java/util/ArrayList") ∈ lw_all := lw_g (lw_at lw_m16 116 rfl) rfl
theorem q3791 : (Jvm.Cond.methodLink "StenohallModel$Entry" (9 : Nat) ({ cls := "java/util/ArrayList", name := "<init>", desc := "()V" } : Jvm.MethodName)) ∈ lw_all := lw_g (lw_at lw_m16 117 rfl) rfl
theorem q3792 : (Jvm.Cond.fieldLink "StenohallModel$Entry" (19 : Nat) "StenohallModel$Entry" "layer" "I") ∈ lw_all := lw_g (lw_at lw_m16 118 rfl) rfl
theorem q3794 : (Jvm.Cond.fieldLink "StenohallModel$Entry" (23 : Nat) "StenohallModel$Entry" "content" "Ljava/lang/String;") ∈ lw_all := lw_g (lw_at lw_m16 120 rfl) rfl
theorem q3797 : (Jvm.Cond.fieldLink "StenohallModel$Entry" (10 : Nat) "StenohallModel$Entry" "letters" "Ljava/util/ArrayList;") ∈ lw_all := lw_g (lw_at lw_m16 123 rfl) rfl
theorem q3800 : (Jvm.Cond.fieldLink "StenohallModel$Entry" (16 : Nat) "StenohallModel$Entry" "contents" "Ljava/util/ArrayList;") ∈ lw_all := lw_g (lw_at lw_m16 126 rfl) rfl
theorem q3803 : (Jvm.Cond.laysFinal "StenohallModel$Entry" "StenohallModel$Entry" "layer" "I") ∈ lw_all := lw_g (lw_at lw_m16 129 rfl) rfl
theorem q3804 : (Jvm.Cond.soleField "StenohallModel$Entry" "layer") ∈ lw_all := lw_g (lw_at lw_m16 130 rfl) rfl
theorem q3805 : (Jvm.Cond.laysFinal "StenohallModel$Entry" "StenohallModel$Entry" "content" "Ljava/lang/String;") ∈ lw_all := lw_g (lw_at lw_m16 131 rfl) rfl
theorem q3806 : (Jvm.Cond.soleField "StenohallModel$Entry" "content") ∈ lw_all := lw_g (lw_at lw_m16 132 rfl) rfl
theorem q3807 : (Jvm.Cond.laysFinal "StenohallModel$Entry" "StenohallModel$Entry" "letters" "Ljava/util/ArrayList;") ∈ lw_all := lw_g (lw_at lw_m16 133 rfl) rfl
theorem q3808 : (Jvm.Cond.soleField "StenohallModel$Entry" "letters") ∈ lw_all := lw_g (lw_at lw_m16 134 rfl) rfl
theorem q3809 : (Jvm.Cond.laysFinal "StenohallModel$Entry" "StenohallModel$Entry" "contents" "Ljava/util/ArrayList;") ∈ lw_all := lw_g (lw_at lw_m16 135 rfl) rfl
theorem q3810 : (Jvm.Cond.soleField "StenohallModel$Entry" "contents") ∈ lw_all := lw_g (lw_at lw_m16 136 rfl) rfl
theorem q3811 : (Jvm.Cond.superclass "StenohallModel$Entry" "java/lang/Object") ∈ lw_all := lw_g (lw_at lw_m16 137 rfl) rfl
theorem q3960 : (Jvm.Cond.instanceMethod ({ cls := "StenohallModel$Entry", name := "firstLetter", desc := "()C" } : Jvm.MethodName)) ∈ lw_all := lw_g (lw_at lw_m17 46 rfl) rfl
theorem q3961 : (Jvm.Cond.selects "StenohallModel$Entry" ({ cls := "StenohallModel$Entry", name := "firstLetter", desc := "()C" } : Jvm.MethodName) ({ cls := "StenohallModel$Entry", name := "firstLetter", desc := "()C" } : Jvm.MethodName)) ∈ lw_all := lw_g (lw_at lw_m17 47 rfl) rfl
theorem q3962 : (Jvm.Cond.code ({ cls := "StenohallModel$Entry", name := "firstLetter", desc := "()C" } : Jvm.MethodName) prog_17_method_2_code (2 : Nat) (Option.some Jvm.ClassFile.FieldType.char)) ∈ lw_all := lw_g (lw_at lw_m17 48 rfl) rfl
theorem q3963 : (Jvm.Cond.methodLink "StenohallModel$Entry" (27 : Nat) ({ cls := "java/lang/String", name := "length", desc := "()I" } : Jvm.MethodName)) ∈ lw_all := lw_g (lw_at lw_m17 49 rfl) rfl
theorem q3964 : (Jvm.Cond.methodLink "StenohallModel$Entry" (33 : Nat) ({ cls := "java/lang/String", name := "charAt", desc := "(I)C" } : Jvm.MethodName)) ∈ lw_all := lw_g (lw_at lw_m17 50 rfl) rfl
theorem q3965 : (Jvm.Cond.methodLinkNest "StenohallModel$Entry" (37 : Nat) ({ cls := "StenohallModel", name := "isSmall", desc := "(C)Z" } : Jvm.MethodName) "StenohallModel") ∈ lw_tbl := lw_at lw_m17 51 rfl
theorem q4381 : (Jvm.Cond.castable "StenohallModel$Entry" "java/lang/Object") ∈ lw_tbl := lw_at lw_m18 227 rfl
theorem in_X14 : ∀ w ∈ wsX140, w ∈ lw_all := lw_in wsX140 [3803, 3805, 3807, 3809] (by decide +kernel) (by decide +kernel)
/-! Stenohall$Alternative -/
set_option maxRecDepth 100000
def RX15 : String := "Stenohall$Alternative"
def TX15 : u_T := fun k => match k with
  | 0 => ("Stenohall$Alternative", "letter", "C", true)
  | _ => ("Stenohall$Alternative", "content", "Ljava/lang/String;", true)
def tyX15 : Nat → FieldType := fun k => match k with
  | 0 => .char
  | _ => .object "java/lang/String"
abbrev wsX150 : List Cond := u_ws RX15 TX15 2
theorem nmX15 : ∀ a, a < 2 → ∀ b, b < 2 → a ≠ b → (TX15 a).2.1 ≠ (TX15 b).2.1 := by decide +kernel
theorem tyX15_ok : ∀ k, k < 2 → parseFieldDescriptor (TX15 k).2.2.1 = some (tyX15 k) := by decide +kernel
abbrev cX15_equals : ByteArray := prog_2_method_4_code
def yX15_equals : MethodName := ⟨RX15, "equals", "(Ljava/lang/Object;)Z"⟩
def dkwX15_equals_0 : List UInt8 := [42, 43, 186, 0, 25, 0, 0, 172]
abbrev dktX15_equals_0 : List UInt8 := dkwX15_equals_0 ++ []
theorem dksX15_equals_0 : cX15_equals.data.toList.drop 0 = dktX15_equals_0 := by decide +kernel
theorem dX15_equals_0 : decode cX15_equals 0 = .ok (.aload_n 0, 1) := dk_42 (dk_at dksX15_equals_0 0 rfl rfl)
theorem dX15_equals_1 : decode cX15_equals 1 = .ok (.aload_n 1, 1) := dk_43 (dk_at dksX15_equals_0 1 rfl rfl)
theorem dX15_equals_2 : decode cX15_equals 2 = .ok (.invokedynamic 25, 5) := by decide +kernel
theorem dX15_equals_7 : decode cX15_equals 7 = .ok (.ireturn, 1) := dk_172 (dk_at dksX15_equals_0 7 rfl rfl)
abbrev cX15_letter : ByteArray := prog_2_method_5_code
def yX15_letter : MethodName := ⟨RX15, "letter", "()C"⟩
theorem dX15_letter_0 : decode cX15_letter 0 = .ok (.aload_n 0, 1) := by decide +kernel
theorem dX15_letter_1 : decode cX15_letter 1 = .ok (.getfield 7, 3) := by decide +kernel
theorem dX15_letter_4 : decode cX15_letter 4 = .ok (.ireturn, 1) := by decide +kernel
abbrev cX15_content : ByteArray := prog_2_method_6_code
def yX15_content : MethodName := ⟨RX15, "content", "()Ljava/lang/String;"⟩
theorem dX15_content_0 : decode cX15_content 0 = .ok (.aload_n 0, 1) := by decide +kernel
theorem dX15_content_1 : decode cX15_content 1 = .ok (.getfield 13, 3) := by decide +kernel
theorem dX15_content_4 : decode cX15_content 4 = .ok (.areturn, 1) := by decide +kernel
abbrev cX15_init : ByteArray := prog_2_method_1_code
def yX15_init : MethodName := ⟨RX15, "<init>", "(CLjava/lang/String;)V"⟩
def dkwX15_init_0 : List UInt8 := [42, 183, 0, 1, 42, 27, 181, 0, 7, 42, 44, 181, 0, 13, 177]
abbrev dktX15_init_0 : List UInt8 := dkwX15_init_0 ++ []
theorem dksX15_init_0 : cX15_init.data.toList.drop 0 = dktX15_init_0 := by decide +kernel
theorem dX15_init_0 : decode cX15_init 0 = .ok (.aload_n 0, 1) := dk_42 (dk_at dksX15_init_0 0 rfl rfl)
theorem dX15_init_1 : decode cX15_init 1 = .ok (.invokespecial 1, 3) := dk_183 0 1 (dk_at dksX15_init_0 1 rfl rfl)
theorem dX15_init_4 : decode cX15_init 4 = .ok (.aload_n 0, 1) := dk_42 (dk_at dksX15_init_0 4 rfl rfl)
theorem dX15_init_5 : decode cX15_init 5 = .ok (.iload_n 1, 1) := dk_27 (dk_at dksX15_init_0 5 rfl rfl)
theorem dX15_init_6 : decode cX15_init 6 = .ok (.putfield 7, 3) := dk_181 0 7 (dk_at dksX15_init_0 6 rfl rfl)
theorem dX15_init_9 : decode cX15_init 9 = .ok (.aload_n 0, 1) := dk_42 (dk_at dksX15_init_0 9 rfl rfl)
theorem dX15_init_10 : decode cX15_init 10 = .ok (.aload_n 2, 1) := dk_44 (dk_at dksX15_init_0 10 rfl rfl)
theorem dX15_init_11 : decode cX15_init 11 = .ok (.putfield 13, 3) := dk_181 0 13 (dk_at dksX15_init_0 11 rfl rfl)
theorem dX15_init_14 : decode cX15_init 14 = .ok (.return_, 1) := dk_177 (dk_at dksX15_init_0 14 rfl rfl)
theorem q148 : (Jvm.Cond.initialized "Stenohall$Alternative") ∈ lw_all := lw_g (lw_at lw_m1 74 rfl) rfl
theorem q304 : (Jvm.Cond.selects "Stenohall$Alternative" ({ cls := "java/lang/Object", name := "getClass", desc := "()Ljava/lang/Class;" } : Jvm.MethodName) ({ cls := "java/lang/Object", name := "getClass", desc := "()Ljava/lang/Class;" } : Jvm.MethodName)) ∈ lw_all := lw_g (lw_at lw_m1 230 rfl) rfl
theorem q922 : (Jvm.Cond.selects "Stenohall$Alternative" ({ cls := "java/lang/Object", name := "equals", desc := "(Ljava/lang/Object;)Z" } : Jvm.MethodName) ({ cls := "Stenohall$Alternative", name := "equals", desc := "(Ljava/lang/Object;)Z" } : Jvm.MethodName)) ∈ lw_all := lw_g (lw_at lw_m4 128 rfl) rfl
theorem q923 : (Jvm.Cond.instanceMethod ({ cls := "Stenohall$Alternative", name := "equals", desc := "(Ljava/lang/Object;)Z" } : Jvm.MethodName)) ∈ lw_all := lw_g (lw_at lw_m4 129 rfl) rfl
theorem q924 : (Jvm.Cond.code ({ cls := "Stenohall$Alternative", name := "equals", desc := "(Ljava/lang/Object;)Z" } : Jvm.MethodName) prog_2_method_4_code (2 : Nat) (Option.some Jvm.ClassFile.FieldType.boolean)) ∈ lw_all := lw_g (lw_at lw_m4 130 rfl) rfl
theorem q2092 : (Jvm.Cond.instanceMethod ({ cls := "Stenohall$Alternative", name := "letter", desc := "()C" } : Jvm.MethodName)) ∈ lw_all := lw_g (lw_at lw_m9 98 rfl) rfl
theorem q2093 : (Jvm.Cond.selects "Stenohall$Alternative" ({ cls := "Stenohall$Alternative", name := "letter", desc := "()C" } : Jvm.MethodName) ({ cls := "Stenohall$Alternative", name := "letter", desc := "()C" } : Jvm.MethodName)) ∈ lw_all := lw_g (lw_at lw_m9 99 rfl) rfl
theorem q2094 : (Jvm.Cond.code ({ cls := "Stenohall$Alternative", name := "letter", desc := "()C" } : Jvm.MethodName) prog_2_method_5_code (1 : Nat) (Option.some Jvm.ClassFile.FieldType.char)) ∈ lw_all := lw_g (lw_at lw_m9 100 rfl) rfl
theorem q2109 : (Jvm.Cond.instanceMethod ({ cls := "Stenohall$Alternative", name := "content", desc := "()Ljava/lang/String;" } : Jvm.MethodName)) ∈ lw_all := lw_g (lw_at lw_m9 115 rfl) rfl
theorem q2110 : (Jvm.Cond.selects "Stenohall$Alternative" ({ cls := "Stenohall$Alternative", name := "content", desc := "()Ljava/lang/String;" } : Jvm.MethodName) ({ cls := "Stenohall$Alternative", name := "content", desc := "()Ljava/lang/String;" } : Jvm.MethodName)) ∈ lw_all := lw_g (lw_at lw_m9 116 rfl) rfl
theorem q2111 : (Jvm.Cond.code ({ cls := "Stenohall$Alternative", name := "content", desc := "()Ljava/lang/String;" } : Jvm.MethodName) prog_2_method_6_code (1 : Nat) (Option.some (Jvm.ClassFile.FieldType.object "java/lang/String"))) ∈ lw_all := lw_g (lw_at lw_m9 117 rfl) rfl
theorem q2964 : (Jvm.Cond.instantiable "Stenohall$Alternative" (2 : Nat)) ∈ lw_all := lw_g (lw_at lw_m13 10 rfl) rfl
theorem q2966 : (Jvm.Cond.instanceMethod ({ cls := "Stenohall$Alternative", name := "<init>", desc := "(CLjava/lang/String;)V" } : Jvm.MethodName)) ∈ lw_all := lw_g (lw_at lw_m13 12 rfl) rfl
theorem q2967 : (Jvm.Cond.code ({ cls := "Stenohall$Alternative", name := "<init>", desc := "(CLjava/lang/String;)V" } : Jvm.MethodName) prog_2_method_1_code (3 : Nat) (Option.none : Option Jvm.ClassFile.FieldType)) ∈ lw_all := lw_g (lw_at lw_m13 13 rfl) rfl
theorem q2968 : (Jvm.Cond.methodLink "Stenohall$Alternative" (1 : Nat) ({ cls := "java/lang/Record", name := "<init>", desc := "()V" } : Jvm.MethodName)) ∈ lw_all := lw_g (lw_at lw_m13 14 rfl) rfl
theorem q2969 : (Jvm.Cond.fieldLink "Stenohall$Alternative" (7 : Nat) "Stenohall$Alternative" "letter" "C") ∈ lw_all := lw_g (lw_at lw_m13 15 rfl) rfl
theorem q2970 : (Jvm.Cond.fieldLink "Stenohall$Alternative" (13 : Nat) "Stenohall$Alternative" "content" "Ljava/lang/String;") ∈ lw_all := lw_g (lw_at lw_m13 16 rfl) rfl
theorem q2971 : (Jvm.Cond.laysFinal "Stenohall$Alternative" "Stenohall$Alternative" "letter" "C") ∈ lw_all := lw_g (lw_at lw_m13 17 rfl) rfl
theorem q2972 : (Jvm.Cond.soleField "Stenohall$Alternative" "letter") ∈ lw_all := lw_g (lw_at lw_m13 18 rfl) rfl
theorem q2973 : (Jvm.Cond.laysFinal "Stenohall$Alternative" "Stenohall$Alternative" "content" "Ljava/lang/String;") ∈ lw_all := lw_g (lw_at lw_m13 19 rfl) rfl
theorem q2974 : (Jvm.Cond.soleField "Stenohall$Alternative" "content") ∈ lw_all := lw_g (lw_at lw_m13 20 rfl) rfl
theorem q2975 : (Jvm.Cond.superclass "Stenohall$Alternative" "java/lang/Record") ∈ lw_all := lw_g (lw_at lw_m13 21 rfl) rfl
theorem q4383 : (Jvm.Cond.castable "Stenohall$Alternative" "java/lang/Object") ∈ lw_tbl := lw_at lw_m18 229 rfl
theorem in_X15 : ∀ w ∈ wsX150, w ∈ lw_all := lw_in wsX150 [2971, 2973] (by decide +kernel) (by decide +kernel)
/-! StenohallModel$Writing -/
set_option maxRecDepth 100000
def RX16 : String := "StenohallModel$Writing"
def TX16 : u_T := fun k => match k with
  | 0 => ("StenohallModel$Writing", "signs", "Ljava/util/ArrayList;", true)
  | 1 => ("StenohallModel$Writing", "chosen", "[I", true)
  | 2 => ("StenohallModel$Writing", "isDue", "Z", false)
  | 3 => ("StenohallModel$Writing", "writer", "I", false)
  | 4 => ("StenohallModel$Writing", "time", "I", false)
  | 5 => ("StenohallModel$Writing", "isAttached", "Z", false)
  | 6 => ("StenohallModel$Writing", "hasWritten", "Z", false)
  | _ => ("StenohallModel$Writing", "this$0", "LStenohallModel;", true)
def tyX16 : Nat → FieldType := fun k => match k with
  | 0 => .object "java/util/ArrayList"
  | 1 => .array .int
  | 2 => .boolean
  | 3 => .int
  | 4 => .int
  | 5 => .boolean
  | 6 => .boolean
  | _ => .object "StenohallModel"
abbrev wsX160 : List Cond := u_ws RX16 TX16 8
theorem nmX16 : ∀ a, a < 8 → ∀ b, b < 8 → a ≠ b → (TX16 a).2.1 ≠ (TX16 b).2.1 := by decide +kernel
theorem tyX16_ok : ∀ k, k < 8 → parseFieldDescriptor (TX16 k).2.2.1 = some (tyX16 k) := by decide +kernel
abbrev cX16_init : ByteArray := prog_22_method_1_code
def yX16_init : MethodName := ⟨RX16, "<init>", "(LStenohallModel;)V"⟩
def dkwX16_init_11 : List UInt8 := [167, 0, 5, 25, 5, 77, 132, 3, 1, 167, 255, 30, 177]
abbrev dktX16_init_11 : List UInt8 := dkwX16_init_11 ++ []
def dkwX16_init_10 : List UInt8 := [180, 0, 45, 199, 0, 7, 4, 167, 0, 4, 3, 182, 0, 99, 25, 4, 180, 0, 45, 199, 0, 8, 18, 33]
abbrev dktX16_init_10 : List UInt8 := dkwX16_init_10 ++ dktX16_init_11
def dkwX16_init_9 : List UInt8 := [180, 0, 89, 182, 0, 35, 192, 0, 92, 4, 46, 181, 0, 93, 42, 3, 181, 0, 96, 42, 25, 5, 25, 4]
abbrev dktX16_init_9 : List UInt8 := dkwX16_init_9 ++ dktX16_init_10
def dkwX16_init_8 : List UInt8 := [160, 0, 7, 4, 167, 0, 4, 3, 181, 0, 78, 42, 29, 181, 0, 82, 42, 43, 180, 0, 86, 25, 4]
abbrev dktX16_init_8 : List UInt8 := dkwX16_init_8 ++ dktX16_init_9
def dkwX16_init_7 : List UInt8 := [154, 0, 25, 44, 182, 0, 71, 154, 0, 22, 44, 44, 182, 0, 75, 4, 100, 182, 0, 64, 16, 94]
abbrev dktX16_init_7 : List UInt8 := dkwX16_init_7 ++ dktX16_init_8
def dkwX16_init_6 : List UInt8 := [18, 62, 25, 5, 3, 182, 0, 64, 182, 0, 68, 155, 0, 7, 4, 167, 0, 4, 3, 54, 6, 42, 21, 6]
abbrev dktX16_init_6 : List UInt8 := dkwX16_init_6 ++ dktX16_init_7
def dkwX16_init_5 : List UInt8 := [180, 0, 29, 29, 46, 4, 100, 182, 0, 35, 192, 0, 60, 58, 5, 25, 4, 180, 0, 45, 198, 0, 21]
abbrev dktX16_init_5 : List UInt8 := dkwX16_init_5 ++ dktX16_init_6
def dkwX16_init_4 : List UInt8 := [154, 0, 14, 25, 4, 180, 0, 45, 180, 0, 51, 167, 0, 25, 25, 4, 180, 0, 45, 180, 0, 57, 42]
abbrev dktX16_init_4 : List UInt8 := dkwX16_init_4 ++ dktX16_init_5
def dkwX16_init_3 : List UInt8 := [182, 0, 41, 79, 25, 4, 180, 0, 45, 199, 0, 8, 18, 49, 167, 0, 45, 42, 180, 0, 29, 29, 46]
abbrev dktX16_init_3 : List UInt8 := dkwX16_init_3 ++ dktX16_init_4
def dkwX16_init_2 : List UInt8 := [162, 0, 221, 43, 180, 0, 20, 29, 182, 0, 35, 192, 0, 39, 58, 4, 42, 180, 0, 29, 29, 42, 29]
abbrev dktX16_init_2 : List UInt8 := dkwX16_init_2 ++ dktX16_init_3
def dkwX16_init_1 : List UInt8 := [180, 0, 20, 182, 0, 25, 188, 10, 181, 0, 29, 18, 33, 77, 3, 62, 29, 43, 180, 0, 20, 182, 0, 25]
abbrev dktX16_init_1 : List UInt8 := dkwX16_init_1 ++ dktX16_init_2
def dkwX16_init_0 : List UInt8 := [42, 43, 181, 0, 1, 42, 183, 0, 7, 42, 187, 0, 13, 89, 183, 0, 15, 181, 0, 16, 42, 43]
abbrev dktX16_init_0 : List UInt8 := dkwX16_init_0 ++ dktX16_init_1
theorem dksX16_init_0 : cX16_init.data.toList.drop 0 = dktX16_init_0 := by decide +kernel
theorem dksX16_init_1 : cX16_init.data.toList.drop 22 = dktX16_init_1 := dk_seg dksX16_init_0 22 rfl rfl
theorem dksX16_init_2 : cX16_init.data.toList.drop 46 = dktX16_init_2 := dk_seg dksX16_init_1 24 rfl rfl
theorem dksX16_init_3 : cX16_init.data.toList.drop 69 = dktX16_init_3 := dk_seg dksX16_init_2 23 rfl rfl
theorem dksX16_init_4 : cX16_init.data.toList.drop 92 = dktX16_init_4 := dk_seg dksX16_init_3 23 rfl rfl
theorem dksX16_init_5 : cX16_init.data.toList.drop 115 = dktX16_init_5 := dk_seg dksX16_init_4 23 rfl rfl
theorem dksX16_init_6 : cX16_init.data.toList.drop 138 = dktX16_init_6 := dk_seg dksX16_init_5 23 rfl rfl
theorem dksX16_init_7 : cX16_init.data.toList.drop 162 = dktX16_init_7 := dk_seg dksX16_init_6 24 rfl rfl
theorem dksX16_init_8 : cX16_init.data.toList.drop 184 = dktX16_init_8 := dk_seg dksX16_init_7 22 rfl rfl
theorem dksX16_init_9 : cX16_init.data.toList.drop 207 = dktX16_init_9 := dk_seg dksX16_init_8 23 rfl rfl
theorem dksX16_init_10 : cX16_init.data.toList.drop 231 = dktX16_init_10 := dk_seg dksX16_init_9 24 rfl rfl
theorem dksX16_init_11 : cX16_init.data.toList.drop 255 = dktX16_init_11 := dk_seg dksX16_init_10 24 rfl rfl
theorem dX16_init_0 : decode cX16_init 0 = .ok (.aload_n 0, 1) := dk_42 (dk_at dksX16_init_0 0 rfl rfl)
theorem dX16_init_1 : decode cX16_init 1 = .ok (.aload_n 1, 1) := dk_43 (dk_at dksX16_init_0 1 rfl rfl)
theorem dX16_init_2 : decode cX16_init 2 = .ok (.putfield 1, 3) := dk_181 0 1 (dk_at dksX16_init_0 2 rfl rfl)
theorem dX16_init_5 : decode cX16_init 5 = .ok (.aload_n 0, 1) := dk_42 (dk_at dksX16_init_0 5 rfl rfl)
theorem dX16_init_6 : decode cX16_init 6 = .ok (.invokespecial 7, 3) := dk_183 0 7 (dk_at dksX16_init_0 6 rfl rfl)
theorem dX16_init_9 : decode cX16_init 9 = .ok (.aload_n 0, 1) := dk_42 (dk_at dksX16_init_0 9 rfl rfl)
theorem dX16_init_10 : decode cX16_init 10 = .ok (.new 13, 3) := dk_187 0 13 (dk_at dksX16_init_0 10 rfl rfl)
theorem dX16_init_13 : decode cX16_init 13 = .ok (.dup, 1) := dk_89 (dk_at dksX16_init_0 13 rfl rfl)
theorem dX16_init_14 : decode cX16_init 14 = .ok (.invokespecial 15, 3) := dk_183 0 15 (dk_at dksX16_init_0 14 rfl rfl)
theorem dX16_init_17 : decode cX16_init 17 = .ok (.putfield 16, 3) := dk_181 0 16 (dk_at dksX16_init_0 17 rfl rfl)
theorem dX16_init_20 : decode cX16_init 20 = .ok (.aload_n 0, 1) := dk_42 (dk_at dksX16_init_0 20 rfl rfl)
theorem dX16_init_21 : decode cX16_init 21 = .ok (.aload_n 1, 1) := dk_43 (dk_at dksX16_init_0 21 rfl rfl)
theorem dX16_init_22 : decode cX16_init 22 = .ok (.getfield 20, 3) := dk_180 0 20 (dk_at dksX16_init_1 0 rfl rfl)
theorem dX16_init_25 : decode cX16_init 25 = .ok (.invokevirtual 25, 3) := dk_182 0 25 (dk_at dksX16_init_1 3 rfl rfl)
theorem dX16_init_28 : decode cX16_init 28 = .ok (.newarray .int, 2) := dk_188_10 (dk_at dksX16_init_1 6 rfl rfl)
theorem dX16_init_30 : decode cX16_init 30 = .ok (.putfield 29, 3) := dk_181 0 29 (dk_at dksX16_init_1 8 rfl rfl)
theorem dX16_init_33 : decode cX16_init 33 = .ok (.ldc 33, 2) := dk_18 33 (dk_at dksX16_init_1 11 rfl rfl)
theorem dX16_init_35 : decode cX16_init 35 = .ok (.astore_n 2, 1) := dk_77 (dk_at dksX16_init_1 13 rfl rfl)
theorem dX16_init_36 : decode cX16_init 36 = .ok (.iconst 0, 1) := dk_3 (dk_at dksX16_init_1 14 rfl rfl)
theorem dX16_init_37 : decode cX16_init 37 = .ok (.istore_n 3, 1) := dk_62 (dk_at dksX16_init_1 15 rfl rfl)
theorem dX16_init_38 : decode cX16_init 38 = .ok (.iload_n 3, 1) := dk_29 (dk_at dksX16_init_1 16 rfl rfl)
theorem dX16_init_39 : decode cX16_init 39 = .ok (.aload_n 1, 1) := dk_43 (dk_at dksX16_init_1 17 rfl rfl)
theorem dX16_init_40 : decode cX16_init 40 = .ok (.getfield 20, 3) := dk_180 0 20 (dk_at dksX16_init_1 18 rfl rfl)
theorem dX16_init_43 : decode cX16_init 43 = .ok (.invokevirtual 25, 3) := dk_182 0 25 (dk_at dksX16_init_1 21 rfl rfl)
theorem dX16_init_46 : decode cX16_init 46 = .ok (.if_icmp .ge 221, 3) := dk_162 0 221 (dk_at dksX16_init_2 0 rfl rfl)
theorem dX16_init_49 : decode cX16_init 49 = .ok (.aload_n 1, 1) := dk_43 (dk_at dksX16_init_2 3 rfl rfl)
theorem dX16_init_50 : decode cX16_init 50 = .ok (.getfield 20, 3) := dk_180 0 20 (dk_at dksX16_init_2 4 rfl rfl)
theorem dX16_init_53 : decode cX16_init 53 = .ok (.iload_n 3, 1) := dk_29 (dk_at dksX16_init_2 7 rfl rfl)
theorem dX16_init_54 : decode cX16_init 54 = .ok (.invokevirtual 35, 3) := dk_182 0 35 (dk_at dksX16_init_2 8 rfl rfl)
theorem dX16_init_57 : decode cX16_init 57 = .ok (.checkcast 39, 3) := dk_192 0 39 (dk_at dksX16_init_2 11 rfl rfl)
theorem dX16_init_60 : decode cX16_init 60 = .ok (.astore 4, 2) := dk_58 4 (dk_at dksX16_init_2 14 rfl rfl)
theorem dX16_init_62 : decode cX16_init 62 = .ok (.aload_n 0, 1) := dk_42 (dk_at dksX16_init_2 16 rfl rfl)
theorem dX16_init_63 : decode cX16_init 63 = .ok (.getfield 29, 3) := dk_180 0 29 (dk_at dksX16_init_2 17 rfl rfl)
theorem dX16_init_66 : decode cX16_init 66 = .ok (.iload_n 3, 1) := dk_29 (dk_at dksX16_init_2 20 rfl rfl)
theorem dX16_init_67 : decode cX16_init 67 = .ok (.aload_n 0, 1) := dk_42 (dk_at dksX16_init_2 21 rfl rfl)
theorem dX16_init_68 : decode cX16_init 68 = .ok (.iload_n 3, 1) := dk_29 (dk_at dksX16_init_2 22 rfl rfl)
theorem dX16_init_69 : decode cX16_init 69 = .ok (.invokevirtual 41, 3) := dk_182 0 41 (dk_at dksX16_init_3 0 rfl rfl)
theorem dX16_init_72 : decode cX16_init 72 = .ok (.iastore, 1) := dk_79 (dk_at dksX16_init_3 3 rfl rfl)
theorem dX16_init_73 : decode cX16_init 73 = .ok (.aload 4, 2) := dk_25 4 (dk_at dksX16_init_3 4 rfl rfl)
theorem dX16_init_75 : decode cX16_init 75 = .ok (.getfield 45, 3) := dk_180 0 45 (dk_at dksX16_init_3 6 rfl rfl)
theorem dX16_init_78 : decode cX16_init 78 = .ok (.ifnonnull 8, 3) := dk_199 0 8 (dk_at dksX16_init_3 9 rfl rfl)
theorem dX16_init_81 : decode cX16_init 81 = .ok (.ldc 49, 2) := dk_18 49 (dk_at dksX16_init_3 12 rfl rfl)
theorem dX16_init_83 : decode cX16_init 83 = .ok (.goto 45, 3) := dk_167 0 45 (dk_at dksX16_init_3 14 rfl rfl)
theorem dX16_init_86 : decode cX16_init 86 = .ok (.aload_n 0, 1) := dk_42 (dk_at dksX16_init_3 17 rfl rfl)
theorem dX16_init_87 : decode cX16_init 87 = .ok (.getfield 29, 3) := dk_180 0 29 (dk_at dksX16_init_3 18 rfl rfl)
theorem dX16_init_90 : decode cX16_init 90 = .ok (.iload_n 3, 1) := dk_29 (dk_at dksX16_init_3 21 rfl rfl)
theorem dX16_init_91 : decode cX16_init 91 = .ok (.iaload, 1) := dk_46 (dk_at dksX16_init_3 22 rfl rfl)
theorem dX16_init_92 : decode cX16_init 92 = .ok (.ifCond .ne 14, 3) := dk_154 0 14 (dk_at dksX16_init_4 0 rfl rfl)
theorem dX16_init_95 : decode cX16_init 95 = .ok (.aload 4, 2) := dk_25 4 (dk_at dksX16_init_4 3 rfl rfl)
theorem dX16_init_97 : decode cX16_init 97 = .ok (.getfield 45, 3) := dk_180 0 45 (dk_at dksX16_init_4 5 rfl rfl)
theorem dX16_init_100 : decode cX16_init 100 = .ok (.getfield 51, 3) := dk_180 0 51 (dk_at dksX16_init_4 8 rfl rfl)
theorem dX16_init_103 : decode cX16_init 103 = .ok (.goto 25, 3) := dk_167 0 25 (dk_at dksX16_init_4 11 rfl rfl)
theorem dX16_init_106 : decode cX16_init 106 = .ok (.aload 4, 2) := dk_25 4 (dk_at dksX16_init_4 14 rfl rfl)
theorem dX16_init_108 : decode cX16_init 108 = .ok (.getfield 45, 3) := dk_180 0 45 (dk_at dksX16_init_4 16 rfl rfl)
theorem dX16_init_111 : decode cX16_init 111 = .ok (.getfield 57, 3) := dk_180 0 57 (dk_at dksX16_init_4 19 rfl rfl)
theorem dX16_init_114 : decode cX16_init 114 = .ok (.aload_n 0, 1) := dk_42 (dk_at dksX16_init_4 22 rfl rfl)
theorem dX16_init_115 : decode cX16_init 115 = .ok (.getfield 29, 3) := dk_180 0 29 (dk_at dksX16_init_5 0 rfl rfl)
theorem dX16_init_118 : decode cX16_init 118 = .ok (.iload_n 3, 1) := dk_29 (dk_at dksX16_init_5 3 rfl rfl)
theorem dX16_init_119 : decode cX16_init 119 = .ok (.iaload, 1) := dk_46 (dk_at dksX16_init_5 4 rfl rfl)
theorem dX16_init_120 : decode cX16_init 120 = .ok (.iconst 1, 1) := dk_4 (dk_at dksX16_init_5 5 rfl rfl)
theorem dX16_init_121 : decode cX16_init 121 = .ok (.isub, 1) := dk_100 (dk_at dksX16_init_5 6 rfl rfl)
theorem dX16_init_122 : decode cX16_init 122 = .ok (.invokevirtual 35, 3) := dk_182 0 35 (dk_at dksX16_init_5 7 rfl rfl)
theorem dX16_init_125 : decode cX16_init 125 = .ok (.checkcast 60, 3) := dk_192 0 60 (dk_at dksX16_init_5 10 rfl rfl)
theorem dX16_init_128 : decode cX16_init 128 = .ok (.astore 5, 2) := dk_58 5 (dk_at dksX16_init_5 13 rfl rfl)
theorem dX16_init_130 : decode cX16_init 130 = .ok (.aload 4, 2) := dk_25 4 (dk_at dksX16_init_5 15 rfl rfl)
theorem dX16_init_132 : decode cX16_init 132 = .ok (.getfield 45, 3) := dk_180 0 45 (dk_at dksX16_init_5 17 rfl rfl)
theorem dX16_init_135 : decode cX16_init 135 = .ok (.ifnull 21, 3) := dk_198 0 21 (dk_at dksX16_init_5 20 rfl rfl)
theorem dX16_init_138 : decode cX16_init 138 = .ok (.ldc 62, 2) := dk_18 62 (dk_at dksX16_init_6 0 rfl rfl)
theorem dX16_init_140 : decode cX16_init 140 = .ok (.aload 5, 2) := dk_25 5 (dk_at dksX16_init_6 2 rfl rfl)
theorem dX16_init_142 : decode cX16_init 142 = .ok (.iconst 0, 1) := dk_3 (dk_at dksX16_init_6 4 rfl rfl)
theorem dX16_init_143 : decode cX16_init 143 = .ok (.invokevirtual 64, 3) := dk_182 0 64 (dk_at dksX16_init_6 5 rfl rfl)
theorem dX16_init_146 : decode cX16_init 146 = .ok (.invokevirtual 68, 3) := dk_182 0 68 (dk_at dksX16_init_6 8 rfl rfl)
theorem dX16_init_149 : decode cX16_init 149 = .ok (.ifCond .lt 7, 3) := dk_155 0 7 (dk_at dksX16_init_6 11 rfl rfl)
theorem dX16_init_152 : decode cX16_init 152 = .ok (.iconst 1, 1) := dk_4 (dk_at dksX16_init_6 14 rfl rfl)
theorem dX16_init_153 : decode cX16_init 153 = .ok (.goto 4, 3) := dk_167 0 4 (dk_at dksX16_init_6 15 rfl rfl)
theorem dX16_init_156 : decode cX16_init 156 = .ok (.iconst 0, 1) := dk_3 (dk_at dksX16_init_6 18 rfl rfl)
theorem dX16_init_157 : decode cX16_init 157 = .ok (.istore 6, 2) := dk_54 6 (dk_at dksX16_init_6 19 rfl rfl)
theorem dX16_init_159 : decode cX16_init 159 = .ok (.aload_n 0, 1) := dk_42 (dk_at dksX16_init_6 21 rfl rfl)
theorem dX16_init_160 : decode cX16_init 160 = .ok (.iload 6, 2) := dk_21 6 (dk_at dksX16_init_6 22 rfl rfl)
theorem dX16_init_162 : decode cX16_init 162 = .ok (.ifCond .ne 25, 3) := dk_154 0 25 (dk_at dksX16_init_7 0 rfl rfl)
theorem dX16_init_165 : decode cX16_init 165 = .ok (.aload_n 2, 1) := dk_44 (dk_at dksX16_init_7 3 rfl rfl)
theorem dX16_init_166 : decode cX16_init 166 = .ok (.invokevirtual 71, 3) := dk_182 0 71 (dk_at dksX16_init_7 4 rfl rfl)
theorem dX16_init_169 : decode cX16_init 169 = .ok (.ifCond .ne 22, 3) := dk_154 0 22 (dk_at dksX16_init_7 7 rfl rfl)
theorem dX16_init_172 : decode cX16_init 172 = .ok (.aload_n 2, 1) := dk_44 (dk_at dksX16_init_7 10 rfl rfl)
theorem dX16_init_173 : decode cX16_init 173 = .ok (.aload_n 2, 1) := dk_44 (dk_at dksX16_init_7 11 rfl rfl)
theorem dX16_init_174 : decode cX16_init 174 = .ok (.invokevirtual 75, 3) := dk_182 0 75 (dk_at dksX16_init_7 12 rfl rfl)
theorem dX16_init_177 : decode cX16_init 177 = .ok (.iconst 1, 1) := dk_4 (dk_at dksX16_init_7 15 rfl rfl)
theorem dX16_init_178 : decode cX16_init 178 = .ok (.isub, 1) := dk_100 (dk_at dksX16_init_7 16 rfl rfl)
theorem dX16_init_179 : decode cX16_init 179 = .ok (.invokevirtual 64, 3) := dk_182 0 64 (dk_at dksX16_init_7 17 rfl rfl)
theorem dX16_init_182 : decode cX16_init 182 = .ok (.bipush 94, 2) := dk_16 94 (dk_at dksX16_init_7 20 rfl rfl)
theorem dX16_init_184 : decode cX16_init 184 = .ok (.if_icmp .ne 7, 3) := dk_160 0 7 (dk_at dksX16_init_8 0 rfl rfl)
theorem dX16_init_187 : decode cX16_init 187 = .ok (.iconst 1, 1) := dk_4 (dk_at dksX16_init_8 3 rfl rfl)
theorem dX16_init_188 : decode cX16_init 188 = .ok (.goto 4, 3) := dk_167 0 4 (dk_at dksX16_init_8 4 rfl rfl)
theorem dX16_init_191 : decode cX16_init 191 = .ok (.iconst 0, 1) := dk_3 (dk_at dksX16_init_8 7 rfl rfl)
theorem dX16_init_192 : decode cX16_init 192 = .ok (.putfield 78, 3) := dk_181 0 78 (dk_at dksX16_init_8 8 rfl rfl)
theorem dX16_init_195 : decode cX16_init 195 = .ok (.aload_n 0, 1) := dk_42 (dk_at dksX16_init_8 11 rfl rfl)
theorem dX16_init_196 : decode cX16_init 196 = .ok (.iload_n 3, 1) := dk_29 (dk_at dksX16_init_8 12 rfl rfl)
theorem dX16_init_197 : decode cX16_init 197 = .ok (.putfield 82, 3) := dk_181 0 82 (dk_at dksX16_init_8 13 rfl rfl)
theorem dX16_init_200 : decode cX16_init 200 = .ok (.aload_n 0, 1) := dk_42 (dk_at dksX16_init_8 16 rfl rfl)
theorem dX16_init_201 : decode cX16_init 201 = .ok (.aload_n 1, 1) := dk_43 (dk_at dksX16_init_8 17 rfl rfl)
theorem dX16_init_202 : decode cX16_init 202 = .ok (.getfield 86, 3) := dk_180 0 86 (dk_at dksX16_init_8 18 rfl rfl)
theorem dX16_init_205 : decode cX16_init 205 = .ok (.aload 4, 2) := dk_25 4 (dk_at dksX16_init_8 21 rfl rfl)
theorem dX16_init_207 : decode cX16_init 207 = .ok (.getfield 89, 3) := dk_180 0 89 (dk_at dksX16_init_9 0 rfl rfl)
theorem dX16_init_210 : decode cX16_init 210 = .ok (.invokevirtual 35, 3) := dk_182 0 35 (dk_at dksX16_init_9 3 rfl rfl)
theorem dX16_init_213 : decode cX16_init 213 = .ok (.checkcast 92, 3) := dk_192 0 92 (dk_at dksX16_init_9 6 rfl rfl)
theorem dX16_init_216 : decode cX16_init 216 = .ok (.iconst 1, 1) := dk_4 (dk_at dksX16_init_9 9 rfl rfl)
theorem dX16_init_217 : decode cX16_init 217 = .ok (.iaload, 1) := dk_46 (dk_at dksX16_init_9 10 rfl rfl)
theorem dX16_init_218 : decode cX16_init 218 = .ok (.putfield 93, 3) := dk_181 0 93 (dk_at dksX16_init_9 11 rfl rfl)
theorem dX16_init_221 : decode cX16_init 221 = .ok (.aload_n 0, 1) := dk_42 (dk_at dksX16_init_9 14 rfl rfl)
theorem dX16_init_222 : decode cX16_init 222 = .ok (.iconst 0, 1) := dk_3 (dk_at dksX16_init_9 15 rfl rfl)
theorem dX16_init_223 : decode cX16_init 223 = .ok (.putfield 96, 3) := dk_181 0 96 (dk_at dksX16_init_9 16 rfl rfl)
theorem dX16_init_226 : decode cX16_init 226 = .ok (.aload_n 0, 1) := dk_42 (dk_at dksX16_init_9 19 rfl rfl)
theorem dX16_init_227 : decode cX16_init 227 = .ok (.aload 5, 2) := dk_25 5 (dk_at dksX16_init_9 20 rfl rfl)
theorem dX16_init_229 : decode cX16_init 229 = .ok (.aload 4, 2) := dk_25 4 (dk_at dksX16_init_9 22 rfl rfl)
theorem dX16_init_231 : decode cX16_init 231 = .ok (.getfield 45, 3) := dk_180 0 45 (dk_at dksX16_init_10 0 rfl rfl)
theorem dX16_init_234 : decode cX16_init 234 = .ok (.ifnonnull 7, 3) := dk_199 0 7 (dk_at dksX16_init_10 3 rfl rfl)
theorem dX16_init_237 : decode cX16_init 237 = .ok (.iconst 1, 1) := dk_4 (dk_at dksX16_init_10 6 rfl rfl)
theorem dX16_init_238 : decode cX16_init 238 = .ok (.goto 4, 3) := dk_167 0 4 (dk_at dksX16_init_10 7 rfl rfl)
theorem dX16_init_241 : decode cX16_init 241 = .ok (.iconst 0, 1) := dk_3 (dk_at dksX16_init_10 10 rfl rfl)
theorem dX16_init_242 : decode cX16_init 242 = .ok (.invokevirtual 99, 3) := dk_182 0 99 (dk_at dksX16_init_10 11 rfl rfl)
theorem dX16_init_245 : decode cX16_init 245 = .ok (.aload 4, 2) := dk_25 4 (dk_at dksX16_init_10 14 rfl rfl)
theorem dX16_init_247 : decode cX16_init 247 = .ok (.getfield 45, 3) := dk_180 0 45 (dk_at dksX16_init_10 16 rfl rfl)
theorem dX16_init_250 : decode cX16_init 250 = .ok (.ifnonnull 8, 3) := dk_199 0 8 (dk_at dksX16_init_10 19 rfl rfl)
theorem dX16_init_253 : decode cX16_init 253 = .ok (.ldc 33, 2) := dk_18 33 (dk_at dksX16_init_10 22 rfl rfl)
theorem dX16_init_255 : decode cX16_init 255 = .ok (.goto 5, 3) := dk_167 0 5 (dk_at dksX16_init_11 0 rfl rfl)
theorem dX16_init_258 : decode cX16_init 258 = .ok (.aload 5, 2) := dk_25 5 (dk_at dksX16_init_11 3 rfl rfl)
theorem dX16_init_260 : decode cX16_init 260 = .ok (.astore_n 2, 1) := dk_77 (dk_at dksX16_init_11 5 rfl rfl)
theorem dX16_init_261 : decode cX16_init 261 = .ok (.iinc 3 1, 3) := dk_132 3 1 (dk_at dksX16_init_11 6 rfl rfl)
theorem dX16_init_264 : decode cX16_init 264 = .ok (.goto (-226), 3) := dk_167 255 30 (dk_at dksX16_init_11 9 rfl rfl)
theorem dX16_init_267 : decode cX16_init 267 = .ok (.return_, 1) := dk_177 (dk_at dksX16_init_11 12 rfl rfl)
abbrev cX16_choice : ByteArray := prog_22_method_2_code
def yX16_choice : MethodName := ⟨RX16, "choice", "(I)I"⟩
def dkwX16_choice_4 : List UInt8 := [182, 0, 116, 96, 172]
abbrev dktX16_choice_4 : List UInt8 := dkwX16_choice_4 ++ []
def dkwX16_choice_3 : List UInt8 := [182, 0, 103, 16, 32, 160, 0, 5, 3, 172, 4, 44, 180, 0, 107, 45, 182, 0, 103, 184, 0, 110]
abbrev dktX16_choice_3 : List UInt8 := dkwX16_choice_3 ++ dktX16_choice_4
def dkwX16_choice_2 : List UInt8 := [182, 0, 35, 192, 0, 39, 180, 0, 45, 167, 0, 4, 1, 78, 44, 198, 0, 16, 45, 198, 0, 12, 45]
abbrev dktX16_choice_2 : List UInt8 := dkwX16_choice_2 ++ dktX16_choice_3
def dkwX16_choice_1 : List UInt8 := [180, 0, 1, 180, 0, 20, 182, 0, 25, 162, 0, 25, 42, 180, 0, 1, 180, 0, 20, 27, 4, 96]
abbrev dktX16_choice_1 : List UInt8 := dkwX16_choice_1 ++ dktX16_choice_2
def dkwX16_choice_0 : List UInt8 := [42, 180, 0, 1, 180, 0, 20, 27, 182, 0, 35, 192, 0, 39, 180, 0, 45, 77, 27, 4, 96, 42]
abbrev dktX16_choice_0 : List UInt8 := dkwX16_choice_0 ++ dktX16_choice_1
theorem dksX16_choice_0 : cX16_choice.data.toList.drop 0 = dktX16_choice_0 := by decide +kernel
theorem dksX16_choice_1 : cX16_choice.data.toList.drop 22 = dktX16_choice_1 := dk_seg dksX16_choice_0 22 rfl rfl
theorem dksX16_choice_2 : cX16_choice.data.toList.drop 44 = dktX16_choice_2 := dk_seg dksX16_choice_1 22 rfl rfl
theorem dksX16_choice_3 : cX16_choice.data.toList.drop 67 = dktX16_choice_3 := dk_seg dksX16_choice_2 23 rfl rfl
theorem dksX16_choice_4 : cX16_choice.data.toList.drop 89 = dktX16_choice_4 := dk_seg dksX16_choice_3 22 rfl rfl
theorem dX16_choice_0 : decode cX16_choice 0 = .ok (.aload_n 0, 1) := dk_42 (dk_at dksX16_choice_0 0 rfl rfl)
theorem dX16_choice_1 : decode cX16_choice 1 = .ok (.getfield 1, 3) := dk_180 0 1 (dk_at dksX16_choice_0 1 rfl rfl)
theorem dX16_choice_4 : decode cX16_choice 4 = .ok (.getfield 20, 3) := dk_180 0 20 (dk_at dksX16_choice_0 4 rfl rfl)
theorem dX16_choice_7 : decode cX16_choice 7 = .ok (.iload_n 1, 1) := dk_27 (dk_at dksX16_choice_0 7 rfl rfl)
theorem dX16_choice_8 : decode cX16_choice 8 = .ok (.invokevirtual 35, 3) := dk_182 0 35 (dk_at dksX16_choice_0 8 rfl rfl)
theorem dX16_choice_11 : decode cX16_choice 11 = .ok (.checkcast 39, 3) := dk_192 0 39 (dk_at dksX16_choice_0 11 rfl rfl)
theorem dX16_choice_14 : decode cX16_choice 14 = .ok (.getfield 45, 3) := dk_180 0 45 (dk_at dksX16_choice_0 14 rfl rfl)
theorem dX16_choice_17 : decode cX16_choice 17 = .ok (.astore_n 2, 1) := dk_77 (dk_at dksX16_choice_0 17 rfl rfl)
theorem dX16_choice_18 : decode cX16_choice 18 = .ok (.iload_n 1, 1) := dk_27 (dk_at dksX16_choice_0 18 rfl rfl)
theorem dX16_choice_19 : decode cX16_choice 19 = .ok (.iconst 1, 1) := dk_4 (dk_at dksX16_choice_0 19 rfl rfl)
theorem dX16_choice_20 : decode cX16_choice 20 = .ok (.iadd, 1) := dk_96 (dk_at dksX16_choice_0 20 rfl rfl)
theorem dX16_choice_21 : decode cX16_choice 21 = .ok (.aload_n 0, 1) := dk_42 (dk_at dksX16_choice_0 21 rfl rfl)
theorem dX16_choice_22 : decode cX16_choice 22 = .ok (.getfield 1, 3) := dk_180 0 1 (dk_at dksX16_choice_1 0 rfl rfl)
theorem dX16_choice_25 : decode cX16_choice 25 = .ok (.getfield 20, 3) := dk_180 0 20 (dk_at dksX16_choice_1 3 rfl rfl)
theorem dX16_choice_28 : decode cX16_choice 28 = .ok (.invokevirtual 25, 3) := dk_182 0 25 (dk_at dksX16_choice_1 6 rfl rfl)
theorem dX16_choice_31 : decode cX16_choice 31 = .ok (.if_icmp .ge 25, 3) := dk_162 0 25 (dk_at dksX16_choice_1 9 rfl rfl)
theorem dX16_choice_34 : decode cX16_choice 34 = .ok (.aload_n 0, 1) := dk_42 (dk_at dksX16_choice_1 12 rfl rfl)
theorem dX16_choice_35 : decode cX16_choice 35 = .ok (.getfield 1, 3) := dk_180 0 1 (dk_at dksX16_choice_1 13 rfl rfl)
theorem dX16_choice_38 : decode cX16_choice 38 = .ok (.getfield 20, 3) := dk_180 0 20 (dk_at dksX16_choice_1 16 rfl rfl)
theorem dX16_choice_41 : decode cX16_choice 41 = .ok (.iload_n 1, 1) := dk_27 (dk_at dksX16_choice_1 19 rfl rfl)
theorem dX16_choice_42 : decode cX16_choice 42 = .ok (.iconst 1, 1) := dk_4 (dk_at dksX16_choice_1 20 rfl rfl)
theorem dX16_choice_43 : decode cX16_choice 43 = .ok (.iadd, 1) := dk_96 (dk_at dksX16_choice_1 21 rfl rfl)
theorem dX16_choice_44 : decode cX16_choice 44 = .ok (.invokevirtual 35, 3) := dk_182 0 35 (dk_at dksX16_choice_2 0 rfl rfl)
theorem dX16_choice_47 : decode cX16_choice 47 = .ok (.checkcast 39, 3) := dk_192 0 39 (dk_at dksX16_choice_2 3 rfl rfl)
theorem dX16_choice_50 : decode cX16_choice 50 = .ok (.getfield 45, 3) := dk_180 0 45 (dk_at dksX16_choice_2 6 rfl rfl)
theorem dX16_choice_53 : decode cX16_choice 53 = .ok (.goto 4, 3) := dk_167 0 4 (dk_at dksX16_choice_2 9 rfl rfl)
theorem dX16_choice_56 : decode cX16_choice 56 = .ok (.aconst_null, 1) := dk_1 (dk_at dksX16_choice_2 12 rfl rfl)
theorem dX16_choice_57 : decode cX16_choice 57 = .ok (.astore_n 3, 1) := dk_78 (dk_at dksX16_choice_2 13 rfl rfl)
theorem dX16_choice_58 : decode cX16_choice 58 = .ok (.aload_n 2, 1) := dk_44 (dk_at dksX16_choice_2 14 rfl rfl)
theorem dX16_choice_59 : decode cX16_choice 59 = .ok (.ifnull 16, 3) := dk_198 0 16 (dk_at dksX16_choice_2 15 rfl rfl)
theorem dX16_choice_62 : decode cX16_choice 62 = .ok (.aload_n 3, 1) := dk_45 (dk_at dksX16_choice_2 18 rfl rfl)
theorem dX16_choice_63 : decode cX16_choice 63 = .ok (.ifnull 12, 3) := dk_198 0 12 (dk_at dksX16_choice_2 19 rfl rfl)
theorem dX16_choice_66 : decode cX16_choice 66 = .ok (.aload_n 3, 1) := dk_45 (dk_at dksX16_choice_2 22 rfl rfl)
theorem dX16_choice_67 : decode cX16_choice 67 = .ok (.invokevirtual 103, 3) := dk_182 0 103 (dk_at dksX16_choice_3 0 rfl rfl)
theorem dX16_choice_70 : decode cX16_choice 70 = .ok (.bipush 32, 2) := dk_16 32 (dk_at dksX16_choice_3 3 rfl rfl)
theorem dX16_choice_72 : decode cX16_choice 72 = .ok (.if_icmp .ne 5, 3) := dk_160 0 5 (dk_at dksX16_choice_3 5 rfl rfl)
theorem dX16_choice_75 : decode cX16_choice 75 = .ok (.iconst 0, 1) := dk_3 (dk_at dksX16_choice_3 8 rfl rfl)
theorem dX16_choice_76 : decode cX16_choice 76 = .ok (.ireturn, 1) := dk_172 (dk_at dksX16_choice_3 9 rfl rfl)
theorem dX16_choice_77 : decode cX16_choice 77 = .ok (.iconst 1, 1) := dk_4 (dk_at dksX16_choice_3 10 rfl rfl)
theorem dX16_choice_78 : decode cX16_choice 78 = .ok (.aload_n 2, 1) := dk_44 (dk_at dksX16_choice_3 11 rfl rfl)
theorem dX16_choice_79 : decode cX16_choice 79 = .ok (.getfield 107, 3) := dk_180 0 107 (dk_at dksX16_choice_3 12 rfl rfl)
theorem dX16_choice_82 : decode cX16_choice 82 = .ok (.aload_n 3, 1) := dk_45 (dk_at dksX16_choice_3 15 rfl rfl)
theorem dX16_choice_83 : decode cX16_choice 83 = .ok (.invokevirtual 103, 3) := dk_182 0 103 (dk_at dksX16_choice_3 16 rfl rfl)
theorem dX16_choice_86 : decode cX16_choice 86 = .ok (.invokestatic 110, 3) := dk_184 0 110 (dk_at dksX16_choice_3 19 rfl rfl)
theorem dX16_choice_89 : decode cX16_choice 89 = .ok (.invokevirtual 116, 3) := dk_182 0 116 (dk_at dksX16_choice_4 0 rfl rfl)
theorem dX16_choice_92 : decode cX16_choice 92 = .ok (.iadd, 1) := dk_96 (dk_at dksX16_choice_4 3 rfl rfl)
theorem dX16_choice_93 : decode cX16_choice 93 = .ok (.ireturn, 1) := dk_172 (dk_at dksX16_choice_4 4 rfl rfl)
abbrev cX16_write : ByteArray := prog_22_method_6_code
def yX16_write : MethodName := ⟨RX16, "write", "(Ljava/lang/String;Z)V"⟩
def dkwX16_write_4 : List UInt8 := [29, 182, 0, 154, 182, 0, 158, 167, 0, 9, 42, 21, 4, 182, 0, 162, 167, 255, 148, 177]
abbrev dktX16_write_4 : List UInt8 := dkwX16_write_4 ++ []
def dkwX16_write_3 : List UInt8 := [162, 0, 20, 43, 29, 182, 0, 64, 184, 0, 147, 153, 0, 9, 132, 3, 1, 167, 255, 234, 42, 43, 21, 5]
abbrev dktX16_write_3 : List UInt8 := dkwX16_write_3 ++ dktX16_write_4
def dkwX16_write_2 : List UInt8 := [167, 0, 63, 21, 4, 16, 94, 160, 0, 50, 29, 4, 160, 0, 45, 29, 54, 5, 29, 43, 182, 0, 75]
abbrev dktX16_write_2 : List UInt8 := dkwX16_write_2 ++ dktX16_write_3
def dkwX16_write_1 : List UInt8 := [42, 21, 4, 182, 0, 143, 167, 0, 80, 21, 4, 184, 0, 147, 153, 0, 12, 42, 21, 4, 182, 0, 151]
abbrev dktX16_write_1 : List UInt8 := dkwX16_write_1 ++ dktX16_write_2
def dkwX16_write_0 : List UInt8 := [3, 62, 29, 43, 182, 0, 75, 162, 0, 106, 43, 29, 182, 0, 64, 54, 4, 132, 3, 1, 28, 153, 0, 12]
abbrev dktX16_write_0 : List UInt8 := dkwX16_write_0 ++ dktX16_write_1
theorem dksX16_write_0 : cX16_write.data.toList.drop 0 = dktX16_write_0 := by decide +kernel
theorem dksX16_write_1 : cX16_write.data.toList.drop 24 = dktX16_write_1 := dk_seg dksX16_write_0 24 rfl rfl
theorem dksX16_write_2 : cX16_write.data.toList.drop 47 = dktX16_write_2 := dk_seg dksX16_write_1 23 rfl rfl
theorem dksX16_write_3 : cX16_write.data.toList.drop 70 = dktX16_write_3 := dk_seg dksX16_write_2 23 rfl rfl
theorem dksX16_write_4 : cX16_write.data.toList.drop 94 = dktX16_write_4 := dk_seg dksX16_write_3 24 rfl rfl
theorem dX16_write_0 : decode cX16_write 0 = .ok (.iconst 0, 1) := dk_3 (dk_at dksX16_write_0 0 rfl rfl)
theorem dX16_write_1 : decode cX16_write 1 = .ok (.istore_n 3, 1) := dk_62 (dk_at dksX16_write_0 1 rfl rfl)
theorem dX16_write_2 : decode cX16_write 2 = .ok (.iload_n 3, 1) := dk_29 (dk_at dksX16_write_0 2 rfl rfl)
theorem dX16_write_3 : decode cX16_write 3 = .ok (.aload_n 1, 1) := dk_43 (dk_at dksX16_write_0 3 rfl rfl)
theorem dX16_write_4 : decode cX16_write 4 = .ok (.invokevirtual 75, 3) := dk_182 0 75 (dk_at dksX16_write_0 4 rfl rfl)
theorem dX16_write_7 : decode cX16_write 7 = .ok (.if_icmp .ge 106, 3) := dk_162 0 106 (dk_at dksX16_write_0 7 rfl rfl)
theorem dX16_write_10 : decode cX16_write 10 = .ok (.aload_n 1, 1) := dk_43 (dk_at dksX16_write_0 10 rfl rfl)
theorem dX16_write_11 : decode cX16_write 11 = .ok (.iload_n 3, 1) := dk_29 (dk_at dksX16_write_0 11 rfl rfl)
theorem dX16_write_12 : decode cX16_write 12 = .ok (.invokevirtual 64, 3) := dk_182 0 64 (dk_at dksX16_write_0 12 rfl rfl)
theorem dX16_write_15 : decode cX16_write 15 = .ok (.istore 4, 2) := dk_54 4 (dk_at dksX16_write_0 15 rfl rfl)
theorem dX16_write_17 : decode cX16_write 17 = .ok (.iinc 3 1, 3) := dk_132 3 1 (dk_at dksX16_write_0 17 rfl rfl)
theorem dX16_write_20 : decode cX16_write 20 = .ok (.iload_n 2, 1) := dk_28 (dk_at dksX16_write_0 20 rfl rfl)
theorem dX16_write_21 : decode cX16_write 21 = .ok (.ifCond .eq 12, 3) := dk_153 0 12 (dk_at dksX16_write_0 21 rfl rfl)
theorem dX16_write_24 : decode cX16_write 24 = .ok (.aload_n 0, 1) := dk_42 (dk_at dksX16_write_1 0 rfl rfl)
theorem dX16_write_25 : decode cX16_write 25 = .ok (.iload 4, 2) := dk_21 4 (dk_at dksX16_write_1 1 rfl rfl)
theorem dX16_write_27 : decode cX16_write 27 = .ok (.invokevirtual 143, 3) := dk_182 0 143 (dk_at dksX16_write_1 3 rfl rfl)
theorem dX16_write_30 : decode cX16_write 30 = .ok (.goto 80, 3) := dk_167 0 80 (dk_at dksX16_write_1 6 rfl rfl)
theorem dX16_write_33 : decode cX16_write 33 = .ok (.iload 4, 2) := dk_21 4 (dk_at dksX16_write_1 9 rfl rfl)
theorem dX16_write_35 : decode cX16_write 35 = .ok (.invokestatic 147, 3) := dk_184 0 147 (dk_at dksX16_write_1 11 rfl rfl)
theorem dX16_write_38 : decode cX16_write 38 = .ok (.ifCond .eq 12, 3) := dk_153 0 12 (dk_at dksX16_write_1 14 rfl rfl)
theorem dX16_write_41 : decode cX16_write 41 = .ok (.aload_n 0, 1) := dk_42 (dk_at dksX16_write_1 17 rfl rfl)
theorem dX16_write_42 : decode cX16_write 42 = .ok (.iload 4, 2) := dk_21 4 (dk_at dksX16_write_1 18 rfl rfl)
theorem dX16_write_44 : decode cX16_write 44 = .ok (.invokevirtual 151, 3) := dk_182 0 151 (dk_at dksX16_write_1 20 rfl rfl)
theorem dX16_write_47 : decode cX16_write 47 = .ok (.goto 63, 3) := dk_167 0 63 (dk_at dksX16_write_2 0 rfl rfl)
theorem dX16_write_50 : decode cX16_write 50 = .ok (.iload 4, 2) := dk_21 4 (dk_at dksX16_write_2 3 rfl rfl)
theorem dX16_write_52 : decode cX16_write 52 = .ok (.bipush 94, 2) := dk_16 94 (dk_at dksX16_write_2 5 rfl rfl)
theorem dX16_write_54 : decode cX16_write 54 = .ok (.if_icmp .ne 50, 3) := dk_160 0 50 (dk_at dksX16_write_2 7 rfl rfl)
theorem dX16_write_57 : decode cX16_write 57 = .ok (.iload_n 3, 1) := dk_29 (dk_at dksX16_write_2 10 rfl rfl)
theorem dX16_write_58 : decode cX16_write 58 = .ok (.iconst 1, 1) := dk_4 (dk_at dksX16_write_2 11 rfl rfl)
theorem dX16_write_59 : decode cX16_write 59 = .ok (.if_icmp .ne 45, 3) := dk_160 0 45 (dk_at dksX16_write_2 12 rfl rfl)
theorem dX16_write_62 : decode cX16_write 62 = .ok (.iload_n 3, 1) := dk_29 (dk_at dksX16_write_2 15 rfl rfl)
theorem dX16_write_63 : decode cX16_write 63 = .ok (.istore 5, 2) := dk_54 5 (dk_at dksX16_write_2 16 rfl rfl)
theorem dX16_write_65 : decode cX16_write 65 = .ok (.iload_n 3, 1) := dk_29 (dk_at dksX16_write_2 18 rfl rfl)
theorem dX16_write_66 : decode cX16_write 66 = .ok (.aload_n 1, 1) := dk_43 (dk_at dksX16_write_2 19 rfl rfl)
theorem dX16_write_67 : decode cX16_write 67 = .ok (.invokevirtual 75, 3) := dk_182 0 75 (dk_at dksX16_write_2 20 rfl rfl)
theorem dX16_write_70 : decode cX16_write 70 = .ok (.if_icmp .ge 20, 3) := dk_162 0 20 (dk_at dksX16_write_3 0 rfl rfl)
theorem dX16_write_73 : decode cX16_write 73 = .ok (.aload_n 1, 1) := dk_43 (dk_at dksX16_write_3 3 rfl rfl)
theorem dX16_write_74 : decode cX16_write 74 = .ok (.iload_n 3, 1) := dk_29 (dk_at dksX16_write_3 4 rfl rfl)
theorem dX16_write_75 : decode cX16_write 75 = .ok (.invokevirtual 64, 3) := dk_182 0 64 (dk_at dksX16_write_3 5 rfl rfl)
theorem dX16_write_78 : decode cX16_write 78 = .ok (.invokestatic 147, 3) := dk_184 0 147 (dk_at dksX16_write_3 8 rfl rfl)
theorem dX16_write_81 : decode cX16_write 81 = .ok (.ifCond .eq 9, 3) := dk_153 0 9 (dk_at dksX16_write_3 11 rfl rfl)
theorem dX16_write_84 : decode cX16_write 84 = .ok (.iinc 3 1, 3) := dk_132 3 1 (dk_at dksX16_write_3 14 rfl rfl)
theorem dX16_write_87 : decode cX16_write 87 = .ok (.goto (-22), 3) := dk_167 255 234 (dk_at dksX16_write_3 17 rfl rfl)
theorem dX16_write_90 : decode cX16_write 90 = .ok (.aload_n 0, 1) := dk_42 (dk_at dksX16_write_3 20 rfl rfl)
theorem dX16_write_91 : decode cX16_write 91 = .ok (.aload_n 1, 1) := dk_43 (dk_at dksX16_write_3 21 rfl rfl)
theorem dX16_write_92 : decode cX16_write 92 = .ok (.iload 5, 2) := dk_21 5 (dk_at dksX16_write_3 22 rfl rfl)
theorem dX16_write_94 : decode cX16_write 94 = .ok (.iload_n 3, 1) := dk_29 (dk_at dksX16_write_4 0 rfl rfl)
theorem dX16_write_95 : decode cX16_write 95 = .ok (.invokevirtual 154, 3) := dk_182 0 154 (dk_at dksX16_write_4 1 rfl rfl)
theorem dX16_write_98 : decode cX16_write 98 = .ok (.invokevirtual 158, 3) := dk_182 0 158 (dk_at dksX16_write_4 4 rfl rfl)
theorem dX16_write_101 : decode cX16_write 101 = .ok (.goto 9, 3) := dk_167 0 9 (dk_at dksX16_write_4 7 rfl rfl)
theorem dX16_write_104 : decode cX16_write 104 = .ok (.aload_n 0, 1) := dk_42 (dk_at dksX16_write_4 10 rfl rfl)
theorem dX16_write_105 : decode cX16_write 105 = .ok (.iload 4, 2) := dk_21 4 (dk_at dksX16_write_4 11 rfl rfl)
theorem dX16_write_107 : decode cX16_write 107 = .ok (.invokevirtual 162, 3) := dk_182 0 162 (dk_at dksX16_write_4 13 rfl rfl)
theorem dX16_write_110 : decode cX16_write 110 = .ok (.goto (-108), 3) := dk_167 255 148 (dk_at dksX16_write_4 16 rfl rfl)
theorem dX16_write_113 : decode cX16_write 113 = .ok (.return_, 1) := dk_177 (dk_at dksX16_write_4 19 rfl rfl)
abbrev cX16_emit : ByteArray := prog_22_method_4_code
def yX16_emit : MethodName := ⟨RX16, "emit", "(C)V"⟩
def dkwX16_emit_3 : List UInt8 := [180, 0, 93, 42, 180, 0, 82, 183, 0, 129, 182, 0, 132, 87, 177]
abbrev dktX16_emit_3 : List UInt8 := dkwX16_emit_3 ++ []
def dkwX16_emit_2 : List UInt8 := [183, 0, 129, 182, 0, 132, 87, 42, 4, 181, 0, 96, 42, 180, 0, 16, 187, 0, 120, 89, 27, 42]
abbrev dktX16_emit_2 : List UInt8 := dkwX16_emit_2 ++ dktX16_emit_3
def dkwX16_emit_1 : List UInt8 := [180, 0, 78, 154, 0, 28, 42, 180, 0, 16, 187, 0, 120, 89, 16, 32, 42, 180, 0, 93, 42, 180, 0, 82]
abbrev dktX16_emit_1 : List UInt8 := dkwX16_emit_1 ++ dktX16_emit_2
def dkwX16_emit_0 : List UInt8 := [42, 180, 0, 96, 154, 0, 50, 27, 16, 124, 159, 0, 44, 42, 182, 0, 126, 16, 124, 159, 0, 35, 42]
abbrev dktX16_emit_0 : List UInt8 := dkwX16_emit_0 ++ dktX16_emit_1
theorem dksX16_emit_0 : cX16_emit.data.toList.drop 0 = dktX16_emit_0 := by decide +kernel
theorem dksX16_emit_1 : cX16_emit.data.toList.drop 23 = dktX16_emit_1 := dk_seg dksX16_emit_0 23 rfl rfl
theorem dksX16_emit_2 : cX16_emit.data.toList.drop 47 = dktX16_emit_2 := dk_seg dksX16_emit_1 24 rfl rfl
theorem dksX16_emit_3 : cX16_emit.data.toList.drop 69 = dktX16_emit_3 := dk_seg dksX16_emit_2 22 rfl rfl
theorem dX16_emit_0 : decode cX16_emit 0 = .ok (.aload_n 0, 1) := dk_42 (dk_at dksX16_emit_0 0 rfl rfl)
theorem dX16_emit_1 : decode cX16_emit 1 = .ok (.getfield 96, 3) := dk_180 0 96 (dk_at dksX16_emit_0 1 rfl rfl)
theorem dX16_emit_4 : decode cX16_emit 4 = .ok (.ifCond .ne 50, 3) := dk_154 0 50 (dk_at dksX16_emit_0 4 rfl rfl)
theorem dX16_emit_7 : decode cX16_emit 7 = .ok (.iload_n 1, 1) := dk_27 (dk_at dksX16_emit_0 7 rfl rfl)
theorem dX16_emit_8 : decode cX16_emit 8 = .ok (.bipush 124, 2) := dk_16 124 (dk_at dksX16_emit_0 8 rfl rfl)
theorem dX16_emit_10 : decode cX16_emit 10 = .ok (.if_icmp .eq 44, 3) := dk_159 0 44 (dk_at dksX16_emit_0 10 rfl rfl)
theorem dX16_emit_13 : decode cX16_emit 13 = .ok (.aload_n 0, 1) := dk_42 (dk_at dksX16_emit_0 13 rfl rfl)
theorem dX16_emit_14 : decode cX16_emit 14 = .ok (.invokevirtual 126, 3) := dk_182 0 126 (dk_at dksX16_emit_0 14 rfl rfl)
theorem dX16_emit_17 : decode cX16_emit 17 = .ok (.bipush 124, 2) := dk_16 124 (dk_at dksX16_emit_0 17 rfl rfl)
theorem dX16_emit_19 : decode cX16_emit 19 = .ok (.if_icmp .eq 35, 3) := dk_159 0 35 (dk_at dksX16_emit_0 19 rfl rfl)
theorem dX16_emit_22 : decode cX16_emit 22 = .ok (.aload_n 0, 1) := dk_42 (dk_at dksX16_emit_0 22 rfl rfl)
theorem dX16_emit_23 : decode cX16_emit 23 = .ok (.getfield 78, 3) := dk_180 0 78 (dk_at dksX16_emit_1 0 rfl rfl)
theorem dX16_emit_26 : decode cX16_emit 26 = .ok (.ifCond .ne 28, 3) := dk_154 0 28 (dk_at dksX16_emit_1 3 rfl rfl)
theorem dX16_emit_29 : decode cX16_emit 29 = .ok (.aload_n 0, 1) := dk_42 (dk_at dksX16_emit_1 6 rfl rfl)
theorem dX16_emit_30 : decode cX16_emit 30 = .ok (.getfield 16, 3) := dk_180 0 16 (dk_at dksX16_emit_1 7 rfl rfl)
theorem dX16_emit_33 : decode cX16_emit 33 = .ok (.new 120, 3) := dk_187 0 120 (dk_at dksX16_emit_1 10 rfl rfl)
theorem dX16_emit_36 : decode cX16_emit 36 = .ok (.dup, 1) := dk_89 (dk_at dksX16_emit_1 13 rfl rfl)
theorem dX16_emit_37 : decode cX16_emit 37 = .ok (.bipush 32, 2) := dk_16 32 (dk_at dksX16_emit_1 14 rfl rfl)
theorem dX16_emit_39 : decode cX16_emit 39 = .ok (.aload_n 0, 1) := dk_42 (dk_at dksX16_emit_1 16 rfl rfl)
theorem dX16_emit_40 : decode cX16_emit 40 = .ok (.getfield 93, 3) := dk_180 0 93 (dk_at dksX16_emit_1 17 rfl rfl)
theorem dX16_emit_43 : decode cX16_emit 43 = .ok (.aload_n 0, 1) := dk_42 (dk_at dksX16_emit_1 20 rfl rfl)
theorem dX16_emit_44 : decode cX16_emit 44 = .ok (.getfield 82, 3) := dk_180 0 82 (dk_at dksX16_emit_1 21 rfl rfl)
theorem dX16_emit_47 : decode cX16_emit 47 = .ok (.invokespecial 129, 3) := dk_183 0 129 (dk_at dksX16_emit_2 0 rfl rfl)
theorem dX16_emit_50 : decode cX16_emit 50 = .ok (.invokevirtual 132, 3) := dk_182 0 132 (dk_at dksX16_emit_2 3 rfl rfl)
theorem dX16_emit_53 : decode cX16_emit 53 = .ok (.pop, 1) := dk_87 (dk_at dksX16_emit_2 6 rfl rfl)
theorem dX16_emit_54 : decode cX16_emit 54 = .ok (.aload_n 0, 1) := dk_42 (dk_at dksX16_emit_2 7 rfl rfl)
theorem dX16_emit_55 : decode cX16_emit 55 = .ok (.iconst 1, 1) := dk_4 (dk_at dksX16_emit_2 8 rfl rfl)
theorem dX16_emit_56 : decode cX16_emit 56 = .ok (.putfield 96, 3) := dk_181 0 96 (dk_at dksX16_emit_2 9 rfl rfl)
theorem dX16_emit_59 : decode cX16_emit 59 = .ok (.aload_n 0, 1) := dk_42 (dk_at dksX16_emit_2 12 rfl rfl)
theorem dX16_emit_60 : decode cX16_emit 60 = .ok (.getfield 16, 3) := dk_180 0 16 (dk_at dksX16_emit_2 13 rfl rfl)
theorem dX16_emit_63 : decode cX16_emit 63 = .ok (.new 120, 3) := dk_187 0 120 (dk_at dksX16_emit_2 16 rfl rfl)
theorem dX16_emit_66 : decode cX16_emit 66 = .ok (.dup, 1) := dk_89 (dk_at dksX16_emit_2 19 rfl rfl)
theorem dX16_emit_67 : decode cX16_emit 67 = .ok (.iload_n 1, 1) := dk_27 (dk_at dksX16_emit_2 20 rfl rfl)
theorem dX16_emit_68 : decode cX16_emit 68 = .ok (.aload_n 0, 1) := dk_42 (dk_at dksX16_emit_2 21 rfl rfl)
theorem dX16_emit_69 : decode cX16_emit 69 = .ok (.getfield 93, 3) := dk_180 0 93 (dk_at dksX16_emit_3 0 rfl rfl)
theorem dX16_emit_72 : decode cX16_emit 72 = .ok (.aload_n 0, 1) := dk_42 (dk_at dksX16_emit_3 3 rfl rfl)
theorem dX16_emit_73 : decode cX16_emit 73 = .ok (.getfield 82, 3) := dk_180 0 82 (dk_at dksX16_emit_3 4 rfl rfl)
theorem dX16_emit_76 : decode cX16_emit 76 = .ok (.invokespecial 129, 3) := dk_183 0 129 (dk_at dksX16_emit_3 7 rfl rfl)
theorem dX16_emit_79 : decode cX16_emit 79 = .ok (.invokevirtual 132, 3) := dk_182 0 132 (dk_at dksX16_emit_3 10 rfl rfl)
theorem dX16_emit_82 : decode cX16_emit 82 = .ok (.pop, 1) := dk_87 (dk_at dksX16_emit_3 13 rfl rfl)
theorem dX16_emit_83 : decode cX16_emit 83 = .ok (.return_, 1) := dk_177 (dk_at dksX16_emit_3 14 rfl rfl)
abbrev cX16_lastSign : ByteArray := prog_22_method_3_code
def yX16_lastSign : MethodName := ⟨RX16, "lastSign", "()C"⟩
def dkwX16_lastSign_1 : List UInt8 := [182, 0, 25, 4, 100, 182, 0, 35, 192, 0, 120, 180, 0, 122, 172]
abbrev dktX16_lastSign_1 : List UInt8 := dkwX16_lastSign_1 ++ []
def dkwX16_lastSign_0 : List UInt8 := [42, 180, 0, 16, 182, 0, 119, 153, 0, 8, 16, 124, 167, 0, 25, 42, 180, 0, 16, 42, 180, 0, 16]
abbrev dktX16_lastSign_0 : List UInt8 := dkwX16_lastSign_0 ++ dktX16_lastSign_1
theorem dksX16_lastSign_0 : cX16_lastSign.data.toList.drop 0 = dktX16_lastSign_0 := by decide +kernel
theorem dksX16_lastSign_1 : cX16_lastSign.data.toList.drop 23 = dktX16_lastSign_1 := dk_seg dksX16_lastSign_0 23 rfl rfl
theorem dX16_lastSign_0 : decode cX16_lastSign 0 = .ok (.aload_n 0, 1) := dk_42 (dk_at dksX16_lastSign_0 0 rfl rfl)
theorem dX16_lastSign_1 : decode cX16_lastSign 1 = .ok (.getfield 16, 3) := dk_180 0 16 (dk_at dksX16_lastSign_0 1 rfl rfl)
theorem dX16_lastSign_4 : decode cX16_lastSign 4 = .ok (.invokevirtual 119, 3) := dk_182 0 119 (dk_at dksX16_lastSign_0 4 rfl rfl)
theorem dX16_lastSign_7 : decode cX16_lastSign 7 = .ok (.ifCond .eq 8, 3) := dk_153 0 8 (dk_at dksX16_lastSign_0 7 rfl rfl)
theorem dX16_lastSign_10 : decode cX16_lastSign 10 = .ok (.bipush 124, 2) := dk_16 124 (dk_at dksX16_lastSign_0 10 rfl rfl)
theorem dX16_lastSign_12 : decode cX16_lastSign 12 = .ok (.goto 25, 3) := dk_167 0 25 (dk_at dksX16_lastSign_0 12 rfl rfl)
theorem dX16_lastSign_15 : decode cX16_lastSign 15 = .ok (.aload_n 0, 1) := dk_42 (dk_at dksX16_lastSign_0 15 rfl rfl)
theorem dX16_lastSign_16 : decode cX16_lastSign 16 = .ok (.getfield 16, 3) := dk_180 0 16 (dk_at dksX16_lastSign_0 16 rfl rfl)
theorem dX16_lastSign_19 : decode cX16_lastSign 19 = .ok (.aload_n 0, 1) := dk_42 (dk_at dksX16_lastSign_0 19 rfl rfl)
theorem dX16_lastSign_20 : decode cX16_lastSign 20 = .ok (.getfield 16, 3) := dk_180 0 16 (dk_at dksX16_lastSign_0 20 rfl rfl)
theorem dX16_lastSign_23 : decode cX16_lastSign 23 = .ok (.invokevirtual 25, 3) := dk_182 0 25 (dk_at dksX16_lastSign_1 0 rfl rfl)
theorem dX16_lastSign_26 : decode cX16_lastSign 26 = .ok (.iconst 1, 1) := dk_4 (dk_at dksX16_lastSign_1 3 rfl rfl)
theorem dX16_lastSign_27 : decode cX16_lastSign 27 = .ok (.isub, 1) := dk_100 (dk_at dksX16_lastSign_1 4 rfl rfl)
theorem dX16_lastSign_28 : decode cX16_lastSign 28 = .ok (.invokevirtual 35, 3) := dk_182 0 35 (dk_at dksX16_lastSign_1 5 rfl rfl)
theorem dX16_lastSign_31 : decode cX16_lastSign 31 = .ok (.checkcast 120, 3) := dk_192 0 120 (dk_at dksX16_lastSign_1 8 rfl rfl)
theorem dX16_lastSign_34 : decode cX16_lastSign 34 = .ok (.getfield 122, 3) := dk_180 0 122 (dk_at dksX16_lastSign_1 11 rfl rfl)
theorem dX16_lastSign_37 : decode cX16_lastSign 37 = .ok (.ireturn, 1) := dk_172 (dk_at dksX16_lastSign_1 14 rfl rfl)
abbrev cX16_letter : ByteArray := prog_22_method_5_code
def yX16_letter : MethodName := ⟨RX16, "letter", "(C)V"⟩
def dkwX16_letter_1 : List UInt8 := [177]
abbrev dktX16_letter_1 : List UInt8 := dkwX16_letter_1 ++ []
def dkwX16_letter_0 : List UInt8 := [42, 42, 180, 0, 136, 153, 0, 10, 27, 184, 0, 139, 167, 0, 4, 27, 182, 0, 143, 42, 3, 181, 0, 136]
abbrev dktX16_letter_0 : List UInt8 := dkwX16_letter_0 ++ dktX16_letter_1
theorem dksX16_letter_0 : cX16_letter.data.toList.drop 0 = dktX16_letter_0 := by decide +kernel
theorem dksX16_letter_1 : cX16_letter.data.toList.drop 24 = dktX16_letter_1 := dk_seg dksX16_letter_0 24 rfl rfl
theorem dX16_letter_0 : decode cX16_letter 0 = .ok (.aload_n 0, 1) := dk_42 (dk_at dksX16_letter_0 0 rfl rfl)
theorem dX16_letter_1 : decode cX16_letter 1 = .ok (.aload_n 0, 1) := dk_42 (dk_at dksX16_letter_0 1 rfl rfl)
theorem dX16_letter_2 : decode cX16_letter 2 = .ok (.getfield 136, 3) := dk_180 0 136 (dk_at dksX16_letter_0 2 rfl rfl)
theorem dX16_letter_5 : decode cX16_letter 5 = .ok (.ifCond .eq 10, 3) := dk_153 0 10 (dk_at dksX16_letter_0 5 rfl rfl)
theorem dX16_letter_8 : decode cX16_letter 8 = .ok (.iload_n 1, 1) := dk_27 (dk_at dksX16_letter_0 8 rfl rfl)
theorem dX16_letter_9 : decode cX16_letter 9 = .ok (.invokestatic 139, 3) := dk_184 0 139 (dk_at dksX16_letter_0 9 rfl rfl)
theorem dX16_letter_12 : decode cX16_letter 12 = .ok (.goto 4, 3) := dk_167 0 4 (dk_at dksX16_letter_0 12 rfl rfl)
theorem dX16_letter_15 : decode cX16_letter 15 = .ok (.iload_n 1, 1) := dk_27 (dk_at dksX16_letter_0 15 rfl rfl)
theorem dX16_letter_16 : decode cX16_letter 16 = .ok (.invokevirtual 143, 3) := dk_182 0 143 (dk_at dksX16_letter_0 16 rfl rfl)
theorem dX16_letter_19 : decode cX16_letter 19 = .ok (.aload_n 0, 1) := dk_42 (dk_at dksX16_letter_0 19 rfl rfl)
theorem dX16_letter_20 : decode cX16_letter 20 = .ok (.iconst 0, 1) := dk_3 (dk_at dksX16_letter_0 20 rfl rfl)
theorem dX16_letter_21 : decode cX16_letter 21 = .ok (.putfield 136, 3) := dk_181 0 136 (dk_at dksX16_letter_0 21 rfl rfl)
theorem dX16_letter_24 : decode cX16_letter 24 = .ok (.return_, 1) := dk_177 (dk_at dksX16_letter_1 0 rfl rfl)
abbrev cX16_join : ByteArray := prog_22_method_11_code
def yX16_join : MethodName := ⟨RX16, "join", "(Ljava/lang/String;)V"⟩
def dkwX16_join_9 : List UInt8 := [43, 21, 5, 182, 0, 64, 182, 0, 151, 132, 5, 1, 167, 255, 234, 177]
abbrev dktX16_join_9 : List UInt8 := dkwX16_join_9 ++ []
def dkwX16_join_8 : List UInt8 := [154, 0, 7, 4, 167, 0, 4, 3, 181, 0, 96, 3, 54, 5, 21, 5, 43, 182, 0, 75, 162, 0, 19, 42]
abbrev dktX16_join_8 : List UInt8 := dkwX16_join_8 ++ dktX16_join_9
def dkwX16_join_7 : List UInt8 := [180, 0, 82, 183, 0, 129, 182, 0, 132, 87, 42, 42, 180, 0, 96, 154, 0, 10, 43, 182, 0, 71]
abbrev dktX16_join_7 : List UInt8 := dkwX16_join_7 ++ dktX16_join_8
def dkwX16_join_6 : List UInt8 := [167, 0, 34, 29, 16, 115, 160, 0, 28, 42, 180, 0, 16, 187, 0, 120, 89, 16, 101, 42, 180, 0, 93, 42]
abbrev dktX16_join_6 : List UInt8 := dkwX16_join_6 ++ dktX16_join_7
def dkwX16_join_5 : List UInt8 := [182, 0, 75, 4, 100, 182, 0, 64, 42, 180, 0, 93, 42, 180, 0, 82, 183, 0, 129, 182, 0, 132, 87]
abbrev dktX16_join_5 : List UInt8 := dkwX16_join_5 ++ dktX16_join_6
def dkwX16_join_4 : List UInt8 := [182, 0, 202, 87, 167, 0, 76, 29, 16, 100, 160, 0, 39, 42, 180, 0, 16, 187, 0, 120, 89, 44, 44]
abbrev dktX16_join_4 : List UInt8 := dkwX16_join_4 ++ dktX16_join_5
def dkwX16_join_3 : List UInt8 := [180, 0, 16, 21, 4, 187, 0, 120, 89, 16, 105, 42, 180, 0, 93, 42, 180, 0, 82, 183, 0, 129]
abbrev dktX16_join_3 : List UInt8 := dkwX16_join_3 ++ dktX16_join_4
def dkwX16_join_2 : List UInt8 := [180, 0, 16, 21, 4, 182, 0, 178, 192, 0, 120, 58, 5, 167, 0, 112, 29, 16, 121, 160, 0, 33, 42]
abbrev dktX16_join_2 : List UInt8 := dkwX16_join_2 ++ dktX16_join_3
def dkwX16_join_1 : List UInt8 := [43, 182, 0, 198, 62, 42, 180, 0, 16, 182, 0, 25, 4, 100, 54, 4, 29, 16, 101, 160, 0, 20, 42]
abbrev dktX16_join_1 : List UInt8 := dkwX16_join_1 ++ dktX16_join_2
def dkwX16_join_0 : List UInt8 := [42, 182, 0, 195, 77, 16, 32, 62, 43, 182, 0, 71, 154, 0, 17, 44, 182, 0, 71, 154, 0, 10, 42, 44]
abbrev dktX16_join_0 : List UInt8 := dkwX16_join_0 ++ dktX16_join_1
theorem dksX16_join_0 : cX16_join.data.toList.drop 0 = dktX16_join_0 := by decide +kernel
theorem dksX16_join_1 : cX16_join.data.toList.drop 24 = dktX16_join_1 := dk_seg dksX16_join_0 24 rfl rfl
theorem dksX16_join_2 : cX16_join.data.toList.drop 47 = dktX16_join_2 := dk_seg dksX16_join_1 23 rfl rfl
theorem dksX16_join_3 : cX16_join.data.toList.drop 70 = dktX16_join_3 := dk_seg dksX16_join_2 23 rfl rfl
theorem dksX16_join_4 : cX16_join.data.toList.drop 92 = dktX16_join_4 := dk_seg dksX16_join_3 22 rfl rfl
theorem dksX16_join_5 : cX16_join.data.toList.drop 115 = dktX16_join_5 := dk_seg dksX16_join_4 23 rfl rfl
theorem dksX16_join_6 : cX16_join.data.toList.drop 138 = dktX16_join_6 := dk_seg dksX16_join_5 23 rfl rfl
theorem dksX16_join_7 : cX16_join.data.toList.drop 162 = dktX16_join_7 := dk_seg dksX16_join_6 24 rfl rfl
theorem dksX16_join_8 : cX16_join.data.toList.drop 184 = dktX16_join_8 := dk_seg dksX16_join_7 22 rfl rfl
theorem dksX16_join_9 : cX16_join.data.toList.drop 208 = dktX16_join_9 := dk_seg dksX16_join_8 24 rfl rfl
theorem dX16_join_0 : decode cX16_join 0 = .ok (.aload_n 0, 1) := dk_42 (dk_at dksX16_join_0 0 rfl rfl)
theorem dX16_join_1 : decode cX16_join 1 = .ok (.invokevirtual 195, 3) := dk_182 0 195 (dk_at dksX16_join_0 1 rfl rfl)
theorem dX16_join_4 : decode cX16_join 4 = .ok (.astore_n 2, 1) := dk_77 (dk_at dksX16_join_0 4 rfl rfl)
theorem dX16_join_5 : decode cX16_join 5 = .ok (.bipush 32, 2) := dk_16 32 (dk_at dksX16_join_0 5 rfl rfl)
theorem dX16_join_7 : decode cX16_join 7 = .ok (.istore_n 3, 1) := dk_62 (dk_at dksX16_join_0 7 rfl rfl)
theorem dX16_join_8 : decode cX16_join 8 = .ok (.aload_n 1, 1) := dk_43 (dk_at dksX16_join_0 8 rfl rfl)
theorem dX16_join_9 : decode cX16_join 9 = .ok (.invokevirtual 71, 3) := dk_182 0 71 (dk_at dksX16_join_0 9 rfl rfl)
theorem dX16_join_12 : decode cX16_join 12 = .ok (.ifCond .ne 17, 3) := dk_154 0 17 (dk_at dksX16_join_0 12 rfl rfl)
theorem dX16_join_15 : decode cX16_join 15 = .ok (.aload_n 2, 1) := dk_44 (dk_at dksX16_join_0 15 rfl rfl)
theorem dX16_join_16 : decode cX16_join 16 = .ok (.invokevirtual 71, 3) := dk_182 0 71 (dk_at dksX16_join_0 16 rfl rfl)
theorem dX16_join_19 : decode cX16_join 19 = .ok (.ifCond .ne 10, 3) := dk_154 0 10 (dk_at dksX16_join_0 19 rfl rfl)
theorem dX16_join_22 : decode cX16_join 22 = .ok (.aload_n 0, 1) := dk_42 (dk_at dksX16_join_0 22 rfl rfl)
theorem dX16_join_23 : decode cX16_join 23 = .ok (.aload_n 2, 1) := dk_44 (dk_at dksX16_join_0 23 rfl rfl)
theorem dX16_join_24 : decode cX16_join 24 = .ok (.aload_n 1, 1) := dk_43 (dk_at dksX16_join_1 0 rfl rfl)
theorem dX16_join_25 : decode cX16_join 25 = .ok (.invokevirtual 198, 3) := dk_182 0 198 (dk_at dksX16_join_1 1 rfl rfl)
theorem dX16_join_28 : decode cX16_join 28 = .ok (.istore_n 3, 1) := dk_62 (dk_at dksX16_join_1 4 rfl rfl)
theorem dX16_join_29 : decode cX16_join 29 = .ok (.aload_n 0, 1) := dk_42 (dk_at dksX16_join_1 5 rfl rfl)
theorem dX16_join_30 : decode cX16_join 30 = .ok (.getfield 16, 3) := dk_180 0 16 (dk_at dksX16_join_1 6 rfl rfl)
theorem dX16_join_33 : decode cX16_join 33 = .ok (.invokevirtual 25, 3) := dk_182 0 25 (dk_at dksX16_join_1 9 rfl rfl)
theorem dX16_join_36 : decode cX16_join 36 = .ok (.iconst 1, 1) := dk_4 (dk_at dksX16_join_1 12 rfl rfl)
theorem dX16_join_37 : decode cX16_join 37 = .ok (.isub, 1) := dk_100 (dk_at dksX16_join_1 13 rfl rfl)
theorem dX16_join_38 : decode cX16_join 38 = .ok (.istore 4, 2) := dk_54 4 (dk_at dksX16_join_1 14 rfl rfl)
theorem dX16_join_40 : decode cX16_join 40 = .ok (.iload_n 3, 1) := dk_29 (dk_at dksX16_join_1 16 rfl rfl)
theorem dX16_join_41 : decode cX16_join 41 = .ok (.bipush 101, 2) := dk_16 101 (dk_at dksX16_join_1 17 rfl rfl)
theorem dX16_join_43 : decode cX16_join 43 = .ok (.if_icmp .ne 20, 3) := dk_160 0 20 (dk_at dksX16_join_1 19 rfl rfl)
theorem dX16_join_46 : decode cX16_join 46 = .ok (.aload_n 0, 1) := dk_42 (dk_at dksX16_join_1 22 rfl rfl)
theorem dX16_join_47 : decode cX16_join 47 = .ok (.getfield 16, 3) := dk_180 0 16 (dk_at dksX16_join_2 0 rfl rfl)
theorem dX16_join_50 : decode cX16_join 50 = .ok (.iload 4, 2) := dk_21 4 (dk_at dksX16_join_2 3 rfl rfl)
theorem dX16_join_52 : decode cX16_join 52 = .ok (.invokevirtual 178, 3) := dk_182 0 178 (dk_at dksX16_join_2 5 rfl rfl)
theorem dX16_join_55 : decode cX16_join 55 = .ok (.checkcast 120, 3) := dk_192 0 120 (dk_at dksX16_join_2 8 rfl rfl)
theorem dX16_join_58 : decode cX16_join 58 = .ok (.astore 5, 2) := dk_58 5 (dk_at dksX16_join_2 11 rfl rfl)
theorem dX16_join_60 : decode cX16_join 60 = .ok (.goto 112, 3) := dk_167 0 112 (dk_at dksX16_join_2 13 rfl rfl)
theorem dX16_join_63 : decode cX16_join 63 = .ok (.iload_n 3, 1) := dk_29 (dk_at dksX16_join_2 16 rfl rfl)
theorem dX16_join_64 : decode cX16_join 64 = .ok (.bipush 121, 2) := dk_16 121 (dk_at dksX16_join_2 17 rfl rfl)
theorem dX16_join_66 : decode cX16_join 66 = .ok (.if_icmp .ne 33, 3) := dk_160 0 33 (dk_at dksX16_join_2 19 rfl rfl)
theorem dX16_join_69 : decode cX16_join 69 = .ok (.aload_n 0, 1) := dk_42 (dk_at dksX16_join_2 22 rfl rfl)
theorem dX16_join_70 : decode cX16_join 70 = .ok (.getfield 16, 3) := dk_180 0 16 (dk_at dksX16_join_3 0 rfl rfl)
theorem dX16_join_73 : decode cX16_join 73 = .ok (.iload 4, 2) := dk_21 4 (dk_at dksX16_join_3 3 rfl rfl)
theorem dX16_join_75 : decode cX16_join 75 = .ok (.new 120, 3) := dk_187 0 120 (dk_at dksX16_join_3 5 rfl rfl)
theorem dX16_join_78 : decode cX16_join 78 = .ok (.dup, 1) := dk_89 (dk_at dksX16_join_3 8 rfl rfl)
theorem dX16_join_79 : decode cX16_join 79 = .ok (.bipush 105, 2) := dk_16 105 (dk_at dksX16_join_3 9 rfl rfl)
theorem dX16_join_81 : decode cX16_join 81 = .ok (.aload_n 0, 1) := dk_42 (dk_at dksX16_join_3 11 rfl rfl)
theorem dX16_join_82 : decode cX16_join 82 = .ok (.getfield 93, 3) := dk_180 0 93 (dk_at dksX16_join_3 12 rfl rfl)
theorem dX16_join_85 : decode cX16_join 85 = .ok (.aload_n 0, 1) := dk_42 (dk_at dksX16_join_3 15 rfl rfl)
theorem dX16_join_86 : decode cX16_join 86 = .ok (.getfield 82, 3) := dk_180 0 82 (dk_at dksX16_join_3 16 rfl rfl)
theorem dX16_join_89 : decode cX16_join 89 = .ok (.invokespecial 129, 3) := dk_183 0 129 (dk_at dksX16_join_3 19 rfl rfl)
theorem dX16_join_92 : decode cX16_join 92 = .ok (.invokevirtual 202, 3) := dk_182 0 202 (dk_at dksX16_join_4 0 rfl rfl)
theorem dX16_join_95 : decode cX16_join 95 = .ok (.pop, 1) := dk_87 (dk_at dksX16_join_4 3 rfl rfl)
theorem dX16_join_96 : decode cX16_join 96 = .ok (.goto 76, 3) := dk_167 0 76 (dk_at dksX16_join_4 4 rfl rfl)
theorem dX16_join_99 : decode cX16_join 99 = .ok (.iload_n 3, 1) := dk_29 (dk_at dksX16_join_4 7 rfl rfl)
theorem dX16_join_100 : decode cX16_join 100 = .ok (.bipush 100, 2) := dk_16 100 (dk_at dksX16_join_4 8 rfl rfl)
theorem dX16_join_102 : decode cX16_join 102 = .ok (.if_icmp .ne 39, 3) := dk_160 0 39 (dk_at dksX16_join_4 10 rfl rfl)
theorem dX16_join_105 : decode cX16_join 105 = .ok (.aload_n 0, 1) := dk_42 (dk_at dksX16_join_4 13 rfl rfl)
theorem dX16_join_106 : decode cX16_join 106 = .ok (.getfield 16, 3) := dk_180 0 16 (dk_at dksX16_join_4 14 rfl rfl)
theorem dX16_join_109 : decode cX16_join 109 = .ok (.new 120, 3) := dk_187 0 120 (dk_at dksX16_join_4 17 rfl rfl)
theorem dX16_join_112 : decode cX16_join 112 = .ok (.dup, 1) := dk_89 (dk_at dksX16_join_4 20 rfl rfl)
theorem dX16_join_113 : decode cX16_join 113 = .ok (.aload_n 2, 1) := dk_44 (dk_at dksX16_join_4 21 rfl rfl)
theorem dX16_join_114 : decode cX16_join 114 = .ok (.aload_n 2, 1) := dk_44 (dk_at dksX16_join_4 22 rfl rfl)
theorem dX16_join_115 : decode cX16_join 115 = .ok (.invokevirtual 75, 3) := dk_182 0 75 (dk_at dksX16_join_5 0 rfl rfl)
theorem dX16_join_118 : decode cX16_join 118 = .ok (.iconst 1, 1) := dk_4 (dk_at dksX16_join_5 3 rfl rfl)
theorem dX16_join_119 : decode cX16_join 119 = .ok (.isub, 1) := dk_100 (dk_at dksX16_join_5 4 rfl rfl)
theorem dX16_join_120 : decode cX16_join 120 = .ok (.invokevirtual 64, 3) := dk_182 0 64 (dk_at dksX16_join_5 5 rfl rfl)
theorem dX16_join_123 : decode cX16_join 123 = .ok (.aload_n 0, 1) := dk_42 (dk_at dksX16_join_5 8 rfl rfl)
theorem dX16_join_124 : decode cX16_join 124 = .ok (.getfield 93, 3) := dk_180 0 93 (dk_at dksX16_join_5 9 rfl rfl)
theorem dX16_join_127 : decode cX16_join 127 = .ok (.aload_n 0, 1) := dk_42 (dk_at dksX16_join_5 12 rfl rfl)
theorem dX16_join_128 : decode cX16_join 128 = .ok (.getfield 82, 3) := dk_180 0 82 (dk_at dksX16_join_5 13 rfl rfl)
theorem dX16_join_131 : decode cX16_join 131 = .ok (.invokespecial 129, 3) := dk_183 0 129 (dk_at dksX16_join_5 16 rfl rfl)
theorem dX16_join_134 : decode cX16_join 134 = .ok (.invokevirtual 132, 3) := dk_182 0 132 (dk_at dksX16_join_5 19 rfl rfl)
theorem dX16_join_137 : decode cX16_join 137 = .ok (.pop, 1) := dk_87 (dk_at dksX16_join_5 22 rfl rfl)
theorem dX16_join_138 : decode cX16_join 138 = .ok (.goto 34, 3) := dk_167 0 34 (dk_at dksX16_join_6 0 rfl rfl)
theorem dX16_join_141 : decode cX16_join 141 = .ok (.iload_n 3, 1) := dk_29 (dk_at dksX16_join_6 3 rfl rfl)
theorem dX16_join_142 : decode cX16_join 142 = .ok (.bipush 115, 2) := dk_16 115 (dk_at dksX16_join_6 4 rfl rfl)
theorem dX16_join_144 : decode cX16_join 144 = .ok (.if_icmp .ne 28, 3) := dk_160 0 28 (dk_at dksX16_join_6 6 rfl rfl)
theorem dX16_join_147 : decode cX16_join 147 = .ok (.aload_n 0, 1) := dk_42 (dk_at dksX16_join_6 9 rfl rfl)
theorem dX16_join_148 : decode cX16_join 148 = .ok (.getfield 16, 3) := dk_180 0 16 (dk_at dksX16_join_6 10 rfl rfl)
theorem dX16_join_151 : decode cX16_join 151 = .ok (.new 120, 3) := dk_187 0 120 (dk_at dksX16_join_6 13 rfl rfl)
theorem dX16_join_154 : decode cX16_join 154 = .ok (.dup, 1) := dk_89 (dk_at dksX16_join_6 16 rfl rfl)
theorem dX16_join_155 : decode cX16_join 155 = .ok (.bipush 101, 2) := dk_16 101 (dk_at dksX16_join_6 17 rfl rfl)
theorem dX16_join_157 : decode cX16_join 157 = .ok (.aload_n 0, 1) := dk_42 (dk_at dksX16_join_6 19 rfl rfl)
theorem dX16_join_158 : decode cX16_join 158 = .ok (.getfield 93, 3) := dk_180 0 93 (dk_at dksX16_join_6 20 rfl rfl)
theorem dX16_join_161 : decode cX16_join 161 = .ok (.aload_n 0, 1) := dk_42 (dk_at dksX16_join_6 23 rfl rfl)
theorem dX16_join_162 : decode cX16_join 162 = .ok (.getfield 82, 3) := dk_180 0 82 (dk_at dksX16_join_7 0 rfl rfl)
theorem dX16_join_165 : decode cX16_join 165 = .ok (.invokespecial 129, 3) := dk_183 0 129 (dk_at dksX16_join_7 3 rfl rfl)
theorem dX16_join_168 : decode cX16_join 168 = .ok (.invokevirtual 132, 3) := dk_182 0 132 (dk_at dksX16_join_7 6 rfl rfl)
theorem dX16_join_171 : decode cX16_join 171 = .ok (.pop, 1) := dk_87 (dk_at dksX16_join_7 9 rfl rfl)
theorem dX16_join_172 : decode cX16_join 172 = .ok (.aload_n 0, 1) := dk_42 (dk_at dksX16_join_7 10 rfl rfl)
theorem dX16_join_173 : decode cX16_join 173 = .ok (.aload_n 0, 1) := dk_42 (dk_at dksX16_join_7 11 rfl rfl)
theorem dX16_join_174 : decode cX16_join 174 = .ok (.getfield 96, 3) := dk_180 0 96 (dk_at dksX16_join_7 12 rfl rfl)
theorem dX16_join_177 : decode cX16_join 177 = .ok (.ifCond .ne 10, 3) := dk_154 0 10 (dk_at dksX16_join_7 15 rfl rfl)
theorem dX16_join_180 : decode cX16_join 180 = .ok (.aload_n 1, 1) := dk_43 (dk_at dksX16_join_7 18 rfl rfl)
theorem dX16_join_181 : decode cX16_join 181 = .ok (.invokevirtual 71, 3) := dk_182 0 71 (dk_at dksX16_join_7 19 rfl rfl)
theorem dX16_join_184 : decode cX16_join 184 = .ok (.ifCond .ne 7, 3) := dk_154 0 7 (dk_at dksX16_join_8 0 rfl rfl)
theorem dX16_join_187 : decode cX16_join 187 = .ok (.iconst 1, 1) := dk_4 (dk_at dksX16_join_8 3 rfl rfl)
theorem dX16_join_188 : decode cX16_join 188 = .ok (.goto 4, 3) := dk_167 0 4 (dk_at dksX16_join_8 4 rfl rfl)
theorem dX16_join_191 : decode cX16_join 191 = .ok (.iconst 0, 1) := dk_3 (dk_at dksX16_join_8 7 rfl rfl)
theorem dX16_join_192 : decode cX16_join 192 = .ok (.putfield 96, 3) := dk_181 0 96 (dk_at dksX16_join_8 8 rfl rfl)
theorem dX16_join_195 : decode cX16_join 195 = .ok (.iconst 0, 1) := dk_3 (dk_at dksX16_join_8 11 rfl rfl)
theorem dX16_join_196 : decode cX16_join 196 = .ok (.istore 5, 2) := dk_54 5 (dk_at dksX16_join_8 12 rfl rfl)
theorem dX16_join_198 : decode cX16_join 198 = .ok (.iload 5, 2) := dk_21 5 (dk_at dksX16_join_8 14 rfl rfl)
theorem dX16_join_200 : decode cX16_join 200 = .ok (.aload_n 1, 1) := dk_43 (dk_at dksX16_join_8 16 rfl rfl)
theorem dX16_join_201 : decode cX16_join 201 = .ok (.invokevirtual 75, 3) := dk_182 0 75 (dk_at dksX16_join_8 17 rfl rfl)
theorem dX16_join_204 : decode cX16_join 204 = .ok (.if_icmp .ge 19, 3) := dk_162 0 19 (dk_at dksX16_join_8 20 rfl rfl)
theorem dX16_join_207 : decode cX16_join 207 = .ok (.aload_n 0, 1) := dk_42 (dk_at dksX16_join_8 23 rfl rfl)
theorem dX16_join_208 : decode cX16_join 208 = .ok (.aload_n 1, 1) := dk_43 (dk_at dksX16_join_9 0 rfl rfl)
theorem dX16_join_209 : decode cX16_join 209 = .ok (.iload 5, 2) := dk_21 5 (dk_at dksX16_join_9 1 rfl rfl)
theorem dX16_join_211 : decode cX16_join 211 = .ok (.invokevirtual 64, 3) := dk_182 0 64 (dk_at dksX16_join_9 3 rfl rfl)
theorem dX16_join_214 : decode cX16_join 214 = .ok (.invokevirtual 151, 3) := dk_182 0 151 (dk_at dksX16_join_9 6 rfl rfl)
theorem dX16_join_217 : decode cX16_join 217 = .ok (.iinc 5 1, 3) := dk_132 5 1 (dk_at dksX16_join_9 9 rfl rfl)
theorem dX16_join_220 : decode cX16_join 220 = .ok (.goto (-22), 3) := dk_167 255 234 (dk_at dksX16_join_9 12 rfl rfl)
theorem dX16_join_223 : decode cX16_join 223 = .ok (.return_, 1) := dk_177 (dk_at dksX16_join_9 15 rfl rfl)
abbrev cX16_lastWord : ByteArray := prog_22_method_10_code
def yX16_lastWord : MethodName := ⟨RX16, "lastWord", "()Ljava/lang/String;"⟩
def dkwX16_lastWord_4 : List UInt8 := [182, 0, 191, 176]
abbrev dktX16_lastWord_4 : List UInt8 := dkwX16_lastWord_4 ++ []
def dkwX16_lastWord_3 : List UInt8 := [182, 0, 35, 192, 0, 120, 180, 0, 122, 184, 0, 184, 182, 0, 187, 87, 132, 3, 1, 167, 255, 220, 44]
abbrev dktX16_lastWord_3 : List UInt8 := dkwX16_lastWord_3 ++ dktX16_lastWord_4
def dkwX16_lastWord_2 : List UInt8 := [183, 0, 183, 77, 27, 62, 29, 42, 180, 0, 16, 182, 0, 25, 162, 0, 31, 44, 42, 180, 0, 16, 29]
abbrev dktX16_lastWord_2 : List UInt8 := dkwX16_lastWord_2 ++ dktX16_lastWord_3
def dkwX16_lastWord_1 : List UInt8 := [192, 0, 120, 180, 0, 122, 184, 0, 165, 153, 0, 9, 132, 1, 255, 167, 255, 227, 187, 0, 181, 89]
abbrev dktX16_lastWord_1 : List UInt8 := dkwX16_lastWord_1 ++ dktX16_lastWord_2
def dkwX16_lastWord_0 : List UInt8 := [42, 180, 0, 16, 182, 0, 25, 60, 27, 158, 0, 31, 42, 180, 0, 16, 27, 4, 100, 182, 0, 35]
abbrev dktX16_lastWord_0 : List UInt8 := dkwX16_lastWord_0 ++ dktX16_lastWord_1
theorem dksX16_lastWord_0 : cX16_lastWord.data.toList.drop 0 = dktX16_lastWord_0 := by decide +kernel
theorem dksX16_lastWord_1 : cX16_lastWord.data.toList.drop 22 = dktX16_lastWord_1 := dk_seg dksX16_lastWord_0 22 rfl rfl
theorem dksX16_lastWord_2 : cX16_lastWord.data.toList.drop 44 = dktX16_lastWord_2 := dk_seg dksX16_lastWord_1 22 rfl rfl
theorem dksX16_lastWord_3 : cX16_lastWord.data.toList.drop 67 = dktX16_lastWord_3 := dk_seg dksX16_lastWord_2 23 rfl rfl
theorem dksX16_lastWord_4 : cX16_lastWord.data.toList.drop 90 = dktX16_lastWord_4 := dk_seg dksX16_lastWord_3 23 rfl rfl
theorem dX16_lastWord_0 : decode cX16_lastWord 0 = .ok (.aload_n 0, 1) := dk_42 (dk_at dksX16_lastWord_0 0 rfl rfl)
theorem dX16_lastWord_1 : decode cX16_lastWord 1 = .ok (.getfield 16, 3) := dk_180 0 16 (dk_at dksX16_lastWord_0 1 rfl rfl)
theorem dX16_lastWord_4 : decode cX16_lastWord 4 = .ok (.invokevirtual 25, 3) := dk_182 0 25 (dk_at dksX16_lastWord_0 4 rfl rfl)
theorem dX16_lastWord_7 : decode cX16_lastWord 7 = .ok (.istore_n 1, 1) := dk_60 (dk_at dksX16_lastWord_0 7 rfl rfl)
theorem dX16_lastWord_8 : decode cX16_lastWord 8 = .ok (.iload_n 1, 1) := dk_27 (dk_at dksX16_lastWord_0 8 rfl rfl)
theorem dX16_lastWord_9 : decode cX16_lastWord 9 = .ok (.ifCond .le 31, 3) := dk_158 0 31 (dk_at dksX16_lastWord_0 9 rfl rfl)
theorem dX16_lastWord_12 : decode cX16_lastWord 12 = .ok (.aload_n 0, 1) := dk_42 (dk_at dksX16_lastWord_0 12 rfl rfl)
theorem dX16_lastWord_13 : decode cX16_lastWord 13 = .ok (.getfield 16, 3) := dk_180 0 16 (dk_at dksX16_lastWord_0 13 rfl rfl)
theorem dX16_lastWord_16 : decode cX16_lastWord 16 = .ok (.iload_n 1, 1) := dk_27 (dk_at dksX16_lastWord_0 16 rfl rfl)
theorem dX16_lastWord_17 : decode cX16_lastWord 17 = .ok (.iconst 1, 1) := dk_4 (dk_at dksX16_lastWord_0 17 rfl rfl)
theorem dX16_lastWord_18 : decode cX16_lastWord 18 = .ok (.isub, 1) := dk_100 (dk_at dksX16_lastWord_0 18 rfl rfl)
theorem dX16_lastWord_19 : decode cX16_lastWord 19 = .ok (.invokevirtual 35, 3) := dk_182 0 35 (dk_at dksX16_lastWord_0 19 rfl rfl)
theorem dX16_lastWord_22 : decode cX16_lastWord 22 = .ok (.checkcast 120, 3) := dk_192 0 120 (dk_at dksX16_lastWord_1 0 rfl rfl)
theorem dX16_lastWord_25 : decode cX16_lastWord 25 = .ok (.getfield 122, 3) := dk_180 0 122 (dk_at dksX16_lastWord_1 3 rfl rfl)
theorem dX16_lastWord_28 : decode cX16_lastWord 28 = .ok (.invokestatic 165, 3) := dk_184 0 165 (dk_at dksX16_lastWord_1 6 rfl rfl)
theorem dX16_lastWord_31 : decode cX16_lastWord 31 = .ok (.ifCond .eq 9, 3) := dk_153 0 9 (dk_at dksX16_lastWord_1 9 rfl rfl)
theorem dX16_lastWord_34 : decode cX16_lastWord 34 = .ok (.iinc 1 (-1), 3) := dk_132 1 255 (dk_at dksX16_lastWord_1 12 rfl rfl)
theorem dX16_lastWord_37 : decode cX16_lastWord 37 = .ok (.goto (-29), 3) := dk_167 255 227 (dk_at dksX16_lastWord_1 15 rfl rfl)
theorem dX16_lastWord_40 : decode cX16_lastWord 40 = .ok (.new 181, 3) := dk_187 0 181 (dk_at dksX16_lastWord_1 18 rfl rfl)
theorem dX16_lastWord_43 : decode cX16_lastWord 43 = .ok (.dup, 1) := dk_89 (dk_at dksX16_lastWord_1 21 rfl rfl)
theorem dX16_lastWord_44 : decode cX16_lastWord 44 = .ok (.invokespecial 183, 3) := dk_183 0 183 (dk_at dksX16_lastWord_2 0 rfl rfl)
theorem dX16_lastWord_47 : decode cX16_lastWord 47 = .ok (.astore_n 2, 1) := dk_77 (dk_at dksX16_lastWord_2 3 rfl rfl)
theorem dX16_lastWord_48 : decode cX16_lastWord 48 = .ok (.iload_n 1, 1) := dk_27 (dk_at dksX16_lastWord_2 4 rfl rfl)
theorem dX16_lastWord_49 : decode cX16_lastWord 49 = .ok (.istore_n 3, 1) := dk_62 (dk_at dksX16_lastWord_2 5 rfl rfl)
theorem dX16_lastWord_50 : decode cX16_lastWord 50 = .ok (.iload_n 3, 1) := dk_29 (dk_at dksX16_lastWord_2 6 rfl rfl)
theorem dX16_lastWord_51 : decode cX16_lastWord 51 = .ok (.aload_n 0, 1) := dk_42 (dk_at dksX16_lastWord_2 7 rfl rfl)
theorem dX16_lastWord_52 : decode cX16_lastWord 52 = .ok (.getfield 16, 3) := dk_180 0 16 (dk_at dksX16_lastWord_2 8 rfl rfl)
theorem dX16_lastWord_55 : decode cX16_lastWord 55 = .ok (.invokevirtual 25, 3) := dk_182 0 25 (dk_at dksX16_lastWord_2 11 rfl rfl)
theorem dX16_lastWord_58 : decode cX16_lastWord 58 = .ok (.if_icmp .ge 31, 3) := dk_162 0 31 (dk_at dksX16_lastWord_2 14 rfl rfl)
theorem dX16_lastWord_61 : decode cX16_lastWord 61 = .ok (.aload_n 2, 1) := dk_44 (dk_at dksX16_lastWord_2 17 rfl rfl)
theorem dX16_lastWord_62 : decode cX16_lastWord 62 = .ok (.aload_n 0, 1) := dk_42 (dk_at dksX16_lastWord_2 18 rfl rfl)
theorem dX16_lastWord_63 : decode cX16_lastWord 63 = .ok (.getfield 16, 3) := dk_180 0 16 (dk_at dksX16_lastWord_2 19 rfl rfl)
theorem dX16_lastWord_66 : decode cX16_lastWord 66 = .ok (.iload_n 3, 1) := dk_29 (dk_at dksX16_lastWord_2 22 rfl rfl)
theorem dX16_lastWord_67 : decode cX16_lastWord 67 = .ok (.invokevirtual 35, 3) := dk_182 0 35 (dk_at dksX16_lastWord_3 0 rfl rfl)
theorem dX16_lastWord_70 : decode cX16_lastWord 70 = .ok (.checkcast 120, 3) := dk_192 0 120 (dk_at dksX16_lastWord_3 3 rfl rfl)
theorem dX16_lastWord_73 : decode cX16_lastWord 73 = .ok (.getfield 122, 3) := dk_180 0 122 (dk_at dksX16_lastWord_3 6 rfl rfl)
theorem dX16_lastWord_76 : decode cX16_lastWord 76 = .ok (.invokestatic 184, 3) := dk_184 0 184 (dk_at dksX16_lastWord_3 9 rfl rfl)
theorem dX16_lastWord_79 : decode cX16_lastWord 79 = .ok (.invokevirtual 187, 3) := dk_182 0 187 (dk_at dksX16_lastWord_3 12 rfl rfl)
theorem dX16_lastWord_82 : decode cX16_lastWord 82 = .ok (.pop, 1) := dk_87 (dk_at dksX16_lastWord_3 15 rfl rfl)
theorem dX16_lastWord_83 : decode cX16_lastWord 83 = .ok (.iinc 3 1, 3) := dk_132 3 1 (dk_at dksX16_lastWord_3 16 rfl rfl)
theorem dX16_lastWord_86 : decode cX16_lastWord 86 = .ok (.goto (-36), 3) := dk_167 255 220 (dk_at dksX16_lastWord_3 19 rfl rfl)
theorem dX16_lastWord_89 : decode cX16_lastWord 89 = .ok (.aload_n 2, 1) := dk_44 (dk_at dksX16_lastWord_3 22 rfl rfl)
theorem dX16_lastWord_90 : decode cX16_lastWord 90 = .ok (.invokevirtual 191, 3) := dk_182 0 191 (dk_at dksX16_lastWord_4 0 rfl rfl)
theorem dX16_lastWord_93 : decode cX16_lastWord 93 = .ok (.areturn, 1) := dk_176 (dk_at dksX16_lastWord_4 3 rfl rfl)
abbrev cX16_rule : ByteArray := prog_22_method_12_code
def yX16_rule : MethodName := ⟨RX16, "rule", "(Ljava/lang/String;Ljava/lang/String;)C"⟩
def dkwX16_rule_6 : List UInt8 := [167, 0, 4, 29, 172]
abbrev dktX16_rule_6 : List UInt8 := dkwX16_rule_6 ++ []
def dkwX16_rule_5 : List UInt8 := [183, 0, 183, 43, 182, 0, 221, 44, 182, 0, 221, 182, 0, 191, 182, 0, 224, 153, 0, 8, 16, 32]
abbrev dktX16_rule_5 : List UInt8 := dkwX16_rule_5 ++ dktX16_rule_6
def dkwX16_rule_4 : List UInt8 := [167, 0, 4, 29, 62, 132, 4, 1, 167, 255, 162, 42, 180, 0, 1, 180, 0, 213, 187, 0, 181, 89]
abbrev dktX16_rule_4 : List UInt8 := dkwX16_rule_4 ++ dktX16_rule_5
def dkwX16_rule_3 : List UInt8 := [182, 0, 221, 182, 0, 191, 182, 0, 224, 153, 0, 6, 21, 5, 172, 29, 16, 32, 160, 0, 8, 21, 5]
abbrev dktX16_rule_3 : List UInt8 := dkwX16_rule_3 ++ dktX16_rule_4
def dkwX16_rule_2 : List UInt8 := [180, 0, 1, 180, 0, 213, 187, 0, 181, 89, 183, 0, 183, 21, 5, 43, 184, 0, 217, 182, 0, 221, 44]
abbrev dktX16_rule_2 : List UInt8 := dkwX16_rule_2 ++ dktX16_rule_3
def dkwX16_rule_1 : List UInt8 := [180, 0, 1, 180, 0, 206, 21, 4, 182, 0, 64, 54, 5, 21, 5, 43, 44, 184, 0, 209, 153, 0, 55, 42]
abbrev dktX16_rule_1 : List UInt8 := dkwX16_rule_1 ++ dktX16_rule_2
def dkwX16_rule_0 : List UInt8 := [16, 32, 62, 3, 54, 4, 21, 4, 42, 180, 0, 1, 180, 0, 206, 182, 0, 75, 162, 0, 85, 42]
abbrev dktX16_rule_0 : List UInt8 := dkwX16_rule_0 ++ dktX16_rule_1
theorem dksX16_rule_0 : cX16_rule.data.toList.drop 0 = dktX16_rule_0 := by decide +kernel
theorem dksX16_rule_1 : cX16_rule.data.toList.drop 22 = dktX16_rule_1 := dk_seg dksX16_rule_0 22 rfl rfl
theorem dksX16_rule_2 : cX16_rule.data.toList.drop 46 = dktX16_rule_2 := dk_seg dksX16_rule_1 24 rfl rfl
theorem dksX16_rule_3 : cX16_rule.data.toList.drop 69 = dktX16_rule_3 := dk_seg dksX16_rule_2 23 rfl rfl
theorem dksX16_rule_4 : cX16_rule.data.toList.drop 92 = dktX16_rule_4 := dk_seg dksX16_rule_3 23 rfl rfl
theorem dksX16_rule_5 : cX16_rule.data.toList.drop 114 = dktX16_rule_5 := dk_seg dksX16_rule_4 22 rfl rfl
theorem dksX16_rule_6 : cX16_rule.data.toList.drop 136 = dktX16_rule_6 := dk_seg dksX16_rule_5 22 rfl rfl
theorem dX16_rule_0 : decode cX16_rule 0 = .ok (.bipush 32, 2) := dk_16 32 (dk_at dksX16_rule_0 0 rfl rfl)
theorem dX16_rule_2 : decode cX16_rule 2 = .ok (.istore_n 3, 1) := dk_62 (dk_at dksX16_rule_0 2 rfl rfl)
theorem dX16_rule_3 : decode cX16_rule 3 = .ok (.iconst 0, 1) := dk_3 (dk_at dksX16_rule_0 3 rfl rfl)
theorem dX16_rule_4 : decode cX16_rule 4 = .ok (.istore 4, 2) := dk_54 4 (dk_at dksX16_rule_0 4 rfl rfl)
theorem dX16_rule_6 : decode cX16_rule 6 = .ok (.iload 4, 2) := dk_21 4 (dk_at dksX16_rule_0 6 rfl rfl)
theorem dX16_rule_8 : decode cX16_rule 8 = .ok (.aload_n 0, 1) := dk_42 (dk_at dksX16_rule_0 8 rfl rfl)
theorem dX16_rule_9 : decode cX16_rule 9 = .ok (.getfield 1, 3) := dk_180 0 1 (dk_at dksX16_rule_0 9 rfl rfl)
theorem dX16_rule_12 : decode cX16_rule 12 = .ok (.getfield 206, 3) := dk_180 0 206 (dk_at dksX16_rule_0 12 rfl rfl)
theorem dX16_rule_15 : decode cX16_rule 15 = .ok (.invokevirtual 75, 3) := dk_182 0 75 (dk_at dksX16_rule_0 15 rfl rfl)
theorem dX16_rule_18 : decode cX16_rule 18 = .ok (.if_icmp .ge 85, 3) := dk_162 0 85 (dk_at dksX16_rule_0 18 rfl rfl)
theorem dX16_rule_21 : decode cX16_rule 21 = .ok (.aload_n 0, 1) := dk_42 (dk_at dksX16_rule_0 21 rfl rfl)
theorem dX16_rule_22 : decode cX16_rule 22 = .ok (.getfield 1, 3) := dk_180 0 1 (dk_at dksX16_rule_1 0 rfl rfl)
theorem dX16_rule_25 : decode cX16_rule 25 = .ok (.getfield 206, 3) := dk_180 0 206 (dk_at dksX16_rule_1 3 rfl rfl)
theorem dX16_rule_28 : decode cX16_rule 28 = .ok (.iload 4, 2) := dk_21 4 (dk_at dksX16_rule_1 6 rfl rfl)
theorem dX16_rule_30 : decode cX16_rule 30 = .ok (.invokevirtual 64, 3) := dk_182 0 64 (dk_at dksX16_rule_1 8 rfl rfl)
theorem dX16_rule_33 : decode cX16_rule 33 = .ok (.istore 5, 2) := dk_54 5 (dk_at dksX16_rule_1 11 rfl rfl)
theorem dX16_rule_35 : decode cX16_rule 35 = .ok (.iload 5, 2) := dk_21 5 (dk_at dksX16_rule_1 13 rfl rfl)
theorem dX16_rule_37 : decode cX16_rule 37 = .ok (.aload_n 1, 1) := dk_43 (dk_at dksX16_rule_1 15 rfl rfl)
theorem dX16_rule_38 : decode cX16_rule 38 = .ok (.aload_n 2, 1) := dk_44 (dk_at dksX16_rule_1 16 rfl rfl)
theorem dX16_rule_39 : decode cX16_rule 39 = .ok (.invokestatic 209, 3) := dk_184 0 209 (dk_at dksX16_rule_1 17 rfl rfl)
theorem dX16_rule_42 : decode cX16_rule 42 = .ok (.ifCond .eq 55, 3) := dk_153 0 55 (dk_at dksX16_rule_1 20 rfl rfl)
theorem dX16_rule_45 : decode cX16_rule 45 = .ok (.aload_n 0, 1) := dk_42 (dk_at dksX16_rule_1 23 rfl rfl)
theorem dX16_rule_46 : decode cX16_rule 46 = .ok (.getfield 1, 3) := dk_180 0 1 (dk_at dksX16_rule_2 0 rfl rfl)
theorem dX16_rule_49 : decode cX16_rule 49 = .ok (.getfield 213, 3) := dk_180 0 213 (dk_at dksX16_rule_2 3 rfl rfl)
theorem dX16_rule_52 : decode cX16_rule 52 = .ok (.new 181, 3) := dk_187 0 181 (dk_at dksX16_rule_2 6 rfl rfl)
theorem dX16_rule_55 : decode cX16_rule 55 = .ok (.dup, 1) := dk_89 (dk_at dksX16_rule_2 9 rfl rfl)
theorem dX16_rule_56 : decode cX16_rule 56 = .ok (.invokespecial 183, 3) := dk_183 0 183 (dk_at dksX16_rule_2 10 rfl rfl)
theorem dX16_rule_59 : decode cX16_rule 59 = .ok (.iload 5, 2) := dk_21 5 (dk_at dksX16_rule_2 13 rfl rfl)
theorem dX16_rule_61 : decode cX16_rule 61 = .ok (.aload_n 1, 1) := dk_43 (dk_at dksX16_rule_2 15 rfl rfl)
theorem dX16_rule_62 : decode cX16_rule 62 = .ok (.invokestatic 217, 3) := dk_184 0 217 (dk_at dksX16_rule_2 16 rfl rfl)
theorem dX16_rule_65 : decode cX16_rule 65 = .ok (.invokevirtual 221, 3) := dk_182 0 221 (dk_at dksX16_rule_2 19 rfl rfl)
theorem dX16_rule_68 : decode cX16_rule 68 = .ok (.aload_n 2, 1) := dk_44 (dk_at dksX16_rule_2 22 rfl rfl)
theorem dX16_rule_69 : decode cX16_rule 69 = .ok (.invokevirtual 221, 3) := dk_182 0 221 (dk_at dksX16_rule_3 0 rfl rfl)
theorem dX16_rule_72 : decode cX16_rule 72 = .ok (.invokevirtual 191, 3) := dk_182 0 191 (dk_at dksX16_rule_3 3 rfl rfl)
theorem dX16_rule_75 : decode cX16_rule 75 = .ok (.invokevirtual 224, 3) := dk_182 0 224 (dk_at dksX16_rule_3 6 rfl rfl)
theorem dX16_rule_78 : decode cX16_rule 78 = .ok (.ifCond .eq 6, 3) := dk_153 0 6 (dk_at dksX16_rule_3 9 rfl rfl)
theorem dX16_rule_81 : decode cX16_rule 81 = .ok (.iload 5, 2) := dk_21 5 (dk_at dksX16_rule_3 12 rfl rfl)
theorem dX16_rule_83 : decode cX16_rule 83 = .ok (.ireturn, 1) := dk_172 (dk_at dksX16_rule_3 14 rfl rfl)
theorem dX16_rule_84 : decode cX16_rule 84 = .ok (.iload_n 3, 1) := dk_29 (dk_at dksX16_rule_3 15 rfl rfl)
theorem dX16_rule_85 : decode cX16_rule 85 = .ok (.bipush 32, 2) := dk_16 32 (dk_at dksX16_rule_3 16 rfl rfl)
theorem dX16_rule_87 : decode cX16_rule 87 = .ok (.if_icmp .ne 8, 3) := dk_160 0 8 (dk_at dksX16_rule_3 18 rfl rfl)
theorem dX16_rule_90 : decode cX16_rule 90 = .ok (.iload 5, 2) := dk_21 5 (dk_at dksX16_rule_3 21 rfl rfl)
theorem dX16_rule_92 : decode cX16_rule 92 = .ok (.goto 4, 3) := dk_167 0 4 (dk_at dksX16_rule_4 0 rfl rfl)
theorem dX16_rule_95 : decode cX16_rule 95 = .ok (.iload_n 3, 1) := dk_29 (dk_at dksX16_rule_4 3 rfl rfl)
theorem dX16_rule_96 : decode cX16_rule 96 = .ok (.istore_n 3, 1) := dk_62 (dk_at dksX16_rule_4 4 rfl rfl)
theorem dX16_rule_97 : decode cX16_rule 97 = .ok (.iinc 4 1, 3) := dk_132 4 1 (dk_at dksX16_rule_4 5 rfl rfl)
theorem dX16_rule_100 : decode cX16_rule 100 = .ok (.goto (-94), 3) := dk_167 255 162 (dk_at dksX16_rule_4 8 rfl rfl)
theorem dX16_rule_103 : decode cX16_rule 103 = .ok (.aload_n 0, 1) := dk_42 (dk_at dksX16_rule_4 11 rfl rfl)
theorem dX16_rule_104 : decode cX16_rule 104 = .ok (.getfield 1, 3) := dk_180 0 1 (dk_at dksX16_rule_4 12 rfl rfl)
theorem dX16_rule_107 : decode cX16_rule 107 = .ok (.getfield 213, 3) := dk_180 0 213 (dk_at dksX16_rule_4 15 rfl rfl)
theorem dX16_rule_110 : decode cX16_rule 110 = .ok (.new 181, 3) := dk_187 0 181 (dk_at dksX16_rule_4 18 rfl rfl)
theorem dX16_rule_113 : decode cX16_rule 113 = .ok (.dup, 1) := dk_89 (dk_at dksX16_rule_4 21 rfl rfl)
theorem dX16_rule_114 : decode cX16_rule 114 = .ok (.invokespecial 183, 3) := dk_183 0 183 (dk_at dksX16_rule_5 0 rfl rfl)
theorem dX16_rule_117 : decode cX16_rule 117 = .ok (.aload_n 1, 1) := dk_43 (dk_at dksX16_rule_5 3 rfl rfl)
theorem dX16_rule_118 : decode cX16_rule 118 = .ok (.invokevirtual 221, 3) := dk_182 0 221 (dk_at dksX16_rule_5 4 rfl rfl)
theorem dX16_rule_121 : decode cX16_rule 121 = .ok (.aload_n 2, 1) := dk_44 (dk_at dksX16_rule_5 7 rfl rfl)
theorem dX16_rule_122 : decode cX16_rule 122 = .ok (.invokevirtual 221, 3) := dk_182 0 221 (dk_at dksX16_rule_5 8 rfl rfl)
theorem dX16_rule_125 : decode cX16_rule 125 = .ok (.invokevirtual 191, 3) := dk_182 0 191 (dk_at dksX16_rule_5 11 rfl rfl)
theorem dX16_rule_128 : decode cX16_rule 128 = .ok (.invokevirtual 224, 3) := dk_182 0 224 (dk_at dksX16_rule_5 14 rfl rfl)
theorem dX16_rule_131 : decode cX16_rule 131 = .ok (.ifCond .eq 8, 3) := dk_153 0 8 (dk_at dksX16_rule_5 17 rfl rfl)
theorem dX16_rule_134 : decode cX16_rule 134 = .ok (.bipush 32, 2) := dk_16 32 (dk_at dksX16_rule_5 20 rfl rfl)
theorem dX16_rule_136 : decode cX16_rule 136 = .ok (.goto 4, 3) := dk_167 0 4 (dk_at dksX16_rule_6 0 rfl rfl)
theorem dX16_rule_139 : decode cX16_rule 139 = .ok (.iload_n 3, 1) := dk_29 (dk_at dksX16_rule_6 3 rfl rfl)
theorem dX16_rule_140 : decode cX16_rule 140 = .ok (.ireturn, 1) := dk_172 (dk_at dksX16_rule_6 4 rfl rfl)
abbrev cX16_command : ByteArray := prog_22_method_7_code
def yX16_command : MethodName := ⟨RX16, "command", "(C)V"⟩
def dkwX16_command_7 : List UInt8 := [167, 0, 13, 29, 28, 162, 0, 8, 42, 29, 182, 0, 172, 177]
abbrev dktX16_command_7 : List UInt8 := dkwX16_command_7 ++ []
def dkwX16_command_6 : List UInt8 := [162, 0, 27, 27, 16, 60, 160, 0, 21, 42, 42, 180, 0, 16, 29, 182, 0, 35, 192, 0, 120, 182, 0, 168]
abbrev dktX16_command_6 : List UInt8 := dkwX16_command_6 ++ dktX16_command_7
def dkwX16_command_5 : List UInt8 := [182, 0, 35, 192, 0, 120, 180, 0, 122, 184, 0, 165, 153, 0, 9, 132, 3, 255, 167, 255, 227, 29, 28]
abbrev dktX16_command_5 : List UInt8 := dkwX16_command_5 ++ dktX16_command_6
def dkwX16_command_4 : List UInt8 := [154, 0, 9, 132, 2, 255, 167, 255, 227, 28, 62, 29, 158, 0, 31, 42, 180, 0, 16, 29, 4, 100]
abbrev dktX16_command_4 : List UInt8 := dkwX16_command_4 ++ dktX16_command_5
def dkwX16_command_3 : List UInt8 := [158, 0, 31, 42, 180, 0, 16, 28, 4, 100, 182, 0, 35, 192, 0, 120, 180, 0, 122, 184, 0, 165]
abbrev dktX16_command_3 : List UInt8 := dkwX16_command_3 ++ dktX16_command_4
def dkwX16_command_2 : List UInt8 := [167, 0, 128, 27, 16, 60, 159, 0, 9, 27, 16, 35, 160, 0, 116, 42, 180, 0, 16, 182, 0, 25, 61, 28]
abbrev dktX16_command_2 : List UInt8 := dkwX16_command_2 ++ dktX16_command_3
def dkwX16_command_1 : List UInt8 := [4, 181, 0, 136, 167, 0, 148, 27, 16, 44, 159, 0, 9, 27, 16, 124, 160, 0, 11, 42, 27, 182, 0, 143]
abbrev dktX16_command_1 : List UInt8 := dkwX16_command_1 ++ dktX16_command_2
def dkwX16_command_0 : List UInt8 := [27, 16, 45, 159, 0, 9, 27, 16, 46, 160, 0, 22, 27, 16, 46, 160, 0, 8, 42, 27, 182, 0, 143, 42]
abbrev dktX16_command_0 : List UInt8 := dkwX16_command_0 ++ dktX16_command_1
theorem dksX16_command_0 : cX16_command.data.toList.drop 0 = dktX16_command_0 := by decide +kernel
theorem dksX16_command_1 : cX16_command.data.toList.drop 24 = dktX16_command_1 := dk_seg dksX16_command_0 24 rfl rfl
theorem dksX16_command_2 : cX16_command.data.toList.drop 48 = dktX16_command_2 := dk_seg dksX16_command_1 24 rfl rfl
theorem dksX16_command_3 : cX16_command.data.toList.drop 72 = dktX16_command_3 := dk_seg dksX16_command_2 24 rfl rfl
theorem dksX16_command_4 : cX16_command.data.toList.drop 94 = dktX16_command_4 := dk_seg dksX16_command_3 22 rfl rfl
theorem dksX16_command_5 : cX16_command.data.toList.drop 116 = dktX16_command_5 := dk_seg dksX16_command_4 22 rfl rfl
theorem dksX16_command_6 : cX16_command.data.toList.drop 139 = dktX16_command_6 := dk_seg dksX16_command_5 23 rfl rfl
theorem dksX16_command_7 : cX16_command.data.toList.drop 163 = dktX16_command_7 := dk_seg dksX16_command_6 24 rfl rfl
theorem dX16_command_0 : decode cX16_command 0 = .ok (.iload_n 1, 1) := dk_27 (dk_at dksX16_command_0 0 rfl rfl)
theorem dX16_command_1 : decode cX16_command 1 = .ok (.bipush 45, 2) := dk_16 45 (dk_at dksX16_command_0 1 rfl rfl)
theorem dX16_command_3 : decode cX16_command 3 = .ok (.if_icmp .eq 9, 3) := dk_159 0 9 (dk_at dksX16_command_0 3 rfl rfl)
theorem dX16_command_6 : decode cX16_command 6 = .ok (.iload_n 1, 1) := dk_27 (dk_at dksX16_command_0 6 rfl rfl)
theorem dX16_command_7 : decode cX16_command 7 = .ok (.bipush 46, 2) := dk_16 46 (dk_at dksX16_command_0 7 rfl rfl)
theorem dX16_command_9 : decode cX16_command 9 = .ok (.if_icmp .ne 22, 3) := dk_160 0 22 (dk_at dksX16_command_0 9 rfl rfl)
theorem dX16_command_12 : decode cX16_command 12 = .ok (.iload_n 1, 1) := dk_27 (dk_at dksX16_command_0 12 rfl rfl)
theorem dX16_command_13 : decode cX16_command 13 = .ok (.bipush 46, 2) := dk_16 46 (dk_at dksX16_command_0 13 rfl rfl)
theorem dX16_command_15 : decode cX16_command 15 = .ok (.if_icmp .ne 8, 3) := dk_160 0 8 (dk_at dksX16_command_0 15 rfl rfl)
theorem dX16_command_18 : decode cX16_command 18 = .ok (.aload_n 0, 1) := dk_42 (dk_at dksX16_command_0 18 rfl rfl)
theorem dX16_command_19 : decode cX16_command 19 = .ok (.iload_n 1, 1) := dk_27 (dk_at dksX16_command_0 19 rfl rfl)
theorem dX16_command_20 : decode cX16_command 20 = .ok (.invokevirtual 143, 3) := dk_182 0 143 (dk_at dksX16_command_0 20 rfl rfl)
theorem dX16_command_23 : decode cX16_command 23 = .ok (.aload_n 0, 1) := dk_42 (dk_at dksX16_command_0 23 rfl rfl)
theorem dX16_command_24 : decode cX16_command 24 = .ok (.iconst 1, 1) := dk_4 (dk_at dksX16_command_1 0 rfl rfl)
theorem dX16_command_25 : decode cX16_command 25 = .ok (.putfield 136, 3) := dk_181 0 136 (dk_at dksX16_command_1 1 rfl rfl)
theorem dX16_command_28 : decode cX16_command 28 = .ok (.goto 148, 3) := dk_167 0 148 (dk_at dksX16_command_1 4 rfl rfl)
theorem dX16_command_31 : decode cX16_command 31 = .ok (.iload_n 1, 1) := dk_27 (dk_at dksX16_command_1 7 rfl rfl)
theorem dX16_command_32 : decode cX16_command 32 = .ok (.bipush 44, 2) := dk_16 44 (dk_at dksX16_command_1 8 rfl rfl)
theorem dX16_command_34 : decode cX16_command 34 = .ok (.if_icmp .eq 9, 3) := dk_159 0 9 (dk_at dksX16_command_1 10 rfl rfl)
theorem dX16_command_37 : decode cX16_command 37 = .ok (.iload_n 1, 1) := dk_27 (dk_at dksX16_command_1 13 rfl rfl)
theorem dX16_command_38 : decode cX16_command 38 = .ok (.bipush 124, 2) := dk_16 124 (dk_at dksX16_command_1 14 rfl rfl)
theorem dX16_command_40 : decode cX16_command 40 = .ok (.if_icmp .ne 11, 3) := dk_160 0 11 (dk_at dksX16_command_1 16 rfl rfl)
theorem dX16_command_43 : decode cX16_command 43 = .ok (.aload_n 0, 1) := dk_42 (dk_at dksX16_command_1 19 rfl rfl)
theorem dX16_command_44 : decode cX16_command 44 = .ok (.iload_n 1, 1) := dk_27 (dk_at dksX16_command_1 20 rfl rfl)
theorem dX16_command_45 : decode cX16_command 45 = .ok (.invokevirtual 143, 3) := dk_182 0 143 (dk_at dksX16_command_1 21 rfl rfl)
theorem dX16_command_48 : decode cX16_command 48 = .ok (.goto 128, 3) := dk_167 0 128 (dk_at dksX16_command_2 0 rfl rfl)
theorem dX16_command_51 : decode cX16_command 51 = .ok (.iload_n 1, 1) := dk_27 (dk_at dksX16_command_2 3 rfl rfl)
theorem dX16_command_52 : decode cX16_command 52 = .ok (.bipush 60, 2) := dk_16 60 (dk_at dksX16_command_2 4 rfl rfl)
theorem dX16_command_54 : decode cX16_command 54 = .ok (.if_icmp .eq 9, 3) := dk_159 0 9 (dk_at dksX16_command_2 6 rfl rfl)
theorem dX16_command_57 : decode cX16_command 57 = .ok (.iload_n 1, 1) := dk_27 (dk_at dksX16_command_2 9 rfl rfl)
theorem dX16_command_58 : decode cX16_command 58 = .ok (.bipush 35, 2) := dk_16 35 (dk_at dksX16_command_2 10 rfl rfl)
theorem dX16_command_60 : decode cX16_command 60 = .ok (.if_icmp .ne 116, 3) := dk_160 0 116 (dk_at dksX16_command_2 12 rfl rfl)
theorem dX16_command_63 : decode cX16_command 63 = .ok (.aload_n 0, 1) := dk_42 (dk_at dksX16_command_2 15 rfl rfl)
theorem dX16_command_64 : decode cX16_command 64 = .ok (.getfield 16, 3) := dk_180 0 16 (dk_at dksX16_command_2 16 rfl rfl)
theorem dX16_command_67 : decode cX16_command 67 = .ok (.invokevirtual 25, 3) := dk_182 0 25 (dk_at dksX16_command_2 19 rfl rfl)
theorem dX16_command_70 : decode cX16_command 70 = .ok (.istore_n 2, 1) := dk_61 (dk_at dksX16_command_2 22 rfl rfl)
theorem dX16_command_71 : decode cX16_command 71 = .ok (.iload_n 2, 1) := dk_28 (dk_at dksX16_command_2 23 rfl rfl)
theorem dX16_command_72 : decode cX16_command 72 = .ok (.ifCond .le 31, 3) := dk_158 0 31 (dk_at dksX16_command_3 0 rfl rfl)
theorem dX16_command_75 : decode cX16_command 75 = .ok (.aload_n 0, 1) := dk_42 (dk_at dksX16_command_3 3 rfl rfl)
theorem dX16_command_76 : decode cX16_command 76 = .ok (.getfield 16, 3) := dk_180 0 16 (dk_at dksX16_command_3 4 rfl rfl)
theorem dX16_command_79 : decode cX16_command 79 = .ok (.iload_n 2, 1) := dk_28 (dk_at dksX16_command_3 7 rfl rfl)
theorem dX16_command_80 : decode cX16_command 80 = .ok (.iconst 1, 1) := dk_4 (dk_at dksX16_command_3 8 rfl rfl)
theorem dX16_command_81 : decode cX16_command 81 = .ok (.isub, 1) := dk_100 (dk_at dksX16_command_3 9 rfl rfl)
theorem dX16_command_82 : decode cX16_command 82 = .ok (.invokevirtual 35, 3) := dk_182 0 35 (dk_at dksX16_command_3 10 rfl rfl)
theorem dX16_command_85 : decode cX16_command 85 = .ok (.checkcast 120, 3) := dk_192 0 120 (dk_at dksX16_command_3 13 rfl rfl)
theorem dX16_command_88 : decode cX16_command 88 = .ok (.getfield 122, 3) := dk_180 0 122 (dk_at dksX16_command_3 16 rfl rfl)
theorem dX16_command_91 : decode cX16_command 91 = .ok (.invokestatic 165, 3) := dk_184 0 165 (dk_at dksX16_command_3 19 rfl rfl)
theorem dX16_command_94 : decode cX16_command 94 = .ok (.ifCond .ne 9, 3) := dk_154 0 9 (dk_at dksX16_command_4 0 rfl rfl)
theorem dX16_command_97 : decode cX16_command 97 = .ok (.iinc 2 (-1), 3) := dk_132 2 255 (dk_at dksX16_command_4 3 rfl rfl)
theorem dX16_command_100 : decode cX16_command 100 = .ok (.goto (-29), 3) := dk_167 255 227 (dk_at dksX16_command_4 6 rfl rfl)
theorem dX16_command_103 : decode cX16_command 103 = .ok (.iload_n 2, 1) := dk_28 (dk_at dksX16_command_4 9 rfl rfl)
theorem dX16_command_104 : decode cX16_command 104 = .ok (.istore_n 3, 1) := dk_62 (dk_at dksX16_command_4 10 rfl rfl)
theorem dX16_command_105 : decode cX16_command 105 = .ok (.iload_n 3, 1) := dk_29 (dk_at dksX16_command_4 11 rfl rfl)
theorem dX16_command_106 : decode cX16_command 106 = .ok (.ifCond .le 31, 3) := dk_158 0 31 (dk_at dksX16_command_4 12 rfl rfl)
theorem dX16_command_109 : decode cX16_command 109 = .ok (.aload_n 0, 1) := dk_42 (dk_at dksX16_command_4 15 rfl rfl)
theorem dX16_command_110 : decode cX16_command 110 = .ok (.getfield 16, 3) := dk_180 0 16 (dk_at dksX16_command_4 16 rfl rfl)
theorem dX16_command_113 : decode cX16_command 113 = .ok (.iload_n 3, 1) := dk_29 (dk_at dksX16_command_4 19 rfl rfl)
theorem dX16_command_114 : decode cX16_command 114 = .ok (.iconst 1, 1) := dk_4 (dk_at dksX16_command_4 20 rfl rfl)
theorem dX16_command_115 : decode cX16_command 115 = .ok (.isub, 1) := dk_100 (dk_at dksX16_command_4 21 rfl rfl)
theorem dX16_command_116 : decode cX16_command 116 = .ok (.invokevirtual 35, 3) := dk_182 0 35 (dk_at dksX16_command_5 0 rfl rfl)
theorem dX16_command_119 : decode cX16_command 119 = .ok (.checkcast 120, 3) := dk_192 0 120 (dk_at dksX16_command_5 3 rfl rfl)
theorem dX16_command_122 : decode cX16_command 122 = .ok (.getfield 122, 3) := dk_180 0 122 (dk_at dksX16_command_5 6 rfl rfl)
theorem dX16_command_125 : decode cX16_command 125 = .ok (.invokestatic 165, 3) := dk_184 0 165 (dk_at dksX16_command_5 9 rfl rfl)
theorem dX16_command_128 : decode cX16_command 128 = .ok (.ifCond .eq 9, 3) := dk_153 0 9 (dk_at dksX16_command_5 12 rfl rfl)
theorem dX16_command_131 : decode cX16_command 131 = .ok (.iinc 3 (-1), 3) := dk_132 3 255 (dk_at dksX16_command_5 15 rfl rfl)
theorem dX16_command_134 : decode cX16_command 134 = .ok (.goto (-29), 3) := dk_167 255 227 (dk_at dksX16_command_5 18 rfl rfl)
theorem dX16_command_137 : decode cX16_command 137 = .ok (.iload_n 3, 1) := dk_29 (dk_at dksX16_command_5 21 rfl rfl)
theorem dX16_command_138 : decode cX16_command 138 = .ok (.iload_n 2, 1) := dk_28 (dk_at dksX16_command_5 22 rfl rfl)
theorem dX16_command_139 : decode cX16_command 139 = .ok (.if_icmp .ge 27, 3) := dk_162 0 27 (dk_at dksX16_command_6 0 rfl rfl)
theorem dX16_command_142 : decode cX16_command 142 = .ok (.iload_n 1, 1) := dk_27 (dk_at dksX16_command_6 3 rfl rfl)
theorem dX16_command_143 : decode cX16_command 143 = .ok (.bipush 60, 2) := dk_16 60 (dk_at dksX16_command_6 4 rfl rfl)
theorem dX16_command_145 : decode cX16_command 145 = .ok (.if_icmp .ne 21, 3) := dk_160 0 21 (dk_at dksX16_command_6 6 rfl rfl)
theorem dX16_command_148 : decode cX16_command 148 = .ok (.aload_n 0, 1) := dk_42 (dk_at dksX16_command_6 9 rfl rfl)
theorem dX16_command_149 : decode cX16_command 149 = .ok (.aload_n 0, 1) := dk_42 (dk_at dksX16_command_6 10 rfl rfl)
theorem dX16_command_150 : decode cX16_command 150 = .ok (.getfield 16, 3) := dk_180 0 16 (dk_at dksX16_command_6 11 rfl rfl)
theorem dX16_command_153 : decode cX16_command 153 = .ok (.iload_n 3, 1) := dk_29 (dk_at dksX16_command_6 14 rfl rfl)
theorem dX16_command_154 : decode cX16_command 154 = .ok (.invokevirtual 35, 3) := dk_182 0 35 (dk_at dksX16_command_6 15 rfl rfl)
theorem dX16_command_157 : decode cX16_command 157 = .ok (.checkcast 120, 3) := dk_192 0 120 (dk_at dksX16_command_6 18 rfl rfl)
theorem dX16_command_160 : decode cX16_command 160 = .ok (.invokevirtual 168, 3) := dk_182 0 168 (dk_at dksX16_command_6 21 rfl rfl)
theorem dX16_command_163 : decode cX16_command 163 = .ok (.goto 13, 3) := dk_167 0 13 (dk_at dksX16_command_7 0 rfl rfl)
theorem dX16_command_166 : decode cX16_command 166 = .ok (.iload_n 3, 1) := dk_29 (dk_at dksX16_command_7 3 rfl rfl)
theorem dX16_command_167 : decode cX16_command 167 = .ok (.iload_n 2, 1) := dk_28 (dk_at dksX16_command_7 4 rfl rfl)
theorem dX16_command_168 : decode cX16_command 168 = .ok (.if_icmp .ge 8, 3) := dk_162 0 8 (dk_at dksX16_command_7 5 rfl rfl)
theorem dX16_command_171 : decode cX16_command 171 = .ok (.aload_n 0, 1) := dk_42 (dk_at dksX16_command_7 8 rfl rfl)
theorem dX16_command_172 : decode cX16_command 172 = .ok (.iload_n 3, 1) := dk_29 (dk_at dksX16_command_7 9 rfl rfl)
theorem dX16_command_173 : decode cX16_command 173 = .ok (.invokevirtual 172, 3) := dk_182 0 172 (dk_at dksX16_command_7 10 rfl rfl)
theorem dX16_command_176 : decode cX16_command 176 = .ok (.return_, 1) := dk_177 (dk_at dksX16_command_7 13 rfl rfl)
abbrev cX16_raise : ByteArray := prog_22_method_8_code
def yX16_raise : MethodName := ⟨RX16, "raise", "(LStenohallModel$Sign;)V"⟩
def dkwX16_raise_1 : List UInt8 := [180, 0, 93, 181, 0, 176, 43, 42, 180, 0, 82, 181, 0, 177, 177]
abbrev dktX16_raise_1 : List UInt8 := dkwX16_raise_1 ++ []
def dkwX16_raise_0 : List UInt8 := [43, 180, 0, 122, 184, 0, 147, 153, 0, 30, 43, 43, 180, 0, 122, 184, 0, 139, 181, 0, 122, 43, 42]
abbrev dktX16_raise_0 : List UInt8 := dkwX16_raise_0 ++ dktX16_raise_1
theorem dksX16_raise_0 : cX16_raise.data.toList.drop 0 = dktX16_raise_0 := by decide +kernel
theorem dksX16_raise_1 : cX16_raise.data.toList.drop 23 = dktX16_raise_1 := dk_seg dksX16_raise_0 23 rfl rfl
theorem dX16_raise_0 : decode cX16_raise 0 = .ok (.aload_n 1, 1) := dk_43 (dk_at dksX16_raise_0 0 rfl rfl)
theorem dX16_raise_1 : decode cX16_raise 1 = .ok (.getfield 122, 3) := dk_180 0 122 (dk_at dksX16_raise_0 1 rfl rfl)
theorem dX16_raise_4 : decode cX16_raise 4 = .ok (.invokestatic 147, 3) := dk_184 0 147 (dk_at dksX16_raise_0 4 rfl rfl)
theorem dX16_raise_7 : decode cX16_raise 7 = .ok (.ifCond .eq 30, 3) := dk_153 0 30 (dk_at dksX16_raise_0 7 rfl rfl)
theorem dX16_raise_10 : decode cX16_raise 10 = .ok (.aload_n 1, 1) := dk_43 (dk_at dksX16_raise_0 10 rfl rfl)
theorem dX16_raise_11 : decode cX16_raise 11 = .ok (.aload_n 1, 1) := dk_43 (dk_at dksX16_raise_0 11 rfl rfl)
theorem dX16_raise_12 : decode cX16_raise 12 = .ok (.getfield 122, 3) := dk_180 0 122 (dk_at dksX16_raise_0 12 rfl rfl)
theorem dX16_raise_15 : decode cX16_raise 15 = .ok (.invokestatic 139, 3) := dk_184 0 139 (dk_at dksX16_raise_0 15 rfl rfl)
theorem dX16_raise_18 : decode cX16_raise 18 = .ok (.putfield 122, 3) := dk_181 0 122 (dk_at dksX16_raise_0 18 rfl rfl)
theorem dX16_raise_21 : decode cX16_raise 21 = .ok (.aload_n 1, 1) := dk_43 (dk_at dksX16_raise_0 21 rfl rfl)
theorem dX16_raise_22 : decode cX16_raise 22 = .ok (.aload_n 0, 1) := dk_42 (dk_at dksX16_raise_0 22 rfl rfl)
theorem dX16_raise_23 : decode cX16_raise 23 = .ok (.getfield 93, 3) := dk_180 0 93 (dk_at dksX16_raise_1 0 rfl rfl)
theorem dX16_raise_26 : decode cX16_raise 26 = .ok (.putfield 176, 3) := dk_181 0 176 (dk_at dksX16_raise_1 3 rfl rfl)
theorem dX16_raise_29 : decode cX16_raise 29 = .ok (.aload_n 1, 1) := dk_43 (dk_at dksX16_raise_1 6 rfl rfl)
theorem dX16_raise_30 : decode cX16_raise 30 = .ok (.aload_n 0, 1) := dk_42 (dk_at dksX16_raise_1 7 rfl rfl)
theorem dX16_raise_31 : decode cX16_raise 31 = .ok (.getfield 82, 3) := dk_180 0 82 (dk_at dksX16_raise_1 8 rfl rfl)
theorem dX16_raise_34 : decode cX16_raise 34 = .ok (.putfield 177, 3) := dk_181 0 177 (dk_at dksX16_raise_1 11 rfl rfl)
theorem dX16_raise_37 : decode cX16_raise 37 = .ok (.return_, 1) := dk_177 (dk_at dksX16_raise_1 14 rfl rfl)
abbrev cX16_cut : ByteArray := prog_22_method_9_code
def yX16_cut : MethodName := ⟨RX16, "cut", "(I)V"⟩
def dkwX16_cut_2 : List UInt8 := [180, 0, 16, 42, 180, 0, 16, 182, 0, 25, 4, 100, 182, 0, 178, 192, 0, 120, 78, 167, 255, 225, 177]
abbrev dktX16_cut_2 : List UInt8 := dkwX16_cut_2 ++ []
def dkwX16_cut_1 : List UInt8 := [160, 0, 9, 27, 4, 100, 167, 0, 4, 27, 61, 42, 180, 0, 16, 182, 0, 25, 28, 164, 0, 26, 42]
abbrev dktX16_cut_1 : List UInt8 := dkwX16_cut_1 ++ dktX16_cut_2
def dkwX16_cut_0 : List UInt8 := [27, 158, 0, 30, 42, 180, 0, 16, 27, 4, 100, 182, 0, 35, 192, 0, 120, 180, 0, 122, 16, 32]
abbrev dktX16_cut_0 : List UInt8 := dkwX16_cut_0 ++ dktX16_cut_1
theorem dksX16_cut_0 : cX16_cut.data.toList.drop 0 = dktX16_cut_0 := by decide +kernel
theorem dksX16_cut_1 : cX16_cut.data.toList.drop 22 = dktX16_cut_1 := dk_seg dksX16_cut_0 22 rfl rfl
theorem dksX16_cut_2 : cX16_cut.data.toList.drop 45 = dktX16_cut_2 := dk_seg dksX16_cut_1 23 rfl rfl
theorem dX16_cut_0 : decode cX16_cut 0 = .ok (.iload_n 1, 1) := dk_27 (dk_at dksX16_cut_0 0 rfl rfl)
theorem dX16_cut_1 : decode cX16_cut 1 = .ok (.ifCond .le 30, 3) := dk_158 0 30 (dk_at dksX16_cut_0 1 rfl rfl)
theorem dX16_cut_4 : decode cX16_cut 4 = .ok (.aload_n 0, 1) := dk_42 (dk_at dksX16_cut_0 4 rfl rfl)
theorem dX16_cut_5 : decode cX16_cut 5 = .ok (.getfield 16, 3) := dk_180 0 16 (dk_at dksX16_cut_0 5 rfl rfl)
theorem dX16_cut_8 : decode cX16_cut 8 = .ok (.iload_n 1, 1) := dk_27 (dk_at dksX16_cut_0 8 rfl rfl)
theorem dX16_cut_9 : decode cX16_cut 9 = .ok (.iconst 1, 1) := dk_4 (dk_at dksX16_cut_0 9 rfl rfl)
theorem dX16_cut_10 : decode cX16_cut 10 = .ok (.isub, 1) := dk_100 (dk_at dksX16_cut_0 10 rfl rfl)
theorem dX16_cut_11 : decode cX16_cut 11 = .ok (.invokevirtual 35, 3) := dk_182 0 35 (dk_at dksX16_cut_0 11 rfl rfl)
theorem dX16_cut_14 : decode cX16_cut 14 = .ok (.checkcast 120, 3) := dk_192 0 120 (dk_at dksX16_cut_0 14 rfl rfl)
theorem dX16_cut_17 : decode cX16_cut 17 = .ok (.getfield 122, 3) := dk_180 0 122 (dk_at dksX16_cut_0 17 rfl rfl)
theorem dX16_cut_20 : decode cX16_cut 20 = .ok (.bipush 32, 2) := dk_16 32 (dk_at dksX16_cut_0 20 rfl rfl)
theorem dX16_cut_22 : decode cX16_cut 22 = .ok (.if_icmp .ne 9, 3) := dk_160 0 9 (dk_at dksX16_cut_1 0 rfl rfl)
theorem dX16_cut_25 : decode cX16_cut 25 = .ok (.iload_n 1, 1) := dk_27 (dk_at dksX16_cut_1 3 rfl rfl)
theorem dX16_cut_26 : decode cX16_cut 26 = .ok (.iconst 1, 1) := dk_4 (dk_at dksX16_cut_1 4 rfl rfl)
theorem dX16_cut_27 : decode cX16_cut 27 = .ok (.isub, 1) := dk_100 (dk_at dksX16_cut_1 5 rfl rfl)
theorem dX16_cut_28 : decode cX16_cut 28 = .ok (.goto 4, 3) := dk_167 0 4 (dk_at dksX16_cut_1 6 rfl rfl)
theorem dX16_cut_31 : decode cX16_cut 31 = .ok (.iload_n 1, 1) := dk_27 (dk_at dksX16_cut_1 9 rfl rfl)
theorem dX16_cut_32 : decode cX16_cut 32 = .ok (.istore_n 2, 1) := dk_61 (dk_at dksX16_cut_1 10 rfl rfl)
theorem dX16_cut_33 : decode cX16_cut 33 = .ok (.aload_n 0, 1) := dk_42 (dk_at dksX16_cut_1 11 rfl rfl)
theorem dX16_cut_34 : decode cX16_cut 34 = .ok (.getfield 16, 3) := dk_180 0 16 (dk_at dksX16_cut_1 12 rfl rfl)
theorem dX16_cut_37 : decode cX16_cut 37 = .ok (.invokevirtual 25, 3) := dk_182 0 25 (dk_at dksX16_cut_1 15 rfl rfl)
theorem dX16_cut_40 : decode cX16_cut 40 = .ok (.iload_n 2, 1) := dk_28 (dk_at dksX16_cut_1 18 rfl rfl)
theorem dX16_cut_41 : decode cX16_cut 41 = .ok (.if_icmp .le 26, 3) := dk_164 0 26 (dk_at dksX16_cut_1 19 rfl rfl)
theorem dX16_cut_44 : decode cX16_cut 44 = .ok (.aload_n 0, 1) := dk_42 (dk_at dksX16_cut_1 22 rfl rfl)
theorem dX16_cut_45 : decode cX16_cut 45 = .ok (.getfield 16, 3) := dk_180 0 16 (dk_at dksX16_cut_2 0 rfl rfl)
theorem dX16_cut_48 : decode cX16_cut 48 = .ok (.aload_n 0, 1) := dk_42 (dk_at dksX16_cut_2 3 rfl rfl)
theorem dX16_cut_49 : decode cX16_cut 49 = .ok (.getfield 16, 3) := dk_180 0 16 (dk_at dksX16_cut_2 4 rfl rfl)
theorem dX16_cut_52 : decode cX16_cut 52 = .ok (.invokevirtual 25, 3) := dk_182 0 25 (dk_at dksX16_cut_2 7 rfl rfl)
theorem dX16_cut_55 : decode cX16_cut 55 = .ok (.iconst 1, 1) := dk_4 (dk_at dksX16_cut_2 10 rfl rfl)
theorem dX16_cut_56 : decode cX16_cut 56 = .ok (.isub, 1) := dk_100 (dk_at dksX16_cut_2 11 rfl rfl)
theorem dX16_cut_57 : decode cX16_cut 57 = .ok (.invokevirtual 178, 3) := dk_182 0 178 (dk_at dksX16_cut_2 12 rfl rfl)
theorem dX16_cut_60 : decode cX16_cut 60 = .ok (.checkcast 120, 3) := dk_192 0 120 (dk_at dksX16_cut_2 15 rfl rfl)
theorem dX16_cut_63 : decode cX16_cut 63 = .ok (.astore_n 3, 1) := dk_78 (dk_at dksX16_cut_2 18 rfl rfl)
theorem dX16_cut_64 : decode cX16_cut 64 = .ok (.goto (-31), 3) := dk_167 255 225 (dk_at dksX16_cut_2 19 rfl rfl)
theorem dX16_cut_67 : decode cX16_cut 67 = .ok (.return_, 1) := dk_177 (dk_at dksX16_cut_2 22 rfl rfl)
theorem q149 : (Jvm.Cond.initialized "StenohallModel$Writing") ∈ lw_all := lw_g (lw_at lw_m1 75 rfl) rfl
theorem q322 : (Jvm.Cond.selects "StenohallModel$Writing" ({ cls := "java/lang/Object", name := "getClass", desc := "()Ljava/lang/Class;" } : Jvm.MethodName) ({ cls := "java/lang/Object", name := "getClass", desc := "()Ljava/lang/Class;" } : Jvm.MethodName)) ∈ lw_all := lw_g (lw_at lw_m2 8 rfl) rfl
theorem q975 : (Jvm.Cond.selects "StenohallModel$Writing" ({ cls := "java/lang/Object", name := "equals", desc := "(Ljava/lang/Object;)Z" } : Jvm.MethodName) ({ cls := "java/lang/Object", name := "equals", desc := "(Ljava/lang/Object;)Z" } : Jvm.MethodName)) ∈ lw_all := lw_g (lw_at lw_m4 181 rfl) rfl
theorem q3373 : (Jvm.Cond.fieldLinkNest "StenohallModel$Writing" (86 : Nat) "StenohallModel" "strokes" "Ljava/util/ArrayList;" "StenohallModel") ∈ lw_tbl := lw_at lw_m14 179 rfl
theorem q3379 : (Jvm.Cond.fieldLinkNest "StenohallModel$Writing" (213 : Nat) "StenohallModel" "words" "Ljava/util/TreeSet;" "StenohallModel") ∈ lw_tbl := lw_at lw_m14 185 rfl
theorem q3381 : (Jvm.Cond.fieldLinkNest "StenohallModel$Writing" (206 : Nat) "StenohallModel" "rules" "Ljava/lang/String;" "StenohallModel") ∈ lw_tbl := lw_at lw_m14 187 rfl
theorem q3382 : (Jvm.Cond.fieldLinkNest "StenohallModel$Writing" (20 : Nat) "StenohallModel" "translations" "Ljava/util/ArrayList;" "StenohallModel") ∈ lw_tbl := lw_at lw_m14 188 rfl
theorem q3708 : (Jvm.Cond.fieldLinkNest "StenohallModel$Writing" (89 : Nat) "StenohallModel$Translation" "last" "I" "StenohallModel") ∈ lw_tbl := lw_at lw_m16 34 rfl
theorem q3711 : (Jvm.Cond.fieldLinkNest "StenohallModel$Writing" (45 : Nat) "StenohallModel$Translation" "entry" "LStenohallModel$Entry;" "StenohallModel") ∈ lw_tbl := lw_at lw_m16 37 rfl
theorem q3795 : (Jvm.Cond.fieldLinkNest "StenohallModel$Writing" (51 : Nat) "StenohallModel$Entry" "content" "Ljava/lang/String;" "StenohallModel") ∈ lw_tbl := lw_at lw_m16 121 rfl
theorem q3798 : (Jvm.Cond.fieldLinkNest "StenohallModel$Writing" (107 : Nat) "StenohallModel$Entry" "letters" "Ljava/util/ArrayList;" "StenohallModel") ∈ lw_tbl := lw_at lw_m16 124 rfl
theorem q3801 : (Jvm.Cond.fieldLinkNest "StenohallModel$Writing" (57 : Nat) "StenohallModel$Entry" "contents" "Ljava/util/ArrayList;" "StenohallModel") ∈ lw_tbl := lw_at lw_m16 127 rfl
theorem q3944 : (Jvm.Cond.instantiable "StenohallModel$Writing" (8 : Nat)) ∈ lw_all := lw_g (lw_at lw_m17 30 rfl) rfl
theorem q3946 : (Jvm.Cond.instanceMethod ({ cls := "StenohallModel$Writing", name := "<init>", desc := "(LStenohallModel;)V" } : Jvm.MethodName)) ∈ lw_all := lw_g (lw_at lw_m17 32 rfl) rfl
theorem q3947 : (Jvm.Cond.code ({ cls := "StenohallModel$Writing", name := "<init>", desc := "(LStenohallModel;)V" } : Jvm.MethodName) prog_22_method_1_code (7 : Nat) (Option.none : Option Jvm.ClassFile.FieldType)) ∈ lw_all := lw_g (lw_at lw_m17 33 rfl) rfl
theorem q3948 : (Jvm.Cond.methodLink "StenohallModel$Writing" (7 : Nat) ({ cls := "java/lang/Object", name := "<init>", desc := "()V" } : Jvm.MethodName)) ∈ lw_all := lw_g (lw_at lw_m17 34 rfl) rfl
theorem q3949 : (Jvm.Cond.classLink "StenohallModel$Writing" (13 : Nat) "java/util/ArrayList") ∈ lw_all := lw_g (lw_at lw_m17 35 rfl) rfl
theorem q3950 : (Jvm.Cond.methodLink "StenohallModel$Writing" (15 : Nat) ({ cls := "java/util/ArrayList", name := "<init>", desc := "()V" } : Jvm.MethodName)) ∈ lw_all := lw_g (lw_at lw_m17 36 rfl) rfl
theorem q3951 : (Jvm.Cond.methodLink "StenohallModel$Writing" (25 : Nat) ({ cls := "java/util/ArrayList", name := "size", desc := "()I" } : Jvm.MethodName)) ∈ lw_all := lw_g (lw_at lw_m17 37 rfl) rfl
theorem q3952 : (Jvm.Cond.stringRef "StenohallModel$Writing" (33 : Nat) "") ∈ lw_tbl := lw_at lw_m17 38 rfl
theorem q3953 : (Jvm.Cond.methodLink "StenohallModel$Writing" (35 : Nat) ({ cls := "java/util/ArrayList", name := "get", desc := "(I)Ljava/lang/Object;" } : Jvm.MethodName)) ∈ lw_all := lw_g (lw_at lw_m17 39 rfl) rfl
theorem q3954 : (Jvm.Cond.classLink "StenohallModel$Writing" (39 : Nat) "StenohallModel$Translation") ∈ lw_all := lw_g (lw_at lw_m17 40 rfl) rfl
theorem q3955 : (Jvm.Cond.methodLink "StenohallModel$Writing" (41 : Nat) ({ cls := "StenohallModel$Writing", name := "choice", desc := "(I)I" } : Jvm.MethodName)) ∈ lw_all := lw_g (lw_at lw_m17 41 rfl) rfl
theorem q3956 : (Jvm.Cond.privateMethod ({ cls := "StenohallModel$Writing", name := "choice", desc := "(I)I" } : Jvm.MethodName)) ∈ lw_tbl := lw_at lw_m17 42 rfl
theorem q3957 : (Jvm.Cond.instanceMethod ({ cls := "StenohallModel$Writing", name := "choice", desc := "(I)I" } : Jvm.MethodName)) ∈ lw_all := lw_g (lw_at lw_m17 43 rfl) rfl
theorem q3958 : (Jvm.Cond.code ({ cls := "StenohallModel$Writing", name := "choice", desc := "(I)I" } : Jvm.MethodName) prog_22_method_2_code (4 : Nat) (Option.some Jvm.ClassFile.FieldType.int)) ∈ lw_all := lw_g (lw_at lw_m17 44 rfl) rfl
theorem q3959 : (Jvm.Cond.methodLink "StenohallModel$Writing" (103 : Nat) ({ cls := "StenohallModel$Entry", name := "firstLetter", desc := "()C" } : Jvm.MethodName)) ∈ lw_all := lw_g (lw_at lw_m17 45 rfl) rfl
theorem q3966 : (Jvm.Cond.methodLink "StenohallModel$Writing" (110 : Nat) ({ cls := "java/lang/Character", name := "valueOf", desc := "(C)Ljava/lang/Character;" } : Jvm.MethodName)) ∈ lw_all := lw_g (lw_at lw_m17 52 rfl) rfl
theorem q3967 : (Jvm.Cond.methodLink "StenohallModel$Writing" (116 : Nat) ({ cls := "java/util/ArrayList", name := "indexOf", desc := "(Ljava/lang/Object;)I" } : Jvm.MethodName)) ∈ lw_all := lw_g (lw_at lw_m17 53 rfl) rfl
theorem q3968 : (Jvm.Cond.stringRef "StenohallModel$Writing" (49 : Nat) "??") ∈ lw_tbl := lw_at lw_m17 54 rfl
theorem q3969 : (Jvm.Cond.classLink "StenohallModel$Writing" (60 : Nat) "java/lang/String") ∈ lw_all := lw_g (lw_at lw_m17 55 rfl) rfl
theorem q3970 : (Jvm.Cond.stringRef "StenohallModel$Writing" (62 : Nat) "^.,") ∈ lw_tbl := lw_at lw_m17 56 rfl
theorem q3971 : (Jvm.Cond.methodLink "StenohallModel$Writing" (64 : Nat) ({ cls := "java/lang/String", name := "charAt", desc := "(I)C" } : Jvm.MethodName)) ∈ lw_all := lw_g (lw_at lw_m17 57 rfl) rfl
theorem q3972 : (Jvm.Cond.methodLink "StenohallModel$Writing" (68 : Nat) ({ cls := "java/lang/String", name := "indexOf", desc := "(I)I" } : Jvm.MethodName)) ∈ lw_all := lw_g (lw_at lw_m17 58 rfl) rfl
theorem q3973 : (Jvm.Cond.methodLink "StenohallModel$Writing" (71 : Nat) ({ cls := "java/lang/String", name := "isEmpty", desc := "()Z" } : Jvm.MethodName)) ∈ lw_all := lw_g (lw_at lw_m17 59 rfl) rfl
theorem q3974 : (Jvm.Cond.methodLink "StenohallModel$Writing" (75 : Nat) ({ cls := "java/lang/String", name := "length", desc := "()I" } : Jvm.MethodName)) ∈ lw_all := lw_g (lw_at lw_m17 60 rfl) rfl
theorem q3975 : (Jvm.Cond.classLink "StenohallModel$Writing" (92 : Nat) "[I") ∈ lw_all := lw_g (lw_at lw_m17 61 rfl) rfl
theorem q3976 : (Jvm.Cond.methodLink "StenohallModel$Writing" (99 : Nat) ({ cls := "StenohallModel$Writing", name := "write", desc := "(Ljava/lang/String;Z)V" } : Jvm.MethodName)) ∈ lw_all := lw_g (lw_at lw_m17 62 rfl) rfl
theorem q3977 : (Jvm.Cond.privateMethod ({ cls := "StenohallModel$Writing", name := "write", desc := "(Ljava/lang/String;Z)V" } : Jvm.MethodName)) ∈ lw_tbl := lw_at lw_m17 63 rfl
theorem q3978 : (Jvm.Cond.instanceMethod ({ cls := "StenohallModel$Writing", name := "write", desc := "(Ljava/lang/String;Z)V" } : Jvm.MethodName)) ∈ lw_all := lw_g (lw_at lw_m17 64 rfl) rfl
theorem q3979 : (Jvm.Cond.code ({ cls := "StenohallModel$Writing", name := "write", desc := "(Ljava/lang/String;Z)V" } : Jvm.MethodName) prog_22_method_6_code (6 : Nat) (Option.none : Option Jvm.ClassFile.FieldType)) ∈ lw_all := lw_g (lw_at lw_m17 65 rfl) rfl
theorem q3980 : (Jvm.Cond.methodLink "StenohallModel$Writing" (143 : Nat) ({ cls := "StenohallModel$Writing", name := "emit", desc := "(C)V" } : Jvm.MethodName)) ∈ lw_all := lw_g (lw_at lw_m17 66 rfl) rfl
theorem q3981 : (Jvm.Cond.privateMethod ({ cls := "StenohallModel$Writing", name := "emit", desc := "(C)V" } : Jvm.MethodName)) ∈ lw_tbl := lw_at lw_m17 67 rfl
theorem q3982 : (Jvm.Cond.instanceMethod ({ cls := "StenohallModel$Writing", name := "emit", desc := "(C)V" } : Jvm.MethodName)) ∈ lw_all := lw_g (lw_at lw_m17 68 rfl) rfl
theorem q3983 : (Jvm.Cond.code ({ cls := "StenohallModel$Writing", name := "emit", desc := "(C)V" } : Jvm.MethodName) prog_22_method_4_code (2 : Nat) (Option.none : Option Jvm.ClassFile.FieldType)) ∈ lw_all := lw_g (lw_at lw_m17 69 rfl) rfl
theorem q3984 : (Jvm.Cond.methodLink "StenohallModel$Writing" (126 : Nat) ({ cls := "StenohallModel$Writing", name := "lastSign", desc := "()C" } : Jvm.MethodName)) ∈ lw_all := lw_g (lw_at lw_m17 70 rfl) rfl
theorem q3985 : (Jvm.Cond.privateMethod ({ cls := "StenohallModel$Writing", name := "lastSign", desc := "()C" } : Jvm.MethodName)) ∈ lw_tbl := lw_at lw_m17 71 rfl
theorem q3986 : (Jvm.Cond.instanceMethod ({ cls := "StenohallModel$Writing", name := "lastSign", desc := "()C" } : Jvm.MethodName)) ∈ lw_all := lw_g (lw_at lw_m17 72 rfl) rfl
theorem q3987 : (Jvm.Cond.code ({ cls := "StenohallModel$Writing", name := "lastSign", desc := "()C" } : Jvm.MethodName) prog_22_method_3_code (1 : Nat) (Option.some Jvm.ClassFile.FieldType.char)) ∈ lw_all := lw_g (lw_at lw_m17 73 rfl) rfl
theorem q3988 : (Jvm.Cond.methodLink "StenohallModel$Writing" (119 : Nat) ({ cls := "java/util/ArrayList", name := "isEmpty", desc := "()Z" } : Jvm.MethodName)) ∈ lw_all := lw_g (lw_at lw_m17 74 rfl) rfl
theorem q3989 : (Jvm.Cond.classLink "StenohallModel$Writing" (120 : Nat) "StenohallModel$Sign") ∈ lw_all := lw_g (lw_at lw_m17 75 rfl) rfl
theorem q3991 : (Jvm.Cond.methodLink "StenohallModel$Writing" (129 : Nat) ({ cls := "StenohallModel$Sign", name := "<init>", desc := "(CII)V" } : Jvm.MethodName)) ∈ lw_all := lw_g (lw_at lw_m17 77 rfl) rfl
theorem q3996 : (Jvm.Cond.fieldLinkNest "StenohallModel$Writing" (122 : Nat) "StenohallModel$Sign" "c" "C" "StenohallModel") ∈ lw_tbl := lw_at lw_m17 82 rfl
theorem q3999 : (Jvm.Cond.fieldLinkNest "StenohallModel$Writing" (176 : Nat) "StenohallModel$Sign" "time" "I" "StenohallModel") ∈ lw_tbl := lw_at lw_m17 85 rfl
theorem q4002 : (Jvm.Cond.fieldLinkNest "StenohallModel$Writing" (177 : Nat) "StenohallModel$Sign" "writer" "I" "StenohallModel") ∈ lw_tbl := lw_at lw_m17 88 rfl
theorem q4011 : (Jvm.Cond.methodLink "StenohallModel$Writing" (132 : Nat) ({ cls := "java/util/ArrayList", name := "add", desc := "(Ljava/lang/Object;)Z" } : Jvm.MethodName)) ∈ lw_all := lw_g (lw_at lw_m17 97 rfl) rfl
theorem q4012 : (Jvm.Cond.methodLinkNest "StenohallModel$Writing" (147 : Nat) ({ cls := "StenohallModel", name := "isSmall", desc := "(C)Z" } : Jvm.MethodName) "StenohallModel") ∈ lw_tbl := lw_at lw_m17 98 rfl
theorem q4013 : (Jvm.Cond.methodLink "StenohallModel$Writing" (151 : Nat) ({ cls := "StenohallModel$Writing", name := "letter", desc := "(C)V" } : Jvm.MethodName)) ∈ lw_all := lw_g (lw_at lw_m17 99 rfl) rfl
theorem q4014 : (Jvm.Cond.privateMethod ({ cls := "StenohallModel$Writing", name := "letter", desc := "(C)V" } : Jvm.MethodName)) ∈ lw_tbl := lw_at lw_m17 100 rfl
theorem q4015 : (Jvm.Cond.instanceMethod ({ cls := "StenohallModel$Writing", name := "letter", desc := "(C)V" } : Jvm.MethodName)) ∈ lw_all := lw_g (lw_at lw_m17 101 rfl) rfl
theorem q4016 : (Jvm.Cond.code ({ cls := "StenohallModel$Writing", name := "letter", desc := "(C)V" } : Jvm.MethodName) prog_22_method_5_code (2 : Nat) (Option.none : Option Jvm.ClassFile.FieldType)) ∈ lw_all := lw_g (lw_at lw_m17 102 rfl) rfl
theorem q4017 : (Jvm.Cond.methodLinkNest "StenohallModel$Writing" (139 : Nat) ({ cls := "StenohallModel", name := "capital", desc := "(C)C" } : Jvm.MethodName) "StenohallModel") ∈ lw_tbl := lw_at lw_m17 103 rfl
theorem q4020 : (Jvm.Cond.methodLink "StenohallModel$Writing" (154 : Nat) ({ cls := "java/lang/String", name := "substring", desc := "(II)Ljava/lang/String;" } : Jvm.MethodName)) ∈ lw_all := lw_g (lw_at lw_m17 106 rfl) rfl
theorem q4021 : (Jvm.Cond.methodLink "StenohallModel$Writing" (158 : Nat) ({ cls := "StenohallModel$Writing", name := "join", desc := "(Ljava/lang/String;)V" } : Jvm.MethodName)) ∈ lw_all := lw_g (lw_at lw_m17 107 rfl) rfl
theorem q4022 : (Jvm.Cond.privateMethod ({ cls := "StenohallModel$Writing", name := "join", desc := "(Ljava/lang/String;)V" } : Jvm.MethodName)) ∈ lw_tbl := lw_at lw_m17 108 rfl
theorem q4023 : (Jvm.Cond.instanceMethod ({ cls := "StenohallModel$Writing", name := "join", desc := "(Ljava/lang/String;)V" } : Jvm.MethodName)) ∈ lw_all := lw_g (lw_at lw_m17 109 rfl) rfl
theorem q4024 : (Jvm.Cond.code ({ cls := "StenohallModel$Writing", name := "join", desc := "(Ljava/lang/String;)V" } : Jvm.MethodName) prog_22_method_11_code (6 : Nat) (Option.none : Option Jvm.ClassFile.FieldType)) ∈ lw_all := lw_g (lw_at lw_m17 110 rfl) rfl
theorem q4025 : (Jvm.Cond.methodLink "StenohallModel$Writing" (195 : Nat) ({ cls := "StenohallModel$Writing", name := "lastWord", desc := "()Ljava/lang/String;" } : Jvm.MethodName)) ∈ lw_all := lw_g (lw_at lw_m17 111 rfl) rfl
theorem q4026 : (Jvm.Cond.privateMethod ({ cls := "StenohallModel$Writing", name := "lastWord", desc := "()Ljava/lang/String;" } : Jvm.MethodName)) ∈ lw_tbl := lw_at lw_m17 112 rfl
theorem q4027 : (Jvm.Cond.instanceMethod ({ cls := "StenohallModel$Writing", name := "lastWord", desc := "()Ljava/lang/String;" } : Jvm.MethodName)) ∈ lw_all := lw_g (lw_at lw_m17 113 rfl) rfl
theorem q4028 : (Jvm.Cond.code ({ cls := "StenohallModel$Writing", name := "lastWord", desc := "()Ljava/lang/String;" } : Jvm.MethodName) prog_22_method_10_code (4 : Nat) (Option.some (Jvm.ClassFile.FieldType.object "java/lang/String"))) ∈ lw_all := lw_g (lw_at lw_m17 114 rfl) rfl
theorem q4029 : (Jvm.Cond.methodLinkNest "StenohallModel$Writing" (165 : Nat) ({ cls := "StenohallModel", name := "isLetter", desc := "(C)Z" } : Jvm.MethodName) "StenohallModel") ∈ lw_tbl := lw_at lw_m17 115 rfl
theorem q4032 : (Jvm.Cond.classLink "StenohallModel$Writing" (181 : Nat) "java/lang/StringBuilder") ∈ lw_all := lw_g (lw_at lw_m17 118 rfl) rfl
theorem q4033 : (Jvm.Cond.methodLink "StenohallModel$Writing" (183 : Nat) ({ cls := "java/lang/StringBuilder", name := "<init>", desc := "()V" } : Jvm.MethodName)) ∈ lw_all := lw_g (lw_at lw_m17 119 rfl) rfl
theorem q4034 : (Jvm.Cond.methodLinkNest "StenohallModel$Writing" (184 : Nat) ({ cls := "StenohallModel", name := "small", desc := "(C)C" } : Jvm.MethodName) "StenohallModel") ∈ lw_tbl := lw_at lw_m17 120 rfl
theorem q4038 : (Jvm.Cond.methodLink "StenohallModel$Writing" (187 : Nat) ({ cls := "java/lang/StringBuilder", name := "append", desc := "(C)Ljava/lang/StringBuilder;" } : Jvm.MethodName)) ∈ lw_all := lw_g (lw_at lw_m17 124 rfl) rfl
theorem q4039 : (Jvm.Cond.methodLink "StenohallModel$Writing" (191 : Nat) ({ cls := "java/lang/StringBuilder", name := "toString", desc := "()Ljava/lang/String;" } : Jvm.MethodName)) ∈ lw_all := lw_g (lw_at lw_m17 125 rfl) rfl
theorem q4040 : (Jvm.Cond.methodLink "StenohallModel$Writing" (198 : Nat) ({ cls := "StenohallModel$Writing", name := "rule", desc := "(Ljava/lang/String;Ljava/lang/String;)C" } : Jvm.MethodName)) ∈ lw_all := lw_g (lw_at lw_m17 126 rfl) rfl
theorem q4041 : (Jvm.Cond.privateMethod ({ cls := "StenohallModel$Writing", name := "rule", desc := "(Ljava/lang/String;Ljava/lang/String;)C" } : Jvm.MethodName)) ∈ lw_tbl := lw_at lw_m17 127 rfl
theorem q4042 : (Jvm.Cond.instanceMethod ({ cls := "StenohallModel$Writing", name := "rule", desc := "(Ljava/lang/String;Ljava/lang/String;)C" } : Jvm.MethodName)) ∈ lw_all := lw_g (lw_at lw_m17 128 rfl) rfl
theorem q4043 : (Jvm.Cond.code ({ cls := "StenohallModel$Writing", name := "rule", desc := "(Ljava/lang/String;Ljava/lang/String;)C" } : Jvm.MethodName) prog_22_method_12_code (6 : Nat) (Option.some Jvm.ClassFile.FieldType.char)) ∈ lw_all := lw_g (lw_at lw_m17 129 rfl) rfl
theorem q4044 : (Jvm.Cond.methodLinkNest "StenohallModel$Writing" (209 : Nat) ({ cls := "StenohallModel", name := "holds", desc := "(CLjava/lang/String;Ljava/lang/String;)Z" } : Jvm.MethodName) "StenohallModel") ∈ lw_tbl := lw_at lw_m17 130 rfl
theorem q4054 : (Jvm.Cond.methodLinkNest "StenohallModel$Writing" (217 : Nat) ({ cls := "StenohallModel", name := "joined", desc := "(CLjava/lang/String;)Ljava/lang/String;" } : Jvm.MethodName) "StenohallModel") ∈ lw_tbl := lw_at lw_m17 140 rfl
theorem q4060 : (Jvm.Cond.methodLink "StenohallModel$Writing" (221 : Nat) ({ cls := "java/lang/StringBuilder", name := "append", desc := "(Ljava/lang/String;)Ljava/lang/StringBuilder;" } : Jvm.MethodName)) ∈ lw_all := lw_g (lw_at lw_m17 146 rfl) rfl
theorem q4061 : (Jvm.Cond.methodLink "StenohallModel$Writing" (224 : Nat) ({ cls := "java/util/TreeSet", name := "contains", desc := "(Ljava/lang/Object;)Z" } : Jvm.MethodName)) ∈ lw_all := lw_g (lw_at lw_m17 147 rfl) rfl
theorem q4062 : (Jvm.Cond.methodLink "StenohallModel$Writing" (178 : Nat) ({ cls := "java/util/ArrayList", name := "remove", desc := "(I)Ljava/lang/Object;" } : Jvm.MethodName)) ∈ lw_all := lw_g (lw_at lw_m17 148 rfl) rfl
theorem q4063 : (Jvm.Cond.methodLink "StenohallModel$Writing" (202 : Nat) ({ cls := "java/util/ArrayList", name := "set", desc := "(ILjava/lang/Object;)Ljava/lang/Object;" } : Jvm.MethodName)) ∈ lw_all := lw_g (lw_at lw_m17 149 rfl) rfl
theorem q4064 : (Jvm.Cond.methodLink "StenohallModel$Writing" (162 : Nat) ({ cls := "StenohallModel$Writing", name := "command", desc := "(C)V" } : Jvm.MethodName)) ∈ lw_all := lw_g (lw_at lw_m17 150 rfl) rfl
theorem q4065 : (Jvm.Cond.privateMethod ({ cls := "StenohallModel$Writing", name := "command", desc := "(C)V" } : Jvm.MethodName)) ∈ lw_tbl := lw_at lw_m17 151 rfl
theorem q4066 : (Jvm.Cond.instanceMethod ({ cls := "StenohallModel$Writing", name := "command", desc := "(C)V" } : Jvm.MethodName)) ∈ lw_all := lw_g (lw_at lw_m17 152 rfl) rfl
theorem q4067 : (Jvm.Cond.code ({ cls := "StenohallModel$Writing", name := "command", desc := "(C)V" } : Jvm.MethodName) prog_22_method_7_code (4 : Nat) (Option.none : Option Jvm.ClassFile.FieldType)) ∈ lw_all := lw_g (lw_at lw_m17 153 rfl) rfl
theorem q4068 : (Jvm.Cond.methodLink "StenohallModel$Writing" (168 : Nat) ({ cls := "StenohallModel$Writing", name := "raise", desc := "(LStenohallModel$Sign;)V" } : Jvm.MethodName)) ∈ lw_all := lw_g (lw_at lw_m17 154 rfl) rfl
theorem q4069 : (Jvm.Cond.privateMethod ({ cls := "StenohallModel$Writing", name := "raise", desc := "(LStenohallModel$Sign;)V" } : Jvm.MethodName)) ∈ lw_tbl := lw_at lw_m17 155 rfl
theorem q4070 : (Jvm.Cond.instanceMethod ({ cls := "StenohallModel$Writing", name := "raise", desc := "(LStenohallModel$Sign;)V" } : Jvm.MethodName)) ∈ lw_all := lw_g (lw_at lw_m17 156 rfl) rfl
theorem q4071 : (Jvm.Cond.code ({ cls := "StenohallModel$Writing", name := "raise", desc := "(LStenohallModel$Sign;)V" } : Jvm.MethodName) prog_22_method_8_code (2 : Nat) (Option.none : Option Jvm.ClassFile.FieldType)) ∈ lw_all := lw_g (lw_at lw_m17 157 rfl) rfl
theorem q4072 : (Jvm.Cond.methodLink "StenohallModel$Writing" (172 : Nat) ({ cls := "StenohallModel$Writing", name := "cut", desc := "(I)V" } : Jvm.MethodName)) ∈ lw_all := lw_g (lw_at lw_m17 158 rfl) rfl
theorem q4073 : (Jvm.Cond.privateMethod ({ cls := "StenohallModel$Writing", name := "cut", desc := "(I)V" } : Jvm.MethodName)) ∈ lw_tbl := lw_at lw_m17 159 rfl
theorem q4074 : (Jvm.Cond.instanceMethod ({ cls := "StenohallModel$Writing", name := "cut", desc := "(I)V" } : Jvm.MethodName)) ∈ lw_all := lw_g (lw_at lw_m17 160 rfl) rfl
theorem q4075 : (Jvm.Cond.code ({ cls := "StenohallModel$Writing", name := "cut", desc := "(I)V" } : Jvm.MethodName) prog_22_method_9_code (4 : Nat) (Option.none : Option Jvm.ClassFile.FieldType)) ∈ lw_all := lw_g (lw_at lw_m17 161 rfl) rfl
theorem q4076 : (Jvm.Cond.fieldLink "StenohallModel$Writing" (16 : Nat) "StenohallModel$Writing" "signs" "Ljava/util/ArrayList;") ∈ lw_all := lw_g (lw_at lw_m17 162 rfl) rfl
theorem q4078 : (Jvm.Cond.fieldLink "StenohallModel$Writing" (29 : Nat) "StenohallModel$Writing" "chosen" "[I") ∈ lw_all := lw_g (lw_at lw_m17 164 rfl) rfl
theorem q4080 : (Jvm.Cond.fieldLink "StenohallModel$Writing" (136 : Nat) "StenohallModel$Writing" "isDue" "Z") ∈ lw_all := lw_g (lw_at lw_m17 166 rfl) rfl
theorem q4081 : (Jvm.Cond.fieldLink "StenohallModel$Writing" (82 : Nat) "StenohallModel$Writing" "writer" "I") ∈ lw_all := lw_g (lw_at lw_m17 167 rfl) rfl
theorem q4082 : (Jvm.Cond.fieldLink "StenohallModel$Writing" (93 : Nat) "StenohallModel$Writing" "time" "I") ∈ lw_all := lw_g (lw_at lw_m17 168 rfl) rfl
theorem q4083 : (Jvm.Cond.fieldLink "StenohallModel$Writing" (78 : Nat) "StenohallModel$Writing" "isAttached" "Z") ∈ lw_all := lw_g (lw_at lw_m17 169 rfl) rfl
theorem q4084 : (Jvm.Cond.fieldLink "StenohallModel$Writing" (96 : Nat) "StenohallModel$Writing" "hasWritten" "Z") ∈ lw_all := lw_g (lw_at lw_m17 170 rfl) rfl
theorem q4085 : (Jvm.Cond.fieldLink "StenohallModel$Writing" (1 : Nat) "StenohallModel$Writing" "this$0" "LStenohallModel;") ∈ lw_all := lw_g (lw_at lw_m17 171 rfl) rfl
theorem q4086 : (Jvm.Cond.laysFinal "StenohallModel$Writing" "StenohallModel$Writing" "signs" "Ljava/util/ArrayList;") ∈ lw_all := lw_g (lw_at lw_m17 172 rfl) rfl
theorem q4087 : (Jvm.Cond.soleField "StenohallModel$Writing" "signs") ∈ lw_all := lw_g (lw_at lw_m17 173 rfl) rfl
theorem q4088 : (Jvm.Cond.laysFinal "StenohallModel$Writing" "StenohallModel$Writing" "chosen" "[I") ∈ lw_all := lw_g (lw_at lw_m17 174 rfl) rfl
theorem q4089 : (Jvm.Cond.soleField "StenohallModel$Writing" "chosen") ∈ lw_all := lw_g (lw_at lw_m17 175 rfl) rfl
theorem q4090 : (Jvm.Cond.lays "StenohallModel$Writing" "StenohallModel$Writing" "isDue" "Z") ∈ lw_all := lw_g (lw_at lw_m17 176 rfl) rfl
theorem q4091 : (Jvm.Cond.soleField "StenohallModel$Writing" "isDue") ∈ lw_all := lw_g (lw_at lw_m17 177 rfl) rfl
theorem q4092 : (Jvm.Cond.lays "StenohallModel$Writing" "StenohallModel$Writing" "writer" "I") ∈ lw_all := lw_g (lw_at lw_m17 178 rfl) rfl
theorem q4093 : (Jvm.Cond.soleField "StenohallModel$Writing" "writer") ∈ lw_all := lw_g (lw_at lw_m17 179 rfl) rfl
theorem q4094 : (Jvm.Cond.lays "StenohallModel$Writing" "StenohallModel$Writing" "time" "I") ∈ lw_all := lw_g (lw_at lw_m17 180 rfl) rfl
theorem q4095 : (Jvm.Cond.soleField "StenohallModel$Writing" "time") ∈ lw_all := lw_g (lw_at lw_m17 181 rfl) rfl
theorem q4096 : (Jvm.Cond.lays "StenohallModel$Writing" "StenohallModel$Writing" "isAttached" "Z") ∈ lw_all := lw_g (lw_at lw_m17 182 rfl) rfl
theorem q4097 : (Jvm.Cond.soleField "StenohallModel$Writing" "isAttached") ∈ lw_all := lw_g (lw_at lw_m17 183 rfl) rfl
theorem q4098 : (Jvm.Cond.lays "StenohallModel$Writing" "StenohallModel$Writing" "hasWritten" "Z") ∈ lw_all := lw_g (lw_at lw_m17 184 rfl) rfl
theorem q4099 : (Jvm.Cond.soleField "StenohallModel$Writing" "hasWritten") ∈ lw_all := lw_g (lw_at lw_m17 185 rfl) rfl
theorem q4100 : (Jvm.Cond.laysFinal "StenohallModel$Writing" "StenohallModel$Writing" "this$0" "LStenohallModel;") ∈ lw_all := lw_g (lw_at lw_m17 186 rfl) rfl
theorem q4101 : (Jvm.Cond.soleField "StenohallModel$Writing" "this$0") ∈ lw_all := lw_g (lw_at lw_m17 187 rfl) rfl
theorem q4102 : (Jvm.Cond.superclass "StenohallModel$Writing" "java/lang/Object") ∈ lw_all := lw_g (lw_at lw_m17 188 rfl) rfl
theorem q4384 : (Jvm.Cond.castable "StenohallModel$Writing" "java/lang/Object") ∈ lw_tbl := lw_at lw_m18 230 rfl
theorem in_X16 : ∀ w ∈ wsX160, w ∈ lw_all := lw_in wsX160 [4086, 4088, 4090, 4092, 4094, 4096, 4098, 4100] (by decide +kernel) (by decide +kernel)
/-! StenohallModel$Sign -/
set_option maxRecDepth 100000
def RX17 : String := "StenohallModel$Sign"
def TX17 : u_T := fun k => match k with
  | 0 => ("StenohallModel$Sign", "c", "C", false)
  | 1 => ("StenohallModel$Sign", "time", "I", false)
  | _ => ("StenohallModel$Sign", "writer", "I", false)
def tyX17 : Nat → FieldType := fun k => match k with
  | 0 => .char
  | 1 => .int
  | _ => .int
abbrev wsX170 : List Cond := u_ws RX17 TX17 3
theorem nmX17 : ∀ a, a < 3 → ∀ b, b < 3 → a ≠ b → (TX17 a).2.1 ≠ (TX17 b).2.1 := by decide +kernel
theorem tyX17_ok : ∀ k, k < 3 → parseFieldDescriptor (TX17 k).2.2.1 = some (tyX17 k) := by decide +kernel
abbrev cX17_init : ByteArray := prog_19_method_1_code
def yX17_init : MethodName := ⟨RX17, "<init>", "(CII)V"⟩
def dkwX17_init_0 : List UInt8 := [42, 183, 0, 1, 42, 27, 181, 0, 7, 42, 28, 181, 0, 13, 42, 29, 181, 0, 17, 177]
abbrev dktX17_init_0 : List UInt8 := dkwX17_init_0 ++ []
theorem dksX17_init_0 : cX17_init.data.toList.drop 0 = dktX17_init_0 := by decide +kernel
theorem dX17_init_0 : decode cX17_init 0 = .ok (.aload_n 0, 1) := dk_42 (dk_at dksX17_init_0 0 rfl rfl)
theorem dX17_init_1 : decode cX17_init 1 = .ok (.invokespecial 1, 3) := dk_183 0 1 (dk_at dksX17_init_0 1 rfl rfl)
theorem dX17_init_4 : decode cX17_init 4 = .ok (.aload_n 0, 1) := dk_42 (dk_at dksX17_init_0 4 rfl rfl)
theorem dX17_init_5 : decode cX17_init 5 = .ok (.iload_n 1, 1) := dk_27 (dk_at dksX17_init_0 5 rfl rfl)
theorem dX17_init_6 : decode cX17_init 6 = .ok (.putfield 7, 3) := dk_181 0 7 (dk_at dksX17_init_0 6 rfl rfl)
theorem dX17_init_9 : decode cX17_init 9 = .ok (.aload_n 0, 1) := dk_42 (dk_at dksX17_init_0 9 rfl rfl)
theorem dX17_init_10 : decode cX17_init 10 = .ok (.iload_n 2, 1) := dk_28 (dk_at dksX17_init_0 10 rfl rfl)
theorem dX17_init_11 : decode cX17_init 11 = .ok (.putfield 13, 3) := dk_181 0 13 (dk_at dksX17_init_0 11 rfl rfl)
theorem dX17_init_14 : decode cX17_init 14 = .ok (.aload_n 0, 1) := dk_42 (dk_at dksX17_init_0 14 rfl rfl)
theorem dX17_init_15 : decode cX17_init 15 = .ok (.iload_n 3, 1) := dk_29 (dk_at dksX17_init_0 15 rfl rfl)
theorem dX17_init_16 : decode cX17_init 16 = .ok (.putfield 17, 3) := dk_181 0 17 (dk_at dksX17_init_0 16 rfl rfl)
theorem dX17_init_19 : decode cX17_init 19 = .ok (.return_, 1) := dk_177 (dk_at dksX17_init_0 19 rfl rfl)
theorem q150 : (Jvm.Cond.initialized "StenohallModel$Sign") ∈ lw_all := lw_g (lw_at lw_m1 76 rfl) rfl
theorem q319 : (Jvm.Cond.selects "StenohallModel$Sign" ({ cls := "java/lang/Object", name := "getClass", desc := "()Ljava/lang/Class;" } : Jvm.MethodName) ({ cls := "java/lang/Object", name := "getClass", desc := "()Ljava/lang/Class;" } : Jvm.MethodName)) ∈ lw_all := lw_g (lw_at lw_m2 5 rfl) rfl
theorem q972 : (Jvm.Cond.selects "StenohallModel$Sign" ({ cls := "java/lang/Object", name := "equals", desc := "(Ljava/lang/Object;)Z" } : Jvm.MethodName) ({ cls := "java/lang/Object", name := "equals", desc := "(Ljava/lang/Object;)Z" } : Jvm.MethodName)) ∈ lw_all := lw_g (lw_at lw_m4 178 rfl) rfl
theorem q3990 : (Jvm.Cond.instantiable "StenohallModel$Sign" (3 : Nat)) ∈ lw_all := lw_g (lw_at lw_m17 76 rfl) rfl
theorem q3992 : (Jvm.Cond.instanceMethod ({ cls := "StenohallModel$Sign", name := "<init>", desc := "(CII)V" } : Jvm.MethodName)) ∈ lw_all := lw_g (lw_at lw_m17 78 rfl) rfl
theorem q3993 : (Jvm.Cond.code ({ cls := "StenohallModel$Sign", name := "<init>", desc := "(CII)V" } : Jvm.MethodName) prog_19_method_1_code (4 : Nat) (Option.none : Option Jvm.ClassFile.FieldType)) ∈ lw_all := lw_g (lw_at lw_m17 79 rfl) rfl
theorem q3994 : (Jvm.Cond.methodLink "StenohallModel$Sign" (1 : Nat) ({ cls := "java/lang/Object", name := "<init>", desc := "()V" } : Jvm.MethodName)) ∈ lw_all := lw_g (lw_at lw_m17 80 rfl) rfl
theorem q3995 : (Jvm.Cond.fieldLink "StenohallModel$Sign" (7 : Nat) "StenohallModel$Sign" "c" "C") ∈ lw_all := lw_g (lw_at lw_m17 81 rfl) rfl
theorem q3998 : (Jvm.Cond.fieldLink "StenohallModel$Sign" (13 : Nat) "StenohallModel$Sign" "time" "I") ∈ lw_all := lw_g (lw_at lw_m17 84 rfl) rfl
theorem q4001 : (Jvm.Cond.fieldLink "StenohallModel$Sign" (17 : Nat) "StenohallModel$Sign" "writer" "I") ∈ lw_all := lw_g (lw_at lw_m17 87 rfl) rfl
theorem q4004 : (Jvm.Cond.lays "StenohallModel$Sign" "StenohallModel$Sign" "c" "C") ∈ lw_all := lw_g (lw_at lw_m17 90 rfl) rfl
theorem q4005 : (Jvm.Cond.soleField "StenohallModel$Sign" "c") ∈ lw_all := lw_g (lw_at lw_m17 91 rfl) rfl
theorem q4006 : (Jvm.Cond.lays "StenohallModel$Sign" "StenohallModel$Sign" "time" "I") ∈ lw_all := lw_g (lw_at lw_m17 92 rfl) rfl
theorem q4007 : (Jvm.Cond.soleField "StenohallModel$Sign" "time") ∈ lw_all := lw_g (lw_at lw_m17 93 rfl) rfl
theorem q4008 : (Jvm.Cond.lays "StenohallModel$Sign" "StenohallModel$Sign" "writer" "I") ∈ lw_all := lw_g (lw_at lw_m17 94 rfl) rfl
theorem q4009 : (Jvm.Cond.soleField "StenohallModel$Sign" "writer") ∈ lw_all := lw_g (lw_at lw_m17 95 rfl) rfl
theorem q4010 : (Jvm.Cond.superclass "StenohallModel$Sign" "java/lang/Object") ∈ lw_all := lw_g (lw_at lw_m17 96 rfl) rfl
theorem q4385 : (Jvm.Cond.castable "StenohallModel$Sign" "java/lang/Object") ∈ lw_tbl := lw_at lw_m18 231 rfl
theorem in_X17 : ∀ w ∈ wsX170, w ∈ lw_all := lw_in wsX170 [4004, 4006, 4008] (by decide +kernel) (by decide +kernel)
/-! Stenohall$Sink -/
set_option maxRecDepth 100000
def RX18 : String := "Stenohall$Sink"
def TX18 : u_T := fun k => match k with
  | 0 => ("Stenohall$Sink", "delay", "I", true)
  | 1 => ("Stenohall$Sink", "shown", "Ljava/lang/String;", false)
  | _ => ("Stenohall$Sink", "takenBack", "I", false)
def tyX18 : Nat → FieldType := fun k => match k with
  | 0 => .int
  | 1 => .object "java/lang/String"
  | _ => .int
abbrev wsX180 : List Cond := u_ws RX18 TX18 3
theorem nmX18 : ∀ a, a < 3 → ∀ b, b < 3 → a ≠ b → (TX18 a).2.1 ≠ (TX18 b).2.1 := by decide +kernel
theorem tyX18_ok : ∀ k, k < 3 → parseFieldDescriptor (TX18 k).2.2.1 = some (tyX18 k) := by decide +kernel
abbrev cX18_shows : ByteArray := prog_9_method_2_code
def yX18_shows : MethodName := ⟨RX18, "shows", "(Ljava/lang/String;)V"⟩
def dkwX18_shows_2 : List UInt8 := [180, 0, 35, 42, 180, 0, 9, 182, 0, 19, 28, 100, 96, 181, 0, 35, 42, 43, 181, 0, 9, 177]
abbrev dktX18_shows_2 : List UInt8 := dkwX18_shows_2 ++ []
def dkwX18_shows_1 : List UInt8 := [182, 0, 31, 42, 180, 0, 9, 28, 182, 0, 31, 160, 0, 9, 132, 2, 1, 167, 255, 219, 42, 89]
abbrev dktX18_shows_1 : List UInt8 := dkwX18_shows_1 ++ dktX18_shows_2
def dkwX18_shows_0 : List UInt8 := [3, 61, 28, 43, 182, 0, 19, 42, 180, 0, 9, 182, 0, 19, 184, 0, 25, 162, 0, 25, 43, 28]
abbrev dktX18_shows_0 : List UInt8 := dkwX18_shows_0 ++ dktX18_shows_1
theorem dksX18_shows_0 : cX18_shows.data.toList.drop 0 = dktX18_shows_0 := by decide +kernel
theorem dksX18_shows_1 : cX18_shows.data.toList.drop 22 = dktX18_shows_1 := dk_seg dksX18_shows_0 22 rfl rfl
theorem dksX18_shows_2 : cX18_shows.data.toList.drop 44 = dktX18_shows_2 := dk_seg dksX18_shows_1 22 rfl rfl
theorem dX18_shows_0 : decode cX18_shows 0 = .ok (.iconst 0, 1) := dk_3 (dk_at dksX18_shows_0 0 rfl rfl)
theorem dX18_shows_1 : decode cX18_shows 1 = .ok (.istore_n 2, 1) := dk_61 (dk_at dksX18_shows_0 1 rfl rfl)
theorem dX18_shows_2 : decode cX18_shows 2 = .ok (.iload_n 2, 1) := dk_28 (dk_at dksX18_shows_0 2 rfl rfl)
theorem dX18_shows_3 : decode cX18_shows 3 = .ok (.aload_n 1, 1) := dk_43 (dk_at dksX18_shows_0 3 rfl rfl)
theorem dX18_shows_4 : decode cX18_shows 4 = .ok (.invokevirtual 19, 3) := dk_182 0 19 (dk_at dksX18_shows_0 4 rfl rfl)
theorem dX18_shows_7 : decode cX18_shows 7 = .ok (.aload_n 0, 1) := dk_42 (dk_at dksX18_shows_0 7 rfl rfl)
theorem dX18_shows_8 : decode cX18_shows 8 = .ok (.getfield 9, 3) := dk_180 0 9 (dk_at dksX18_shows_0 8 rfl rfl)
theorem dX18_shows_11 : decode cX18_shows 11 = .ok (.invokevirtual 19, 3) := dk_182 0 19 (dk_at dksX18_shows_0 11 rfl rfl)
theorem dX18_shows_14 : decode cX18_shows 14 = .ok (.invokestatic 25, 3) := dk_184 0 25 (dk_at dksX18_shows_0 14 rfl rfl)
theorem dX18_shows_17 : decode cX18_shows 17 = .ok (.if_icmp .ge 25, 3) := dk_162 0 25 (dk_at dksX18_shows_0 17 rfl rfl)
theorem dX18_shows_20 : decode cX18_shows 20 = .ok (.aload_n 1, 1) := dk_43 (dk_at dksX18_shows_0 20 rfl rfl)
theorem dX18_shows_21 : decode cX18_shows 21 = .ok (.iload_n 2, 1) := dk_28 (dk_at dksX18_shows_0 21 rfl rfl)
theorem dX18_shows_22 : decode cX18_shows 22 = .ok (.invokevirtual 31, 3) := dk_182 0 31 (dk_at dksX18_shows_1 0 rfl rfl)
theorem dX18_shows_25 : decode cX18_shows 25 = .ok (.aload_n 0, 1) := dk_42 (dk_at dksX18_shows_1 3 rfl rfl)
theorem dX18_shows_26 : decode cX18_shows 26 = .ok (.getfield 9, 3) := dk_180 0 9 (dk_at dksX18_shows_1 4 rfl rfl)
theorem dX18_shows_29 : decode cX18_shows 29 = .ok (.iload_n 2, 1) := dk_28 (dk_at dksX18_shows_1 7 rfl rfl)
theorem dX18_shows_30 : decode cX18_shows 30 = .ok (.invokevirtual 31, 3) := dk_182 0 31 (dk_at dksX18_shows_1 8 rfl rfl)
theorem dX18_shows_33 : decode cX18_shows 33 = .ok (.if_icmp .ne 9, 3) := dk_160 0 9 (dk_at dksX18_shows_1 11 rfl rfl)
theorem dX18_shows_36 : decode cX18_shows 36 = .ok (.iinc 2 1, 3) := dk_132 2 1 (dk_at dksX18_shows_1 14 rfl rfl)
theorem dX18_shows_39 : decode cX18_shows 39 = .ok (.goto (-37), 3) := dk_167 255 219 (dk_at dksX18_shows_1 17 rfl rfl)
theorem dX18_shows_42 : decode cX18_shows 42 = .ok (.aload_n 0, 1) := dk_42 (dk_at dksX18_shows_1 20 rfl rfl)
theorem dX18_shows_43 : decode cX18_shows 43 = .ok (.dup, 1) := dk_89 (dk_at dksX18_shows_1 21 rfl rfl)
theorem dX18_shows_44 : decode cX18_shows 44 = .ok (.getfield 35, 3) := dk_180 0 35 (dk_at dksX18_shows_2 0 rfl rfl)
theorem dX18_shows_47 : decode cX18_shows 47 = .ok (.aload_n 0, 1) := dk_42 (dk_at dksX18_shows_2 3 rfl rfl)
theorem dX18_shows_48 : decode cX18_shows 48 = .ok (.getfield 9, 3) := dk_180 0 9 (dk_at dksX18_shows_2 4 rfl rfl)
theorem dX18_shows_51 : decode cX18_shows 51 = .ok (.invokevirtual 19, 3) := dk_182 0 19 (dk_at dksX18_shows_2 7 rfl rfl)
theorem dX18_shows_54 : decode cX18_shows 54 = .ok (.iload_n 2, 1) := dk_28 (dk_at dksX18_shows_2 10 rfl rfl)
theorem dX18_shows_55 : decode cX18_shows 55 = .ok (.isub, 1) := dk_100 (dk_at dksX18_shows_2 11 rfl rfl)
theorem dX18_shows_56 : decode cX18_shows 56 = .ok (.iadd, 1) := dk_96 (dk_at dksX18_shows_2 12 rfl rfl)
theorem dX18_shows_57 : decode cX18_shows 57 = .ok (.putfield 35, 3) := dk_181 0 35 (dk_at dksX18_shows_2 13 rfl rfl)
theorem dX18_shows_60 : decode cX18_shows 60 = .ok (.aload_n 0, 1) := dk_42 (dk_at dksX18_shows_2 16 rfl rfl)
theorem dX18_shows_61 : decode cX18_shows 61 = .ok (.aload_n 1, 1) := dk_43 (dk_at dksX18_shows_2 17 rfl rfl)
theorem dX18_shows_62 : decode cX18_shows 62 = .ok (.putfield 9, 3) := dk_181 0 9 (dk_at dksX18_shows_2 18 rfl rfl)
theorem dX18_shows_65 : decode cX18_shows 65 = .ok (.return_, 1) := dk_177 (dk_at dksX18_shows_2 21 rfl rfl)
abbrev cX18_init : ByteArray := prog_9_method_1_code
def yX18_init : MethodName := ⟨RX18, "<init>", "(I)V"⟩
def dkwX18_init_0 : List UInt8 := [42, 183, 0, 1, 42, 18, 7, 181, 0, 9, 42, 27, 181, 0, 15, 177]
abbrev dktX18_init_0 : List UInt8 := dkwX18_init_0 ++ []
theorem dksX18_init_0 : cX18_init.data.toList.drop 0 = dktX18_init_0 := by decide +kernel
theorem dX18_init_0 : decode cX18_init 0 = .ok (.aload_n 0, 1) := dk_42 (dk_at dksX18_init_0 0 rfl rfl)
theorem dX18_init_1 : decode cX18_init 1 = .ok (.invokespecial 1, 3) := dk_183 0 1 (dk_at dksX18_init_0 1 rfl rfl)
theorem dX18_init_4 : decode cX18_init 4 = .ok (.aload_n 0, 1) := dk_42 (dk_at dksX18_init_0 4 rfl rfl)
theorem dX18_init_5 : decode cX18_init 5 = .ok (.ldc 7, 2) := dk_18 7 (dk_at dksX18_init_0 5 rfl rfl)
theorem dX18_init_7 : decode cX18_init 7 = .ok (.putfield 9, 3) := dk_181 0 9 (dk_at dksX18_init_0 7 rfl rfl)
theorem dX18_init_10 : decode cX18_init 10 = .ok (.aload_n 0, 1) := dk_42 (dk_at dksX18_init_0 10 rfl rfl)
theorem dX18_init_11 : decode cX18_init 11 = .ok (.iload_n 1, 1) := dk_27 (dk_at dksX18_init_0 11 rfl rfl)
theorem dX18_init_12 : decode cX18_init 12 = .ok (.putfield 15, 3) := dk_181 0 15 (dk_at dksX18_init_0 12 rfl rfl)
theorem dX18_init_15 : decode cX18_init 15 = .ok (.return_, 1) := dk_177 (dk_at dksX18_init_0 15 rfl rfl)
theorem q151 : (Jvm.Cond.initialized "Stenohall$Sink") ∈ lw_all := lw_g (lw_at lw_m1 77 rfl) rfl
theorem q311 : (Jvm.Cond.selects "Stenohall$Sink" ({ cls := "java/lang/Object", name := "getClass", desc := "()Ljava/lang/Class;" } : Jvm.MethodName) ({ cls := "java/lang/Object", name := "getClass", desc := "()Ljava/lang/Class;" } : Jvm.MethodName)) ∈ lw_all := lw_g (lw_at lw_m1 237 rfl) rfl
theorem q964 : (Jvm.Cond.selects "Stenohall$Sink" ({ cls := "java/lang/Object", name := "equals", desc := "(Ljava/lang/Object;)Z" } : Jvm.MethodName) ({ cls := "java/lang/Object", name := "equals", desc := "(Ljava/lang/Object;)Z" } : Jvm.MethodName)) ∈ lw_all := lw_g (lw_at lw_m4 170 rfl) rfl
theorem q3135 : (Jvm.Cond.instanceMethod ({ cls := "Stenohall$Sink", name := "shows", desc := "(Ljava/lang/String;)V" } : Jvm.MethodName)) ∈ lw_all := lw_g (lw_at lw_m13 181 rfl) rfl
theorem q3136 : (Jvm.Cond.selects "Stenohall$Sink" ({ cls := "Stenohall$Sink", name := "shows", desc := "(Ljava/lang/String;)V" } : Jvm.MethodName) ({ cls := "Stenohall$Sink", name := "shows", desc := "(Ljava/lang/String;)V" } : Jvm.MethodName)) ∈ lw_all := lw_g (lw_at lw_m13 182 rfl) rfl
theorem q3137 : (Jvm.Cond.code ({ cls := "Stenohall$Sink", name := "shows", desc := "(Ljava/lang/String;)V" } : Jvm.MethodName) prog_9_method_2_code (3 : Nat) (Option.none : Option Jvm.ClassFile.FieldType)) ∈ lw_all := lw_g (lw_at lw_m13 183 rfl) rfl
theorem q3138 : (Jvm.Cond.methodLink "Stenohall$Sink" (19 : Nat) ({ cls := "java/lang/String", name := "length", desc := "()I" } : Jvm.MethodName)) ∈ lw_all := lw_g (lw_at lw_m13 184 rfl) rfl
theorem q3139 : (Jvm.Cond.methodLink "Stenohall$Sink" (25 : Nat) ({ cls := "java/lang/Math", name := "min", desc := "(II)I" } : Jvm.MethodName)) ∈ lw_all := lw_g (lw_at lw_m13 185 rfl) rfl
theorem q3140 : (Jvm.Cond.methodLink "Stenohall$Sink" (31 : Nat) ({ cls := "java/lang/String", name := "charAt", desc := "(I)C" } : Jvm.MethodName)) ∈ lw_all := lw_g (lw_at lw_m13 186 rfl) rfl
theorem q3149 : (Jvm.Cond.instantiable "Stenohall$Sink" (3 : Nat)) ∈ lw_all := lw_g (lw_at lw_m13 195 rfl) rfl
theorem q3151 : (Jvm.Cond.instanceMethod ({ cls := "Stenohall$Sink", name := "<init>", desc := "(I)V" } : Jvm.MethodName)) ∈ lw_all := lw_g (lw_at lw_m13 197 rfl) rfl
theorem q3152 : (Jvm.Cond.code ({ cls := "Stenohall$Sink", name := "<init>", desc := "(I)V" } : Jvm.MethodName) prog_9_method_1_code (2 : Nat) (Option.none : Option Jvm.ClassFile.FieldType)) ∈ lw_all := lw_g (lw_at lw_m13 198 rfl) rfl
theorem q3153 : (Jvm.Cond.methodLink "Stenohall$Sink" (1 : Nat) ({ cls := "java/lang/Object", name := "<init>", desc := "()V" } : Jvm.MethodName)) ∈ lw_all := lw_g (lw_at lw_m13 199 rfl) rfl
theorem q3154 : (Jvm.Cond.stringRef "Stenohall$Sink" (7 : Nat) "") ∈ lw_tbl := lw_at lw_m13 200 rfl
theorem q3155 : (Jvm.Cond.fieldLink "Stenohall$Sink" (15 : Nat) "Stenohall$Sink" "delay" "I") ∈ lw_all := lw_g (lw_at lw_m13 201 rfl) rfl
theorem q3157 : (Jvm.Cond.fieldLink "Stenohall$Sink" (9 : Nat) "Stenohall$Sink" "shown" "Ljava/lang/String;") ∈ lw_all := lw_g (lw_at lw_m13 203 rfl) rfl
theorem q3159 : (Jvm.Cond.fieldLink "Stenohall$Sink" (35 : Nat) "Stenohall$Sink" "takenBack" "I") ∈ lw_all := lw_g (lw_at lw_m13 205 rfl) rfl
theorem q3161 : (Jvm.Cond.laysFinal "Stenohall$Sink" "Stenohall$Sink" "delay" "I") ∈ lw_all := lw_g (lw_at lw_m13 207 rfl) rfl
theorem q3162 : (Jvm.Cond.soleField "Stenohall$Sink" "delay") ∈ lw_all := lw_g (lw_at lw_m13 208 rfl) rfl
theorem q3163 : (Jvm.Cond.lays "Stenohall$Sink" "Stenohall$Sink" "shown" "Ljava/lang/String;") ∈ lw_all := lw_g (lw_at lw_m13 209 rfl) rfl
theorem q3164 : (Jvm.Cond.soleField "Stenohall$Sink" "shown") ∈ lw_all := lw_g (lw_at lw_m13 210 rfl) rfl
theorem q3165 : (Jvm.Cond.lays "Stenohall$Sink" "Stenohall$Sink" "takenBack" "I") ∈ lw_all := lw_g (lw_at lw_m13 211 rfl) rfl
theorem q3166 : (Jvm.Cond.soleField "Stenohall$Sink" "takenBack") ∈ lw_all := lw_g (lw_at lw_m13 212 rfl) rfl
theorem q3167 : (Jvm.Cond.superclass "Stenohall$Sink" "java/lang/Object") ∈ lw_all := lw_g (lw_at lw_m13 213 rfl) rfl
theorem q4386 : (Jvm.Cond.castable "Stenohall$Sink" "java/lang/Object") ∈ lw_tbl := lw_at lw_m18 232 rfl
theorem in_X18 : ∀ w ∈ wsX180, w ∈ lw_all := lw_in wsX180 [3161, 3163, 3165] (by decide +kernel) (by decide +kernel)
/-! StenohallModel$Sink -/
set_option maxRecDepth 100000
def RX19 : String := "StenohallModel$Sink"
def TX19 : u_T := fun k => match k with
  | 0 => ("StenohallModel$Sink", "delay", "I", true)
  | 1 => ("StenohallModel$Sink", "shown", "Ljava/lang/String;", false)
  | _ => ("StenohallModel$Sink", "takenBack", "I", false)
def tyX19 : Nat → FieldType := fun k => match k with
  | 0 => .int
  | 1 => .object "java/lang/String"
  | _ => .int
abbrev wsX190 : List Cond := u_ws RX19 TX19 3
theorem nmX19 : ∀ a, a < 3 → ∀ b, b < 3 → a ≠ b → (TX19 a).2.1 ≠ (TX19 b).2.1 := by decide +kernel
theorem tyX19_ok : ∀ k, k < 3 → parseFieldDescriptor (TX19 k).2.2.1 = some (tyX19 k) := by decide +kernel
abbrev cX19_init : ByteArray := prog_20_method_1_code
def yX19_init : MethodName := ⟨RX19, "<init>", "(I)V"⟩
def dkwX19_init_0 : List UInt8 := [42, 183, 0, 1, 42, 18, 7, 181, 0, 9, 42, 27, 181, 0, 15, 177]
abbrev dktX19_init_0 : List UInt8 := dkwX19_init_0 ++ []
theorem dksX19_init_0 : cX19_init.data.toList.drop 0 = dktX19_init_0 := by decide +kernel
theorem dX19_init_0 : decode cX19_init 0 = .ok (.aload_n 0, 1) := dk_42 (dk_at dksX19_init_0 0 rfl rfl)
theorem dX19_init_1 : decode cX19_init 1 = .ok (.invokespecial 1, 3) := dk_183 0 1 (dk_at dksX19_init_0 1 rfl rfl)
theorem dX19_init_4 : decode cX19_init 4 = .ok (.aload_n 0, 1) := dk_42 (dk_at dksX19_init_0 4 rfl rfl)
theorem dX19_init_5 : decode cX19_init 5 = .ok (.ldc 7, 2) := dk_18 7 (dk_at dksX19_init_0 5 rfl rfl)
theorem dX19_init_7 : decode cX19_init 7 = .ok (.putfield 9, 3) := dk_181 0 9 (dk_at dksX19_init_0 7 rfl rfl)
theorem dX19_init_10 : decode cX19_init 10 = .ok (.aload_n 0, 1) := dk_42 (dk_at dksX19_init_0 10 rfl rfl)
theorem dX19_init_11 : decode cX19_init 11 = .ok (.iload_n 1, 1) := dk_27 (dk_at dksX19_init_0 11 rfl rfl)
theorem dX19_init_12 : decode cX19_init 12 = .ok (.putfield 15, 3) := dk_181 0 15 (dk_at dksX19_init_0 12 rfl rfl)
theorem dX19_init_15 : decode cX19_init 15 = .ok (.return_, 1) := dk_177 (dk_at dksX19_init_0 15 rfl rfl)
theorem q152 : (Jvm.Cond.initialized "StenohallModel$Sink") ∈ lw_all := lw_g (lw_at lw_m1 78 rfl) rfl
theorem q320 : (Jvm.Cond.selects "StenohallModel$Sink" ({ cls := "java/lang/Object", name := "getClass", desc := "()Ljava/lang/Class;" } : Jvm.MethodName) ({ cls := "java/lang/Object", name := "getClass", desc := "()Ljava/lang/Class;" } : Jvm.MethodName)) ∈ lw_all := lw_g (lw_at lw_m2 6 rfl) rfl
theorem q973 : (Jvm.Cond.selects "StenohallModel$Sink" ({ cls := "java/lang/Object", name := "equals", desc := "(Ljava/lang/Object;)Z" } : Jvm.MethodName) ({ cls := "java/lang/Object", name := "equals", desc := "(Ljava/lang/Object;)Z" } : Jvm.MethodName)) ∈ lw_all := lw_g (lw_at lw_m4 179 rfl) rfl
theorem q4158 : (Jvm.Cond.instantiable "StenohallModel$Sink" (3 : Nat)) ∈ lw_all := lw_g (lw_at lw_m18 4 rfl) rfl
theorem q4160 : (Jvm.Cond.instanceMethod ({ cls := "StenohallModel$Sink", name := "<init>", desc := "(I)V" } : Jvm.MethodName)) ∈ lw_all := lw_g (lw_at lw_m18 6 rfl) rfl
theorem q4161 : (Jvm.Cond.code ({ cls := "StenohallModel$Sink", name := "<init>", desc := "(I)V" } : Jvm.MethodName) prog_20_method_1_code (2 : Nat) (Option.none : Option Jvm.ClassFile.FieldType)) ∈ lw_all := lw_g (lw_at lw_m18 7 rfl) rfl
theorem q4162 : (Jvm.Cond.methodLink "StenohallModel$Sink" (1 : Nat) ({ cls := "java/lang/Object", name := "<init>", desc := "()V" } : Jvm.MethodName)) ∈ lw_all := lw_g (lw_at lw_m18 8 rfl) rfl
theorem q4163 : (Jvm.Cond.stringRef "StenohallModel$Sink" (7 : Nat) "") ∈ lw_tbl := lw_at lw_m18 9 rfl
theorem q4164 : (Jvm.Cond.fieldLink "StenohallModel$Sink" (15 : Nat) "StenohallModel$Sink" "delay" "I") ∈ lw_all := lw_g (lw_at lw_m18 10 rfl) rfl
theorem q4166 : (Jvm.Cond.fieldLink "StenohallModel$Sink" (9 : Nat) "StenohallModel$Sink" "shown" "Ljava/lang/String;") ∈ lw_all := lw_g (lw_at lw_m18 12 rfl) rfl
theorem q4169 : (Jvm.Cond.laysFinal "StenohallModel$Sink" "StenohallModel$Sink" "delay" "I") ∈ lw_all := lw_g (lw_at lw_m18 15 rfl) rfl
theorem q4170 : (Jvm.Cond.soleField "StenohallModel$Sink" "delay") ∈ lw_all := lw_g (lw_at lw_m18 16 rfl) rfl
theorem q4171 : (Jvm.Cond.lays "StenohallModel$Sink" "StenohallModel$Sink" "shown" "Ljava/lang/String;") ∈ lw_all := lw_g (lw_at lw_m18 17 rfl) rfl
theorem q4172 : (Jvm.Cond.soleField "StenohallModel$Sink" "shown") ∈ lw_all := lw_g (lw_at lw_m18 18 rfl) rfl
theorem q4173 : (Jvm.Cond.lays "StenohallModel$Sink" "StenohallModel$Sink" "takenBack" "I") ∈ lw_all := lw_g (lw_at lw_m18 19 rfl) rfl
theorem q4174 : (Jvm.Cond.soleField "StenohallModel$Sink" "takenBack") ∈ lw_all := lw_g (lw_at lw_m18 20 rfl) rfl
theorem q4175 : (Jvm.Cond.superclass "StenohallModel$Sink" "java/lang/Object") ∈ lw_all := lw_g (lw_at lw_m18 21 rfl) rfl
theorem q4387 : (Jvm.Cond.castable "StenohallModel$Sink" "java/lang/Object") ∈ lw_tbl := lw_at lw_m18 233 rfl
theorem in_X19 : ∀ w ∈ wsX190, w ∈ lw_all := lw_in wsX190 [4169, 4171, 4173] (by decide +kernel) (by decide +kernel)
/-! Stenohall$Contraction -/
set_option maxRecDepth 100000
def RX20 : String := "Stenohall$Contraction"
def TX20 : u_T := fun k => match k with
  | 0 => ("Stenohall$Contraction", "cell", "I", true)
  | _ => ("Stenohall$Contraction", "letters", "Ljava/lang/String;", true)
def tyX20 : Nat → FieldType := fun k => match k with
  | 0 => .int
  | _ => .object "java/lang/String"
abbrev wsX200 : List Cond := u_ws RX20 TX20 2
theorem nmX20 : ∀ a, a < 2 → ∀ b, b < 2 → a ≠ b → (TX20 a).2.1 ≠ (TX20 b).2.1 := by decide +kernel
theorem tyX20_ok : ∀ k, k < 2 → parseFieldDescriptor (TX20 k).2.2.1 = some (tyX20 k) := by decide +kernel
abbrev cX20_equals : ByteArray := prog_3_method_4_code
def yX20_equals : MethodName := ⟨RX20, "equals", "(Ljava/lang/Object;)Z"⟩
def dkwX20_equals_0 : List UInt8 := [42, 43, 186, 0, 25, 0, 0, 172]
abbrev dktX20_equals_0 : List UInt8 := dkwX20_equals_0 ++ []
theorem dksX20_equals_0 : cX20_equals.data.toList.drop 0 = dktX20_equals_0 := by decide +kernel
theorem dX20_equals_0 : decode cX20_equals 0 = .ok (.aload_n 0, 1) := dk_42 (dk_at dksX20_equals_0 0 rfl rfl)
theorem dX20_equals_1 : decode cX20_equals 1 = .ok (.aload_n 1, 1) := dk_43 (dk_at dksX20_equals_0 1 rfl rfl)
theorem dX20_equals_2 : decode cX20_equals 2 = .ok (.invokedynamic 25, 5) := by decide +kernel
theorem dX20_equals_7 : decode cX20_equals 7 = .ok (.ireturn, 1) := dk_172 (dk_at dksX20_equals_0 7 rfl rfl)
abbrev cX20_letters : ByteArray := prog_3_method_6_code
def yX20_letters : MethodName := ⟨RX20, "letters", "()Ljava/lang/String;"⟩
theorem dX20_letters_0 : decode cX20_letters 0 = .ok (.aload_n 0, 1) := by decide +kernel
theorem dX20_letters_1 : decode cX20_letters 1 = .ok (.getfield 13, 3) := by decide +kernel
theorem dX20_letters_4 : decode cX20_letters 4 = .ok (.areturn, 1) := by decide +kernel
abbrev cX20_cell : ByteArray := prog_3_method_5_code
def yX20_cell : MethodName := ⟨RX20, "cell", "()I"⟩
theorem dX20_cell_0 : decode cX20_cell 0 = .ok (.aload_n 0, 1) := by decide +kernel
theorem dX20_cell_1 : decode cX20_cell 1 = .ok (.getfield 7, 3) := by decide +kernel
theorem dX20_cell_4 : decode cX20_cell 4 = .ok (.ireturn, 1) := by decide +kernel
abbrev cX20_init : ByteArray := prog_3_method_1_code
def yX20_init : MethodName := ⟨RX20, "<init>", "(ILjava/lang/String;)V"⟩
def dkwX20_init_0 : List UInt8 := [42, 183, 0, 1, 42, 27, 181, 0, 7, 42, 44, 181, 0, 13, 177]
abbrev dktX20_init_0 : List UInt8 := dkwX20_init_0 ++ []
theorem dksX20_init_0 : cX20_init.data.toList.drop 0 = dktX20_init_0 := by decide +kernel
theorem dX20_init_0 : decode cX20_init 0 = .ok (.aload_n 0, 1) := dk_42 (dk_at dksX20_init_0 0 rfl rfl)
theorem dX20_init_1 : decode cX20_init 1 = .ok (.invokespecial 1, 3) := dk_183 0 1 (dk_at dksX20_init_0 1 rfl rfl)
theorem dX20_init_4 : decode cX20_init 4 = .ok (.aload_n 0, 1) := dk_42 (dk_at dksX20_init_0 4 rfl rfl)
theorem dX20_init_5 : decode cX20_init 5 = .ok (.iload_n 1, 1) := dk_27 (dk_at dksX20_init_0 5 rfl rfl)
theorem dX20_init_6 : decode cX20_init 6 = .ok (.putfield 7, 3) := dk_181 0 7 (dk_at dksX20_init_0 6 rfl rfl)
theorem dX20_init_9 : decode cX20_init 9 = .ok (.aload_n 0, 1) := dk_42 (dk_at dksX20_init_0 9 rfl rfl)
theorem dX20_init_10 : decode cX20_init 10 = .ok (.aload_n 2, 1) := dk_44 (dk_at dksX20_init_0 10 rfl rfl)
theorem dX20_init_11 : decode cX20_init 11 = .ok (.putfield 13, 3) := dk_181 0 13 (dk_at dksX20_init_0 11 rfl rfl)
theorem dX20_init_14 : decode cX20_init 14 = .ok (.return_, 1) := dk_177 (dk_at dksX20_init_0 14 rfl rfl)
theorem q153 : (Jvm.Cond.initialized "Stenohall$Contraction") ∈ lw_all := lw_g (lw_at lw_m1 79 rfl) rfl
theorem q305 : (Jvm.Cond.selects "Stenohall$Contraction" ({ cls := "java/lang/Object", name := "getClass", desc := "()Ljava/lang/Class;" } : Jvm.MethodName) ({ cls := "java/lang/Object", name := "getClass", desc := "()Ljava/lang/Class;" } : Jvm.MethodName)) ∈ lw_all := lw_g (lw_at lw_m1 231 rfl) rfl
theorem q928 : (Jvm.Cond.instanceMethod ({ cls := "Stenohall$Contraction", name := "equals", desc := "(Ljava/lang/Object;)Z" } : Jvm.MethodName)) ∈ lw_all := lw_g (lw_at lw_m4 134 rfl) rfl
theorem q929 : (Jvm.Cond.code ({ cls := "Stenohall$Contraction", name := "equals", desc := "(Ljava/lang/Object;)Z" } : Jvm.MethodName) prog_3_method_4_code (2 : Nat) (Option.some Jvm.ClassFile.FieldType.boolean)) ∈ lw_all := lw_g (lw_at lw_m4 135 rfl) rfl
theorem q958 : (Jvm.Cond.selects "Stenohall$Contraction" ({ cls := "java/lang/Object", name := "equals", desc := "(Ljava/lang/Object;)Z" } : Jvm.MethodName) ({ cls := "Stenohall$Contraction", name := "equals", desc := "(Ljava/lang/Object;)Z" } : Jvm.MethodName)) ∈ lw_all := lw_g (lw_at lw_m4 164 rfl) rfl
theorem q2434 : (Jvm.Cond.instanceMethod ({ cls := "Stenohall$Contraction", name := "letters", desc := "()Ljava/lang/String;" } : Jvm.MethodName)) ∈ lw_all := lw_g (lw_at lw_m10 200 rfl) rfl
theorem q2435 : (Jvm.Cond.selects "Stenohall$Contraction" ({ cls := "Stenohall$Contraction", name := "letters", desc := "()Ljava/lang/String;" } : Jvm.MethodName) ({ cls := "Stenohall$Contraction", name := "letters", desc := "()Ljava/lang/String;" } : Jvm.MethodName)) ∈ lw_all := lw_g (lw_at lw_m10 201 rfl) rfl
theorem q2436 : (Jvm.Cond.code ({ cls := "Stenohall$Contraction", name := "letters", desc := "()Ljava/lang/String;" } : Jvm.MethodName) prog_3_method_6_code (1 : Nat) (Option.some (Jvm.ClassFile.FieldType.object "java/lang/String"))) ∈ lw_all := lw_g (lw_at lw_m10 202 rfl) rfl
theorem q2445 : (Jvm.Cond.instanceMethod ({ cls := "Stenohall$Contraction", name := "cell", desc := "()I" } : Jvm.MethodName)) ∈ lw_all := lw_g (lw_at lw_m10 211 rfl) rfl
theorem q2446 : (Jvm.Cond.selects "Stenohall$Contraction" ({ cls := "Stenohall$Contraction", name := "cell", desc := "()I" } : Jvm.MethodName) ({ cls := "Stenohall$Contraction", name := "cell", desc := "()I" } : Jvm.MethodName)) ∈ lw_all := lw_g (lw_at lw_m10 212 rfl) rfl
theorem q2447 : (Jvm.Cond.code ({ cls := "Stenohall$Contraction", name := "cell", desc := "()I" } : Jvm.MethodName) prog_3_method_5_code (1 : Nat) (Option.some Jvm.ClassFile.FieldType.int)) ∈ lw_all := lw_g (lw_at lw_m10 213 rfl) rfl
theorem q3229 : (Jvm.Cond.instantiable "Stenohall$Contraction" (2 : Nat)) ∈ lw_all := lw_g (lw_at lw_m14 35 rfl) rfl
theorem q3231 : (Jvm.Cond.instanceMethod ({ cls := "Stenohall$Contraction", name := "<init>", desc := "(ILjava/lang/String;)V" } : Jvm.MethodName)) ∈ lw_all := lw_g (lw_at lw_m14 37 rfl) rfl
theorem q3232 : (Jvm.Cond.code ({ cls := "Stenohall$Contraction", name := "<init>", desc := "(ILjava/lang/String;)V" } : Jvm.MethodName) prog_3_method_1_code (3 : Nat) (Option.none : Option Jvm.ClassFile.FieldType)) ∈ lw_all := lw_g (lw_at lw_m14 38 rfl) rfl
theorem q3233 : (Jvm.Cond.methodLink "Stenohall$Contraction" (1 : Nat) ({ cls := "java/lang/Record", name := "<init>", desc := "()V" } : Jvm.MethodName)) ∈ lw_all := lw_g (lw_at lw_m14 39 rfl) rfl
theorem q3234 : (Jvm.Cond.fieldLink "Stenohall$Contraction" (7 : Nat) "Stenohall$Contraction" "cell" "I") ∈ lw_all := lw_g (lw_at lw_m14 40 rfl) rfl
theorem q3235 : (Jvm.Cond.fieldLink "Stenohall$Contraction" (13 : Nat) "Stenohall$Contraction" "letters" "Ljava/lang/String;") ∈ lw_all := lw_g (lw_at lw_m14 41 rfl) rfl
theorem q3236 : (Jvm.Cond.laysFinal "Stenohall$Contraction" "Stenohall$Contraction" "cell" "I") ∈ lw_all := lw_g (lw_at lw_m14 42 rfl) rfl
theorem q3237 : (Jvm.Cond.soleField "Stenohall$Contraction" "cell") ∈ lw_all := lw_g (lw_at lw_m14 43 rfl) rfl
theorem q3238 : (Jvm.Cond.laysFinal "Stenohall$Contraction" "Stenohall$Contraction" "letters" "Ljava/lang/String;") ∈ lw_all := lw_g (lw_at lw_m14 44 rfl) rfl
theorem q3239 : (Jvm.Cond.soleField "Stenohall$Contraction" "letters") ∈ lw_all := lw_g (lw_at lw_m14 45 rfl) rfl
theorem q3240 : (Jvm.Cond.superclass "Stenohall$Contraction" "java/lang/Record") ∈ lw_all := lw_g (lw_at lw_m14 46 rfl) rfl
theorem q4388 : (Jvm.Cond.castable "Stenohall$Contraction" "java/lang/Object") ∈ lw_tbl := lw_at lw_m18 234 rfl
theorem in_X20 : ∀ w ∈ wsX200, w ∈ lw_all := lw_in wsX200 [3236, 3238] (by decide +kernel) (by decide +kernel)
