/-! FirstdanceAgency -/
set_option maxRecDepth 100000
def RX1 : String := "FirstdanceAgency"
def TX1 : u_T := fun k => match k with
  | 0 => ("FirstdanceAgency", "players", "Ljava/util/List;", true)
  | 1 => ("FirstdanceAgency", "songs", "Ljava/util/List;", true)
  | 2 => ("FirstdanceAgency", "roads", "LFirstdanceAgency$Roads;", true)
  | 3 => ("FirstdanceAgency", "bands", "Ljava/util/List;", true)
  | 4 => ("FirstdanceAgency", "weddings", "Ljava/util/List;", true)
  | _ => ("FirstdanceAgency", "today", "I", false)
def tyX1 : Nat → FieldType := fun k => match k with
  | 0 => .object "java/util/List"
  | 1 => .object "java/util/List"
  | 2 => .object "FirstdanceAgency$Roads"
  | 3 => .object "java/util/List"
  | 4 => .object "java/util/List"
  | _ => .int
abbrev wsX10 : List Cond := u_ws RX1 TX1 6
theorem nmX1 : ∀ a, a < 6 → ∀ b, b < 6 → a ≠ b → (TX1 a).2.1 ≠ (TX1 b).2.1 := by decide +kernel
theorem tyX1_ok : ∀ k, k < 6 → parseFieldDescriptor (TX1 k).2.2.1 = some (tyX1 k) := by decide +kernel
abbrev cX1_init : ByteArray := prog_1_method_4_code
def yX1_init : MethodName := ⟨RX1, "<init>", "()V"⟩
def dkwX1_init_4 : List UInt8 := [132, 1, 1, 167, 255, 223, 177]
abbrev dktX1_init_4 : List UInt8 := dkwX1_init_4 ++ []
def dkwX1_init_3 : List UInt8 := [180, 0, 32, 187, 0, 48, 89, 27, 16, 12, 112, 8, 6, 3, 183, 0, 50, 185, 0, 53, 2, 0, 87]
abbrev dktX1_init_3 : List UInt8 := dkwX1_init_3 ++ dktX1_init_4
def dkwX1_init_2 : List UInt8 := [181, 0, 42, 42, 187, 0, 23, 89, 183, 0, 25, 181, 0, 45, 3, 60, 27, 16, 16, 162, 0, 33, 42]
abbrev dktX1_init_2 : List UInt8 := dkwX1_init_2 ++ dktX1_init_3
def dkwX1_init_1 : List UInt8 := [181, 0, 32, 42, 187, 0, 35, 89, 183, 0, 37, 181, 0, 38, 42, 187, 0, 23, 89, 183, 0, 25]
abbrev dktX1_init_1 : List UInt8 := dkwX1_init_1 ++ dktX1_init_2
def dkwX1_init_0 : List UInt8 := [42, 183, 0, 17, 42, 187, 0, 23, 89, 183, 0, 25, 181, 0, 26, 42, 187, 0, 23, 89, 183, 0, 25]
abbrev dktX1_init_0 : List UInt8 := dkwX1_init_0 ++ dktX1_init_1
theorem dksX1_init_0 : cX1_init.data.toList.drop 0 = dktX1_init_0 := by decide +kernel
theorem dksX1_init_1 : cX1_init.data.toList.drop 23 = dktX1_init_1 := dk_seg dksX1_init_0 23 rfl rfl
theorem dksX1_init_2 : cX1_init.data.toList.drop 45 = dktX1_init_2 := dk_seg dksX1_init_1 22 rfl rfl
theorem dksX1_init_3 : cX1_init.data.toList.drop 68 = dktX1_init_3 := dk_seg dksX1_init_2 23 rfl rfl
theorem dksX1_init_4 : cX1_init.data.toList.drop 91 = dktX1_init_4 := dk_seg dksX1_init_3 23 rfl rfl
theorem dX1_init_0 : decode cX1_init 0 = .ok (.aload_n 0, 1) := dk_42 (dk_at dksX1_init_0 0 rfl rfl)
theorem dX1_init_1 : decode cX1_init 1 = .ok (.invokespecial 17, 3) := dk_183 0 17 (dk_at dksX1_init_0 1 rfl rfl)
theorem dX1_init_4 : decode cX1_init 4 = .ok (.aload_n 0, 1) := dk_42 (dk_at dksX1_init_0 4 rfl rfl)
theorem dX1_init_5 : decode cX1_init 5 = .ok (.new 23, 3) := dk_187 0 23 (dk_at dksX1_init_0 5 rfl rfl)
theorem dX1_init_8 : decode cX1_init 8 = .ok (.dup, 1) := dk_89 (dk_at dksX1_init_0 8 rfl rfl)
theorem dX1_init_9 : decode cX1_init 9 = .ok (.invokespecial 25, 3) := dk_183 0 25 (dk_at dksX1_init_0 9 rfl rfl)
theorem dX1_init_12 : decode cX1_init 12 = .ok (.putfield 26, 3) := dk_181 0 26 (dk_at dksX1_init_0 12 rfl rfl)
theorem dX1_init_15 : decode cX1_init 15 = .ok (.aload_n 0, 1) := dk_42 (dk_at dksX1_init_0 15 rfl rfl)
theorem dX1_init_16 : decode cX1_init 16 = .ok (.new 23, 3) := dk_187 0 23 (dk_at dksX1_init_0 16 rfl rfl)
theorem dX1_init_19 : decode cX1_init 19 = .ok (.dup, 1) := dk_89 (dk_at dksX1_init_0 19 rfl rfl)
theorem dX1_init_20 : decode cX1_init 20 = .ok (.invokespecial 25, 3) := dk_183 0 25 (dk_at dksX1_init_0 20 rfl rfl)
theorem dX1_init_23 : decode cX1_init 23 = .ok (.putfield 32, 3) := dk_181 0 32 (dk_at dksX1_init_1 0 rfl rfl)
theorem dX1_init_26 : decode cX1_init 26 = .ok (.aload_n 0, 1) := dk_42 (dk_at dksX1_init_1 3 rfl rfl)
theorem dX1_init_27 : decode cX1_init 27 = .ok (.new 35, 3) := dk_187 0 35 (dk_at dksX1_init_1 4 rfl rfl)
theorem dX1_init_30 : decode cX1_init 30 = .ok (.dup, 1) := dk_89 (dk_at dksX1_init_1 7 rfl rfl)
theorem dX1_init_31 : decode cX1_init 31 = .ok (.invokespecial 37, 3) := dk_183 0 37 (dk_at dksX1_init_1 8 rfl rfl)
theorem dX1_init_34 : decode cX1_init 34 = .ok (.putfield 38, 3) := dk_181 0 38 (dk_at dksX1_init_1 11 rfl rfl)
theorem dX1_init_37 : decode cX1_init 37 = .ok (.aload_n 0, 1) := dk_42 (dk_at dksX1_init_1 14 rfl rfl)
theorem dX1_init_38 : decode cX1_init 38 = .ok (.new 23, 3) := dk_187 0 23 (dk_at dksX1_init_1 15 rfl rfl)
theorem dX1_init_41 : decode cX1_init 41 = .ok (.dup, 1) := dk_89 (dk_at dksX1_init_1 18 rfl rfl)
theorem dX1_init_42 : decode cX1_init 42 = .ok (.invokespecial 25, 3) := dk_183 0 25 (dk_at dksX1_init_1 19 rfl rfl)
theorem dX1_init_45 : decode cX1_init 45 = .ok (.putfield 42, 3) := dk_181 0 42 (dk_at dksX1_init_2 0 rfl rfl)
theorem dX1_init_48 : decode cX1_init 48 = .ok (.aload_n 0, 1) := dk_42 (dk_at dksX1_init_2 3 rfl rfl)
theorem dX1_init_49 : decode cX1_init 49 = .ok (.new 23, 3) := dk_187 0 23 (dk_at dksX1_init_2 4 rfl rfl)
theorem dX1_init_52 : decode cX1_init 52 = .ok (.dup, 1) := dk_89 (dk_at dksX1_init_2 7 rfl rfl)
theorem dX1_init_53 : decode cX1_init 53 = .ok (.invokespecial 25, 3) := dk_183 0 25 (dk_at dksX1_init_2 8 rfl rfl)
theorem dX1_init_56 : decode cX1_init 56 = .ok (.putfield 45, 3) := dk_181 0 45 (dk_at dksX1_init_2 11 rfl rfl)
theorem dX1_init_59 : decode cX1_init 59 = .ok (.iconst 0, 1) := dk_3 (dk_at dksX1_init_2 14 rfl rfl)
theorem dX1_init_60 : decode cX1_init 60 = .ok (.istore_n 1, 1) := dk_60 (dk_at dksX1_init_2 15 rfl rfl)
theorem dX1_init_61 : decode cX1_init 61 = .ok (.iload_n 1, 1) := dk_27 (dk_at dksX1_init_2 16 rfl rfl)
theorem dX1_init_62 : decode cX1_init 62 = .ok (.bipush 16, 2) := dk_16 16 (dk_at dksX1_init_2 17 rfl rfl)
theorem dX1_init_64 : decode cX1_init 64 = .ok (.if_icmp .ge 33, 3) := dk_162 0 33 (dk_at dksX1_init_2 19 rfl rfl)
theorem dX1_init_67 : decode cX1_init 67 = .ok (.aload_n 0, 1) := dk_42 (dk_at dksX1_init_2 22 rfl rfl)
theorem dX1_init_68 : decode cX1_init 68 = .ok (.getfield 32, 3) := dk_180 0 32 (dk_at dksX1_init_3 0 rfl rfl)
theorem dX1_init_71 : decode cX1_init 71 = .ok (.new 48, 3) := dk_187 0 48 (dk_at dksX1_init_3 3 rfl rfl)
theorem dX1_init_74 : decode cX1_init 74 = .ok (.dup, 1) := dk_89 (dk_at dksX1_init_3 6 rfl rfl)
theorem dX1_init_75 : decode cX1_init 75 = .ok (.iload_n 1, 1) := dk_27 (dk_at dksX1_init_3 7 rfl rfl)
theorem dX1_init_76 : decode cX1_init 76 = .ok (.bipush 12, 2) := dk_16 12 (dk_at dksX1_init_3 8 rfl rfl)
theorem dX1_init_78 : decode cX1_init 78 = .ok (.irem, 1) := dk_112 (dk_at dksX1_init_3 10 rfl rfl)
theorem dX1_init_79 : decode cX1_init 79 = .ok (.iconst 5, 1) := dk_8 (dk_at dksX1_init_3 11 rfl rfl)
theorem dX1_init_80 : decode cX1_init 80 = .ok (.iconst 3, 1) := dk_6 (dk_at dksX1_init_3 12 rfl rfl)
theorem dX1_init_81 : decode cX1_init 81 = .ok (.iconst 0, 1) := dk_3 (dk_at dksX1_init_3 13 rfl rfl)
theorem dX1_init_82 : decode cX1_init 82 = .ok (.invokespecial 50, 3) := dk_183 0 50 (dk_at dksX1_init_3 14 rfl rfl)
theorem dX1_init_85 : decode cX1_init 85 = .ok (.invokeinterface 53 2, 5) := by decide +kernel
theorem dX1_init_90 : decode cX1_init 90 = .ok (.pop, 1) := dk_87 (dk_at dksX1_init_3 22 rfl rfl)
theorem dX1_init_91 : decode cX1_init 91 = .ok (.iinc 1 1, 3) := dk_132 1 1 (dk_at dksX1_init_4 0 rfl rfl)
theorem dX1_init_94 : decode cX1_init 94 = .ok (.goto (-33), 3) := dk_167 255 223 (dk_at dksX1_init_4 3 rfl rfl)
theorem dX1_init_97 : decode cX1_init 97 = .ok (.return_, 1) := dk_177 (dk_at dksX1_init_4 6 rfl rfl)
abbrev cX1_isSound : ByteArray := prog_1_method_79_code
def yX1_isSound : MethodName := ⟨RX1, "isSound", "()Z"⟩
theorem dX1_isSound_0 : decode cX1_isSound 0 = .ok (.aload_n 0, 1) := by decide +kernel
theorem dX1_isSound_1 : decode cX1_isSound 1 = .ok (.invokevirtual 476, 3) := by decide +kernel
theorem dX1_isSound_4 : decode cX1_isSound 4 = .ok (.ireturn, 1) := by decide +kernel
abbrev cX1_isSoundNow : ByteArray := prog_1_method_78_code
def yX1_isSoundNow : MethodName := ⟨RX1, "isSoundNow", "()Z"⟩
def dkwX1_isSoundNow_7 : List UInt8 := [3, 172]
abbrev dktX1_isSoundNow_7 : List UInt8 := dkwX1_isSoundNow_7 ++ []
def dkwX1_isSoundNow_6 : List UInt8 := [16, 10, 182, 1, 175, 100, 160, 0, 18, 27, 154, 0, 14, 28, 17, 3, 232, 163, 0, 7, 4, 167, 0, 4]
abbrev dktX1_isSoundNow_6 : List UInt8 := dkwX1_isSoundNow_6 ++ dktX1_isSoundNow_7
def dkwX1_isSoundNow_5 : List UInt8 := [132, 3, 1, 167, 255, 239, 42, 182, 1, 217, 153, 0, 38, 42, 16, 8, 182, 1, 175, 42, 182, 1, 167, 42]
abbrev dktX1_isSoundNow_5 : List UInt8 := dkwX1_isSoundNow_5 ++ dktX1_isSoundNow_6
def dkwX1_isSoundNow_4 : List UInt8 := [132, 2, 1, 167, 255, 197, 3, 61, 3, 62, 29, 16, 16, 162, 0, 17, 28, 42, 29, 182, 1, 121, 96, 61]
abbrev dktX1_isSoundNow_4 : List UInt8 := dkwX1_isSoundNow_4 ++ dktX1_isSoundNow_5
def dkwX1_isSoundNow_3 : List UInt8 := [182, 0, 146, 153, 0, 18, 45, 180, 0, 168, 45, 180, 0, 195, 184, 0, 107, 104, 167, 0, 4, 3, 100, 60]
abbrev dktX1_isSoundNow_3 : List UInt8 := dkwX1_isSoundNow_3 ++ dktX1_isSoundNow_4
def dkwX1_isSoundNow_2 : List UInt8 := [162, 0, 52, 42, 180, 0, 45, 28, 185, 0, 80, 2, 0, 192, 0, 85, 78, 27, 45, 178, 1, 15]
abbrev dktX1_isSoundNow_2 : List UInt8 := dkwX1_isSoundNow_2 ++ dktX1_isSoundNow_3
def dkwX1_isSoundNow_1 : List UInt8 := [182, 1, 115, 96, 60, 132, 2, 1, 167, 255, 230, 3, 61, 28, 42, 180, 0, 45, 185, 0, 72, 1, 0]
abbrev dktX1_isSoundNow_1 : List UInt8 := dkwX1_isSoundNow_1 ++ dktX1_isSoundNow_2
def dkwX1_isSoundNow_0 : List UInt8 := [3, 60, 3, 61, 28, 42, 180, 0, 26, 185, 0, 72, 1, 0, 162, 0, 19, 27, 42, 28, 16, 8]
abbrev dktX1_isSoundNow_0 : List UInt8 := dkwX1_isSoundNow_0 ++ dktX1_isSoundNow_1
theorem dksX1_isSoundNow_0 : cX1_isSoundNow.data.toList.drop 0 = dktX1_isSoundNow_0 := by decide +kernel
theorem dksX1_isSoundNow_1 : cX1_isSoundNow.data.toList.drop 22 = dktX1_isSoundNow_1 := dk_seg dksX1_isSoundNow_0 22 rfl rfl
theorem dksX1_isSoundNow_2 : cX1_isSoundNow.data.toList.drop 45 = dktX1_isSoundNow_2 := dk_seg dksX1_isSoundNow_1 23 rfl rfl
theorem dksX1_isSoundNow_3 : cX1_isSoundNow.data.toList.drop 67 = dktX1_isSoundNow_3 := dk_seg dksX1_isSoundNow_2 22 rfl rfl
theorem dksX1_isSoundNow_4 : cX1_isSoundNow.data.toList.drop 91 = dktX1_isSoundNow_4 := dk_seg dksX1_isSoundNow_3 24 rfl rfl
theorem dksX1_isSoundNow_5 : cX1_isSoundNow.data.toList.drop 115 = dktX1_isSoundNow_5 := dk_seg dksX1_isSoundNow_4 24 rfl rfl
theorem dksX1_isSoundNow_6 : cX1_isSoundNow.data.toList.drop 139 = dktX1_isSoundNow_6 := dk_seg dksX1_isSoundNow_5 24 rfl rfl
theorem dksX1_isSoundNow_7 : cX1_isSoundNow.data.toList.drop 163 = dktX1_isSoundNow_7 := dk_seg dksX1_isSoundNow_6 24 rfl rfl
theorem dX1_isSoundNow_0 : decode cX1_isSoundNow 0 = .ok (.iconst 0, 1) := dk_3 (dk_at dksX1_isSoundNow_0 0 rfl rfl)
theorem dX1_isSoundNow_1 : decode cX1_isSoundNow 1 = .ok (.istore_n 1, 1) := dk_60 (dk_at dksX1_isSoundNow_0 1 rfl rfl)
theorem dX1_isSoundNow_2 : decode cX1_isSoundNow 2 = .ok (.iconst 0, 1) := dk_3 (dk_at dksX1_isSoundNow_0 2 rfl rfl)
theorem dX1_isSoundNow_3 : decode cX1_isSoundNow 3 = .ok (.istore_n 2, 1) := dk_61 (dk_at dksX1_isSoundNow_0 3 rfl rfl)
theorem dX1_isSoundNow_4 : decode cX1_isSoundNow 4 = .ok (.iload_n 2, 1) := dk_28 (dk_at dksX1_isSoundNow_0 4 rfl rfl)
theorem dX1_isSoundNow_5 : decode cX1_isSoundNow 5 = .ok (.aload_n 0, 1) := dk_42 (dk_at dksX1_isSoundNow_0 5 rfl rfl)
theorem dX1_isSoundNow_6 : decode cX1_isSoundNow 6 = .ok (.getfield 26, 3) := dk_180 0 26 (dk_at dksX1_isSoundNow_0 6 rfl rfl)
theorem dX1_isSoundNow_9 : decode cX1_isSoundNow 9 = .ok (.invokeinterface 72 1, 5) := by decide +kernel
theorem dX1_isSoundNow_14 : decode cX1_isSoundNow 14 = .ok (.if_icmp .ge 19, 3) := dk_162 0 19 (dk_at dksX1_isSoundNow_0 14 rfl rfl)
theorem dX1_isSoundNow_17 : decode cX1_isSoundNow 17 = .ok (.iload_n 1, 1) := dk_27 (dk_at dksX1_isSoundNow_0 17 rfl rfl)
theorem dX1_isSoundNow_18 : decode cX1_isSoundNow 18 = .ok (.aload_n 0, 1) := dk_42 (dk_at dksX1_isSoundNow_0 18 rfl rfl)
theorem dX1_isSoundNow_19 : decode cX1_isSoundNow 19 = .ok (.iload_n 2, 1) := dk_28 (dk_at dksX1_isSoundNow_0 19 rfl rfl)
theorem dX1_isSoundNow_20 : decode cX1_isSoundNow 20 = .ok (.bipush 8, 2) := dk_16 8 (dk_at dksX1_isSoundNow_0 20 rfl rfl)
theorem dX1_isSoundNow_22 : decode cX1_isSoundNow 22 = .ok (.invokevirtual 371, 3) := dk_182 1 115 (dk_at dksX1_isSoundNow_1 0 rfl rfl)
theorem dX1_isSoundNow_25 : decode cX1_isSoundNow 25 = .ok (.iadd, 1) := dk_96 (dk_at dksX1_isSoundNow_1 3 rfl rfl)
theorem dX1_isSoundNow_26 : decode cX1_isSoundNow 26 = .ok (.istore_n 1, 1) := dk_60 (dk_at dksX1_isSoundNow_1 4 rfl rfl)
theorem dX1_isSoundNow_27 : decode cX1_isSoundNow 27 = .ok (.iinc 2 1, 3) := dk_132 2 1 (dk_at dksX1_isSoundNow_1 5 rfl rfl)
theorem dX1_isSoundNow_30 : decode cX1_isSoundNow 30 = .ok (.goto (-26), 3) := dk_167 255 230 (dk_at dksX1_isSoundNow_1 8 rfl rfl)
theorem dX1_isSoundNow_33 : decode cX1_isSoundNow 33 = .ok (.iconst 0, 1) := dk_3 (dk_at dksX1_isSoundNow_1 11 rfl rfl)
theorem dX1_isSoundNow_34 : decode cX1_isSoundNow 34 = .ok (.istore_n 2, 1) := dk_61 (dk_at dksX1_isSoundNow_1 12 rfl rfl)
theorem dX1_isSoundNow_35 : decode cX1_isSoundNow 35 = .ok (.iload_n 2, 1) := dk_28 (dk_at dksX1_isSoundNow_1 13 rfl rfl)
theorem dX1_isSoundNow_36 : decode cX1_isSoundNow 36 = .ok (.aload_n 0, 1) := dk_42 (dk_at dksX1_isSoundNow_1 14 rfl rfl)
theorem dX1_isSoundNow_37 : decode cX1_isSoundNow 37 = .ok (.getfield 45, 3) := dk_180 0 45 (dk_at dksX1_isSoundNow_1 15 rfl rfl)
theorem dX1_isSoundNow_40 : decode cX1_isSoundNow 40 = .ok (.invokeinterface 72 1, 5) := by decide +kernel
theorem dX1_isSoundNow_45 : decode cX1_isSoundNow 45 = .ok (.if_icmp .ge 52, 3) := dk_162 0 52 (dk_at dksX1_isSoundNow_2 0 rfl rfl)
theorem dX1_isSoundNow_48 : decode cX1_isSoundNow 48 = .ok (.aload_n 0, 1) := dk_42 (dk_at dksX1_isSoundNow_2 3 rfl rfl)
theorem dX1_isSoundNow_49 : decode cX1_isSoundNow 49 = .ok (.getfield 45, 3) := dk_180 0 45 (dk_at dksX1_isSoundNow_2 4 rfl rfl)
theorem dX1_isSoundNow_52 : decode cX1_isSoundNow 52 = .ok (.iload_n 2, 1) := dk_28 (dk_at dksX1_isSoundNow_2 7 rfl rfl)
theorem dX1_isSoundNow_53 : decode cX1_isSoundNow 53 = .ok (.invokeinterface 80 2, 5) := by decide +kernel
theorem dX1_isSoundNow_58 : decode cX1_isSoundNow 58 = .ok (.checkcast 85, 3) := dk_192 0 85 (dk_at dksX1_isSoundNow_2 13 rfl rfl)
theorem dX1_isSoundNow_61 : decode cX1_isSoundNow 61 = .ok (.astore_n 3, 1) := dk_78 (dk_at dksX1_isSoundNow_2 16 rfl rfl)
theorem dX1_isSoundNow_62 : decode cX1_isSoundNow 62 = .ok (.iload_n 1, 1) := dk_27 (dk_at dksX1_isSoundNow_2 17 rfl rfl)
theorem dX1_isSoundNow_63 : decode cX1_isSoundNow 63 = .ok (.aload_n 3, 1) := dk_45 (dk_at dksX1_isSoundNow_2 18 rfl rfl)
theorem dX1_isSoundNow_64 : decode cX1_isSoundNow 64 = .ok (.getstatic 271, 3) := dk_178 1 15 (dk_at dksX1_isSoundNow_2 19 rfl rfl)
theorem dX1_isSoundNow_67 : decode cX1_isSoundNow 67 = .ok (.invokevirtual 146, 3) := dk_182 0 146 (dk_at dksX1_isSoundNow_3 0 rfl rfl)
theorem dX1_isSoundNow_70 : decode cX1_isSoundNow 70 = .ok (.ifCond .eq 18, 3) := dk_153 0 18 (dk_at dksX1_isSoundNow_3 3 rfl rfl)
theorem dX1_isSoundNow_73 : decode cX1_isSoundNow 73 = .ok (.aload_n 3, 1) := dk_45 (dk_at dksX1_isSoundNow_3 6 rfl rfl)
theorem dX1_isSoundNow_74 : decode cX1_isSoundNow 74 = .ok (.getfield 168, 3) := dk_180 0 168 (dk_at dksX1_isSoundNow_3 7 rfl rfl)
theorem dX1_isSoundNow_77 : decode cX1_isSoundNow 77 = .ok (.aload_n 3, 1) := dk_45 (dk_at dksX1_isSoundNow_3 10 rfl rfl)
theorem dX1_isSoundNow_78 : decode cX1_isSoundNow 78 = .ok (.getfield 195, 3) := dk_180 0 195 (dk_at dksX1_isSoundNow_3 11 rfl rfl)
theorem dX1_isSoundNow_81 : decode cX1_isSoundNow 81 = .ok (.invokestatic 107, 3) := dk_184 0 107 (dk_at dksX1_isSoundNow_3 14 rfl rfl)
theorem dX1_isSoundNow_84 : decode cX1_isSoundNow 84 = .ok (.imul, 1) := dk_104 (dk_at dksX1_isSoundNow_3 17 rfl rfl)
theorem dX1_isSoundNow_85 : decode cX1_isSoundNow 85 = .ok (.goto 4, 3) := dk_167 0 4 (dk_at dksX1_isSoundNow_3 18 rfl rfl)
theorem dX1_isSoundNow_88 : decode cX1_isSoundNow 88 = .ok (.iconst 0, 1) := dk_3 (dk_at dksX1_isSoundNow_3 21 rfl rfl)
theorem dX1_isSoundNow_89 : decode cX1_isSoundNow 89 = .ok (.isub, 1) := dk_100 (dk_at dksX1_isSoundNow_3 22 rfl rfl)
theorem dX1_isSoundNow_90 : decode cX1_isSoundNow 90 = .ok (.istore_n 1, 1) := dk_60 (dk_at dksX1_isSoundNow_3 23 rfl rfl)
theorem dX1_isSoundNow_91 : decode cX1_isSoundNow 91 = .ok (.iinc 2 1, 3) := dk_132 2 1 (dk_at dksX1_isSoundNow_4 0 rfl rfl)
theorem dX1_isSoundNow_94 : decode cX1_isSoundNow 94 = .ok (.goto (-59), 3) := dk_167 255 197 (dk_at dksX1_isSoundNow_4 3 rfl rfl)
theorem dX1_isSoundNow_97 : decode cX1_isSoundNow 97 = .ok (.iconst 0, 1) := dk_3 (dk_at dksX1_isSoundNow_4 6 rfl rfl)
theorem dX1_isSoundNow_98 : decode cX1_isSoundNow 98 = .ok (.istore_n 2, 1) := dk_61 (dk_at dksX1_isSoundNow_4 7 rfl rfl)
theorem dX1_isSoundNow_99 : decode cX1_isSoundNow 99 = .ok (.iconst 0, 1) := dk_3 (dk_at dksX1_isSoundNow_4 8 rfl rfl)
theorem dX1_isSoundNow_100 : decode cX1_isSoundNow 100 = .ok (.istore_n 3, 1) := dk_62 (dk_at dksX1_isSoundNow_4 9 rfl rfl)
theorem dX1_isSoundNow_101 : decode cX1_isSoundNow 101 = .ok (.iload_n 3, 1) := dk_29 (dk_at dksX1_isSoundNow_4 10 rfl rfl)
theorem dX1_isSoundNow_102 : decode cX1_isSoundNow 102 = .ok (.bipush 16, 2) := dk_16 16 (dk_at dksX1_isSoundNow_4 11 rfl rfl)
theorem dX1_isSoundNow_104 : decode cX1_isSoundNow 104 = .ok (.if_icmp .ge 17, 3) := dk_162 0 17 (dk_at dksX1_isSoundNow_4 13 rfl rfl)
theorem dX1_isSoundNow_107 : decode cX1_isSoundNow 107 = .ok (.iload_n 2, 1) := dk_28 (dk_at dksX1_isSoundNow_4 16 rfl rfl)
theorem dX1_isSoundNow_108 : decode cX1_isSoundNow 108 = .ok (.aload_n 0, 1) := dk_42 (dk_at dksX1_isSoundNow_4 17 rfl rfl)
theorem dX1_isSoundNow_109 : decode cX1_isSoundNow 109 = .ok (.iload_n 3, 1) := dk_29 (dk_at dksX1_isSoundNow_4 18 rfl rfl)
theorem dX1_isSoundNow_110 : decode cX1_isSoundNow 110 = .ok (.invokevirtual 377, 3) := dk_182 1 121 (dk_at dksX1_isSoundNow_4 19 rfl rfl)
theorem dX1_isSoundNow_113 : decode cX1_isSoundNow 113 = .ok (.iadd, 1) := dk_96 (dk_at dksX1_isSoundNow_4 22 rfl rfl)
theorem dX1_isSoundNow_114 : decode cX1_isSoundNow 114 = .ok (.istore_n 2, 1) := dk_61 (dk_at dksX1_isSoundNow_4 23 rfl rfl)
theorem dX1_isSoundNow_115 : decode cX1_isSoundNow 115 = .ok (.iinc 3 1, 3) := dk_132 3 1 (dk_at dksX1_isSoundNow_5 0 rfl rfl)
theorem dX1_isSoundNow_118 : decode cX1_isSoundNow 118 = .ok (.goto (-17), 3) := dk_167 255 239 (dk_at dksX1_isSoundNow_5 3 rfl rfl)
theorem dX1_isSoundNow_121 : decode cX1_isSoundNow 121 = .ok (.aload_n 0, 1) := dk_42 (dk_at dksX1_isSoundNow_5 6 rfl rfl)
theorem dX1_isSoundNow_122 : decode cX1_isSoundNow 122 = .ok (.invokevirtual 473, 3) := dk_182 1 217 (dk_at dksX1_isSoundNow_5 7 rfl rfl)
theorem dX1_isSoundNow_125 : decode cX1_isSoundNow 125 = .ok (.ifCond .eq 38, 3) := dk_153 0 38 (dk_at dksX1_isSoundNow_5 10 rfl rfl)
theorem dX1_isSoundNow_128 : decode cX1_isSoundNow 128 = .ok (.aload_n 0, 1) := dk_42 (dk_at dksX1_isSoundNow_5 13 rfl rfl)
theorem dX1_isSoundNow_129 : decode cX1_isSoundNow 129 = .ok (.bipush 8, 2) := dk_16 8 (dk_at dksX1_isSoundNow_5 14 rfl rfl)
theorem dX1_isSoundNow_131 : decode cX1_isSoundNow 131 = .ok (.invokevirtual 431, 3) := dk_182 1 175 (dk_at dksX1_isSoundNow_5 16 rfl rfl)
theorem dX1_isSoundNow_134 : decode cX1_isSoundNow 134 = .ok (.aload_n 0, 1) := dk_42 (dk_at dksX1_isSoundNow_5 19 rfl rfl)
theorem dX1_isSoundNow_135 : decode cX1_isSoundNow 135 = .ok (.invokevirtual 423, 3) := dk_182 1 167 (dk_at dksX1_isSoundNow_5 20 rfl rfl)
theorem dX1_isSoundNow_138 : decode cX1_isSoundNow 138 = .ok (.aload_n 0, 1) := dk_42 (dk_at dksX1_isSoundNow_5 23 rfl rfl)
theorem dX1_isSoundNow_139 : decode cX1_isSoundNow 139 = .ok (.bipush 10, 2) := dk_16 10 (dk_at dksX1_isSoundNow_6 0 rfl rfl)
theorem dX1_isSoundNow_141 : decode cX1_isSoundNow 141 = .ok (.invokevirtual 431, 3) := dk_182 1 175 (dk_at dksX1_isSoundNow_6 2 rfl rfl)
theorem dX1_isSoundNow_144 : decode cX1_isSoundNow 144 = .ok (.isub, 1) := dk_100 (dk_at dksX1_isSoundNow_6 5 rfl rfl)
theorem dX1_isSoundNow_145 : decode cX1_isSoundNow 145 = .ok (.if_icmp .ne 18, 3) := dk_160 0 18 (dk_at dksX1_isSoundNow_6 6 rfl rfl)
theorem dX1_isSoundNow_148 : decode cX1_isSoundNow 148 = .ok (.iload_n 1, 1) := dk_27 (dk_at dksX1_isSoundNow_6 9 rfl rfl)
theorem dX1_isSoundNow_149 : decode cX1_isSoundNow 149 = .ok (.ifCond .ne 14, 3) := dk_154 0 14 (dk_at dksX1_isSoundNow_6 10 rfl rfl)
theorem dX1_isSoundNow_152 : decode cX1_isSoundNow 152 = .ok (.iload_n 2, 1) := dk_28 (dk_at dksX1_isSoundNow_6 13 rfl rfl)
theorem dX1_isSoundNow_153 : decode cX1_isSoundNow 153 = .ok (.sipush 1000, 3) := dk_17 3 232 (dk_at dksX1_isSoundNow_6 14 rfl rfl)
theorem dX1_isSoundNow_156 : decode cX1_isSoundNow 156 = .ok (.if_icmp .gt 7, 3) := dk_163 0 7 (dk_at dksX1_isSoundNow_6 17 rfl rfl)
theorem dX1_isSoundNow_159 : decode cX1_isSoundNow 159 = .ok (.iconst 1, 1) := dk_4 (dk_at dksX1_isSoundNow_6 20 rfl rfl)
theorem dX1_isSoundNow_160 : decode cX1_isSoundNow 160 = .ok (.goto 4, 3) := dk_167 0 4 (dk_at dksX1_isSoundNow_6 21 rfl rfl)
theorem dX1_isSoundNow_163 : decode cX1_isSoundNow 163 = .ok (.iconst 0, 1) := dk_3 (dk_at dksX1_isSoundNow_7 0 rfl rfl)
theorem dX1_isSoundNow_164 : decode cX1_isSoundNow 164 = .ok (.ireturn, 1) := dk_172 (dk_at dksX1_isSoundNow_7 1 rfl rfl)
abbrev cX1_playerNow : ByteArray := prog_1_method_48_code
def yX1_playerNow : MethodName := ⟨RX1, "playerNow", "(II)I"⟩
def dkwX1_playerNow_4 : List UInt8 := [182, 1, 111, 172, 42, 27, 178, 1, 15, 4, 182, 1, 111, 172]
abbrev dktX1_playerNow_4 : List UInt8 := dkwX1_playerNow_4 ++ []
def dkwX1_playerNow_3 : List UInt8 := [172, 45, 180, 1, 21, 172, 42, 27, 178, 0, 140, 3, 182, 1, 111, 172, 42, 27, 178, 1, 15, 3]
abbrev dktX1_playerNow_3 : List UInt8 := dkwX1_playerNow_3 ++ dktX1_playerNow_4
def dkwX1_playerNow_2 : List UInt8 := [45, 180, 1, 108, 172, 45, 180, 0, 104, 172, 45, 180, 0, 171, 172, 45, 180, 0, 165, 172, 45, 180, 0, 120]
abbrev dktX1_playerNow_2 : List UInt8 := dkwX1_playerNow_2 ++ dktX1_playerNow_3
def dkwX1_playerNow_1 : List UInt8 := [170, 0, 0, 0, 95, 0, 0, 0, 0, 0, 0, 0, 7, 0, 0, 0, 45, 0, 0, 0, 50, 0, 0, 0, 55, 0, 0, 0, 60, 0, 0, 0, 65, 0, 0, 0, 70, 0, 0, 0, 75, 0, 0, 0, 85]
abbrev dktX1_playerNow_1 : List UInt8 := dkwX1_playerNow_1 ++ dktX1_playerNow_2
def dkwX1_playerNow_0 : List UInt8 := [42, 180, 0, 26, 27, 185, 0, 80, 2, 0, 192, 0, 83, 78, 28]
abbrev dktX1_playerNow_0 : List UInt8 := dkwX1_playerNow_0 ++ dktX1_playerNow_1
theorem dksX1_playerNow_0 : cX1_playerNow.data.toList.drop 0 = dktX1_playerNow_0 := by decide +kernel
theorem dksX1_playerNow_1 : cX1_playerNow.data.toList.drop 15 = dktX1_playerNow_1 := dk_seg dksX1_playerNow_0 15 rfl rfl
theorem dksX1_playerNow_2 : cX1_playerNow.data.toList.drop 60 = dktX1_playerNow_2 := dk_seg dksX1_playerNow_1 45 rfl rfl
theorem dksX1_playerNow_3 : cX1_playerNow.data.toList.drop 84 = dktX1_playerNow_3 := dk_seg dksX1_playerNow_2 24 rfl rfl
theorem dksX1_playerNow_4 : cX1_playerNow.data.toList.drop 106 = dktX1_playerNow_4 := dk_seg dksX1_playerNow_3 22 rfl rfl
theorem dX1_playerNow_0 : decode cX1_playerNow 0 = .ok (.aload_n 0, 1) := dk_42 (dk_at dksX1_playerNow_0 0 rfl rfl)
theorem dX1_playerNow_1 : decode cX1_playerNow 1 = .ok (.getfield 26, 3) := dk_180 0 26 (dk_at dksX1_playerNow_0 1 rfl rfl)
theorem dX1_playerNow_4 : decode cX1_playerNow 4 = .ok (.iload_n 1, 1) := dk_27 (dk_at dksX1_playerNow_0 4 rfl rfl)
theorem dX1_playerNow_5 : decode cX1_playerNow 5 = .ok (.invokeinterface 80 2, 5) := by decide +kernel
theorem dX1_playerNow_10 : decode cX1_playerNow 10 = .ok (.checkcast 83, 3) := dk_192 0 83 (dk_at dksX1_playerNow_0 10 rfl rfl)
theorem dX1_playerNow_13 : decode cX1_playerNow 13 = .ok (.astore_n 3, 1) := dk_78 (dk_at dksX1_playerNow_0 13 rfl rfl)
theorem dX1_playerNow_14 : decode cX1_playerNow 14 = .ok (.iload_n 2, 1) := dk_28 (dk_at dksX1_playerNow_0 14 rfl rfl)
theorem dX1_playerNow_15 : decode cX1_playerNow 15 = .ok (.tableswitch 95 0 7 #[45, 50, 55, 60, 65, 70, 75, 85], 45) := by decide +kernel
theorem dX1_playerNow_60 : decode cX1_playerNow 60 = .ok (.aload_n 3, 1) := dk_45 (dk_at dksX1_playerNow_2 0 rfl rfl)
theorem dX1_playerNow_61 : decode cX1_playerNow 61 = .ok (.getfield 364, 3) := dk_180 1 108 (dk_at dksX1_playerNow_2 1 rfl rfl)
theorem dX1_playerNow_64 : decode cX1_playerNow 64 = .ok (.ireturn, 1) := dk_172 (dk_at dksX1_playerNow_2 4 rfl rfl)
theorem dX1_playerNow_65 : decode cX1_playerNow 65 = .ok (.aload_n 3, 1) := dk_45 (dk_at dksX1_playerNow_2 5 rfl rfl)
theorem dX1_playerNow_66 : decode cX1_playerNow 66 = .ok (.getfield 104, 3) := dk_180 0 104 (dk_at dksX1_playerNow_2 6 rfl rfl)
theorem dX1_playerNow_69 : decode cX1_playerNow 69 = .ok (.ireturn, 1) := dk_172 (dk_at dksX1_playerNow_2 9 rfl rfl)
theorem dX1_playerNow_70 : decode cX1_playerNow 70 = .ok (.aload_n 3, 1) := dk_45 (dk_at dksX1_playerNow_2 10 rfl rfl)
theorem dX1_playerNow_71 : decode cX1_playerNow 71 = .ok (.getfield 171, 3) := dk_180 0 171 (dk_at dksX1_playerNow_2 11 rfl rfl)
theorem dX1_playerNow_74 : decode cX1_playerNow 74 = .ok (.ireturn, 1) := dk_172 (dk_at dksX1_playerNow_2 14 rfl rfl)
theorem dX1_playerNow_75 : decode cX1_playerNow 75 = .ok (.aload_n 3, 1) := dk_45 (dk_at dksX1_playerNow_2 15 rfl rfl)
theorem dX1_playerNow_76 : decode cX1_playerNow 76 = .ok (.getfield 165, 3) := dk_180 0 165 (dk_at dksX1_playerNow_2 16 rfl rfl)
theorem dX1_playerNow_79 : decode cX1_playerNow 79 = .ok (.ireturn, 1) := dk_172 (dk_at dksX1_playerNow_2 19 rfl rfl)
theorem dX1_playerNow_80 : decode cX1_playerNow 80 = .ok (.aload_n 3, 1) := dk_45 (dk_at dksX1_playerNow_2 20 rfl rfl)
theorem dX1_playerNow_81 : decode cX1_playerNow 81 = .ok (.getfield 120, 3) := dk_180 0 120 (dk_at dksX1_playerNow_2 21 rfl rfl)
theorem dX1_playerNow_84 : decode cX1_playerNow 84 = .ok (.ireturn, 1) := dk_172 (dk_at dksX1_playerNow_3 0 rfl rfl)
theorem dX1_playerNow_85 : decode cX1_playerNow 85 = .ok (.aload_n 3, 1) := dk_45 (dk_at dksX1_playerNow_3 1 rfl rfl)
theorem dX1_playerNow_86 : decode cX1_playerNow 86 = .ok (.getfield 277, 3) := dk_180 1 21 (dk_at dksX1_playerNow_3 2 rfl rfl)
theorem dX1_playerNow_89 : decode cX1_playerNow 89 = .ok (.ireturn, 1) := dk_172 (dk_at dksX1_playerNow_3 5 rfl rfl)
theorem dX1_playerNow_90 : decode cX1_playerNow 90 = .ok (.aload_n 0, 1) := dk_42 (dk_at dksX1_playerNow_3 6 rfl rfl)
theorem dX1_playerNow_91 : decode cX1_playerNow 91 = .ok (.iload_n 1, 1) := dk_27 (dk_at dksX1_playerNow_3 7 rfl rfl)
theorem dX1_playerNow_92 : decode cX1_playerNow 92 = .ok (.getstatic 140, 3) := dk_178 0 140 (dk_at dksX1_playerNow_3 8 rfl rfl)
theorem dX1_playerNow_95 : decode cX1_playerNow 95 = .ok (.iconst 0, 1) := dk_3 (dk_at dksX1_playerNow_3 11 rfl rfl)
theorem dX1_playerNow_96 : decode cX1_playerNow 96 = .ok (.invokevirtual 367, 3) := dk_182 1 111 (dk_at dksX1_playerNow_3 12 rfl rfl)
theorem dX1_playerNow_99 : decode cX1_playerNow 99 = .ok (.ireturn, 1) := dk_172 (dk_at dksX1_playerNow_3 15 rfl rfl)
theorem dX1_playerNow_100 : decode cX1_playerNow 100 = .ok (.aload_n 0, 1) := dk_42 (dk_at dksX1_playerNow_3 16 rfl rfl)
theorem dX1_playerNow_101 : decode cX1_playerNow 101 = .ok (.iload_n 1, 1) := dk_27 (dk_at dksX1_playerNow_3 17 rfl rfl)
theorem dX1_playerNow_102 : decode cX1_playerNow 102 = .ok (.getstatic 271, 3) := dk_178 1 15 (dk_at dksX1_playerNow_3 18 rfl rfl)
theorem dX1_playerNow_105 : decode cX1_playerNow 105 = .ok (.iconst 0, 1) := dk_3 (dk_at dksX1_playerNow_3 21 rfl rfl)
theorem dX1_playerNow_106 : decode cX1_playerNow 106 = .ok (.invokevirtual 367, 3) := dk_182 1 111 (dk_at dksX1_playerNow_4 0 rfl rfl)
theorem dX1_playerNow_109 : decode cX1_playerNow 109 = .ok (.ireturn, 1) := dk_172 (dk_at dksX1_playerNow_4 3 rfl rfl)
theorem dX1_playerNow_110 : decode cX1_playerNow 110 = .ok (.aload_n 0, 1) := dk_42 (dk_at dksX1_playerNow_4 4 rfl rfl)
theorem dX1_playerNow_111 : decode cX1_playerNow 111 = .ok (.iload_n 1, 1) := dk_27 (dk_at dksX1_playerNow_4 5 rfl rfl)
theorem dX1_playerNow_112 : decode cX1_playerNow 112 = .ok (.getstatic 271, 3) := dk_178 1 15 (dk_at dksX1_playerNow_4 6 rfl rfl)
theorem dX1_playerNow_115 : decode cX1_playerNow 115 = .ok (.iconst 1, 1) := dk_4 (dk_at dksX1_playerNow_4 9 rfl rfl)
theorem dX1_playerNow_116 : decode cX1_playerNow 116 = .ok (.invokevirtual 367, 3) := dk_182 1 111 (dk_at dksX1_playerNow_4 10 rfl rfl)
theorem dX1_playerNow_119 : decode cX1_playerNow 119 = .ok (.ireturn, 1) := dk_172 (dk_at dksX1_playerNow_4 13 rfl rfl)
abbrev cX1_weddingsOf : ByteArray := prog_1_method_47_code
def yX1_weddingsOf : MethodName := ⟨RX1, "weddingsOf", "(ILFirstdanceAgency$State;Z)I"⟩
def dkwX1_weddingsOf_3 : List UInt8 := [4, 167, 0, 4, 3, 96, 54, 4, 132, 5, 1, 167, 255, 180, 21, 4, 172]
abbrev dktX1_weddingsOf_3 : List UInt8 := dkwX1_weddingsOf_3 ++ []
def dkwX1_weddingsOf_2 : List UInt8 := [25, 6, 180, 0, 195, 27, 184, 0, 123, 153, 0, 19, 29, 153, 0, 11, 25, 6, 180, 0, 168, 167, 0, 8]
abbrev dktX1_weddingsOf_2 : List UInt8 := dkwX1_weddingsOf_2 ++ dktX1_weddingsOf_3
def dkwX1_weddingsOf_1 : List UInt8 := [21, 5, 185, 0, 80, 2, 0, 192, 0, 85, 58, 6, 21, 4, 25, 6, 44, 182, 0, 146, 153, 0, 31]
abbrev dktX1_weddingsOf_1 : List UInt8 := dkwX1_weddingsOf_1 ++ dktX1_weddingsOf_2
def dkwX1_weddingsOf_0 : List UInt8 := [3, 54, 4, 3, 54, 5, 21, 5, 42, 180, 0, 45, 185, 0, 72, 1, 0, 162, 0, 68, 42, 180, 0, 45]
abbrev dktX1_weddingsOf_0 : List UInt8 := dkwX1_weddingsOf_0 ++ dktX1_weddingsOf_1
theorem dksX1_weddingsOf_0 : cX1_weddingsOf.data.toList.drop 0 = dktX1_weddingsOf_0 := by decide +kernel
theorem dksX1_weddingsOf_1 : cX1_weddingsOf.data.toList.drop 24 = dktX1_weddingsOf_1 := dk_seg dksX1_weddingsOf_0 24 rfl rfl
theorem dksX1_weddingsOf_2 : cX1_weddingsOf.data.toList.drop 47 = dktX1_weddingsOf_2 := dk_seg dksX1_weddingsOf_1 23 rfl rfl
theorem dksX1_weddingsOf_3 : cX1_weddingsOf.data.toList.drop 71 = dktX1_weddingsOf_3 := dk_seg dksX1_weddingsOf_2 24 rfl rfl
theorem dX1_weddingsOf_0 : decode cX1_weddingsOf 0 = .ok (.iconst 0, 1) := dk_3 (dk_at dksX1_weddingsOf_0 0 rfl rfl)
theorem dX1_weddingsOf_1 : decode cX1_weddingsOf 1 = .ok (.istore 4, 2) := dk_54 4 (dk_at dksX1_weddingsOf_0 1 rfl rfl)
theorem dX1_weddingsOf_3 : decode cX1_weddingsOf 3 = .ok (.iconst 0, 1) := dk_3 (dk_at dksX1_weddingsOf_0 3 rfl rfl)
theorem dX1_weddingsOf_4 : decode cX1_weddingsOf 4 = .ok (.istore 5, 2) := dk_54 5 (dk_at dksX1_weddingsOf_0 4 rfl rfl)
theorem dX1_weddingsOf_6 : decode cX1_weddingsOf 6 = .ok (.iload 5, 2) := dk_21 5 (dk_at dksX1_weddingsOf_0 6 rfl rfl)
theorem dX1_weddingsOf_8 : decode cX1_weddingsOf 8 = .ok (.aload_n 0, 1) := dk_42 (dk_at dksX1_weddingsOf_0 8 rfl rfl)
theorem dX1_weddingsOf_9 : decode cX1_weddingsOf 9 = .ok (.getfield 45, 3) := dk_180 0 45 (dk_at dksX1_weddingsOf_0 9 rfl rfl)
theorem dX1_weddingsOf_12 : decode cX1_weddingsOf 12 = .ok (.invokeinterface 72 1, 5) := by decide +kernel
theorem dX1_weddingsOf_17 : decode cX1_weddingsOf 17 = .ok (.if_icmp .ge 68, 3) := dk_162 0 68 (dk_at dksX1_weddingsOf_0 17 rfl rfl)
theorem dX1_weddingsOf_20 : decode cX1_weddingsOf 20 = .ok (.aload_n 0, 1) := dk_42 (dk_at dksX1_weddingsOf_0 20 rfl rfl)
theorem dX1_weddingsOf_21 : decode cX1_weddingsOf 21 = .ok (.getfield 45, 3) := dk_180 0 45 (dk_at dksX1_weddingsOf_0 21 rfl rfl)
theorem dX1_weddingsOf_24 : decode cX1_weddingsOf 24 = .ok (.iload 5, 2) := dk_21 5 (dk_at dksX1_weddingsOf_1 0 rfl rfl)
theorem dX1_weddingsOf_26 : decode cX1_weddingsOf 26 = .ok (.invokeinterface 80 2, 5) := by decide +kernel
theorem dX1_weddingsOf_31 : decode cX1_weddingsOf 31 = .ok (.checkcast 85, 3) := dk_192 0 85 (dk_at dksX1_weddingsOf_1 7 rfl rfl)
theorem dX1_weddingsOf_34 : decode cX1_weddingsOf 34 = .ok (.astore 6, 2) := dk_58 6 (dk_at dksX1_weddingsOf_1 10 rfl rfl)
theorem dX1_weddingsOf_36 : decode cX1_weddingsOf 36 = .ok (.iload 4, 2) := dk_21 4 (dk_at dksX1_weddingsOf_1 12 rfl rfl)
theorem dX1_weddingsOf_38 : decode cX1_weddingsOf 38 = .ok (.aload 6, 2) := dk_25 6 (dk_at dksX1_weddingsOf_1 14 rfl rfl)
theorem dX1_weddingsOf_40 : decode cX1_weddingsOf 40 = .ok (.aload_n 2, 1) := dk_44 (dk_at dksX1_weddingsOf_1 16 rfl rfl)
theorem dX1_weddingsOf_41 : decode cX1_weddingsOf 41 = .ok (.invokevirtual 146, 3) := dk_182 0 146 (dk_at dksX1_weddingsOf_1 17 rfl rfl)
theorem dX1_weddingsOf_44 : decode cX1_weddingsOf 44 = .ok (.ifCond .eq 31, 3) := dk_153 0 31 (dk_at dksX1_weddingsOf_1 20 rfl rfl)
theorem dX1_weddingsOf_47 : decode cX1_weddingsOf 47 = .ok (.aload 6, 2) := dk_25 6 (dk_at dksX1_weddingsOf_2 0 rfl rfl)
theorem dX1_weddingsOf_49 : decode cX1_weddingsOf 49 = .ok (.getfield 195, 3) := dk_180 0 195 (dk_at dksX1_weddingsOf_2 2 rfl rfl)
theorem dX1_weddingsOf_52 : decode cX1_weddingsOf 52 = .ok (.iload_n 1, 1) := dk_27 (dk_at dksX1_weddingsOf_2 5 rfl rfl)
theorem dX1_weddingsOf_53 : decode cX1_weddingsOf 53 = .ok (.invokestatic 123, 3) := dk_184 0 123 (dk_at dksX1_weddingsOf_2 6 rfl rfl)
theorem dX1_weddingsOf_56 : decode cX1_weddingsOf 56 = .ok (.ifCond .eq 19, 3) := dk_153 0 19 (dk_at dksX1_weddingsOf_2 9 rfl rfl)
theorem dX1_weddingsOf_59 : decode cX1_weddingsOf 59 = .ok (.iload_n 3, 1) := dk_29 (dk_at dksX1_weddingsOf_2 12 rfl rfl)
theorem dX1_weddingsOf_60 : decode cX1_weddingsOf 60 = .ok (.ifCond .eq 11, 3) := dk_153 0 11 (dk_at dksX1_weddingsOf_2 13 rfl rfl)
theorem dX1_weddingsOf_63 : decode cX1_weddingsOf 63 = .ok (.aload 6, 2) := dk_25 6 (dk_at dksX1_weddingsOf_2 16 rfl rfl)
theorem dX1_weddingsOf_65 : decode cX1_weddingsOf 65 = .ok (.getfield 168, 3) := dk_180 0 168 (dk_at dksX1_weddingsOf_2 18 rfl rfl)
theorem dX1_weddingsOf_68 : decode cX1_weddingsOf 68 = .ok (.goto 8, 3) := dk_167 0 8 (dk_at dksX1_weddingsOf_2 21 rfl rfl)
theorem dX1_weddingsOf_71 : decode cX1_weddingsOf 71 = .ok (.iconst 1, 1) := dk_4 (dk_at dksX1_weddingsOf_3 0 rfl rfl)
theorem dX1_weddingsOf_72 : decode cX1_weddingsOf 72 = .ok (.goto 4, 3) := dk_167 0 4 (dk_at dksX1_weddingsOf_3 1 rfl rfl)
theorem dX1_weddingsOf_75 : decode cX1_weddingsOf 75 = .ok (.iconst 0, 1) := dk_3 (dk_at dksX1_weddingsOf_3 4 rfl rfl)
theorem dX1_weddingsOf_76 : decode cX1_weddingsOf 76 = .ok (.iadd, 1) := dk_96 (dk_at dksX1_weddingsOf_3 5 rfl rfl)
theorem dX1_weddingsOf_77 : decode cX1_weddingsOf 77 = .ok (.istore 4, 2) := dk_54 4 (dk_at dksX1_weddingsOf_3 6 rfl rfl)
theorem dX1_weddingsOf_79 : decode cX1_weddingsOf 79 = .ok (.iinc 5 1, 3) := dk_132 5 1 (dk_at dksX1_weddingsOf_3 8 rfl rfl)
theorem dX1_weddingsOf_82 : decode cX1_weddingsOf 82 = .ok (.goto (-76), 3) := dk_167 255 180 (dk_at dksX1_weddingsOf_3 11 rfl rfl)
theorem dX1_weddingsOf_85 : decode cX1_weddingsOf 85 = .ok (.iload 4, 2) := dk_21 4 (dk_at dksX1_weddingsOf_3 14 rfl rfl)
theorem dX1_weddingsOf_87 : decode cX1_weddingsOf 87 = .ok (.ireturn, 1) := dk_172 (dk_at dksX1_weddingsOf_3 16 rfl rfl)
abbrev cX1_has : ByteArray := prog_1_method_1_code
def yX1_has : MethodName := ⟨RX1, "has", "(II)Z"⟩
def dkwX1_has_0 : List UInt8 := [26, 27, 122, 4, 126, 4, 160, 0, 7, 4, 167, 0, 4, 3, 172]
abbrev dktX1_has_0 : List UInt8 := dkwX1_has_0 ++ []
theorem dksX1_has_0 : cX1_has.data.toList.drop 0 = dktX1_has_0 := by decide +kernel
theorem dX1_has_0 : decode cX1_has 0 = .ok (.iload_n 0, 1) := dk_26 (dk_at dksX1_has_0 0 rfl rfl)
theorem dX1_has_1 : decode cX1_has 1 = .ok (.iload_n 1, 1) := dk_27 (dk_at dksX1_has_0 1 rfl rfl)
theorem dX1_has_2 : decode cX1_has 2 = .ok (.ishr, 1) := dk_122 (dk_at dksX1_has_0 2 rfl rfl)
theorem dX1_has_3 : decode cX1_has 3 = .ok (.iconst 1, 1) := dk_4 (dk_at dksX1_has_0 3 rfl rfl)
theorem dX1_has_4 : decode cX1_has 4 = .ok (.iand, 1) := dk_126 (dk_at dksX1_has_0 4 rfl rfl)
theorem dX1_has_5 : decode cX1_has 5 = .ok (.iconst 1, 1) := dk_4 (dk_at dksX1_has_0 5 rfl rfl)
theorem dX1_has_6 : decode cX1_has 6 = .ok (.if_icmp .ne 7, 3) := dk_160 0 7 (dk_at dksX1_has_0 6 rfl rfl)
theorem dX1_has_9 : decode cX1_has 9 = .ok (.iconst 1, 1) := dk_4 (dk_at dksX1_has_0 9 rfl rfl)
theorem dX1_has_10 : decode cX1_has 10 = .ok (.goto 4, 3) := dk_167 0 4 (dk_at dksX1_has_0 10 rfl rfl)
theorem dX1_has_13 : decode cX1_has 13 = .ok (.iconst 0, 1) := dk_3 (dk_at dksX1_has_0 13 rfl rfl)
theorem dX1_has_14 : decode cX1_has 14 = .ok (.ireturn, 1) := dk_172 (dk_at dksX1_has_0 14 rfl rfl)
abbrev cX1_size : ByteArray := prog_1_method_2_code
def yX1_size : MethodName := ⟨RX1, "size", "(I)I"⟩
def dkwX1_size_0 : List UInt8 := [3, 60, 26, 61, 28, 153, 0, 15, 132, 1, 1, 28, 28, 4, 100, 126, 61, 167, 255, 243, 27, 172]
abbrev dktX1_size_0 : List UInt8 := dkwX1_size_0 ++ []
theorem dksX1_size_0 : cX1_size.data.toList.drop 0 = dktX1_size_0 := by decide +kernel
theorem dX1_size_0 : decode cX1_size 0 = .ok (.iconst 0, 1) := dk_3 (dk_at dksX1_size_0 0 rfl rfl)
theorem dX1_size_1 : decode cX1_size 1 = .ok (.istore_n 1, 1) := dk_60 (dk_at dksX1_size_0 1 rfl rfl)
theorem dX1_size_2 : decode cX1_size 2 = .ok (.iload_n 0, 1) := dk_26 (dk_at dksX1_size_0 2 rfl rfl)
theorem dX1_size_3 : decode cX1_size 3 = .ok (.istore_n 2, 1) := dk_61 (dk_at dksX1_size_0 3 rfl rfl)
theorem dX1_size_4 : decode cX1_size 4 = .ok (.iload_n 2, 1) := dk_28 (dk_at dksX1_size_0 4 rfl rfl)
theorem dX1_size_5 : decode cX1_size 5 = .ok (.ifCond .eq 15, 3) := dk_153 0 15 (dk_at dksX1_size_0 5 rfl rfl)
theorem dX1_size_8 : decode cX1_size 8 = .ok (.iinc 1 1, 3) := dk_132 1 1 (dk_at dksX1_size_0 8 rfl rfl)
theorem dX1_size_11 : decode cX1_size 11 = .ok (.iload_n 2, 1) := dk_28 (dk_at dksX1_size_0 11 rfl rfl)
theorem dX1_size_12 : decode cX1_size 12 = .ok (.iload_n 2, 1) := dk_28 (dk_at dksX1_size_0 12 rfl rfl)
theorem dX1_size_13 : decode cX1_size 13 = .ok (.iconst 1, 1) := dk_4 (dk_at dksX1_size_0 13 rfl rfl)
theorem dX1_size_14 : decode cX1_size 14 = .ok (.isub, 1) := dk_100 (dk_at dksX1_size_0 14 rfl rfl)
theorem dX1_size_15 : decode cX1_size 15 = .ok (.iand, 1) := dk_126 (dk_at dksX1_size_0 15 rfl rfl)
theorem dX1_size_16 : decode cX1_size 16 = .ok (.istore_n 2, 1) := dk_61 (dk_at dksX1_size_0 16 rfl rfl)
theorem dX1_size_17 : decode cX1_size 17 = .ok (.goto (-13), 3) := dk_167 255 243 (dk_at dksX1_size_0 17 rfl rfl)
theorem dX1_size_20 : decode cX1_size 20 = .ok (.iload_n 1, 1) := dk_27 (dk_at dksX1_size_0 20 rfl rfl)
theorem dX1_size_21 : decode cX1_size 21 = .ok (.ireturn, 1) := dk_172 (dk_at dksX1_size_0 21 rfl rfl)
abbrev cX1_share : ByteArray := prog_1_method_46_code
def yX1_share : MethodName := ⟨RX1, "share", "(I)I"⟩
def dkwX1_share_4 : List UInt8 := [192, 0, 48, 180, 0, 110, 104, 28, 108, 172]
abbrev dktX1_share_4 : List UInt8 := dkwX1_share_4 ++ []
def dkwX1_share_3 : List UInt8 := [185, 0, 80, 2, 0, 192, 0, 48, 180, 0, 117, 104, 42, 180, 0, 32, 27, 185, 0, 80, 2, 0]
abbrev dktX1_share_3 : List UInt8 := dkwX1_share_3 ++ dktX1_share_4
def dkwX1_share_2 : List UInt8 := [132, 3, 1, 167, 255, 211, 28, 154, 0, 7, 3, 167, 0, 42, 17, 3, 232, 42, 180, 0, 32, 27]
abbrev dktX1_share_2 : List UInt8 := dkwX1_share_2 ++ dktX1_share_3
def dkwX1_share_1 : List UInt8 := [180, 0, 117, 42, 180, 0, 32, 29, 185, 0, 80, 2, 0, 192, 0, 48, 180, 0, 110, 104, 96, 61]
abbrev dktX1_share_1 : List UInt8 := dkwX1_share_1 ++ dktX1_share_2
def dkwX1_share_0 : List UInt8 := [3, 61, 3, 62, 29, 16, 16, 162, 0, 45, 28, 42, 180, 0, 32, 29, 185, 0, 80, 2, 0, 192, 0, 48]
abbrev dktX1_share_0 : List UInt8 := dkwX1_share_0 ++ dktX1_share_1
theorem dksX1_share_0 : cX1_share.data.toList.drop 0 = dktX1_share_0 := by decide +kernel
theorem dksX1_share_1 : cX1_share.data.toList.drop 24 = dktX1_share_1 := dk_seg dksX1_share_0 24 rfl rfl
theorem dksX1_share_2 : cX1_share.data.toList.drop 46 = dktX1_share_2 := dk_seg dksX1_share_1 22 rfl rfl
theorem dksX1_share_3 : cX1_share.data.toList.drop 68 = dktX1_share_3 := dk_seg dksX1_share_2 22 rfl rfl
theorem dksX1_share_4 : cX1_share.data.toList.drop 90 = dktX1_share_4 := dk_seg dksX1_share_3 22 rfl rfl
theorem dX1_share_0 : decode cX1_share 0 = .ok (.iconst 0, 1) := dk_3 (dk_at dksX1_share_0 0 rfl rfl)
theorem dX1_share_1 : decode cX1_share 1 = .ok (.istore_n 2, 1) := dk_61 (dk_at dksX1_share_0 1 rfl rfl)
theorem dX1_share_2 : decode cX1_share 2 = .ok (.iconst 0, 1) := dk_3 (dk_at dksX1_share_0 2 rfl rfl)
theorem dX1_share_3 : decode cX1_share 3 = .ok (.istore_n 3, 1) := dk_62 (dk_at dksX1_share_0 3 rfl rfl)
theorem dX1_share_4 : decode cX1_share 4 = .ok (.iload_n 3, 1) := dk_29 (dk_at dksX1_share_0 4 rfl rfl)
theorem dX1_share_5 : decode cX1_share 5 = .ok (.bipush 16, 2) := dk_16 16 (dk_at dksX1_share_0 5 rfl rfl)
theorem dX1_share_7 : decode cX1_share 7 = .ok (.if_icmp .ge 45, 3) := dk_162 0 45 (dk_at dksX1_share_0 7 rfl rfl)
theorem dX1_share_10 : decode cX1_share 10 = .ok (.iload_n 2, 1) := dk_28 (dk_at dksX1_share_0 10 rfl rfl)
theorem dX1_share_11 : decode cX1_share 11 = .ok (.aload_n 0, 1) := dk_42 (dk_at dksX1_share_0 11 rfl rfl)
theorem dX1_share_12 : decode cX1_share 12 = .ok (.getfield 32, 3) := dk_180 0 32 (dk_at dksX1_share_0 12 rfl rfl)
theorem dX1_share_15 : decode cX1_share 15 = .ok (.iload_n 3, 1) := dk_29 (dk_at dksX1_share_0 15 rfl rfl)
theorem dX1_share_16 : decode cX1_share 16 = .ok (.invokeinterface 80 2, 5) := by decide +kernel
theorem dX1_share_21 : decode cX1_share 21 = .ok (.checkcast 48, 3) := dk_192 0 48 (dk_at dksX1_share_0 21 rfl rfl)
theorem dX1_share_24 : decode cX1_share 24 = .ok (.getfield 117, 3) := dk_180 0 117 (dk_at dksX1_share_1 0 rfl rfl)
theorem dX1_share_27 : decode cX1_share 27 = .ok (.aload_n 0, 1) := dk_42 (dk_at dksX1_share_1 3 rfl rfl)
theorem dX1_share_28 : decode cX1_share 28 = .ok (.getfield 32, 3) := dk_180 0 32 (dk_at dksX1_share_1 4 rfl rfl)
theorem dX1_share_31 : decode cX1_share 31 = .ok (.iload_n 3, 1) := dk_29 (dk_at dksX1_share_1 7 rfl rfl)
theorem dX1_share_32 : decode cX1_share 32 = .ok (.invokeinterface 80 2, 5) := by decide +kernel
theorem dX1_share_37 : decode cX1_share 37 = .ok (.checkcast 48, 3) := dk_192 0 48 (dk_at dksX1_share_1 13 rfl rfl)
theorem dX1_share_40 : decode cX1_share 40 = .ok (.getfield 110, 3) := dk_180 0 110 (dk_at dksX1_share_1 16 rfl rfl)
theorem dX1_share_43 : decode cX1_share 43 = .ok (.imul, 1) := dk_104 (dk_at dksX1_share_1 19 rfl rfl)
theorem dX1_share_44 : decode cX1_share 44 = .ok (.iadd, 1) := dk_96 (dk_at dksX1_share_1 20 rfl rfl)
theorem dX1_share_45 : decode cX1_share 45 = .ok (.istore_n 2, 1) := dk_61 (dk_at dksX1_share_1 21 rfl rfl)
theorem dX1_share_46 : decode cX1_share 46 = .ok (.iinc 3 1, 3) := dk_132 3 1 (dk_at dksX1_share_2 0 rfl rfl)
theorem dX1_share_49 : decode cX1_share 49 = .ok (.goto (-45), 3) := dk_167 255 211 (dk_at dksX1_share_2 3 rfl rfl)
theorem dX1_share_52 : decode cX1_share 52 = .ok (.iload_n 2, 1) := dk_28 (dk_at dksX1_share_2 6 rfl rfl)
theorem dX1_share_53 : decode cX1_share 53 = .ok (.ifCond .ne 7, 3) := dk_154 0 7 (dk_at dksX1_share_2 7 rfl rfl)
theorem dX1_share_56 : decode cX1_share 56 = .ok (.iconst 0, 1) := dk_3 (dk_at dksX1_share_2 10 rfl rfl)
theorem dX1_share_57 : decode cX1_share 57 = .ok (.goto 42, 3) := dk_167 0 42 (dk_at dksX1_share_2 11 rfl rfl)
theorem dX1_share_60 : decode cX1_share 60 = .ok (.sipush 1000, 3) := dk_17 3 232 (dk_at dksX1_share_2 14 rfl rfl)
theorem dX1_share_63 : decode cX1_share 63 = .ok (.aload_n 0, 1) := dk_42 (dk_at dksX1_share_2 17 rfl rfl)
theorem dX1_share_64 : decode cX1_share 64 = .ok (.getfield 32, 3) := dk_180 0 32 (dk_at dksX1_share_2 18 rfl rfl)
theorem dX1_share_67 : decode cX1_share 67 = .ok (.iload_n 1, 1) := dk_27 (dk_at dksX1_share_2 21 rfl rfl)
theorem dX1_share_68 : decode cX1_share 68 = .ok (.invokeinterface 80 2, 5) := by decide +kernel
theorem dX1_share_73 : decode cX1_share 73 = .ok (.checkcast 48, 3) := dk_192 0 48 (dk_at dksX1_share_3 5 rfl rfl)
theorem dX1_share_76 : decode cX1_share 76 = .ok (.getfield 117, 3) := dk_180 0 117 (dk_at dksX1_share_3 8 rfl rfl)
theorem dX1_share_79 : decode cX1_share 79 = .ok (.imul, 1) := dk_104 (dk_at dksX1_share_3 11 rfl rfl)
theorem dX1_share_80 : decode cX1_share 80 = .ok (.aload_n 0, 1) := dk_42 (dk_at dksX1_share_3 12 rfl rfl)
theorem dX1_share_81 : decode cX1_share 81 = .ok (.getfield 32, 3) := dk_180 0 32 (dk_at dksX1_share_3 13 rfl rfl)
theorem dX1_share_84 : decode cX1_share 84 = .ok (.iload_n 1, 1) := dk_27 (dk_at dksX1_share_3 16 rfl rfl)
theorem dX1_share_85 : decode cX1_share 85 = .ok (.invokeinterface 80 2, 5) := by decide +kernel
theorem dX1_share_90 : decode cX1_share 90 = .ok (.checkcast 48, 3) := dk_192 0 48 (dk_at dksX1_share_4 0 rfl rfl)
theorem dX1_share_93 : decode cX1_share 93 = .ok (.getfield 110, 3) := dk_180 0 110 (dk_at dksX1_share_4 3 rfl rfl)
theorem dX1_share_96 : decode cX1_share 96 = .ok (.imul, 1) := dk_104 (dk_at dksX1_share_4 6 rfl rfl)
theorem dX1_share_97 : decode cX1_share 97 = .ok (.iload_n 2, 1) := dk_28 (dk_at dksX1_share_4 7 rfl rfl)
theorem dX1_share_98 : decode cX1_share 98 = .ok (.idiv, 1) := dk_108 (dk_at dksX1_share_4 8 rfl rfl)
theorem dX1_share_99 : decode cX1_share 99 = .ok (.ireturn, 1) := dk_172 (dk_at dksX1_share_4 9 rfl rfl)
abbrev cX1_areFixedSound : ByteArray := prog_1_method_77_code
def yX1_areFixedSound : MethodName := ⟨RX1, "areFixedSound", "()Z"⟩
def dkwX1_areFixedSound_6 : List UInt8 := [160, 0, 5, 3, 172, 132, 3, 1, 167, 255, 186, 132, 1, 1, 167, 255, 110, 4, 172]
abbrev dktX1_areFixedSound_6 : List UInt8 := dkwX1_areFixedSound_6 ++ []
def dkwX1_areFixedSound_5 : List UInt8 := [153, 0, 29, 25, 4, 180, 0, 150, 44, 180, 0, 150, 160, 0, 17, 25, 4, 180, 0, 153, 44, 180, 0, 153]
abbrev dktX1_areFixedSound_5 : List UInt8 := dkwX1_areFixedSound_5 ++ dktX1_areFixedSound_6
def dkwX1_areFixedSound_4 : List UInt8 := [180, 0, 45, 29, 185, 0, 80, 2, 0, 192, 0, 85, 58, 4, 25, 4, 178, 0, 140, 182, 0, 146]
abbrev dktX1_areFixedSound_4 : List UInt8 := dkwX1_areFixedSound_4 ++ dktX1_areFixedSound_5
def dkwX1_areFixedSound_3 : List UInt8 := [159, 0, 5, 3, 172, 3, 62, 29, 27, 162, 0, 71, 44, 178, 0, 140, 182, 0, 146, 153, 0, 61, 42]
abbrev dktX1_areFixedSound_3 : List UInt8 := dkwX1_areFixedSound_3 ++ dktX1_areFixedSound_4
def dkwX1_areFixedSound_2 : List UInt8 := [184, 0, 107, 42, 180, 0, 42, 44, 180, 0, 150, 185, 0, 80, 2, 0, 192, 0, 133, 182, 0, 137]
abbrev dktX1_areFixedSound_2 : List UInt8 := dkwX1_areFixedSound_2 ++ dktX1_areFixedSound_3
def dkwX1_areFixedSound_1 : List UInt8 := [185, 0, 80, 2, 0, 192, 0, 85, 77, 44, 178, 0, 140, 182, 0, 146, 153, 0, 34, 44, 180, 0, 195]
abbrev dktX1_areFixedSound_1 : List UInt8 := dkwX1_areFixedSound_1 ++ dktX1_areFixedSound_2
def dkwX1_areFixedSound_0 : List UInt8 := [3, 60, 27, 42, 180, 0, 45, 185, 0, 72, 1, 0, 162, 0, 139, 42, 180, 0, 45, 27]
abbrev dktX1_areFixedSound_0 : List UInt8 := dkwX1_areFixedSound_0 ++ dktX1_areFixedSound_1
theorem dksX1_areFixedSound_0 : cX1_areFixedSound.data.toList.drop 0 = dktX1_areFixedSound_0 := by decide +kernel
theorem dksX1_areFixedSound_1 : cX1_areFixedSound.data.toList.drop 20 = dktX1_areFixedSound_1 := dk_seg dksX1_areFixedSound_0 20 rfl rfl
theorem dksX1_areFixedSound_2 : cX1_areFixedSound.data.toList.drop 43 = dktX1_areFixedSound_2 := dk_seg dksX1_areFixedSound_1 23 rfl rfl
theorem dksX1_areFixedSound_3 : cX1_areFixedSound.data.toList.drop 65 = dktX1_areFixedSound_3 := dk_seg dksX1_areFixedSound_2 22 rfl rfl
theorem dksX1_areFixedSound_4 : cX1_areFixedSound.data.toList.drop 88 = dktX1_areFixedSound_4 := dk_seg dksX1_areFixedSound_3 23 rfl rfl
theorem dksX1_areFixedSound_5 : cX1_areFixedSound.data.toList.drop 110 = dktX1_areFixedSound_5 := dk_seg dksX1_areFixedSound_4 22 rfl rfl
theorem dksX1_areFixedSound_6 : cX1_areFixedSound.data.toList.drop 134 = dktX1_areFixedSound_6 := dk_seg dksX1_areFixedSound_5 24 rfl rfl
theorem dX1_areFixedSound_0 : decode cX1_areFixedSound 0 = .ok (.iconst 0, 1) := dk_3 (dk_at dksX1_areFixedSound_0 0 rfl rfl)
theorem dX1_areFixedSound_1 : decode cX1_areFixedSound 1 = .ok (.istore_n 1, 1) := dk_60 (dk_at dksX1_areFixedSound_0 1 rfl rfl)
theorem dX1_areFixedSound_2 : decode cX1_areFixedSound 2 = .ok (.iload_n 1, 1) := dk_27 (dk_at dksX1_areFixedSound_0 2 rfl rfl)
theorem dX1_areFixedSound_3 : decode cX1_areFixedSound 3 = .ok (.aload_n 0, 1) := dk_42 (dk_at dksX1_areFixedSound_0 3 rfl rfl)
theorem dX1_areFixedSound_4 : decode cX1_areFixedSound 4 = .ok (.getfield 45, 3) := dk_180 0 45 (dk_at dksX1_areFixedSound_0 4 rfl rfl)
theorem dX1_areFixedSound_7 : decode cX1_areFixedSound 7 = .ok (.invokeinterface 72 1, 5) := by decide +kernel
theorem dX1_areFixedSound_12 : decode cX1_areFixedSound 12 = .ok (.if_icmp .ge 139, 3) := dk_162 0 139 (dk_at dksX1_areFixedSound_0 12 rfl rfl)
theorem dX1_areFixedSound_15 : decode cX1_areFixedSound 15 = .ok (.aload_n 0, 1) := dk_42 (dk_at dksX1_areFixedSound_0 15 rfl rfl)
theorem dX1_areFixedSound_16 : decode cX1_areFixedSound 16 = .ok (.getfield 45, 3) := dk_180 0 45 (dk_at dksX1_areFixedSound_0 16 rfl rfl)
theorem dX1_areFixedSound_19 : decode cX1_areFixedSound 19 = .ok (.iload_n 1, 1) := dk_27 (dk_at dksX1_areFixedSound_0 19 rfl rfl)
theorem dX1_areFixedSound_20 : decode cX1_areFixedSound 20 = .ok (.invokeinterface 80 2, 5) := by decide +kernel
theorem dX1_areFixedSound_25 : decode cX1_areFixedSound 25 = .ok (.checkcast 85, 3) := dk_192 0 85 (dk_at dksX1_areFixedSound_1 5 rfl rfl)
theorem dX1_areFixedSound_28 : decode cX1_areFixedSound 28 = .ok (.astore_n 2, 1) := dk_77 (dk_at dksX1_areFixedSound_1 8 rfl rfl)
theorem dX1_areFixedSound_29 : decode cX1_areFixedSound 29 = .ok (.aload_n 2, 1) := dk_44 (dk_at dksX1_areFixedSound_1 9 rfl rfl)
theorem dX1_areFixedSound_30 : decode cX1_areFixedSound 30 = .ok (.getstatic 140, 3) := dk_178 0 140 (dk_at dksX1_areFixedSound_1 10 rfl rfl)
theorem dX1_areFixedSound_33 : decode cX1_areFixedSound 33 = .ok (.invokevirtual 146, 3) := dk_182 0 146 (dk_at dksX1_areFixedSound_1 13 rfl rfl)
theorem dX1_areFixedSound_36 : decode cX1_areFixedSound 36 = .ok (.ifCond .eq 34, 3) := dk_153 0 34 (dk_at dksX1_areFixedSound_1 16 rfl rfl)
theorem dX1_areFixedSound_39 : decode cX1_areFixedSound 39 = .ok (.aload_n 2, 1) := dk_44 (dk_at dksX1_areFixedSound_1 19 rfl rfl)
theorem dX1_areFixedSound_40 : decode cX1_areFixedSound 40 = .ok (.getfield 195, 3) := dk_180 0 195 (dk_at dksX1_areFixedSound_1 20 rfl rfl)
theorem dX1_areFixedSound_43 : decode cX1_areFixedSound 43 = .ok (.invokestatic 107, 3) := dk_184 0 107 (dk_at dksX1_areFixedSound_2 0 rfl rfl)
theorem dX1_areFixedSound_46 : decode cX1_areFixedSound 46 = .ok (.aload_n 0, 1) := dk_42 (dk_at dksX1_areFixedSound_2 3 rfl rfl)
theorem dX1_areFixedSound_47 : decode cX1_areFixedSound 47 = .ok (.getfield 42, 3) := dk_180 0 42 (dk_at dksX1_areFixedSound_2 4 rfl rfl)
theorem dX1_areFixedSound_50 : decode cX1_areFixedSound 50 = .ok (.aload_n 2, 1) := dk_44 (dk_at dksX1_areFixedSound_2 7 rfl rfl)
theorem dX1_areFixedSound_51 : decode cX1_areFixedSound 51 = .ok (.getfield 150, 3) := dk_180 0 150 (dk_at dksX1_areFixedSound_2 8 rfl rfl)
theorem dX1_areFixedSound_54 : decode cX1_areFixedSound 54 = .ok (.invokeinterface 80 2, 5) := by decide +kernel
theorem dX1_areFixedSound_59 : decode cX1_areFixedSound 59 = .ok (.checkcast 133, 3) := dk_192 0 133 (dk_at dksX1_areFixedSound_2 16 rfl rfl)
theorem dX1_areFixedSound_62 : decode cX1_areFixedSound 62 = .ok (.invokevirtual 137, 3) := dk_182 0 137 (dk_at dksX1_areFixedSound_2 19 rfl rfl)
theorem dX1_areFixedSound_65 : decode cX1_areFixedSound 65 = .ok (.if_icmp .eq 5, 3) := dk_159 0 5 (dk_at dksX1_areFixedSound_3 0 rfl rfl)
theorem dX1_areFixedSound_68 : decode cX1_areFixedSound 68 = .ok (.iconst 0, 1) := dk_3 (dk_at dksX1_areFixedSound_3 3 rfl rfl)
theorem dX1_areFixedSound_69 : decode cX1_areFixedSound 69 = .ok (.ireturn, 1) := dk_172 (dk_at dksX1_areFixedSound_3 4 rfl rfl)
theorem dX1_areFixedSound_70 : decode cX1_areFixedSound 70 = .ok (.iconst 0, 1) := dk_3 (dk_at dksX1_areFixedSound_3 5 rfl rfl)
theorem dX1_areFixedSound_71 : decode cX1_areFixedSound 71 = .ok (.istore_n 3, 1) := dk_62 (dk_at dksX1_areFixedSound_3 6 rfl rfl)
theorem dX1_areFixedSound_72 : decode cX1_areFixedSound 72 = .ok (.iload_n 3, 1) := dk_29 (dk_at dksX1_areFixedSound_3 7 rfl rfl)
theorem dX1_areFixedSound_73 : decode cX1_areFixedSound 73 = .ok (.iload_n 1, 1) := dk_27 (dk_at dksX1_areFixedSound_3 8 rfl rfl)
theorem dX1_areFixedSound_74 : decode cX1_areFixedSound 74 = .ok (.if_icmp .ge 71, 3) := dk_162 0 71 (dk_at dksX1_areFixedSound_3 9 rfl rfl)
theorem dX1_areFixedSound_77 : decode cX1_areFixedSound 77 = .ok (.aload_n 2, 1) := dk_44 (dk_at dksX1_areFixedSound_3 12 rfl rfl)
theorem dX1_areFixedSound_78 : decode cX1_areFixedSound 78 = .ok (.getstatic 140, 3) := dk_178 0 140 (dk_at dksX1_areFixedSound_3 13 rfl rfl)
theorem dX1_areFixedSound_81 : decode cX1_areFixedSound 81 = .ok (.invokevirtual 146, 3) := dk_182 0 146 (dk_at dksX1_areFixedSound_3 16 rfl rfl)
theorem dX1_areFixedSound_84 : decode cX1_areFixedSound 84 = .ok (.ifCond .eq 61, 3) := dk_153 0 61 (dk_at dksX1_areFixedSound_3 19 rfl rfl)
theorem dX1_areFixedSound_87 : decode cX1_areFixedSound 87 = .ok (.aload_n 0, 1) := dk_42 (dk_at dksX1_areFixedSound_3 22 rfl rfl)
theorem dX1_areFixedSound_88 : decode cX1_areFixedSound 88 = .ok (.getfield 45, 3) := dk_180 0 45 (dk_at dksX1_areFixedSound_4 0 rfl rfl)
theorem dX1_areFixedSound_91 : decode cX1_areFixedSound 91 = .ok (.iload_n 3, 1) := dk_29 (dk_at dksX1_areFixedSound_4 3 rfl rfl)
theorem dX1_areFixedSound_92 : decode cX1_areFixedSound 92 = .ok (.invokeinterface 80 2, 5) := by decide +kernel
theorem dX1_areFixedSound_97 : decode cX1_areFixedSound 97 = .ok (.checkcast 85, 3) := dk_192 0 85 (dk_at dksX1_areFixedSound_4 9 rfl rfl)
theorem dX1_areFixedSound_100 : decode cX1_areFixedSound 100 = .ok (.astore 4, 2) := dk_58 4 (dk_at dksX1_areFixedSound_4 12 rfl rfl)
theorem dX1_areFixedSound_102 : decode cX1_areFixedSound 102 = .ok (.aload 4, 2) := dk_25 4 (dk_at dksX1_areFixedSound_4 14 rfl rfl)
theorem dX1_areFixedSound_104 : decode cX1_areFixedSound 104 = .ok (.getstatic 140, 3) := dk_178 0 140 (dk_at dksX1_areFixedSound_4 16 rfl rfl)
theorem dX1_areFixedSound_107 : decode cX1_areFixedSound 107 = .ok (.invokevirtual 146, 3) := dk_182 0 146 (dk_at dksX1_areFixedSound_4 19 rfl rfl)
theorem dX1_areFixedSound_110 : decode cX1_areFixedSound 110 = .ok (.ifCond .eq 29, 3) := dk_153 0 29 (dk_at dksX1_areFixedSound_5 0 rfl rfl)
theorem dX1_areFixedSound_113 : decode cX1_areFixedSound 113 = .ok (.aload 4, 2) := dk_25 4 (dk_at dksX1_areFixedSound_5 3 rfl rfl)
theorem dX1_areFixedSound_115 : decode cX1_areFixedSound 115 = .ok (.getfield 150, 3) := dk_180 0 150 (dk_at dksX1_areFixedSound_5 5 rfl rfl)
theorem dX1_areFixedSound_118 : decode cX1_areFixedSound 118 = .ok (.aload_n 2, 1) := dk_44 (dk_at dksX1_areFixedSound_5 8 rfl rfl)
theorem dX1_areFixedSound_119 : decode cX1_areFixedSound 119 = .ok (.getfield 150, 3) := dk_180 0 150 (dk_at dksX1_areFixedSound_5 9 rfl rfl)
theorem dX1_areFixedSound_122 : decode cX1_areFixedSound 122 = .ok (.if_icmp .ne 17, 3) := dk_160 0 17 (dk_at dksX1_areFixedSound_5 12 rfl rfl)
theorem dX1_areFixedSound_125 : decode cX1_areFixedSound 125 = .ok (.aload 4, 2) := dk_25 4 (dk_at dksX1_areFixedSound_5 15 rfl rfl)
theorem dX1_areFixedSound_127 : decode cX1_areFixedSound 127 = .ok (.getfield 153, 3) := dk_180 0 153 (dk_at dksX1_areFixedSound_5 17 rfl rfl)
theorem dX1_areFixedSound_130 : decode cX1_areFixedSound 130 = .ok (.aload_n 2, 1) := dk_44 (dk_at dksX1_areFixedSound_5 20 rfl rfl)
theorem dX1_areFixedSound_131 : decode cX1_areFixedSound 131 = .ok (.getfield 153, 3) := dk_180 0 153 (dk_at dksX1_areFixedSound_5 21 rfl rfl)
theorem dX1_areFixedSound_134 : decode cX1_areFixedSound 134 = .ok (.if_icmp .ne 5, 3) := dk_160 0 5 (dk_at dksX1_areFixedSound_6 0 rfl rfl)
theorem dX1_areFixedSound_137 : decode cX1_areFixedSound 137 = .ok (.iconst 0, 1) := dk_3 (dk_at dksX1_areFixedSound_6 3 rfl rfl)
theorem dX1_areFixedSound_138 : decode cX1_areFixedSound 138 = .ok (.ireturn, 1) := dk_172 (dk_at dksX1_areFixedSound_6 4 rfl rfl)
theorem dX1_areFixedSound_139 : decode cX1_areFixedSound 139 = .ok (.iinc 3 1, 3) := dk_132 3 1 (dk_at dksX1_areFixedSound_6 5 rfl rfl)
theorem dX1_areFixedSound_142 : decode cX1_areFixedSound 142 = .ok (.goto (-70), 3) := dk_167 255 186 (dk_at dksX1_areFixedSound_6 8 rfl rfl)
theorem dX1_areFixedSound_145 : decode cX1_areFixedSound 145 = .ok (.iinc 1 1, 3) := dk_132 1 1 (dk_at dksX1_areFixedSound_6 11 rfl rfl)
theorem dX1_areFixedSound_148 : decode cX1_areFixedSound 148 = .ok (.goto (-146), 3) := dk_167 255 110 (dk_at dksX1_areFixedSound_6 14 rfl rfl)
theorem dX1_areFixedSound_151 : decode cX1_areFixedSound 151 = .ok (.iconst 1, 1) := dk_4 (dk_at dksX1_areFixedSound_6 17 rfl rfl)
theorem dX1_areFixedSound_152 : decode cX1_areFixedSound 152 = .ok (.ireturn, 1) := dk_172 (dk_at dksX1_areFixedSound_6 18 rfl rfl)
abbrev cX1_deskNow : ByteArray := prog_1_method_66_code
def yX1_deskNow : MethodName := ⟨RX1, "deskNow", "(I)I"⟩
def dkwX1_deskNow_5 : List UInt8 := [42, 16, 10, 182, 1, 169, 100, 172, 42, 182, 1, 172, 172, 42, 27, 182, 1, 169, 172]
abbrev dktX1_deskNow_5 : List UInt8 := dkwX1_deskNow_5 ++ []
def dkwX1_deskNow_4 : List UInt8 := [182, 1, 163, 172, 42, 178, 1, 15, 182, 1, 163, 172, 42, 178, 0, 252, 182, 1, 163, 172, 42, 182, 1, 167]
abbrev dktX1_deskNow_4 : List UInt8 := dkwX1_deskNow_4 ++ dktX1_deskNow_5
def dkwX1_deskNow_3 : List UInt8 := [172, 42, 180, 0, 45, 185, 0, 72, 1, 0, 172, 42, 178, 0, 222, 182, 1, 163, 172, 42, 178, 0, 140]
abbrev dktX1_deskNow_3 : List UInt8 := dkwX1_deskNow_3 ++ dktX1_deskNow_4
def dkwX1_deskNow_2 : List UInt8 := [42, 180, 0, 156, 172, 42, 180, 0, 26, 185, 0, 72, 1, 0, 172, 42, 180, 0, 42, 185, 0, 72, 1, 0]
abbrev dktX1_deskNow_2 : List UInt8 := dkwX1_deskNow_2 ++ dktX1_deskNow_3
def dkwX1_deskNow_1 : List UInt8 := [170, 0, 0, 0, 0, 0, 151, 0, 0, 0, 0, 0, 0, 0, 12, 0, 0, 0, 67, 0, 0, 0, 72, 0, 0, 0, 82, 0, 0, 0, 92, 0, 0, 0, 102, 0, 0, 0, 110, 0, 0, 0, 118, 0, 0, 0, 126, 0, 0, 0, 134, 0, 0, 0, 151, 0, 0, 0, 151, 0, 0, 0, 151, 0, 0, 0, 146]
abbrev dktX1_deskNow_1 : List UInt8 := dkwX1_deskNow_1 ++ dktX1_deskNow_2
def dkwX1_deskNow_0 : List UInt8 := [27]
abbrev dktX1_deskNow_0 : List UInt8 := dkwX1_deskNow_0 ++ dktX1_deskNow_1
theorem dksX1_deskNow_0 : cX1_deskNow.data.toList.drop 0 = dktX1_deskNow_0 := by decide +kernel
theorem dksX1_deskNow_1 : cX1_deskNow.data.toList.drop 1 = dktX1_deskNow_1 := dk_seg dksX1_deskNow_0 1 rfl rfl
theorem dksX1_deskNow_2 : cX1_deskNow.data.toList.drop 68 = dktX1_deskNow_2 := dk_seg dksX1_deskNow_1 67 rfl rfl
theorem dksX1_deskNow_3 : cX1_deskNow.data.toList.drop 92 = dktX1_deskNow_3 := dk_seg dksX1_deskNow_2 24 rfl rfl
theorem dksX1_deskNow_4 : cX1_deskNow.data.toList.drop 115 = dktX1_deskNow_4 := dk_seg dksX1_deskNow_3 23 rfl rfl
theorem dksX1_deskNow_5 : cX1_deskNow.data.toList.drop 139 = dktX1_deskNow_5 := dk_seg dksX1_deskNow_4 24 rfl rfl
theorem dX1_deskNow_0 : decode cX1_deskNow 0 = .ok (.iload_n 1, 1) := dk_27 (dk_at dksX1_deskNow_0 0 rfl rfl)
theorem dX1_deskNow_1 : decode cX1_deskNow 1 = .ok (.tableswitch 151 0 12 #[67, 72, 82, 92, 102, 110, 118, 126, 134, 151, 151, 151, 146], 67) := by decide +kernel
theorem dX1_deskNow_68 : decode cX1_deskNow 68 = .ok (.aload_n 0, 1) := dk_42 (dk_at dksX1_deskNow_2 0 rfl rfl)
theorem dX1_deskNow_69 : decode cX1_deskNow 69 = .ok (.getfield 156, 3) := dk_180 0 156 (dk_at dksX1_deskNow_2 1 rfl rfl)
theorem dX1_deskNow_72 : decode cX1_deskNow 72 = .ok (.ireturn, 1) := dk_172 (dk_at dksX1_deskNow_2 4 rfl rfl)
theorem dX1_deskNow_73 : decode cX1_deskNow 73 = .ok (.aload_n 0, 1) := dk_42 (dk_at dksX1_deskNow_2 5 rfl rfl)
theorem dX1_deskNow_74 : decode cX1_deskNow 74 = .ok (.getfield 26, 3) := dk_180 0 26 (dk_at dksX1_deskNow_2 6 rfl rfl)
theorem dX1_deskNow_77 : decode cX1_deskNow 77 = .ok (.invokeinterface 72 1, 5) := by decide +kernel
theorem dX1_deskNow_82 : decode cX1_deskNow 82 = .ok (.ireturn, 1) := dk_172 (dk_at dksX1_deskNow_2 14 rfl rfl)
theorem dX1_deskNow_83 : decode cX1_deskNow 83 = .ok (.aload_n 0, 1) := dk_42 (dk_at dksX1_deskNow_2 15 rfl rfl)
theorem dX1_deskNow_84 : decode cX1_deskNow 84 = .ok (.getfield 42, 3) := dk_180 0 42 (dk_at dksX1_deskNow_2 16 rfl rfl)
theorem dX1_deskNow_87 : decode cX1_deskNow 87 = .ok (.invokeinterface 72 1, 5) := by decide +kernel
theorem dX1_deskNow_92 : decode cX1_deskNow 92 = .ok (.ireturn, 1) := dk_172 (dk_at dksX1_deskNow_3 0 rfl rfl)
theorem dX1_deskNow_93 : decode cX1_deskNow 93 = .ok (.aload_n 0, 1) := dk_42 (dk_at dksX1_deskNow_3 1 rfl rfl)
theorem dX1_deskNow_94 : decode cX1_deskNow 94 = .ok (.getfield 45, 3) := dk_180 0 45 (dk_at dksX1_deskNow_3 2 rfl rfl)
theorem dX1_deskNow_97 : decode cX1_deskNow 97 = .ok (.invokeinterface 72 1, 5) := by decide +kernel
theorem dX1_deskNow_102 : decode cX1_deskNow 102 = .ok (.ireturn, 1) := dk_172 (dk_at dksX1_deskNow_3 10 rfl rfl)
theorem dX1_deskNow_103 : decode cX1_deskNow 103 = .ok (.aload_n 0, 1) := dk_42 (dk_at dksX1_deskNow_3 11 rfl rfl)
theorem dX1_deskNow_104 : decode cX1_deskNow 104 = .ok (.getstatic 222, 3) := dk_178 0 222 (dk_at dksX1_deskNow_3 12 rfl rfl)
theorem dX1_deskNow_107 : decode cX1_deskNow 107 = .ok (.invokevirtual 419, 3) := dk_182 1 163 (dk_at dksX1_deskNow_3 15 rfl rfl)
theorem dX1_deskNow_110 : decode cX1_deskNow 110 = .ok (.ireturn, 1) := dk_172 (dk_at dksX1_deskNow_3 18 rfl rfl)
theorem dX1_deskNow_111 : decode cX1_deskNow 111 = .ok (.aload_n 0, 1) := dk_42 (dk_at dksX1_deskNow_3 19 rfl rfl)
theorem dX1_deskNow_112 : decode cX1_deskNow 112 = .ok (.getstatic 140, 3) := dk_178 0 140 (dk_at dksX1_deskNow_3 20 rfl rfl)
theorem dX1_deskNow_115 : decode cX1_deskNow 115 = .ok (.invokevirtual 419, 3) := dk_182 1 163 (dk_at dksX1_deskNow_4 0 rfl rfl)
theorem dX1_deskNow_118 : decode cX1_deskNow 118 = .ok (.ireturn, 1) := dk_172 (dk_at dksX1_deskNow_4 3 rfl rfl)
theorem dX1_deskNow_119 : decode cX1_deskNow 119 = .ok (.aload_n 0, 1) := dk_42 (dk_at dksX1_deskNow_4 4 rfl rfl)
theorem dX1_deskNow_120 : decode cX1_deskNow 120 = .ok (.getstatic 271, 3) := dk_178 1 15 (dk_at dksX1_deskNow_4 5 rfl rfl)
theorem dX1_deskNow_123 : decode cX1_deskNow 123 = .ok (.invokevirtual 419, 3) := dk_182 1 163 (dk_at dksX1_deskNow_4 8 rfl rfl)
theorem dX1_deskNow_126 : decode cX1_deskNow 126 = .ok (.ireturn, 1) := dk_172 (dk_at dksX1_deskNow_4 11 rfl rfl)
theorem dX1_deskNow_127 : decode cX1_deskNow 127 = .ok (.aload_n 0, 1) := dk_42 (dk_at dksX1_deskNow_4 12 rfl rfl)
theorem dX1_deskNow_128 : decode cX1_deskNow 128 = .ok (.getstatic 252, 3) := dk_178 0 252 (dk_at dksX1_deskNow_4 13 rfl rfl)
theorem dX1_deskNow_131 : decode cX1_deskNow 131 = .ok (.invokevirtual 419, 3) := dk_182 1 163 (dk_at dksX1_deskNow_4 16 rfl rfl)
theorem dX1_deskNow_134 : decode cX1_deskNow 134 = .ok (.ireturn, 1) := dk_172 (dk_at dksX1_deskNow_4 19 rfl rfl)
theorem dX1_deskNow_135 : decode cX1_deskNow 135 = .ok (.aload_n 0, 1) := dk_42 (dk_at dksX1_deskNow_4 20 rfl rfl)
theorem dX1_deskNow_136 : decode cX1_deskNow 136 = .ok (.invokevirtual 423, 3) := dk_182 1 167 (dk_at dksX1_deskNow_4 21 rfl rfl)
theorem dX1_deskNow_139 : decode cX1_deskNow 139 = .ok (.aload_n 0, 1) := dk_42 (dk_at dksX1_deskNow_5 0 rfl rfl)
theorem dX1_deskNow_140 : decode cX1_deskNow 140 = .ok (.bipush 10, 2) := dk_16 10 (dk_at dksX1_deskNow_5 1 rfl rfl)
theorem dX1_deskNow_142 : decode cX1_deskNow 142 = .ok (.invokevirtual 425, 3) := dk_182 1 169 (dk_at dksX1_deskNow_5 3 rfl rfl)
theorem dX1_deskNow_145 : decode cX1_deskNow 145 = .ok (.isub, 1) := dk_100 (dk_at dksX1_deskNow_5 6 rfl rfl)
theorem dX1_deskNow_146 : decode cX1_deskNow 146 = .ok (.ireturn, 1) := dk_172 (dk_at dksX1_deskNow_5 7 rfl rfl)
theorem dX1_deskNow_147 : decode cX1_deskNow 147 = .ok (.aload_n 0, 1) := dk_42 (dk_at dksX1_deskNow_5 8 rfl rfl)
theorem dX1_deskNow_148 : decode cX1_deskNow 148 = .ok (.invokevirtual 428, 3) := dk_182 1 172 (dk_at dksX1_deskNow_5 9 rfl rfl)
theorem dX1_deskNow_151 : decode cX1_deskNow 151 = .ok (.ireturn, 1) := dk_172 (dk_at dksX1_deskNow_5 12 rfl rfl)
theorem dX1_deskNow_152 : decode cX1_deskNow 152 = .ok (.aload_n 0, 1) := dk_42 (dk_at dksX1_deskNow_5 13 rfl rfl)
theorem dX1_deskNow_153 : decode cX1_deskNow 153 = .ok (.iload_n 1, 1) := dk_27 (dk_at dksX1_deskNow_5 14 rfl rfl)
theorem dX1_deskNow_154 : decode cX1_deskNow 154 = .ok (.invokevirtual 425, 3) := dk_182 1 169 (dk_at dksX1_deskNow_5 15 rfl rfl)
theorem dX1_deskNow_157 : decode cX1_deskNow 157 = .ok (.ireturn, 1) := dk_172 (dk_at dksX1_deskNow_5 18 rfl rfl)
abbrev cX1_inState : ByteArray := prog_1_method_62_code
def yX1_inState : MethodName := ⟨RX1, "inState", "(LFirstdanceAgency$State;)I"⟩
def dkwX1_inState_2 : List UInt8 := [132, 3, 1, 167, 255, 212, 28, 172]
abbrev dktX1_inState_2 : List UInt8 := dkwX1_inState_2 ++ []
def dkwX1_inState_1 : List UInt8 := [185, 0, 80, 2, 0, 192, 0, 85, 43, 182, 0, 146, 153, 0, 7, 4, 167, 0, 4, 3, 96, 61]
abbrev dktX1_inState_1 : List UInt8 := dkwX1_inState_1 ++ dktX1_inState_2
def dkwX1_inState_0 : List UInt8 := [3, 61, 3, 62, 29, 42, 180, 0, 45, 185, 0, 72, 1, 0, 162, 0, 37, 28, 42, 180, 0, 45, 29]
abbrev dktX1_inState_0 : List UInt8 := dkwX1_inState_0 ++ dktX1_inState_1
theorem dksX1_inState_0 : cX1_inState.data.toList.drop 0 = dktX1_inState_0 := by decide +kernel
theorem dksX1_inState_1 : cX1_inState.data.toList.drop 23 = dktX1_inState_1 := dk_seg dksX1_inState_0 23 rfl rfl
theorem dksX1_inState_2 : cX1_inState.data.toList.drop 45 = dktX1_inState_2 := dk_seg dksX1_inState_1 22 rfl rfl
theorem dX1_inState_0 : decode cX1_inState 0 = .ok (.iconst 0, 1) := dk_3 (dk_at dksX1_inState_0 0 rfl rfl)
theorem dX1_inState_1 : decode cX1_inState 1 = .ok (.istore_n 2, 1) := dk_61 (dk_at dksX1_inState_0 1 rfl rfl)
theorem dX1_inState_2 : decode cX1_inState 2 = .ok (.iconst 0, 1) := dk_3 (dk_at dksX1_inState_0 2 rfl rfl)
theorem dX1_inState_3 : decode cX1_inState 3 = .ok (.istore_n 3, 1) := dk_62 (dk_at dksX1_inState_0 3 rfl rfl)
theorem dX1_inState_4 : decode cX1_inState 4 = .ok (.iload_n 3, 1) := dk_29 (dk_at dksX1_inState_0 4 rfl rfl)
theorem dX1_inState_5 : decode cX1_inState 5 = .ok (.aload_n 0, 1) := dk_42 (dk_at dksX1_inState_0 5 rfl rfl)
theorem dX1_inState_6 : decode cX1_inState 6 = .ok (.getfield 45, 3) := dk_180 0 45 (dk_at dksX1_inState_0 6 rfl rfl)
theorem dX1_inState_9 : decode cX1_inState 9 = .ok (.invokeinterface 72 1, 5) := by decide +kernel
theorem dX1_inState_14 : decode cX1_inState 14 = .ok (.if_icmp .ge 37, 3) := dk_162 0 37 (dk_at dksX1_inState_0 14 rfl rfl)
theorem dX1_inState_17 : decode cX1_inState 17 = .ok (.iload_n 2, 1) := dk_28 (dk_at dksX1_inState_0 17 rfl rfl)
theorem dX1_inState_18 : decode cX1_inState 18 = .ok (.aload_n 0, 1) := dk_42 (dk_at dksX1_inState_0 18 rfl rfl)
theorem dX1_inState_19 : decode cX1_inState 19 = .ok (.getfield 45, 3) := dk_180 0 45 (dk_at dksX1_inState_0 19 rfl rfl)
theorem dX1_inState_22 : decode cX1_inState 22 = .ok (.iload_n 3, 1) := dk_29 (dk_at dksX1_inState_0 22 rfl rfl)
theorem dX1_inState_23 : decode cX1_inState 23 = .ok (.invokeinterface 80 2, 5) := by decide +kernel
theorem dX1_inState_28 : decode cX1_inState 28 = .ok (.checkcast 85, 3) := dk_192 0 85 (dk_at dksX1_inState_1 5 rfl rfl)
theorem dX1_inState_31 : decode cX1_inState 31 = .ok (.aload_n 1, 1) := dk_43 (dk_at dksX1_inState_1 8 rfl rfl)
theorem dX1_inState_32 : decode cX1_inState 32 = .ok (.invokevirtual 146, 3) := dk_182 0 146 (dk_at dksX1_inState_1 9 rfl rfl)
theorem dX1_inState_35 : decode cX1_inState 35 = .ok (.ifCond .eq 7, 3) := dk_153 0 7 (dk_at dksX1_inState_1 12 rfl rfl)
theorem dX1_inState_38 : decode cX1_inState 38 = .ok (.iconst 1, 1) := dk_4 (dk_at dksX1_inState_1 15 rfl rfl)
theorem dX1_inState_39 : decode cX1_inState 39 = .ok (.goto 4, 3) := dk_167 0 4 (dk_at dksX1_inState_1 16 rfl rfl)
theorem dX1_inState_42 : decode cX1_inState 42 = .ok (.iconst 0, 1) := dk_3 (dk_at dksX1_inState_1 19 rfl rfl)
theorem dX1_inState_43 : decode cX1_inState 43 = .ok (.iadd, 1) := dk_96 (dk_at dksX1_inState_1 20 rfl rfl)
theorem dX1_inState_44 : decode cX1_inState 44 = .ok (.istore_n 2, 1) := dk_61 (dk_at dksX1_inState_1 21 rfl rfl)
theorem dX1_inState_45 : decode cX1_inState 45 = .ok (.iinc 3 1, 3) := dk_132 3 1 (dk_at dksX1_inState_2 0 rfl rfl)
theorem dX1_inState_48 : decode cX1_inState 48 = .ok (.goto (-44), 3) := dk_167 255 212 (dk_at dksX1_inState_2 3 rfl rfl)
theorem dX1_inState_51 : decode cX1_inState 51 = .ok (.iload_n 2, 1) := dk_28 (dk_at dksX1_inState_2 6 rfl rfl)
theorem dX1_inState_52 : decode cX1_inState 52 = .ok (.ireturn, 1) := dk_172 (dk_at dksX1_inState_2 7 rfl rfl)
abbrev cX1_paid : ByteArray := prog_1_method_63_code
def yX1_paid : MethodName := ⟨RX1, "paid", "()I"⟩
def dkwX1_paid_1 : List UInt8 := [185, 0, 80, 2, 0, 192, 0, 85, 180, 0, 249, 96, 60, 132, 2, 1, 167, 255, 221, 27, 172]
abbrev dktX1_paid_1 : List UInt8 := dkwX1_paid_1 ++ []
def dkwX1_paid_0 : List UInt8 := [3, 60, 3, 61, 28, 42, 180, 0, 45, 185, 0, 72, 1, 0, 162, 0, 28, 27, 42, 180, 0, 45, 28]
abbrev dktX1_paid_0 : List UInt8 := dkwX1_paid_0 ++ dktX1_paid_1
theorem dksX1_paid_0 : cX1_paid.data.toList.drop 0 = dktX1_paid_0 := by decide +kernel
theorem dksX1_paid_1 : cX1_paid.data.toList.drop 23 = dktX1_paid_1 := dk_seg dksX1_paid_0 23 rfl rfl
theorem dX1_paid_0 : decode cX1_paid 0 = .ok (.iconst 0, 1) := dk_3 (dk_at dksX1_paid_0 0 rfl rfl)
theorem dX1_paid_1 : decode cX1_paid 1 = .ok (.istore_n 1, 1) := dk_60 (dk_at dksX1_paid_0 1 rfl rfl)
theorem dX1_paid_2 : decode cX1_paid 2 = .ok (.iconst 0, 1) := dk_3 (dk_at dksX1_paid_0 2 rfl rfl)
theorem dX1_paid_3 : decode cX1_paid 3 = .ok (.istore_n 2, 1) := dk_61 (dk_at dksX1_paid_0 3 rfl rfl)
theorem dX1_paid_4 : decode cX1_paid 4 = .ok (.iload_n 2, 1) := dk_28 (dk_at dksX1_paid_0 4 rfl rfl)
theorem dX1_paid_5 : decode cX1_paid 5 = .ok (.aload_n 0, 1) := dk_42 (dk_at dksX1_paid_0 5 rfl rfl)
theorem dX1_paid_6 : decode cX1_paid 6 = .ok (.getfield 45, 3) := dk_180 0 45 (dk_at dksX1_paid_0 6 rfl rfl)
theorem dX1_paid_9 : decode cX1_paid 9 = .ok (.invokeinterface 72 1, 5) := by decide +kernel
theorem dX1_paid_14 : decode cX1_paid 14 = .ok (.if_icmp .ge 28, 3) := dk_162 0 28 (dk_at dksX1_paid_0 14 rfl rfl)
theorem dX1_paid_17 : decode cX1_paid 17 = .ok (.iload_n 1, 1) := dk_27 (dk_at dksX1_paid_0 17 rfl rfl)
theorem dX1_paid_18 : decode cX1_paid 18 = .ok (.aload_n 0, 1) := dk_42 (dk_at dksX1_paid_0 18 rfl rfl)
theorem dX1_paid_19 : decode cX1_paid 19 = .ok (.getfield 45, 3) := dk_180 0 45 (dk_at dksX1_paid_0 19 rfl rfl)
theorem dX1_paid_22 : decode cX1_paid 22 = .ok (.iload_n 2, 1) := dk_28 (dk_at dksX1_paid_0 22 rfl rfl)
theorem dX1_paid_23 : decode cX1_paid 23 = .ok (.invokeinterface 80 2, 5) := by decide +kernel
theorem dX1_paid_28 : decode cX1_paid 28 = .ok (.checkcast 85, 3) := dk_192 0 85 (dk_at dksX1_paid_1 5 rfl rfl)
theorem dX1_paid_31 : decode cX1_paid 31 = .ok (.getfield 249, 3) := dk_180 0 249 (dk_at dksX1_paid_1 8 rfl rfl)
theorem dX1_paid_34 : decode cX1_paid 34 = .ok (.iadd, 1) := dk_96 (dk_at dksX1_paid_1 11 rfl rfl)
theorem dX1_paid_35 : decode cX1_paid 35 = .ok (.istore_n 1, 1) := dk_60 (dk_at dksX1_paid_1 12 rfl rfl)
theorem dX1_paid_36 : decode cX1_paid 36 = .ok (.iinc 2 1, 3) := dk_132 2 1 (dk_at dksX1_paid_1 13 rfl rfl)
theorem dX1_paid_39 : decode cX1_paid 39 = .ok (.goto (-35), 3) := dk_167 255 221 (dk_at dksX1_paid_1 16 rfl rfl)
theorem dX1_paid_42 : decode cX1_paid 42 = .ok (.iload_n 1, 1) := dk_27 (dk_at dksX1_paid_1 19 rfl rfl)
theorem dX1_paid_43 : decode cX1_paid 43 = .ok (.ireturn, 1) := dk_172 (dk_at dksX1_paid_1 20 rfl rfl)
abbrev cX1_ofAll : ByteArray := prog_1_method_64_code
def yX1_ofAll : MethodName := ⟨RX1, "ofAll", "(I)I"⟩
def dkwX1_ofAll_5 : List UInt8 := [167, 0, 4, 29, 172]
abbrev dktX1_ofAll_5 : List UInt8 := dkwX1_ofAll_5 ++ []
def dkwX1_ofAll_4 : List UInt8 := [167, 255, 174, 27, 16, 9, 160, 0, 10, 21, 4, 5, 108, 167, 0, 14, 27, 16, 10, 160, 0, 7, 28]
abbrev dktX1_ofAll_4 : List UInt8 := dkwX1_ofAll_4 ++ dktX1_ofAll_5
def dkwX1_ofAll_3 : List UInt8 := [21, 5, 185, 0, 80, 2, 0, 192, 0, 83, 180, 0, 120, 184, 0, 107, 96, 54, 4, 132, 5, 1]
abbrev dktX1_ofAll_3 : List UInt8 := dkwX1_ofAll_3 ++ dktX1_ofAll_4
def dkwX1_ofAll_2 : List UInt8 := [180, 0, 26, 21, 5, 185, 0, 80, 2, 0, 192, 0, 83, 182, 1, 157, 96, 62, 21, 4, 42, 180, 0, 26]
abbrev dktX1_ofAll_2 : List UInt8 := dkwX1_ofAll_2 ++ dktX1_ofAll_3
def dkwX1_ofAll_1 : List UInt8 := [28, 42, 180, 0, 26, 21, 5, 185, 0, 80, 2, 0, 192, 0, 83, 180, 1, 21, 96, 61, 29, 42]
abbrev dktX1_ofAll_1 : List UInt8 := dkwX1_ofAll_1 ++ dktX1_ofAll_2
def dkwX1_ofAll_0 : List UInt8 := [3, 61, 3, 62, 3, 54, 4, 3, 54, 5, 21, 5, 42, 180, 0, 26, 185, 0, 72, 1, 0, 162, 0, 74]
abbrev dktX1_ofAll_0 : List UInt8 := dkwX1_ofAll_0 ++ dktX1_ofAll_1
theorem dksX1_ofAll_0 : cX1_ofAll.data.toList.drop 0 = dktX1_ofAll_0 := by decide +kernel
theorem dksX1_ofAll_1 : cX1_ofAll.data.toList.drop 24 = dktX1_ofAll_1 := dk_seg dksX1_ofAll_0 24 rfl rfl
theorem dksX1_ofAll_2 : cX1_ofAll.data.toList.drop 46 = dktX1_ofAll_2 := dk_seg dksX1_ofAll_1 22 rfl rfl
theorem dksX1_ofAll_3 : cX1_ofAll.data.toList.drop 70 = dktX1_ofAll_3 := dk_seg dksX1_ofAll_2 24 rfl rfl
theorem dksX1_ofAll_4 : cX1_ofAll.data.toList.drop 92 = dktX1_ofAll_4 := dk_seg dksX1_ofAll_3 22 rfl rfl
theorem dksX1_ofAll_5 : cX1_ofAll.data.toList.drop 115 = dktX1_ofAll_5 := dk_seg dksX1_ofAll_4 23 rfl rfl
theorem dX1_ofAll_0 : decode cX1_ofAll 0 = .ok (.iconst 0, 1) := dk_3 (dk_at dksX1_ofAll_0 0 rfl rfl)
theorem dX1_ofAll_1 : decode cX1_ofAll 1 = .ok (.istore_n 2, 1) := dk_61 (dk_at dksX1_ofAll_0 1 rfl rfl)
theorem dX1_ofAll_2 : decode cX1_ofAll 2 = .ok (.iconst 0, 1) := dk_3 (dk_at dksX1_ofAll_0 2 rfl rfl)
theorem dX1_ofAll_3 : decode cX1_ofAll 3 = .ok (.istore_n 3, 1) := dk_62 (dk_at dksX1_ofAll_0 3 rfl rfl)
theorem dX1_ofAll_4 : decode cX1_ofAll 4 = .ok (.iconst 0, 1) := dk_3 (dk_at dksX1_ofAll_0 4 rfl rfl)
theorem dX1_ofAll_5 : decode cX1_ofAll 5 = .ok (.istore 4, 2) := dk_54 4 (dk_at dksX1_ofAll_0 5 rfl rfl)
theorem dX1_ofAll_7 : decode cX1_ofAll 7 = .ok (.iconst 0, 1) := dk_3 (dk_at dksX1_ofAll_0 7 rfl rfl)
theorem dX1_ofAll_8 : decode cX1_ofAll 8 = .ok (.istore 5, 2) := dk_54 5 (dk_at dksX1_ofAll_0 8 rfl rfl)
theorem dX1_ofAll_10 : decode cX1_ofAll 10 = .ok (.iload 5, 2) := dk_21 5 (dk_at dksX1_ofAll_0 10 rfl rfl)
theorem dX1_ofAll_12 : decode cX1_ofAll 12 = .ok (.aload_n 0, 1) := dk_42 (dk_at dksX1_ofAll_0 12 rfl rfl)
theorem dX1_ofAll_13 : decode cX1_ofAll 13 = .ok (.getfield 26, 3) := dk_180 0 26 (dk_at dksX1_ofAll_0 13 rfl rfl)
theorem dX1_ofAll_16 : decode cX1_ofAll 16 = .ok (.invokeinterface 72 1, 5) := by decide +kernel
theorem dX1_ofAll_21 : decode cX1_ofAll 21 = .ok (.if_icmp .ge 74, 3) := dk_162 0 74 (dk_at dksX1_ofAll_0 21 rfl rfl)
theorem dX1_ofAll_24 : decode cX1_ofAll 24 = .ok (.iload_n 2, 1) := dk_28 (dk_at dksX1_ofAll_1 0 rfl rfl)
theorem dX1_ofAll_25 : decode cX1_ofAll 25 = .ok (.aload_n 0, 1) := dk_42 (dk_at dksX1_ofAll_1 1 rfl rfl)
theorem dX1_ofAll_26 : decode cX1_ofAll 26 = .ok (.getfield 26, 3) := dk_180 0 26 (dk_at dksX1_ofAll_1 2 rfl rfl)
theorem dX1_ofAll_29 : decode cX1_ofAll 29 = .ok (.iload 5, 2) := dk_21 5 (dk_at dksX1_ofAll_1 5 rfl rfl)
theorem dX1_ofAll_31 : decode cX1_ofAll 31 = .ok (.invokeinterface 80 2, 5) := by decide +kernel
theorem dX1_ofAll_36 : decode cX1_ofAll 36 = .ok (.checkcast 83, 3) := dk_192 0 83 (dk_at dksX1_ofAll_1 12 rfl rfl)
theorem dX1_ofAll_39 : decode cX1_ofAll 39 = .ok (.getfield 277, 3) := dk_180 1 21 (dk_at dksX1_ofAll_1 15 rfl rfl)
theorem dX1_ofAll_42 : decode cX1_ofAll 42 = .ok (.iadd, 1) := dk_96 (dk_at dksX1_ofAll_1 18 rfl rfl)
theorem dX1_ofAll_43 : decode cX1_ofAll 43 = .ok (.istore_n 2, 1) := dk_61 (dk_at dksX1_ofAll_1 19 rfl rfl)
theorem dX1_ofAll_44 : decode cX1_ofAll 44 = .ok (.iload_n 3, 1) := dk_29 (dk_at dksX1_ofAll_1 20 rfl rfl)
theorem dX1_ofAll_45 : decode cX1_ofAll 45 = .ok (.aload_n 0, 1) := dk_42 (dk_at dksX1_ofAll_1 21 rfl rfl)
theorem dX1_ofAll_46 : decode cX1_ofAll 46 = .ok (.getfield 26, 3) := dk_180 0 26 (dk_at dksX1_ofAll_2 0 rfl rfl)
theorem dX1_ofAll_49 : decode cX1_ofAll 49 = .ok (.iload 5, 2) := dk_21 5 (dk_at dksX1_ofAll_2 3 rfl rfl)
theorem dX1_ofAll_51 : decode cX1_ofAll 51 = .ok (.invokeinterface 80 2, 5) := by decide +kernel
theorem dX1_ofAll_56 : decode cX1_ofAll 56 = .ok (.checkcast 83, 3) := dk_192 0 83 (dk_at dksX1_ofAll_2 10 rfl rfl)
theorem dX1_ofAll_59 : decode cX1_ofAll 59 = .ok (.invokevirtual 413, 3) := dk_182 1 157 (dk_at dksX1_ofAll_2 13 rfl rfl)
theorem dX1_ofAll_62 : decode cX1_ofAll 62 = .ok (.iadd, 1) := dk_96 (dk_at dksX1_ofAll_2 16 rfl rfl)
theorem dX1_ofAll_63 : decode cX1_ofAll 63 = .ok (.istore_n 3, 1) := dk_62 (dk_at dksX1_ofAll_2 17 rfl rfl)
theorem dX1_ofAll_64 : decode cX1_ofAll 64 = .ok (.iload 4, 2) := dk_21 4 (dk_at dksX1_ofAll_2 18 rfl rfl)
theorem dX1_ofAll_66 : decode cX1_ofAll 66 = .ok (.aload_n 0, 1) := dk_42 (dk_at dksX1_ofAll_2 20 rfl rfl)
theorem dX1_ofAll_67 : decode cX1_ofAll 67 = .ok (.getfield 26, 3) := dk_180 0 26 (dk_at dksX1_ofAll_2 21 rfl rfl)
theorem dX1_ofAll_70 : decode cX1_ofAll 70 = .ok (.iload 5, 2) := dk_21 5 (dk_at dksX1_ofAll_3 0 rfl rfl)
theorem dX1_ofAll_72 : decode cX1_ofAll 72 = .ok (.invokeinterface 80 2, 5) := by decide +kernel
theorem dX1_ofAll_77 : decode cX1_ofAll 77 = .ok (.checkcast 83, 3) := dk_192 0 83 (dk_at dksX1_ofAll_3 7 rfl rfl)
theorem dX1_ofAll_80 : decode cX1_ofAll 80 = .ok (.getfield 120, 3) := dk_180 0 120 (dk_at dksX1_ofAll_3 10 rfl rfl)
theorem dX1_ofAll_83 : decode cX1_ofAll 83 = .ok (.invokestatic 107, 3) := dk_184 0 107 (dk_at dksX1_ofAll_3 13 rfl rfl)
theorem dX1_ofAll_86 : decode cX1_ofAll 86 = .ok (.iadd, 1) := dk_96 (dk_at dksX1_ofAll_3 16 rfl rfl)
theorem dX1_ofAll_87 : decode cX1_ofAll 87 = .ok (.istore 4, 2) := dk_54 4 (dk_at dksX1_ofAll_3 17 rfl rfl)
theorem dX1_ofAll_89 : decode cX1_ofAll 89 = .ok (.iinc 5 1, 3) := dk_132 5 1 (dk_at dksX1_ofAll_3 19 rfl rfl)
theorem dX1_ofAll_92 : decode cX1_ofAll 92 = .ok (.goto (-82), 3) := dk_167 255 174 (dk_at dksX1_ofAll_4 0 rfl rfl)
theorem dX1_ofAll_95 : decode cX1_ofAll 95 = .ok (.iload_n 1, 1) := dk_27 (dk_at dksX1_ofAll_4 3 rfl rfl)
theorem dX1_ofAll_96 : decode cX1_ofAll 96 = .ok (.bipush 9, 2) := dk_16 9 (dk_at dksX1_ofAll_4 4 rfl rfl)
theorem dX1_ofAll_98 : decode cX1_ofAll 98 = .ok (.if_icmp .ne 10, 3) := dk_160 0 10 (dk_at dksX1_ofAll_4 6 rfl rfl)
theorem dX1_ofAll_101 : decode cX1_ofAll 101 = .ok (.iload 4, 2) := dk_21 4 (dk_at dksX1_ofAll_4 9 rfl rfl)
theorem dX1_ofAll_103 : decode cX1_ofAll 103 = .ok (.iconst 2, 1) := dk_5 (dk_at dksX1_ofAll_4 11 rfl rfl)
theorem dX1_ofAll_104 : decode cX1_ofAll 104 = .ok (.idiv, 1) := dk_108 (dk_at dksX1_ofAll_4 12 rfl rfl)
theorem dX1_ofAll_105 : decode cX1_ofAll 105 = .ok (.goto 14, 3) := dk_167 0 14 (dk_at dksX1_ofAll_4 13 rfl rfl)
theorem dX1_ofAll_108 : decode cX1_ofAll 108 = .ok (.iload_n 1, 1) := dk_27 (dk_at dksX1_ofAll_4 16 rfl rfl)
theorem dX1_ofAll_109 : decode cX1_ofAll 109 = .ok (.bipush 10, 2) := dk_16 10 (dk_at dksX1_ofAll_4 17 rfl rfl)
theorem dX1_ofAll_111 : decode cX1_ofAll 111 = .ok (.if_icmp .ne 7, 3) := dk_160 0 7 (dk_at dksX1_ofAll_4 19 rfl rfl)
theorem dX1_ofAll_114 : decode cX1_ofAll 114 = .ok (.iload_n 2, 1) := dk_28 (dk_at dksX1_ofAll_4 22 rfl rfl)
theorem dX1_ofAll_115 : decode cX1_ofAll 115 = .ok (.goto 4, 3) := dk_167 0 4 (dk_at dksX1_ofAll_5 0 rfl rfl)
theorem dX1_ofAll_118 : decode cX1_ofAll 118 = .ok (.iload_n 3, 1) := dk_29 (dk_at dksX1_ofAll_5 3 rfl rfl)
theorem dX1_ofAll_119 : decode cX1_ofAll 119 = .ok (.ireturn, 1) := dk_172 (dk_at dksX1_ofAll_5 4 rfl rfl)
abbrev cX1_spread : ByteArray := prog_1_method_65_code
def yX1_spread : MethodName := ⟨RX1, "spread", "()I"⟩
def dkwX1_spread_2 : List UInt8 := [21, 4, 184, 1, 160, 61, 132, 3, 1, 167, 255, 206, 27, 28, 100, 172]
abbrev dktX1_spread_2 : List UInt8 := dkwX1_spread_2 ++ []
def dkwX1_spread_1 : List UInt8 := [4, 182, 1, 111, 54, 4, 27, 21, 4, 184, 0, 177, 60, 29, 154, 0, 8, 21, 4, 167, 0, 9, 28]
abbrev dktX1_spread_1 : List UInt8 := dkwX1_spread_1 ++ dktX1_spread_2
def dkwX1_spread_0 : List UInt8 := [3, 60, 3, 61, 3, 62, 29, 42, 180, 0, 26, 185, 0, 72, 1, 0, 162, 0, 43, 42, 29, 178, 1, 15]
abbrev dktX1_spread_0 : List UInt8 := dkwX1_spread_0 ++ dktX1_spread_1
theorem dksX1_spread_0 : cX1_spread.data.toList.drop 0 = dktX1_spread_0 := by decide +kernel
theorem dksX1_spread_1 : cX1_spread.data.toList.drop 24 = dktX1_spread_1 := dk_seg dksX1_spread_0 24 rfl rfl
theorem dksX1_spread_2 : cX1_spread.data.toList.drop 47 = dktX1_spread_2 := dk_seg dksX1_spread_1 23 rfl rfl
theorem dX1_spread_0 : decode cX1_spread 0 = .ok (.iconst 0, 1) := dk_3 (dk_at dksX1_spread_0 0 rfl rfl)
theorem dX1_spread_1 : decode cX1_spread 1 = .ok (.istore_n 1, 1) := dk_60 (dk_at dksX1_spread_0 1 rfl rfl)
theorem dX1_spread_2 : decode cX1_spread 2 = .ok (.iconst 0, 1) := dk_3 (dk_at dksX1_spread_0 2 rfl rfl)
theorem dX1_spread_3 : decode cX1_spread 3 = .ok (.istore_n 2, 1) := dk_61 (dk_at dksX1_spread_0 3 rfl rfl)
theorem dX1_spread_4 : decode cX1_spread 4 = .ok (.iconst 0, 1) := dk_3 (dk_at dksX1_spread_0 4 rfl rfl)
theorem dX1_spread_5 : decode cX1_spread 5 = .ok (.istore_n 3, 1) := dk_62 (dk_at dksX1_spread_0 5 rfl rfl)
theorem dX1_spread_6 : decode cX1_spread 6 = .ok (.iload_n 3, 1) := dk_29 (dk_at dksX1_spread_0 6 rfl rfl)
theorem dX1_spread_7 : decode cX1_spread 7 = .ok (.aload_n 0, 1) := dk_42 (dk_at dksX1_spread_0 7 rfl rfl)
theorem dX1_spread_8 : decode cX1_spread 8 = .ok (.getfield 26, 3) := dk_180 0 26 (dk_at dksX1_spread_0 8 rfl rfl)
theorem dX1_spread_11 : decode cX1_spread 11 = .ok (.invokeinterface 72 1, 5) := by decide +kernel
theorem dX1_spread_16 : decode cX1_spread 16 = .ok (.if_icmp .ge 43, 3) := dk_162 0 43 (dk_at dksX1_spread_0 16 rfl rfl)
theorem dX1_spread_19 : decode cX1_spread 19 = .ok (.aload_n 0, 1) := dk_42 (dk_at dksX1_spread_0 19 rfl rfl)
theorem dX1_spread_20 : decode cX1_spread 20 = .ok (.iload_n 3, 1) := dk_29 (dk_at dksX1_spread_0 20 rfl rfl)
theorem dX1_spread_21 : decode cX1_spread 21 = .ok (.getstatic 271, 3) := dk_178 1 15 (dk_at dksX1_spread_0 21 rfl rfl)
theorem dX1_spread_24 : decode cX1_spread 24 = .ok (.iconst 1, 1) := dk_4 (dk_at dksX1_spread_1 0 rfl rfl)
theorem dX1_spread_25 : decode cX1_spread 25 = .ok (.invokevirtual 367, 3) := dk_182 1 111 (dk_at dksX1_spread_1 1 rfl rfl)
theorem dX1_spread_28 : decode cX1_spread 28 = .ok (.istore 4, 2) := dk_54 4 (dk_at dksX1_spread_1 4 rfl rfl)
theorem dX1_spread_30 : decode cX1_spread 30 = .ok (.iload_n 1, 1) := dk_27 (dk_at dksX1_spread_1 6 rfl rfl)
theorem dX1_spread_31 : decode cX1_spread 31 = .ok (.iload 4, 2) := dk_21 4 (dk_at dksX1_spread_1 7 rfl rfl)
theorem dX1_spread_33 : decode cX1_spread 33 = .ok (.invokestatic 177, 3) := dk_184 0 177 (dk_at dksX1_spread_1 9 rfl rfl)
theorem dX1_spread_36 : decode cX1_spread 36 = .ok (.istore_n 1, 1) := dk_60 (dk_at dksX1_spread_1 12 rfl rfl)
theorem dX1_spread_37 : decode cX1_spread 37 = .ok (.iload_n 3, 1) := dk_29 (dk_at dksX1_spread_1 13 rfl rfl)
theorem dX1_spread_38 : decode cX1_spread 38 = .ok (.ifCond .ne 8, 3) := dk_154 0 8 (dk_at dksX1_spread_1 14 rfl rfl)
theorem dX1_spread_41 : decode cX1_spread 41 = .ok (.iload 4, 2) := dk_21 4 (dk_at dksX1_spread_1 17 rfl rfl)
theorem dX1_spread_43 : decode cX1_spread 43 = .ok (.goto 9, 3) := dk_167 0 9 (dk_at dksX1_spread_1 19 rfl rfl)
theorem dX1_spread_46 : decode cX1_spread 46 = .ok (.iload_n 2, 1) := dk_28 (dk_at dksX1_spread_1 22 rfl rfl)
theorem dX1_spread_47 : decode cX1_spread 47 = .ok (.iload 4, 2) := dk_21 4 (dk_at dksX1_spread_2 0 rfl rfl)
theorem dX1_spread_49 : decode cX1_spread 49 = .ok (.invokestatic 416, 3) := dk_184 1 160 (dk_at dksX1_spread_2 2 rfl rfl)
theorem dX1_spread_52 : decode cX1_spread 52 = .ok (.istore_n 2, 1) := dk_61 (dk_at dksX1_spread_2 5 rfl rfl)
theorem dX1_spread_53 : decode cX1_spread 53 = .ok (.iinc 3 1, 3) := dk_132 3 1 (dk_at dksX1_spread_2 6 rfl rfl)
theorem dX1_spread_56 : decode cX1_spread 56 = .ok (.goto (-50), 3) := dk_167 255 206 (dk_at dksX1_spread_2 9 rfl rfl)
theorem dX1_spread_59 : decode cX1_spread 59 = .ok (.iload_n 1, 1) := dk_27 (dk_at dksX1_spread_2 12 rfl rfl)
theorem dX1_spread_60 : decode cX1_spread 60 = .ok (.iload_n 2, 1) := dk_28 (dk_at dksX1_spread_2 13 rfl rfl)
theorem dX1_spread_61 : decode cX1_spread 61 = .ok (.isub, 1) := dk_100 (dk_at dksX1_spread_2 14 rfl rfl)
theorem dX1_spread_62 : decode cX1_spread 62 = .ok (.ireturn, 1) := dk_172 (dk_at dksX1_spread_2 15 rfl rfl)
abbrev cX1_digest : ByteArray := prog_1_method_82_code
def yX1_digest : MethodName := ⟨RX1, "digest", "()J"⟩
def dkwX1_digest_5 : List UInt8 := [182, 1, 223, 43, 180, 1, 237, 173]
abbrev dktX1_digest_5 : List UInt8 := dkwX1_digest_5 ++ []
def dkwX1_digest_4 : List UInt8 := [3, 8, 182, 0, 129, 133, 182, 1, 223, 43, 42, 182, 1, 220, 153, 0, 7, 10, 167, 0, 4, 9]
abbrev dktX1_digest_4 : List UInt8 := dkwX1_digest_4 ++ dktX1_digest_5
def dkwX1_digest_3 : List UInt8 := [180, 0, 26, 185, 0, 72, 1, 0, 120, 4, 100, 4, 182, 1, 91, 133, 182, 1, 223, 43, 42, 180, 0, 38]
abbrev dktX1_digest_3 : List UInt8 := dkwX1_digest_3 ++ dktX1_digest_4
def dkwX1_digest_2 : List UInt8 := [185, 0, 72, 1, 0, 162, 0, 15, 42, 43, 28, 182, 1, 233, 132, 2, 1, 167, 255, 234, 43, 42, 4, 42]
abbrev dktX1_digest_2 : List UInt8 := dkwX1_digest_2 ++ dktX1_digest_3
def dkwX1_digest_1 : List UInt8 := [182, 1, 223, 132, 2, 1, 167, 255, 237, 42, 43, 182, 1, 229, 3, 61, 28, 42, 180, 0, 45]
abbrev dktX1_digest_1 : List UInt8 := dkwX1_digest_1 ++ dktX1_digest_2
def dkwX1_digest_0 : List UInt8 := [187, 1, 224, 89, 183, 1, 228, 76, 3, 61, 28, 16, 12, 163, 0, 19, 43, 42, 28, 182, 1, 175, 133]
abbrev dktX1_digest_0 : List UInt8 := dkwX1_digest_0 ++ dktX1_digest_1
theorem dksX1_digest_0 : cX1_digest.data.toList.drop 0 = dktX1_digest_0 := by decide +kernel
theorem dksX1_digest_1 : cX1_digest.data.toList.drop 23 = dktX1_digest_1 := dk_seg dksX1_digest_0 23 rfl rfl
theorem dksX1_digest_2 : cX1_digest.data.toList.drop 44 = dktX1_digest_2 := dk_seg dksX1_digest_1 21 rfl rfl
theorem dksX1_digest_3 : cX1_digest.data.toList.drop 68 = dktX1_digest_3 := dk_seg dksX1_digest_2 24 rfl rfl
theorem dksX1_digest_4 : cX1_digest.data.toList.drop 92 = dktX1_digest_4 := dk_seg dksX1_digest_3 24 rfl rfl
theorem dksX1_digest_5 : cX1_digest.data.toList.drop 114 = dktX1_digest_5 := dk_seg dksX1_digest_4 22 rfl rfl
theorem dX1_digest_0 : decode cX1_digest 0 = .ok (.new 480, 3) := dk_187 1 224 (dk_at dksX1_digest_0 0 rfl rfl)
theorem dX1_digest_3 : decode cX1_digest 3 = .ok (.dup, 1) := dk_89 (dk_at dksX1_digest_0 3 rfl rfl)
theorem dX1_digest_4 : decode cX1_digest 4 = .ok (.invokespecial 484, 3) := dk_183 1 228 (dk_at dksX1_digest_0 4 rfl rfl)
theorem dX1_digest_7 : decode cX1_digest 7 = .ok (.astore_n 1, 1) := dk_76 (dk_at dksX1_digest_0 7 rfl rfl)
theorem dX1_digest_8 : decode cX1_digest 8 = .ok (.iconst 0, 1) := dk_3 (dk_at dksX1_digest_0 8 rfl rfl)
theorem dX1_digest_9 : decode cX1_digest 9 = .ok (.istore_n 2, 1) := dk_61 (dk_at dksX1_digest_0 9 rfl rfl)
theorem dX1_digest_10 : decode cX1_digest 10 = .ok (.iload_n 2, 1) := dk_28 (dk_at dksX1_digest_0 10 rfl rfl)
theorem dX1_digest_11 : decode cX1_digest 11 = .ok (.bipush 12, 2) := dk_16 12 (dk_at dksX1_digest_0 11 rfl rfl)
theorem dX1_digest_13 : decode cX1_digest 13 = .ok (.if_icmp .gt 19, 3) := dk_163 0 19 (dk_at dksX1_digest_0 13 rfl rfl)
theorem dX1_digest_16 : decode cX1_digest 16 = .ok (.aload_n 1, 1) := dk_43 (dk_at dksX1_digest_0 16 rfl rfl)
theorem dX1_digest_17 : decode cX1_digest 17 = .ok (.aload_n 0, 1) := dk_42 (dk_at dksX1_digest_0 17 rfl rfl)
theorem dX1_digest_18 : decode cX1_digest 18 = .ok (.iload_n 2, 1) := dk_28 (dk_at dksX1_digest_0 18 rfl rfl)
theorem dX1_digest_19 : decode cX1_digest 19 = .ok (.invokevirtual 431, 3) := dk_182 1 175 (dk_at dksX1_digest_0 19 rfl rfl)
theorem dX1_digest_22 : decode cX1_digest 22 = .ok (.i2l, 1) := dk_133 (dk_at dksX1_digest_0 22 rfl rfl)
theorem dX1_digest_23 : decode cX1_digest 23 = .ok (.invokevirtual 479, 3) := dk_182 1 223 (dk_at dksX1_digest_1 0 rfl rfl)
theorem dX1_digest_26 : decode cX1_digest 26 = .ok (.iinc 2 1, 3) := dk_132 2 1 (dk_at dksX1_digest_1 3 rfl rfl)
theorem dX1_digest_29 : decode cX1_digest 29 = .ok (.goto (-19), 3) := dk_167 255 237 (dk_at dksX1_digest_1 6 rfl rfl)
theorem dX1_digest_32 : decode cX1_digest 32 = .ok (.aload_n 0, 1) := dk_42 (dk_at dksX1_digest_1 9 rfl rfl)
theorem dX1_digest_33 : decode cX1_digest 33 = .ok (.aload_n 1, 1) := dk_43 (dk_at dksX1_digest_1 10 rfl rfl)
theorem dX1_digest_34 : decode cX1_digest 34 = .ok (.invokevirtual 485, 3) := dk_182 1 229 (dk_at dksX1_digest_1 11 rfl rfl)
theorem dX1_digest_37 : decode cX1_digest 37 = .ok (.iconst 0, 1) := dk_3 (dk_at dksX1_digest_1 14 rfl rfl)
theorem dX1_digest_38 : decode cX1_digest 38 = .ok (.istore_n 2, 1) := dk_61 (dk_at dksX1_digest_1 15 rfl rfl)
theorem dX1_digest_39 : decode cX1_digest 39 = .ok (.iload_n 2, 1) := dk_28 (dk_at dksX1_digest_1 16 rfl rfl)
theorem dX1_digest_40 : decode cX1_digest 40 = .ok (.aload_n 0, 1) := dk_42 (dk_at dksX1_digest_1 17 rfl rfl)
theorem dX1_digest_41 : decode cX1_digest 41 = .ok (.getfield 45, 3) := dk_180 0 45 (dk_at dksX1_digest_1 18 rfl rfl)
theorem dX1_digest_44 : decode cX1_digest 44 = .ok (.invokeinterface 72 1, 5) := by decide +kernel
theorem dX1_digest_49 : decode cX1_digest 49 = .ok (.if_icmp .ge 15, 3) := dk_162 0 15 (dk_at dksX1_digest_2 5 rfl rfl)
theorem dX1_digest_52 : decode cX1_digest 52 = .ok (.aload_n 0, 1) := dk_42 (dk_at dksX1_digest_2 8 rfl rfl)
theorem dX1_digest_53 : decode cX1_digest 53 = .ok (.aload_n 1, 1) := dk_43 (dk_at dksX1_digest_2 9 rfl rfl)
theorem dX1_digest_54 : decode cX1_digest 54 = .ok (.iload_n 2, 1) := dk_28 (dk_at dksX1_digest_2 10 rfl rfl)
theorem dX1_digest_55 : decode cX1_digest 55 = .ok (.invokevirtual 489, 3) := dk_182 1 233 (dk_at dksX1_digest_2 11 rfl rfl)
theorem dX1_digest_58 : decode cX1_digest 58 = .ok (.iinc 2 1, 3) := dk_132 2 1 (dk_at dksX1_digest_2 14 rfl rfl)
theorem dX1_digest_61 : decode cX1_digest 61 = .ok (.goto (-22), 3) := dk_167 255 234 (dk_at dksX1_digest_2 17 rfl rfl)
theorem dX1_digest_64 : decode cX1_digest 64 = .ok (.aload_n 1, 1) := dk_43 (dk_at dksX1_digest_2 20 rfl rfl)
theorem dX1_digest_65 : decode cX1_digest 65 = .ok (.aload_n 0, 1) := dk_42 (dk_at dksX1_digest_2 21 rfl rfl)
theorem dX1_digest_66 : decode cX1_digest 66 = .ok (.iconst 1, 1) := dk_4 (dk_at dksX1_digest_2 22 rfl rfl)
theorem dX1_digest_67 : decode cX1_digest 67 = .ok (.aload_n 0, 1) := dk_42 (dk_at dksX1_digest_2 23 rfl rfl)
theorem dX1_digest_68 : decode cX1_digest 68 = .ok (.getfield 26, 3) := dk_180 0 26 (dk_at dksX1_digest_3 0 rfl rfl)
theorem dX1_digest_71 : decode cX1_digest 71 = .ok (.invokeinterface 72 1, 5) := by decide +kernel
theorem dX1_digest_76 : decode cX1_digest 76 = .ok (.ishl, 1) := dk_120 (dk_at dksX1_digest_3 8 rfl rfl)
theorem dX1_digest_77 : decode cX1_digest 77 = .ok (.iconst 1, 1) := dk_4 (dk_at dksX1_digest_3 9 rfl rfl)
theorem dX1_digest_78 : decode cX1_digest 78 = .ok (.isub, 1) := dk_100 (dk_at dksX1_digest_3 10 rfl rfl)
theorem dX1_digest_79 : decode cX1_digest 79 = .ok (.iconst 1, 1) := dk_4 (dk_at dksX1_digest_3 11 rfl rfl)
theorem dX1_digest_80 : decode cX1_digest 80 = .ok (.invokevirtual 347, 3) := dk_182 1 91 (dk_at dksX1_digest_3 12 rfl rfl)
theorem dX1_digest_83 : decode cX1_digest 83 = .ok (.i2l, 1) := dk_133 (dk_at dksX1_digest_3 15 rfl rfl)
theorem dX1_digest_84 : decode cX1_digest 84 = .ok (.invokevirtual 479, 3) := dk_182 1 223 (dk_at dksX1_digest_3 16 rfl rfl)
theorem dX1_digest_87 : decode cX1_digest 87 = .ok (.aload_n 1, 1) := dk_43 (dk_at dksX1_digest_3 19 rfl rfl)
theorem dX1_digest_88 : decode cX1_digest 88 = .ok (.aload_n 0, 1) := dk_42 (dk_at dksX1_digest_3 20 rfl rfl)
theorem dX1_digest_89 : decode cX1_digest 89 = .ok (.getfield 38, 3) := dk_180 0 38 (dk_at dksX1_digest_3 21 rfl rfl)
theorem dX1_digest_92 : decode cX1_digest 92 = .ok (.iconst 0, 1) := dk_3 (dk_at dksX1_digest_4 0 rfl rfl)
theorem dX1_digest_93 : decode cX1_digest 93 = .ok (.iconst 5, 1) := dk_8 (dk_at dksX1_digest_4 1 rfl rfl)
theorem dX1_digest_94 : decode cX1_digest 94 = .ok (.invokevirtual 129, 3) := dk_182 0 129 (dk_at dksX1_digest_4 2 rfl rfl)
theorem dX1_digest_97 : decode cX1_digest 97 = .ok (.i2l, 1) := dk_133 (dk_at dksX1_digest_4 5 rfl rfl)
theorem dX1_digest_98 : decode cX1_digest 98 = .ok (.invokevirtual 479, 3) := dk_182 1 223 (dk_at dksX1_digest_4 6 rfl rfl)
theorem dX1_digest_101 : decode cX1_digest 101 = .ok (.aload_n 1, 1) := dk_43 (dk_at dksX1_digest_4 9 rfl rfl)
theorem dX1_digest_102 : decode cX1_digest 102 = .ok (.aload_n 0, 1) := dk_42 (dk_at dksX1_digest_4 10 rfl rfl)
theorem dX1_digest_103 : decode cX1_digest 103 = .ok (.invokevirtual 476, 3) := dk_182 1 220 (dk_at dksX1_digest_4 11 rfl rfl)
theorem dX1_digest_106 : decode cX1_digest 106 = .ok (.ifCond .eq 7, 3) := dk_153 0 7 (dk_at dksX1_digest_4 14 rfl rfl)
theorem dX1_digest_109 : decode cX1_digest 109 = .ok (.lconst 1, 1) := dk_10 (dk_at dksX1_digest_4 17 rfl rfl)
theorem dX1_digest_110 : decode cX1_digest 110 = .ok (.goto 4, 3) := dk_167 0 4 (dk_at dksX1_digest_4 18 rfl rfl)
theorem dX1_digest_113 : decode cX1_digest 113 = .ok (.lconst 0, 1) := dk_9 (dk_at dksX1_digest_4 21 rfl rfl)
theorem dX1_digest_114 : decode cX1_digest 114 = .ok (.invokevirtual 479, 3) := dk_182 1 223 (dk_at dksX1_digest_5 0 rfl rfl)
theorem dX1_digest_117 : decode cX1_digest 117 = .ok (.aload_n 1, 1) := dk_43 (dk_at dksX1_digest_5 3 rfl rfl)
theorem dX1_digest_118 : decode cX1_digest 118 = .ok (.getfield 493, 3) := dk_180 1 237 (dk_at dksX1_digest_5 4 rfl rfl)
theorem dX1_digest_121 : decode cX1_digest 121 = .ok (.lreturn, 1) := dk_173 (dk_at dksX1_digest_5 7 rfl rfl)
abbrev cX1_sumRest : ByteArray := prog_1_method_80_code
def yX1_sumRest : MethodName := ⟨RX1, "sumRest", "(LFirstdanceAgency$Sum;)V"⟩
def dkwX1_sumRest_5 : List UInt8 := [132, 3, 1, 167, 255, 236, 132, 2, 1, 167, 255, 215, 177]
abbrev dktX1_sumRest_5 : List UInt8 := dkwX1_sumRest_5 ++ []
def dkwX1_sumRest_4 : List UInt8 := [162, 0, 34, 3, 62, 29, 16, 8, 163, 0, 20, 43, 42, 28, 29, 182, 1, 137, 133, 182, 1, 223]
abbrev dktX1_sumRest_4 : List UInt8 := dkwX1_sumRest_4 ++ dktX1_sumRest_5
def dkwX1_sumRest_3 : List UInt8 := [132, 3, 1, 167, 255, 237, 132, 2, 1, 167, 255, 223, 3, 61, 28, 42, 180, 0, 42, 185, 0, 72, 1, 0]
abbrev dktX1_sumRest_3 : List UInt8 := dkwX1_sumRest_3 ++ dktX1_sumRest_4
def dkwX1_sumRest_2 : List UInt8 := [28, 16, 16, 162, 0, 33, 3, 62, 29, 8, 163, 0, 20, 43, 42, 28, 29, 182, 1, 127, 133, 182, 1, 223]
abbrev dktX1_sumRest_2 : List UInt8 := dkwX1_sumRest_2 ++ dktX1_sumRest_3
def dkwX1_sumRest_1 : List UInt8 := [42, 28, 29, 182, 1, 115, 133, 182, 1, 223, 132, 3, 1, 167, 255, 236, 132, 2, 1, 167, 255, 215, 3, 61]
abbrev dktX1_sumRest_1 : List UInt8 := dkwX1_sumRest_1 ++ dktX1_sumRest_2
def dkwX1_sumRest_0 : List UInt8 := [3, 61, 28, 42, 180, 0, 26, 185, 0, 72, 1, 0, 162, 0, 34, 3, 62, 29, 16, 8, 163, 0, 20, 43]
abbrev dktX1_sumRest_0 : List UInt8 := dkwX1_sumRest_0 ++ dktX1_sumRest_1
theorem dksX1_sumRest_0 : cX1_sumRest.data.toList.drop 0 = dktX1_sumRest_0 := by decide +kernel
theorem dksX1_sumRest_1 : cX1_sumRest.data.toList.drop 24 = dktX1_sumRest_1 := dk_seg dksX1_sumRest_0 24 rfl rfl
theorem dksX1_sumRest_2 : cX1_sumRest.data.toList.drop 48 = dktX1_sumRest_2 := dk_seg dksX1_sumRest_1 24 rfl rfl
theorem dksX1_sumRest_3 : cX1_sumRest.data.toList.drop 72 = dktX1_sumRest_3 := dk_seg dksX1_sumRest_2 24 rfl rfl
theorem dksX1_sumRest_4 : cX1_sumRest.data.toList.drop 96 = dktX1_sumRest_4 := dk_seg dksX1_sumRest_3 24 rfl rfl
theorem dksX1_sumRest_5 : cX1_sumRest.data.toList.drop 118 = dktX1_sumRest_5 := dk_seg dksX1_sumRest_4 22 rfl rfl
theorem dX1_sumRest_0 : decode cX1_sumRest 0 = .ok (.iconst 0, 1) := dk_3 (dk_at dksX1_sumRest_0 0 rfl rfl)
theorem dX1_sumRest_1 : decode cX1_sumRest 1 = .ok (.istore_n 2, 1) := dk_61 (dk_at dksX1_sumRest_0 1 rfl rfl)
theorem dX1_sumRest_2 : decode cX1_sumRest 2 = .ok (.iload_n 2, 1) := dk_28 (dk_at dksX1_sumRest_0 2 rfl rfl)
theorem dX1_sumRest_3 : decode cX1_sumRest 3 = .ok (.aload_n 0, 1) := dk_42 (dk_at dksX1_sumRest_0 3 rfl rfl)
theorem dX1_sumRest_4 : decode cX1_sumRest 4 = .ok (.getfield 26, 3) := dk_180 0 26 (dk_at dksX1_sumRest_0 4 rfl rfl)
theorem dX1_sumRest_7 : decode cX1_sumRest 7 = .ok (.invokeinterface 72 1, 5) := by decide +kernel
theorem dX1_sumRest_12 : decode cX1_sumRest 12 = .ok (.if_icmp .ge 34, 3) := dk_162 0 34 (dk_at dksX1_sumRest_0 12 rfl rfl)
theorem dX1_sumRest_15 : decode cX1_sumRest 15 = .ok (.iconst 0, 1) := dk_3 (dk_at dksX1_sumRest_0 15 rfl rfl)
theorem dX1_sumRest_16 : decode cX1_sumRest 16 = .ok (.istore_n 3, 1) := dk_62 (dk_at dksX1_sumRest_0 16 rfl rfl)
theorem dX1_sumRest_17 : decode cX1_sumRest 17 = .ok (.iload_n 3, 1) := dk_29 (dk_at dksX1_sumRest_0 17 rfl rfl)
theorem dX1_sumRest_18 : decode cX1_sumRest 18 = .ok (.bipush 8, 2) := dk_16 8 (dk_at dksX1_sumRest_0 18 rfl rfl)
theorem dX1_sumRest_20 : decode cX1_sumRest 20 = .ok (.if_icmp .gt 20, 3) := dk_163 0 20 (dk_at dksX1_sumRest_0 20 rfl rfl)
theorem dX1_sumRest_23 : decode cX1_sumRest 23 = .ok (.aload_n 1, 1) := dk_43 (dk_at dksX1_sumRest_0 23 rfl rfl)
theorem dX1_sumRest_24 : decode cX1_sumRest 24 = .ok (.aload_n 0, 1) := dk_42 (dk_at dksX1_sumRest_1 0 rfl rfl)
theorem dX1_sumRest_25 : decode cX1_sumRest 25 = .ok (.iload_n 2, 1) := dk_28 (dk_at dksX1_sumRest_1 1 rfl rfl)
theorem dX1_sumRest_26 : decode cX1_sumRest 26 = .ok (.iload_n 3, 1) := dk_29 (dk_at dksX1_sumRest_1 2 rfl rfl)
theorem dX1_sumRest_27 : decode cX1_sumRest 27 = .ok (.invokevirtual 371, 3) := dk_182 1 115 (dk_at dksX1_sumRest_1 3 rfl rfl)
theorem dX1_sumRest_30 : decode cX1_sumRest 30 = .ok (.i2l, 1) := dk_133 (dk_at dksX1_sumRest_1 6 rfl rfl)
theorem dX1_sumRest_31 : decode cX1_sumRest 31 = .ok (.invokevirtual 479, 3) := dk_182 1 223 (dk_at dksX1_sumRest_1 7 rfl rfl)
theorem dX1_sumRest_34 : decode cX1_sumRest 34 = .ok (.iinc 3 1, 3) := dk_132 3 1 (dk_at dksX1_sumRest_1 10 rfl rfl)
theorem dX1_sumRest_37 : decode cX1_sumRest 37 = .ok (.goto (-20), 3) := dk_167 255 236 (dk_at dksX1_sumRest_1 13 rfl rfl)
theorem dX1_sumRest_40 : decode cX1_sumRest 40 = .ok (.iinc 2 1, 3) := dk_132 2 1 (dk_at dksX1_sumRest_1 16 rfl rfl)
theorem dX1_sumRest_43 : decode cX1_sumRest 43 = .ok (.goto (-41), 3) := dk_167 255 215 (dk_at dksX1_sumRest_1 19 rfl rfl)
theorem dX1_sumRest_46 : decode cX1_sumRest 46 = .ok (.iconst 0, 1) := dk_3 (dk_at dksX1_sumRest_1 22 rfl rfl)
theorem dX1_sumRest_47 : decode cX1_sumRest 47 = .ok (.istore_n 2, 1) := dk_61 (dk_at dksX1_sumRest_1 23 rfl rfl)
theorem dX1_sumRest_48 : decode cX1_sumRest 48 = .ok (.iload_n 2, 1) := dk_28 (dk_at dksX1_sumRest_2 0 rfl rfl)
theorem dX1_sumRest_49 : decode cX1_sumRest 49 = .ok (.bipush 16, 2) := dk_16 16 (dk_at dksX1_sumRest_2 1 rfl rfl)
theorem dX1_sumRest_51 : decode cX1_sumRest 51 = .ok (.if_icmp .ge 33, 3) := dk_162 0 33 (dk_at dksX1_sumRest_2 3 rfl rfl)
theorem dX1_sumRest_54 : decode cX1_sumRest 54 = .ok (.iconst 0, 1) := dk_3 (dk_at dksX1_sumRest_2 6 rfl rfl)
theorem dX1_sumRest_55 : decode cX1_sumRest 55 = .ok (.istore_n 3, 1) := dk_62 (dk_at dksX1_sumRest_2 7 rfl rfl)
theorem dX1_sumRest_56 : decode cX1_sumRest 56 = .ok (.iload_n 3, 1) := dk_29 (dk_at dksX1_sumRest_2 8 rfl rfl)
theorem dX1_sumRest_57 : decode cX1_sumRest 57 = .ok (.iconst 5, 1) := dk_8 (dk_at dksX1_sumRest_2 9 rfl rfl)
theorem dX1_sumRest_58 : decode cX1_sumRest 58 = .ok (.if_icmp .gt 20, 3) := dk_163 0 20 (dk_at dksX1_sumRest_2 10 rfl rfl)
theorem dX1_sumRest_61 : decode cX1_sumRest 61 = .ok (.aload_n 1, 1) := dk_43 (dk_at dksX1_sumRest_2 13 rfl rfl)
theorem dX1_sumRest_62 : decode cX1_sumRest 62 = .ok (.aload_n 0, 1) := dk_42 (dk_at dksX1_sumRest_2 14 rfl rfl)
theorem dX1_sumRest_63 : decode cX1_sumRest 63 = .ok (.iload_n 2, 1) := dk_28 (dk_at dksX1_sumRest_2 15 rfl rfl)
theorem dX1_sumRest_64 : decode cX1_sumRest 64 = .ok (.iload_n 3, 1) := dk_29 (dk_at dksX1_sumRest_2 16 rfl rfl)
theorem dX1_sumRest_65 : decode cX1_sumRest 65 = .ok (.invokevirtual 383, 3) := dk_182 1 127 (dk_at dksX1_sumRest_2 17 rfl rfl)
theorem dX1_sumRest_68 : decode cX1_sumRest 68 = .ok (.i2l, 1) := dk_133 (dk_at dksX1_sumRest_2 20 rfl rfl)
theorem dX1_sumRest_69 : decode cX1_sumRest 69 = .ok (.invokevirtual 479, 3) := dk_182 1 223 (dk_at dksX1_sumRest_2 21 rfl rfl)
theorem dX1_sumRest_72 : decode cX1_sumRest 72 = .ok (.iinc 3 1, 3) := dk_132 3 1 (dk_at dksX1_sumRest_3 0 rfl rfl)
theorem dX1_sumRest_75 : decode cX1_sumRest 75 = .ok (.goto (-19), 3) := dk_167 255 237 (dk_at dksX1_sumRest_3 3 rfl rfl)
theorem dX1_sumRest_78 : decode cX1_sumRest 78 = .ok (.iinc 2 1, 3) := dk_132 2 1 (dk_at dksX1_sumRest_3 6 rfl rfl)
theorem dX1_sumRest_81 : decode cX1_sumRest 81 = .ok (.goto (-33), 3) := dk_167 255 223 (dk_at dksX1_sumRest_3 9 rfl rfl)
theorem dX1_sumRest_84 : decode cX1_sumRest 84 = .ok (.iconst 0, 1) := dk_3 (dk_at dksX1_sumRest_3 12 rfl rfl)
theorem dX1_sumRest_85 : decode cX1_sumRest 85 = .ok (.istore_n 2, 1) := dk_61 (dk_at dksX1_sumRest_3 13 rfl rfl)
theorem dX1_sumRest_86 : decode cX1_sumRest 86 = .ok (.iload_n 2, 1) := dk_28 (dk_at dksX1_sumRest_3 14 rfl rfl)
theorem dX1_sumRest_87 : decode cX1_sumRest 87 = .ok (.aload_n 0, 1) := dk_42 (dk_at dksX1_sumRest_3 15 rfl rfl)
theorem dX1_sumRest_88 : decode cX1_sumRest 88 = .ok (.getfield 42, 3) := dk_180 0 42 (dk_at dksX1_sumRest_3 16 rfl rfl)
theorem dX1_sumRest_91 : decode cX1_sumRest 91 = .ok (.invokeinterface 72 1, 5) := by decide +kernel
theorem dX1_sumRest_96 : decode cX1_sumRest 96 = .ok (.if_icmp .ge 34, 3) := dk_162 0 34 (dk_at dksX1_sumRest_4 0 rfl rfl)
theorem dX1_sumRest_99 : decode cX1_sumRest 99 = .ok (.iconst 0, 1) := dk_3 (dk_at dksX1_sumRest_4 3 rfl rfl)
theorem dX1_sumRest_100 : decode cX1_sumRest 100 = .ok (.istore_n 3, 1) := dk_62 (dk_at dksX1_sumRest_4 4 rfl rfl)
theorem dX1_sumRest_101 : decode cX1_sumRest 101 = .ok (.iload_n 3, 1) := dk_29 (dk_at dksX1_sumRest_4 5 rfl rfl)
theorem dX1_sumRest_102 : decode cX1_sumRest 102 = .ok (.bipush 8, 2) := dk_16 8 (dk_at dksX1_sumRest_4 6 rfl rfl)
theorem dX1_sumRest_104 : decode cX1_sumRest 104 = .ok (.if_icmp .gt 20, 3) := dk_163 0 20 (dk_at dksX1_sumRest_4 8 rfl rfl)
theorem dX1_sumRest_107 : decode cX1_sumRest 107 = .ok (.aload_n 1, 1) := dk_43 (dk_at dksX1_sumRest_4 11 rfl rfl)
theorem dX1_sumRest_108 : decode cX1_sumRest 108 = .ok (.aload_n 0, 1) := dk_42 (dk_at dksX1_sumRest_4 12 rfl rfl)
theorem dX1_sumRest_109 : decode cX1_sumRest 109 = .ok (.iload_n 2, 1) := dk_28 (dk_at dksX1_sumRest_4 13 rfl rfl)
theorem dX1_sumRest_110 : decode cX1_sumRest 110 = .ok (.iload_n 3, 1) := dk_29 (dk_at dksX1_sumRest_4 14 rfl rfl)
theorem dX1_sumRest_111 : decode cX1_sumRest 111 = .ok (.invokevirtual 393, 3) := dk_182 1 137 (dk_at dksX1_sumRest_4 15 rfl rfl)
theorem dX1_sumRest_114 : decode cX1_sumRest 114 = .ok (.i2l, 1) := dk_133 (dk_at dksX1_sumRest_4 18 rfl rfl)
theorem dX1_sumRest_115 : decode cX1_sumRest 115 = .ok (.invokevirtual 479, 3) := dk_182 1 223 (dk_at dksX1_sumRest_4 19 rfl rfl)
theorem dX1_sumRest_118 : decode cX1_sumRest 118 = .ok (.iinc 3 1, 3) := dk_132 3 1 (dk_at dksX1_sumRest_5 0 rfl rfl)
theorem dX1_sumRest_121 : decode cX1_sumRest 121 = .ok (.goto (-20), 3) := dk_167 255 236 (dk_at dksX1_sumRest_5 3 rfl rfl)
theorem dX1_sumRest_124 : decode cX1_sumRest 124 = .ok (.iinc 2 1, 3) := dk_132 2 1 (dk_at dksX1_sumRest_5 6 rfl rfl)
theorem dX1_sumRest_127 : decode cX1_sumRest 127 = .ok (.goto (-41), 3) := dk_167 255 215 (dk_at dksX1_sumRest_5 9 rfl rfl)
theorem dX1_sumRest_130 : decode cX1_sumRest 130 = .ok (.return_, 1) := dk_177 (dk_at dksX1_sumRest_5 12 rfl rfl)
abbrev cX1_songNow : ByteArray := prog_1_method_51_code
def yX1_songNow : MethodName := ⟨RX1, "songNow", "(II)I"⟩
def dkwX1_songNow_3 : List UInt8 := [182, 1, 121, 172, 42, 27, 182, 1, 124, 172]
abbrev dktX1_songNow_3 : List UInt8 := dkwX1_songNow_3 ++ []
def dkwX1_songNow_2 : List UInt8 := [45, 180, 1, 118, 172, 45, 180, 1, 51, 172, 45, 180, 0, 117, 172, 45, 180, 0, 110, 172, 42, 27]
abbrev dktX1_songNow_2 : List UInt8 := dkwX1_songNow_2 ++ dktX1_songNow_3
def dkwX1_songNow_1 : List UInt8 := [170, 0, 0, 0, 59, 0, 0, 0, 0, 0, 0, 0, 4, 0, 0, 0, 33, 0, 0, 0, 38, 0, 0, 0, 43, 0, 0, 0, 48, 0, 0, 0, 53]
abbrev dktX1_songNow_1 : List UInt8 := dkwX1_songNow_1 ++ dktX1_songNow_2
def dkwX1_songNow_0 : List UInt8 := [42, 180, 0, 32, 27, 185, 0, 80, 2, 0, 192, 0, 48, 78, 28]
abbrev dktX1_songNow_0 : List UInt8 := dkwX1_songNow_0 ++ dktX1_songNow_1
theorem dksX1_songNow_0 : cX1_songNow.data.toList.drop 0 = dktX1_songNow_0 := by decide +kernel
theorem dksX1_songNow_1 : cX1_songNow.data.toList.drop 15 = dktX1_songNow_1 := dk_seg dksX1_songNow_0 15 rfl rfl
theorem dksX1_songNow_2 : cX1_songNow.data.toList.drop 48 = dktX1_songNow_2 := dk_seg dksX1_songNow_1 33 rfl rfl
theorem dksX1_songNow_3 : cX1_songNow.data.toList.drop 70 = dktX1_songNow_3 := dk_seg dksX1_songNow_2 22 rfl rfl
theorem dX1_songNow_0 : decode cX1_songNow 0 = .ok (.aload_n 0, 1) := dk_42 (dk_at dksX1_songNow_0 0 rfl rfl)
theorem dX1_songNow_1 : decode cX1_songNow 1 = .ok (.getfield 32, 3) := dk_180 0 32 (dk_at dksX1_songNow_0 1 rfl rfl)
theorem dX1_songNow_4 : decode cX1_songNow 4 = .ok (.iload_n 1, 1) := dk_27 (dk_at dksX1_songNow_0 4 rfl rfl)
theorem dX1_songNow_5 : decode cX1_songNow 5 = .ok (.invokeinterface 80 2, 5) := by decide +kernel
theorem dX1_songNow_10 : decode cX1_songNow 10 = .ok (.checkcast 48, 3) := dk_192 0 48 (dk_at dksX1_songNow_0 10 rfl rfl)
theorem dX1_songNow_13 : decode cX1_songNow 13 = .ok (.astore_n 3, 1) := dk_78 (dk_at dksX1_songNow_0 13 rfl rfl)
theorem dX1_songNow_14 : decode cX1_songNow 14 = .ok (.iload_n 2, 1) := dk_28 (dk_at dksX1_songNow_0 14 rfl rfl)
theorem dX1_songNow_15 : decode cX1_songNow 15 = .ok (.tableswitch 59 0 4 #[33, 38, 43, 48, 53], 33) := by decide +kernel
theorem dX1_songNow_48 : decode cX1_songNow 48 = .ok (.aload_n 3, 1) := dk_45 (dk_at dksX1_songNow_2 0 rfl rfl)
theorem dX1_songNow_49 : decode cX1_songNow 49 = .ok (.getfield 374, 3) := dk_180 1 118 (dk_at dksX1_songNow_2 1 rfl rfl)
theorem dX1_songNow_52 : decode cX1_songNow 52 = .ok (.ireturn, 1) := dk_172 (dk_at dksX1_songNow_2 4 rfl rfl)
theorem dX1_songNow_53 : decode cX1_songNow 53 = .ok (.aload_n 3, 1) := dk_45 (dk_at dksX1_songNow_2 5 rfl rfl)
theorem dX1_songNow_54 : decode cX1_songNow 54 = .ok (.getfield 307, 3) := dk_180 1 51 (dk_at dksX1_songNow_2 6 rfl rfl)
theorem dX1_songNow_57 : decode cX1_songNow 57 = .ok (.ireturn, 1) := dk_172 (dk_at dksX1_songNow_2 9 rfl rfl)
theorem dX1_songNow_58 : decode cX1_songNow 58 = .ok (.aload_n 3, 1) := dk_45 (dk_at dksX1_songNow_2 10 rfl rfl)
theorem dX1_songNow_59 : decode cX1_songNow 59 = .ok (.getfield 117, 3) := dk_180 0 117 (dk_at dksX1_songNow_2 11 rfl rfl)
theorem dX1_songNow_62 : decode cX1_songNow 62 = .ok (.ireturn, 1) := dk_172 (dk_at dksX1_songNow_2 14 rfl rfl)
theorem dX1_songNow_63 : decode cX1_songNow 63 = .ok (.aload_n 3, 1) := dk_45 (dk_at dksX1_songNow_2 15 rfl rfl)
theorem dX1_songNow_64 : decode cX1_songNow 64 = .ok (.getfield 110, 3) := dk_180 0 110 (dk_at dksX1_songNow_2 16 rfl rfl)
theorem dX1_songNow_67 : decode cX1_songNow 67 = .ok (.ireturn, 1) := dk_172 (dk_at dksX1_songNow_2 19 rfl rfl)
theorem dX1_songNow_68 : decode cX1_songNow 68 = .ok (.aload_n 0, 1) := dk_42 (dk_at dksX1_songNow_2 20 rfl rfl)
theorem dX1_songNow_69 : decode cX1_songNow 69 = .ok (.iload_n 1, 1) := dk_27 (dk_at dksX1_songNow_2 21 rfl rfl)
theorem dX1_songNow_70 : decode cX1_songNow 70 = .ok (.invokevirtual 377, 3) := dk_182 1 121 (dk_at dksX1_songNow_3 0 rfl rfl)
theorem dX1_songNow_73 : decode cX1_songNow 73 = .ok (.ireturn, 1) := dk_172 (dk_at dksX1_songNow_3 3 rfl rfl)
theorem dX1_songNow_74 : decode cX1_songNow 74 = .ok (.aload_n 0, 1) := dk_42 (dk_at dksX1_songNow_3 4 rfl rfl)
theorem dX1_songNow_75 : decode cX1_songNow 75 = .ok (.iload_n 1, 1) := dk_27 (dk_at dksX1_songNow_3 5 rfl rfl)
theorem dX1_songNow_76 : decode cX1_songNow 76 = .ok (.invokevirtual 380, 3) := dk_182 1 124 (dk_at dksX1_songNow_3 6 rfl rfl)
theorem dX1_songNow_79 : decode cX1_songNow 79 = .ok (.ireturn, 1) := dk_172 (dk_at dksX1_songNow_3 9 rfl rfl)
abbrev cX1_knowers : ByteArray := prog_1_method_50_code
def yX1_knowers : MethodName := ⟨RX1, "knowers", "(I)I"⟩
def dkwX1_knowers_2 : List UInt8 := [61, 132, 3, 1, 167, 255, 209, 28, 172]
abbrev dktX1_knowers_2 : List UInt8 := dkwX1_knowers_2 ++ []
def dkwX1_knowers_1 : List UInt8 := [185, 0, 80, 2, 0, 192, 0, 83, 180, 0, 104, 27, 184, 0, 123, 153, 0, 7, 4, 167, 0, 4, 3, 96]
abbrev dktX1_knowers_1 : List UInt8 := dkwX1_knowers_1 ++ dktX1_knowers_2
def dkwX1_knowers_0 : List UInt8 := [3, 61, 3, 62, 29, 42, 180, 0, 26, 185, 0, 72, 1, 0, 162, 0, 40, 28, 42, 180, 0, 26, 29]
abbrev dktX1_knowers_0 : List UInt8 := dkwX1_knowers_0 ++ dktX1_knowers_1
theorem dksX1_knowers_0 : cX1_knowers.data.toList.drop 0 = dktX1_knowers_0 := by decide +kernel
theorem dksX1_knowers_1 : cX1_knowers.data.toList.drop 23 = dktX1_knowers_1 := dk_seg dksX1_knowers_0 23 rfl rfl
theorem dksX1_knowers_2 : cX1_knowers.data.toList.drop 47 = dktX1_knowers_2 := dk_seg dksX1_knowers_1 24 rfl rfl
theorem dX1_knowers_0 : decode cX1_knowers 0 = .ok (.iconst 0, 1) := dk_3 (dk_at dksX1_knowers_0 0 rfl rfl)
theorem dX1_knowers_1 : decode cX1_knowers 1 = .ok (.istore_n 2, 1) := dk_61 (dk_at dksX1_knowers_0 1 rfl rfl)
theorem dX1_knowers_2 : decode cX1_knowers 2 = .ok (.iconst 0, 1) := dk_3 (dk_at dksX1_knowers_0 2 rfl rfl)
theorem dX1_knowers_3 : decode cX1_knowers 3 = .ok (.istore_n 3, 1) := dk_62 (dk_at dksX1_knowers_0 3 rfl rfl)
theorem dX1_knowers_4 : decode cX1_knowers 4 = .ok (.iload_n 3, 1) := dk_29 (dk_at dksX1_knowers_0 4 rfl rfl)
theorem dX1_knowers_5 : decode cX1_knowers 5 = .ok (.aload_n 0, 1) := dk_42 (dk_at dksX1_knowers_0 5 rfl rfl)
theorem dX1_knowers_6 : decode cX1_knowers 6 = .ok (.getfield 26, 3) := dk_180 0 26 (dk_at dksX1_knowers_0 6 rfl rfl)
theorem dX1_knowers_9 : decode cX1_knowers 9 = .ok (.invokeinterface 72 1, 5) := by decide +kernel
theorem dX1_knowers_14 : decode cX1_knowers 14 = .ok (.if_icmp .ge 40, 3) := dk_162 0 40 (dk_at dksX1_knowers_0 14 rfl rfl)
theorem dX1_knowers_17 : decode cX1_knowers 17 = .ok (.iload_n 2, 1) := dk_28 (dk_at dksX1_knowers_0 17 rfl rfl)
theorem dX1_knowers_18 : decode cX1_knowers 18 = .ok (.aload_n 0, 1) := dk_42 (dk_at dksX1_knowers_0 18 rfl rfl)
theorem dX1_knowers_19 : decode cX1_knowers 19 = .ok (.getfield 26, 3) := dk_180 0 26 (dk_at dksX1_knowers_0 19 rfl rfl)
theorem dX1_knowers_22 : decode cX1_knowers 22 = .ok (.iload_n 3, 1) := dk_29 (dk_at dksX1_knowers_0 22 rfl rfl)
theorem dX1_knowers_23 : decode cX1_knowers 23 = .ok (.invokeinterface 80 2, 5) := by decide +kernel
theorem dX1_knowers_28 : decode cX1_knowers 28 = .ok (.checkcast 83, 3) := dk_192 0 83 (dk_at dksX1_knowers_1 5 rfl rfl)
theorem dX1_knowers_31 : decode cX1_knowers 31 = .ok (.getfield 104, 3) := dk_180 0 104 (dk_at dksX1_knowers_1 8 rfl rfl)
theorem dX1_knowers_34 : decode cX1_knowers 34 = .ok (.iload_n 1, 1) := dk_27 (dk_at dksX1_knowers_1 11 rfl rfl)
theorem dX1_knowers_35 : decode cX1_knowers 35 = .ok (.invokestatic 123, 3) := dk_184 0 123 (dk_at dksX1_knowers_1 12 rfl rfl)
theorem dX1_knowers_38 : decode cX1_knowers 38 = .ok (.ifCond .eq 7, 3) := dk_153 0 7 (dk_at dksX1_knowers_1 15 rfl rfl)
theorem dX1_knowers_41 : decode cX1_knowers 41 = .ok (.iconst 1, 1) := dk_4 (dk_at dksX1_knowers_1 18 rfl rfl)
theorem dX1_knowers_42 : decode cX1_knowers 42 = .ok (.goto 4, 3) := dk_167 0 4 (dk_at dksX1_knowers_1 19 rfl rfl)
theorem dX1_knowers_45 : decode cX1_knowers 45 = .ok (.iconst 0, 1) := dk_3 (dk_at dksX1_knowers_1 22 rfl rfl)
theorem dX1_knowers_46 : decode cX1_knowers 46 = .ok (.iadd, 1) := dk_96 (dk_at dksX1_knowers_1 23 rfl rfl)
theorem dX1_knowers_47 : decode cX1_knowers 47 = .ok (.istore_n 2, 1) := dk_61 (dk_at dksX1_knowers_2 0 rfl rfl)
theorem dX1_knowers_48 : decode cX1_knowers 48 = .ok (.iinc 3 1, 3) := dk_132 3 1 (dk_at dksX1_knowers_2 1 rfl rfl)
theorem dX1_knowers_51 : decode cX1_knowers 51 = .ok (.goto (-47), 3) := dk_167 255 209 (dk_at dksX1_knowers_2 4 rfl rfl)
theorem dX1_knowers_54 : decode cX1_knowers 54 = .ok (.iload_n 2, 1) := dk_28 (dk_at dksX1_knowers_2 7 rfl rfl)
theorem dX1_knowers_55 : decode cX1_knowers 55 = .ok (.ireturn, 1) := dk_172 (dk_at dksX1_knowers_2 8 rfl rfl)
abbrev cX1_bandNow : ByteArray := prog_1_method_54_code
def yX1_bandNow : MethodName := ⟨RX1, "bandNow", "(II)I"⟩
def dkwX1_bandNow_3 : List UInt8 := [46, 172]
abbrev dktX1_bandNow_3 : List UInt8 := dkwX1_bandNow_3 ++ []
def dkwX1_bandNow_2 : List UInt8 := [45, 182, 0, 137, 172, 42, 27, 3, 182, 1, 130, 172, 42, 27, 4, 182, 1, 130, 172, 45, 180, 1, 133, 28]
abbrev dktX1_bandNow_2 : List UInt8 := dkwX1_bandNow_2 ++ dktX1_bandNow_3
def dkwX1_bandNow_1 : List UInt8 := [170, 0, 0, 0, 44, 0, 0, 0, 6, 0, 0, 0, 8, 0, 0, 0, 25, 0, 0, 0, 30, 0, 0, 0, 37]
abbrev dktX1_bandNow_1 : List UInt8 := dkwX1_bandNow_1 ++ dktX1_bandNow_2
def dkwX1_bandNow_0 : List UInt8 := [42, 180, 0, 42, 27, 185, 0, 80, 2, 0, 192, 0, 133, 78, 28]
abbrev dktX1_bandNow_0 : List UInt8 := dkwX1_bandNow_0 ++ dktX1_bandNow_1
theorem dksX1_bandNow_0 : cX1_bandNow.data.toList.drop 0 = dktX1_bandNow_0 := by decide +kernel
theorem dksX1_bandNow_1 : cX1_bandNow.data.toList.drop 15 = dktX1_bandNow_1 := dk_seg dksX1_bandNow_0 15 rfl rfl
theorem dksX1_bandNow_2 : cX1_bandNow.data.toList.drop 40 = dktX1_bandNow_2 := dk_seg dksX1_bandNow_1 25 rfl rfl
theorem dksX1_bandNow_3 : cX1_bandNow.data.toList.drop 64 = dktX1_bandNow_3 := dk_seg dksX1_bandNow_2 24 rfl rfl
theorem dX1_bandNow_0 : decode cX1_bandNow 0 = .ok (.aload_n 0, 1) := dk_42 (dk_at dksX1_bandNow_0 0 rfl rfl)
theorem dX1_bandNow_1 : decode cX1_bandNow 1 = .ok (.getfield 42, 3) := dk_180 0 42 (dk_at dksX1_bandNow_0 1 rfl rfl)
theorem dX1_bandNow_4 : decode cX1_bandNow 4 = .ok (.iload_n 1, 1) := dk_27 (dk_at dksX1_bandNow_0 4 rfl rfl)
theorem dX1_bandNow_5 : decode cX1_bandNow 5 = .ok (.invokeinterface 80 2, 5) := by decide +kernel
theorem dX1_bandNow_10 : decode cX1_bandNow 10 = .ok (.checkcast 133, 3) := dk_192 0 133 (dk_at dksX1_bandNow_0 10 rfl rfl)
theorem dX1_bandNow_13 : decode cX1_bandNow 13 = .ok (.astore_n 3, 1) := dk_78 (dk_at dksX1_bandNow_0 13 rfl rfl)
theorem dX1_bandNow_14 : decode cX1_bandNow 14 = .ok (.iload_n 2, 1) := dk_28 (dk_at dksX1_bandNow_0 14 rfl rfl)
theorem dX1_bandNow_15 : decode cX1_bandNow 15 = .ok (.tableswitch 44 6 8 #[25, 30, 37], 25) := by decide +kernel
theorem dX1_bandNow_40 : decode cX1_bandNow 40 = .ok (.aload_n 3, 1) := dk_45 (dk_at dksX1_bandNow_2 0 rfl rfl)
theorem dX1_bandNow_41 : decode cX1_bandNow 41 = .ok (.invokevirtual 137, 3) := dk_182 0 137 (dk_at dksX1_bandNow_2 1 rfl rfl)
theorem dX1_bandNow_44 : decode cX1_bandNow 44 = .ok (.ireturn, 1) := dk_172 (dk_at dksX1_bandNow_2 4 rfl rfl)
theorem dX1_bandNow_45 : decode cX1_bandNow 45 = .ok (.aload_n 0, 1) := dk_42 (dk_at dksX1_bandNow_2 5 rfl rfl)
theorem dX1_bandNow_46 : decode cX1_bandNow 46 = .ok (.iload_n 1, 1) := dk_27 (dk_at dksX1_bandNow_2 6 rfl rfl)
theorem dX1_bandNow_47 : decode cX1_bandNow 47 = .ok (.iconst 0, 1) := dk_3 (dk_at dksX1_bandNow_2 7 rfl rfl)
theorem dX1_bandNow_48 : decode cX1_bandNow 48 = .ok (.invokevirtual 386, 3) := dk_182 1 130 (dk_at dksX1_bandNow_2 8 rfl rfl)
theorem dX1_bandNow_51 : decode cX1_bandNow 51 = .ok (.ireturn, 1) := dk_172 (dk_at dksX1_bandNow_2 11 rfl rfl)
theorem dX1_bandNow_52 : decode cX1_bandNow 52 = .ok (.aload_n 0, 1) := dk_42 (dk_at dksX1_bandNow_2 12 rfl rfl)
theorem dX1_bandNow_53 : decode cX1_bandNow 53 = .ok (.iload_n 1, 1) := dk_27 (dk_at dksX1_bandNow_2 13 rfl rfl)
theorem dX1_bandNow_54 : decode cX1_bandNow 54 = .ok (.iconst 1, 1) := dk_4 (dk_at dksX1_bandNow_2 14 rfl rfl)
theorem dX1_bandNow_55 : decode cX1_bandNow 55 = .ok (.invokevirtual 386, 3) := dk_182 1 130 (dk_at dksX1_bandNow_2 15 rfl rfl)
theorem dX1_bandNow_58 : decode cX1_bandNow 58 = .ok (.ireturn, 1) := dk_172 (dk_at dksX1_bandNow_2 18 rfl rfl)
theorem dX1_bandNow_59 : decode cX1_bandNow 59 = .ok (.aload_n 3, 1) := dk_45 (dk_at dksX1_bandNow_2 19 rfl rfl)
theorem dX1_bandNow_60 : decode cX1_bandNow 60 = .ok (.getfield 389, 3) := dk_180 1 133 (dk_at dksX1_bandNow_2 20 rfl rfl)
theorem dX1_bandNow_63 : decode cX1_bandNow 63 = .ok (.iload_n 2, 1) := dk_28 (dk_at dksX1_bandNow_2 23 rfl rfl)
theorem dX1_bandNow_64 : decode cX1_bandNow 64 = .ok (.iaload, 1) := dk_46 (dk_at dksX1_bandNow_3 0 rfl rfl)
theorem dX1_bandNow_65 : decode cX1_bandNow 65 = .ok (.ireturn, 1) := dk_172 (dk_at dksX1_bandNow_3 1 rfl rfl)
abbrev cX1_weddingsOfBand : ByteArray := prog_1_method_53_code
def yX1_weddingsOfBand : MethodName := ⟨RX1, "weddingsOfBand", "(IZ)I"⟩
def dkwX1_weddingsOfBand_3 : List UInt8 := [167, 0, 4, 3, 96, 62, 132, 4, 1, 167, 255, 183, 29, 172]
abbrev dktX1_weddingsOfBand_3 : List UInt8 := dkwX1_weddingsOfBand_3 ++ []
def dkwX1_weddingsOfBand_2 : List UInt8 := [180, 0, 45, 21, 4, 185, 0, 80, 2, 0, 192, 0, 85, 178, 1, 15, 182, 0, 146, 153, 0, 7, 4]
abbrev dktX1_weddingsOfBand_2 : List UInt8 := dkwX1_weddingsOfBand_2 ++ dktX1_weddingsOfBand_3
def dkwX1_weddingsOfBand_1 : List UInt8 := [21, 4, 185, 0, 80, 2, 0, 192, 0, 85, 180, 0, 150, 27, 160, 0, 34, 28, 153, 0, 26, 42]
abbrev dktX1_weddingsOfBand_1 : List UInt8 := dkwX1_weddingsOfBand_1 ++ dktX1_weddingsOfBand_2
def dkwX1_weddingsOfBand_0 : List UInt8 := [3, 62, 3, 54, 4, 21, 4, 42, 180, 0, 45, 185, 0, 72, 1, 0, 162, 0, 65, 29, 42, 180, 0, 45]
abbrev dktX1_weddingsOfBand_0 : List UInt8 := dkwX1_weddingsOfBand_0 ++ dktX1_weddingsOfBand_1
theorem dksX1_weddingsOfBand_0 : cX1_weddingsOfBand.data.toList.drop 0 = dktX1_weddingsOfBand_0 := by decide +kernel
theorem dksX1_weddingsOfBand_1 : cX1_weddingsOfBand.data.toList.drop 24 = dktX1_weddingsOfBand_1 := dk_seg dksX1_weddingsOfBand_0 24 rfl rfl
theorem dksX1_weddingsOfBand_2 : cX1_weddingsOfBand.data.toList.drop 46 = dktX1_weddingsOfBand_2 := dk_seg dksX1_weddingsOfBand_1 22 rfl rfl
theorem dksX1_weddingsOfBand_3 : cX1_weddingsOfBand.data.toList.drop 69 = dktX1_weddingsOfBand_3 := dk_seg dksX1_weddingsOfBand_2 23 rfl rfl
theorem dX1_weddingsOfBand_0 : decode cX1_weddingsOfBand 0 = .ok (.iconst 0, 1) := dk_3 (dk_at dksX1_weddingsOfBand_0 0 rfl rfl)
theorem dX1_weddingsOfBand_1 : decode cX1_weddingsOfBand 1 = .ok (.istore_n 3, 1) := dk_62 (dk_at dksX1_weddingsOfBand_0 1 rfl rfl)
theorem dX1_weddingsOfBand_2 : decode cX1_weddingsOfBand 2 = .ok (.iconst 0, 1) := dk_3 (dk_at dksX1_weddingsOfBand_0 2 rfl rfl)
theorem dX1_weddingsOfBand_3 : decode cX1_weddingsOfBand 3 = .ok (.istore 4, 2) := dk_54 4 (dk_at dksX1_weddingsOfBand_0 3 rfl rfl)
theorem dX1_weddingsOfBand_5 : decode cX1_weddingsOfBand 5 = .ok (.iload 4, 2) := dk_21 4 (dk_at dksX1_weddingsOfBand_0 5 rfl rfl)
theorem dX1_weddingsOfBand_7 : decode cX1_weddingsOfBand 7 = .ok (.aload_n 0, 1) := dk_42 (dk_at dksX1_weddingsOfBand_0 7 rfl rfl)
theorem dX1_weddingsOfBand_8 : decode cX1_weddingsOfBand 8 = .ok (.getfield 45, 3) := dk_180 0 45 (dk_at dksX1_weddingsOfBand_0 8 rfl rfl)
theorem dX1_weddingsOfBand_11 : decode cX1_weddingsOfBand 11 = .ok (.invokeinterface 72 1, 5) := by decide +kernel
theorem dX1_weddingsOfBand_16 : decode cX1_weddingsOfBand 16 = .ok (.if_icmp .ge 65, 3) := dk_162 0 65 (dk_at dksX1_weddingsOfBand_0 16 rfl rfl)
theorem dX1_weddingsOfBand_19 : decode cX1_weddingsOfBand 19 = .ok (.iload_n 3, 1) := dk_29 (dk_at dksX1_weddingsOfBand_0 19 rfl rfl)
theorem dX1_weddingsOfBand_20 : decode cX1_weddingsOfBand 20 = .ok (.aload_n 0, 1) := dk_42 (dk_at dksX1_weddingsOfBand_0 20 rfl rfl)
theorem dX1_weddingsOfBand_21 : decode cX1_weddingsOfBand 21 = .ok (.getfield 45, 3) := dk_180 0 45 (dk_at dksX1_weddingsOfBand_0 21 rfl rfl)
theorem dX1_weddingsOfBand_24 : decode cX1_weddingsOfBand 24 = .ok (.iload 4, 2) := dk_21 4 (dk_at dksX1_weddingsOfBand_1 0 rfl rfl)
theorem dX1_weddingsOfBand_26 : decode cX1_weddingsOfBand 26 = .ok (.invokeinterface 80 2, 5) := by decide +kernel
theorem dX1_weddingsOfBand_31 : decode cX1_weddingsOfBand 31 = .ok (.checkcast 85, 3) := dk_192 0 85 (dk_at dksX1_weddingsOfBand_1 7 rfl rfl)
theorem dX1_weddingsOfBand_34 : decode cX1_weddingsOfBand 34 = .ok (.getfield 150, 3) := dk_180 0 150 (dk_at dksX1_weddingsOfBand_1 10 rfl rfl)
theorem dX1_weddingsOfBand_37 : decode cX1_weddingsOfBand 37 = .ok (.iload_n 1, 1) := dk_27 (dk_at dksX1_weddingsOfBand_1 13 rfl rfl)
theorem dX1_weddingsOfBand_38 : decode cX1_weddingsOfBand 38 = .ok (.if_icmp .ne 34, 3) := dk_160 0 34 (dk_at dksX1_weddingsOfBand_1 14 rfl rfl)
theorem dX1_weddingsOfBand_41 : decode cX1_weddingsOfBand 41 = .ok (.iload_n 2, 1) := dk_28 (dk_at dksX1_weddingsOfBand_1 17 rfl rfl)
theorem dX1_weddingsOfBand_42 : decode cX1_weddingsOfBand 42 = .ok (.ifCond .eq 26, 3) := dk_153 0 26 (dk_at dksX1_weddingsOfBand_1 18 rfl rfl)
theorem dX1_weddingsOfBand_45 : decode cX1_weddingsOfBand 45 = .ok (.aload_n 0, 1) := dk_42 (dk_at dksX1_weddingsOfBand_1 21 rfl rfl)
theorem dX1_weddingsOfBand_46 : decode cX1_weddingsOfBand 46 = .ok (.getfield 45, 3) := dk_180 0 45 (dk_at dksX1_weddingsOfBand_2 0 rfl rfl)
theorem dX1_weddingsOfBand_49 : decode cX1_weddingsOfBand 49 = .ok (.iload 4, 2) := dk_21 4 (dk_at dksX1_weddingsOfBand_2 3 rfl rfl)
theorem dX1_weddingsOfBand_51 : decode cX1_weddingsOfBand 51 = .ok (.invokeinterface 80 2, 5) := by decide +kernel
theorem dX1_weddingsOfBand_56 : decode cX1_weddingsOfBand 56 = .ok (.checkcast 85, 3) := dk_192 0 85 (dk_at dksX1_weddingsOfBand_2 10 rfl rfl)
theorem dX1_weddingsOfBand_59 : decode cX1_weddingsOfBand 59 = .ok (.getstatic 271, 3) := dk_178 1 15 (dk_at dksX1_weddingsOfBand_2 13 rfl rfl)
theorem dX1_weddingsOfBand_62 : decode cX1_weddingsOfBand 62 = .ok (.invokevirtual 146, 3) := dk_182 0 146 (dk_at dksX1_weddingsOfBand_2 16 rfl rfl)
theorem dX1_weddingsOfBand_65 : decode cX1_weddingsOfBand 65 = .ok (.ifCond .eq 7, 3) := dk_153 0 7 (dk_at dksX1_weddingsOfBand_2 19 rfl rfl)
theorem dX1_weddingsOfBand_68 : decode cX1_weddingsOfBand 68 = .ok (.iconst 1, 1) := dk_4 (dk_at dksX1_weddingsOfBand_2 22 rfl rfl)
theorem dX1_weddingsOfBand_69 : decode cX1_weddingsOfBand 69 = .ok (.goto 4, 3) := dk_167 0 4 (dk_at dksX1_weddingsOfBand_3 0 rfl rfl)
theorem dX1_weddingsOfBand_72 : decode cX1_weddingsOfBand 72 = .ok (.iconst 0, 1) := dk_3 (dk_at dksX1_weddingsOfBand_3 3 rfl rfl)
theorem dX1_weddingsOfBand_73 : decode cX1_weddingsOfBand 73 = .ok (.iadd, 1) := dk_96 (dk_at dksX1_weddingsOfBand_3 4 rfl rfl)
theorem dX1_weddingsOfBand_74 : decode cX1_weddingsOfBand 74 = .ok (.istore_n 3, 1) := dk_62 (dk_at dksX1_weddingsOfBand_3 5 rfl rfl)
theorem dX1_weddingsOfBand_75 : decode cX1_weddingsOfBand 75 = .ok (.iinc 4 1, 3) := dk_132 4 1 (dk_at dksX1_weddingsOfBand_3 6 rfl rfl)
theorem dX1_weddingsOfBand_78 : decode cX1_weddingsOfBand 78 = .ok (.goto (-73), 3) := dk_167 255 183 (dk_at dksX1_weddingsOfBand_3 9 rfl rfl)
theorem dX1_weddingsOfBand_81 : decode cX1_weddingsOfBand 81 = .ok (.iload_n 3, 1) := dk_29 (dk_at dksX1_weddingsOfBand_3 12 rfl rfl)
theorem dX1_weddingsOfBand_82 : decode cX1_weddingsOfBand 82 = .ok (.ireturn, 1) := dk_172 (dk_at dksX1_weddingsOfBand_3 13 rfl rfl)
abbrev cX1_sumWedding : ByteArray := prog_1_method_81_code
def yX1_sumWedding : MethodName := ⟨RX1, "sumWedding", "(LFirstdanceAgency$Sum;I)V"⟩
def dkwX1_sumWedding_4 : List UInt8 := [185, 0, 80, 2, 0, 192, 0, 85, 180, 0, 195, 3, 182, 1, 91, 133, 182, 1, 223, 177]
abbrev dktX1_sumWedding_4 : List UInt8 := dkwX1_sumWedding_4 ++ []
def dkwX1_sumWedding_3 : List UInt8 := [182, 1, 153, 133, 182, 1, 223, 132, 4, 1, 167, 255, 234, 43, 42, 42, 180, 0, 45, 28]
abbrev dktX1_sumWedding_3 : List UInt8 := dkwX1_sumWedding_3 ++ dktX1_sumWedding_4
def dkwX1_sumWedding_2 : List UInt8 := [153, 0, 37, 42, 28, 182, 0, 241, 78, 3, 54, 4, 21, 4, 6, 163, 0, 22, 43, 42, 28, 45, 21, 4]
abbrev dktX1_sumWedding_2 : List UInt8 := dkwX1_sumWedding_2 ++ dktX1_sumWedding_3
def dkwX1_sumWedding_1 : List UInt8 := [167, 255, 236, 42, 180, 0, 45, 28, 185, 0, 80, 2, 0, 192, 0, 85, 178, 0, 222, 182, 0, 146]
abbrev dktX1_sumWedding_1 : List UInt8 := dkwX1_sumWedding_1 ++ dktX1_sumWedding_2
def dkwX1_sumWedding_0 : List UInt8 := [3, 62, 29, 16, 12, 163, 0, 20, 43, 42, 28, 29, 182, 1, 144, 133, 182, 1, 223, 132, 3, 1]
abbrev dktX1_sumWedding_0 : List UInt8 := dkwX1_sumWedding_0 ++ dktX1_sumWedding_1
theorem dksX1_sumWedding_0 : cX1_sumWedding.data.toList.drop 0 = dktX1_sumWedding_0 := by decide +kernel
theorem dksX1_sumWedding_1 : cX1_sumWedding.data.toList.drop 22 = dktX1_sumWedding_1 := dk_seg dksX1_sumWedding_0 22 rfl rfl
theorem dksX1_sumWedding_2 : cX1_sumWedding.data.toList.drop 44 = dktX1_sumWedding_2 := dk_seg dksX1_sumWedding_1 22 rfl rfl
theorem dksX1_sumWedding_3 : cX1_sumWedding.data.toList.drop 68 = dktX1_sumWedding_3 := dk_seg dksX1_sumWedding_2 24 rfl rfl
theorem dksX1_sumWedding_4 : cX1_sumWedding.data.toList.drop 88 = dktX1_sumWedding_4 := dk_seg dksX1_sumWedding_3 20 rfl rfl
theorem dX1_sumWedding_0 : decode cX1_sumWedding 0 = .ok (.iconst 0, 1) := dk_3 (dk_at dksX1_sumWedding_0 0 rfl rfl)
theorem dX1_sumWedding_1 : decode cX1_sumWedding 1 = .ok (.istore_n 3, 1) := dk_62 (dk_at dksX1_sumWedding_0 1 rfl rfl)
theorem dX1_sumWedding_2 : decode cX1_sumWedding 2 = .ok (.iload_n 3, 1) := dk_29 (dk_at dksX1_sumWedding_0 2 rfl rfl)
theorem dX1_sumWedding_3 : decode cX1_sumWedding 3 = .ok (.bipush 12, 2) := dk_16 12 (dk_at dksX1_sumWedding_0 3 rfl rfl)
theorem dX1_sumWedding_5 : decode cX1_sumWedding 5 = .ok (.if_icmp .gt 20, 3) := dk_163 0 20 (dk_at dksX1_sumWedding_0 5 rfl rfl)
theorem dX1_sumWedding_8 : decode cX1_sumWedding 8 = .ok (.aload_n 1, 1) := dk_43 (dk_at dksX1_sumWedding_0 8 rfl rfl)
theorem dX1_sumWedding_9 : decode cX1_sumWedding 9 = .ok (.aload_n 0, 1) := dk_42 (dk_at dksX1_sumWedding_0 9 rfl rfl)
theorem dX1_sumWedding_10 : decode cX1_sumWedding 10 = .ok (.iload_n 2, 1) := dk_28 (dk_at dksX1_sumWedding_0 10 rfl rfl)
theorem dX1_sumWedding_11 : decode cX1_sumWedding 11 = .ok (.iload_n 3, 1) := dk_29 (dk_at dksX1_sumWedding_0 11 rfl rfl)
theorem dX1_sumWedding_12 : decode cX1_sumWedding 12 = .ok (.invokevirtual 400, 3) := dk_182 1 144 (dk_at dksX1_sumWedding_0 12 rfl rfl)
theorem dX1_sumWedding_15 : decode cX1_sumWedding 15 = .ok (.i2l, 1) := dk_133 (dk_at dksX1_sumWedding_0 15 rfl rfl)
theorem dX1_sumWedding_16 : decode cX1_sumWedding 16 = .ok (.invokevirtual 479, 3) := dk_182 1 223 (dk_at dksX1_sumWedding_0 16 rfl rfl)
theorem dX1_sumWedding_19 : decode cX1_sumWedding 19 = .ok (.iinc 3 1, 3) := dk_132 3 1 (dk_at dksX1_sumWedding_0 19 rfl rfl)
theorem dX1_sumWedding_22 : decode cX1_sumWedding 22 = .ok (.goto (-20), 3) := dk_167 255 236 (dk_at dksX1_sumWedding_1 0 rfl rfl)
theorem dX1_sumWedding_25 : decode cX1_sumWedding 25 = .ok (.aload_n 0, 1) := dk_42 (dk_at dksX1_sumWedding_1 3 rfl rfl)
theorem dX1_sumWedding_26 : decode cX1_sumWedding 26 = .ok (.getfield 45, 3) := dk_180 0 45 (dk_at dksX1_sumWedding_1 4 rfl rfl)
theorem dX1_sumWedding_29 : decode cX1_sumWedding 29 = .ok (.iload_n 2, 1) := dk_28 (dk_at dksX1_sumWedding_1 7 rfl rfl)
theorem dX1_sumWedding_30 : decode cX1_sumWedding 30 = .ok (.invokeinterface 80 2, 5) := by decide +kernel
theorem dX1_sumWedding_35 : decode cX1_sumWedding 35 = .ok (.checkcast 85, 3) := dk_192 0 85 (dk_at dksX1_sumWedding_1 13 rfl rfl)
theorem dX1_sumWedding_38 : decode cX1_sumWedding 38 = .ok (.getstatic 222, 3) := dk_178 0 222 (dk_at dksX1_sumWedding_1 16 rfl rfl)
theorem dX1_sumWedding_41 : decode cX1_sumWedding 41 = .ok (.invokevirtual 146, 3) := dk_182 0 146 (dk_at dksX1_sumWedding_1 19 rfl rfl)
theorem dX1_sumWedding_44 : decode cX1_sumWedding 44 = .ok (.ifCond .eq 37, 3) := dk_153 0 37 (dk_at dksX1_sumWedding_2 0 rfl rfl)
theorem dX1_sumWedding_47 : decode cX1_sumWedding 47 = .ok (.aload_n 0, 1) := dk_42 (dk_at dksX1_sumWedding_2 3 rfl rfl)
theorem dX1_sumWedding_48 : decode cX1_sumWedding 48 = .ok (.iload_n 2, 1) := dk_28 (dk_at dksX1_sumWedding_2 4 rfl rfl)
theorem dX1_sumWedding_49 : decode cX1_sumWedding 49 = .ok (.invokevirtual 241, 3) := dk_182 0 241 (dk_at dksX1_sumWedding_2 5 rfl rfl)
theorem dX1_sumWedding_52 : decode cX1_sumWedding 52 = .ok (.astore_n 3, 1) := dk_78 (dk_at dksX1_sumWedding_2 8 rfl rfl)
theorem dX1_sumWedding_53 : decode cX1_sumWedding 53 = .ok (.iconst 0, 1) := dk_3 (dk_at dksX1_sumWedding_2 9 rfl rfl)
theorem dX1_sumWedding_54 : decode cX1_sumWedding 54 = .ok (.istore 4, 2) := dk_54 4 (dk_at dksX1_sumWedding_2 10 rfl rfl)
theorem dX1_sumWedding_56 : decode cX1_sumWedding 56 = .ok (.iload 4, 2) := dk_21 4 (dk_at dksX1_sumWedding_2 12 rfl rfl)
theorem dX1_sumWedding_58 : decode cX1_sumWedding 58 = .ok (.iconst 3, 1) := dk_6 (dk_at dksX1_sumWedding_2 14 rfl rfl)
theorem dX1_sumWedding_59 : decode cX1_sumWedding 59 = .ok (.if_icmp .gt 22, 3) := dk_163 0 22 (dk_at dksX1_sumWedding_2 15 rfl rfl)
theorem dX1_sumWedding_62 : decode cX1_sumWedding 62 = .ok (.aload_n 1, 1) := dk_43 (dk_at dksX1_sumWedding_2 18 rfl rfl)
theorem dX1_sumWedding_63 : decode cX1_sumWedding 63 = .ok (.aload_n 0, 1) := dk_42 (dk_at dksX1_sumWedding_2 19 rfl rfl)
theorem dX1_sumWedding_64 : decode cX1_sumWedding 64 = .ok (.iload_n 2, 1) := dk_28 (dk_at dksX1_sumWedding_2 20 rfl rfl)
theorem dX1_sumWedding_65 : decode cX1_sumWedding 65 = .ok (.aload_n 3, 1) := dk_45 (dk_at dksX1_sumWedding_2 21 rfl rfl)
theorem dX1_sumWedding_66 : decode cX1_sumWedding 66 = .ok (.iload 4, 2) := dk_21 4 (dk_at dksX1_sumWedding_2 22 rfl rfl)
theorem dX1_sumWedding_68 : decode cX1_sumWedding 68 = .ok (.invokevirtual 409, 3) := dk_182 1 153 (dk_at dksX1_sumWedding_3 0 rfl rfl)
theorem dX1_sumWedding_71 : decode cX1_sumWedding 71 = .ok (.i2l, 1) := dk_133 (dk_at dksX1_sumWedding_3 3 rfl rfl)
theorem dX1_sumWedding_72 : decode cX1_sumWedding 72 = .ok (.invokevirtual 479, 3) := dk_182 1 223 (dk_at dksX1_sumWedding_3 4 rfl rfl)
theorem dX1_sumWedding_75 : decode cX1_sumWedding 75 = .ok (.iinc 4 1, 3) := dk_132 4 1 (dk_at dksX1_sumWedding_3 7 rfl rfl)
theorem dX1_sumWedding_78 : decode cX1_sumWedding 78 = .ok (.goto (-22), 3) := dk_167 255 234 (dk_at dksX1_sumWedding_3 10 rfl rfl)
theorem dX1_sumWedding_81 : decode cX1_sumWedding 81 = .ok (.aload_n 1, 1) := dk_43 (dk_at dksX1_sumWedding_3 13 rfl rfl)
theorem dX1_sumWedding_82 : decode cX1_sumWedding 82 = .ok (.aload_n 0, 1) := dk_42 (dk_at dksX1_sumWedding_3 14 rfl rfl)
theorem dX1_sumWedding_83 : decode cX1_sumWedding 83 = .ok (.aload_n 0, 1) := dk_42 (dk_at dksX1_sumWedding_3 15 rfl rfl)
theorem dX1_sumWedding_84 : decode cX1_sumWedding 84 = .ok (.getfield 45, 3) := dk_180 0 45 (dk_at dksX1_sumWedding_3 16 rfl rfl)
theorem dX1_sumWedding_87 : decode cX1_sumWedding 87 = .ok (.iload_n 2, 1) := dk_28 (dk_at dksX1_sumWedding_3 19 rfl rfl)
theorem dX1_sumWedding_88 : decode cX1_sumWedding 88 = .ok (.invokeinterface 80 2, 5) := by decide +kernel
theorem dX1_sumWedding_93 : decode cX1_sumWedding 93 = .ok (.checkcast 85, 3) := dk_192 0 85 (dk_at dksX1_sumWedding_4 5 rfl rfl)
theorem dX1_sumWedding_96 : decode cX1_sumWedding 96 = .ok (.getfield 195, 3) := dk_180 0 195 (dk_at dksX1_sumWedding_4 8 rfl rfl)
theorem dX1_sumWedding_99 : decode cX1_sumWedding 99 = .ok (.iconst 0, 1) := dk_3 (dk_at dksX1_sumWedding_4 11 rfl rfl)
theorem dX1_sumWedding_100 : decode cX1_sumWedding 100 = .ok (.invokevirtual 347, 3) := dk_182 1 91 (dk_at dksX1_sumWedding_4 12 rfl rfl)
theorem dX1_sumWedding_103 : decode cX1_sumWedding 103 = .ok (.i2l, 1) := dk_133 (dk_at dksX1_sumWedding_4 15 rfl rfl)
theorem dX1_sumWedding_104 : decode cX1_sumWedding 104 = .ok (.invokevirtual 479, 3) := dk_182 1 223 (dk_at dksX1_sumWedding_4 16 rfl rfl)
theorem dX1_sumWedding_107 : decode cX1_sumWedding 107 = .ok (.return_, 1) := dk_177 (dk_at dksX1_sumWedding_4 19 rfl rfl)
abbrev cX1_weddingNow : ByteArray := prog_1_method_56_code
def yX1_weddingNow : MethodName := ⟨RX1, "weddingNow", "(II)I"⟩
def dkwX1_weddingNow_5 : List UInt8 := [58, 4, 25, 4, 28, 46, 172]
abbrev dktX1_weddingNow_5 : List UInt8 := dkwX1_weddingNow_5 ++ []
def dkwX1_weddingNow_4 : List UInt8 := [16, 10, 45, 180, 0, 249, 79, 89, 16, 11, 42, 27, 182, 0, 238, 79, 89, 16, 12, 45, 182, 1, 9, 79]
abbrev dktX1_weddingNow_4 : List UInt8 := dkwX1_weddingNow_4 ++ dktX1_weddingNow_5
def dkwX1_weddingNow_3 : List UInt8 := [16, 7, 45, 180, 0, 195, 79, 89, 16, 8, 45, 180, 0, 231, 79, 89, 16, 9, 45, 180, 1, 6, 79, 89]
abbrev dktX1_weddingNow_3 : List UInt8 := dkwX1_weddingNow_3 ++ dktX1_weddingNow_4
def dkwX1_weddingNow_2 : List UInt8 := [45, 180, 0, 168, 79, 89, 8, 45, 180, 1, 140, 79, 89, 16, 6, 45, 180, 0, 225, 182, 1, 141, 79, 89]
abbrev dktX1_weddingNow_2 : List UInt8 := dkwX1_weddingNow_2 ++ dktX1_weddingNow_3
def dkwX1_weddingNow_1 : List UInt8 := [79, 89, 4, 45, 180, 0, 153, 79, 89, 5, 45, 180, 0, 174, 79, 89, 6, 45, 180, 0, 182, 79, 89, 7]
abbrev dktX1_weddingNow_1 : List UInt8 := dkwX1_weddingNow_1 ++ dktX1_weddingNow_2
def dkwX1_weddingNow_0 : List UInt8 := [42, 180, 0, 45, 27, 185, 0, 80, 2, 0, 192, 0, 85, 78, 16, 13, 188, 10, 89, 3, 45, 180, 0, 150]
abbrev dktX1_weddingNow_0 : List UInt8 := dkwX1_weddingNow_0 ++ dktX1_weddingNow_1
theorem dksX1_weddingNow_0 : cX1_weddingNow.data.toList.drop 0 = dktX1_weddingNow_0 := by decide +kernel
theorem dksX1_weddingNow_1 : cX1_weddingNow.data.toList.drop 24 = dktX1_weddingNow_1 := dk_seg dksX1_weddingNow_0 24 rfl rfl
theorem dksX1_weddingNow_2 : cX1_weddingNow.data.toList.drop 48 = dktX1_weddingNow_2 := dk_seg dksX1_weddingNow_1 24 rfl rfl
theorem dksX1_weddingNow_3 : cX1_weddingNow.data.toList.drop 72 = dktX1_weddingNow_3 := dk_seg dksX1_weddingNow_2 24 rfl rfl
theorem dksX1_weddingNow_4 : cX1_weddingNow.data.toList.drop 96 = dktX1_weddingNow_4 := dk_seg dksX1_weddingNow_3 24 rfl rfl
theorem dksX1_weddingNow_5 : cX1_weddingNow.data.toList.drop 120 = dktX1_weddingNow_5 := dk_seg dksX1_weddingNow_4 24 rfl rfl
theorem dX1_weddingNow_0 : decode cX1_weddingNow 0 = .ok (.aload_n 0, 1) := dk_42 (dk_at dksX1_weddingNow_0 0 rfl rfl)
theorem dX1_weddingNow_1 : decode cX1_weddingNow 1 = .ok (.getfield 45, 3) := dk_180 0 45 (dk_at dksX1_weddingNow_0 1 rfl rfl)
theorem dX1_weddingNow_4 : decode cX1_weddingNow 4 = .ok (.iload_n 1, 1) := dk_27 (dk_at dksX1_weddingNow_0 4 rfl rfl)
theorem dX1_weddingNow_5 : decode cX1_weddingNow 5 = .ok (.invokeinterface 80 2, 5) := by decide +kernel
theorem dX1_weddingNow_10 : decode cX1_weddingNow 10 = .ok (.checkcast 85, 3) := dk_192 0 85 (dk_at dksX1_weddingNow_0 10 rfl rfl)
theorem dX1_weddingNow_13 : decode cX1_weddingNow 13 = .ok (.astore_n 3, 1) := dk_78 (dk_at dksX1_weddingNow_0 13 rfl rfl)
theorem dX1_weddingNow_14 : decode cX1_weddingNow 14 = .ok (.bipush 13, 2) := dk_16 13 (dk_at dksX1_weddingNow_0 14 rfl rfl)
theorem dX1_weddingNow_16 : decode cX1_weddingNow 16 = .ok (.newarray .int, 2) := dk_188_10 (dk_at dksX1_weddingNow_0 16 rfl rfl)
theorem dX1_weddingNow_18 : decode cX1_weddingNow 18 = .ok (.dup, 1) := dk_89 (dk_at dksX1_weddingNow_0 18 rfl rfl)
theorem dX1_weddingNow_19 : decode cX1_weddingNow 19 = .ok (.iconst 0, 1) := dk_3 (dk_at dksX1_weddingNow_0 19 rfl rfl)
theorem dX1_weddingNow_20 : decode cX1_weddingNow 20 = .ok (.aload_n 3, 1) := dk_45 (dk_at dksX1_weddingNow_0 20 rfl rfl)
theorem dX1_weddingNow_21 : decode cX1_weddingNow 21 = .ok (.getfield 150, 3) := dk_180 0 150 (dk_at dksX1_weddingNow_0 21 rfl rfl)
theorem dX1_weddingNow_24 : decode cX1_weddingNow 24 = .ok (.iastore, 1) := dk_79 (dk_at dksX1_weddingNow_1 0 rfl rfl)
theorem dX1_weddingNow_25 : decode cX1_weddingNow 25 = .ok (.dup, 1) := dk_89 (dk_at dksX1_weddingNow_1 1 rfl rfl)
theorem dX1_weddingNow_26 : decode cX1_weddingNow 26 = .ok (.iconst 1, 1) := dk_4 (dk_at dksX1_weddingNow_1 2 rfl rfl)
theorem dX1_weddingNow_27 : decode cX1_weddingNow 27 = .ok (.aload_n 3, 1) := dk_45 (dk_at dksX1_weddingNow_1 3 rfl rfl)
theorem dX1_weddingNow_28 : decode cX1_weddingNow 28 = .ok (.getfield 153, 3) := dk_180 0 153 (dk_at dksX1_weddingNow_1 4 rfl rfl)
theorem dX1_weddingNow_31 : decode cX1_weddingNow 31 = .ok (.iastore, 1) := dk_79 (dk_at dksX1_weddingNow_1 7 rfl rfl)
theorem dX1_weddingNow_32 : decode cX1_weddingNow 32 = .ok (.dup, 1) := dk_89 (dk_at dksX1_weddingNow_1 8 rfl rfl)
theorem dX1_weddingNow_33 : decode cX1_weddingNow 33 = .ok (.iconst 2, 1) := dk_5 (dk_at dksX1_weddingNow_1 9 rfl rfl)
theorem dX1_weddingNow_34 : decode cX1_weddingNow 34 = .ok (.aload_n 3, 1) := dk_45 (dk_at dksX1_weddingNow_1 10 rfl rfl)
theorem dX1_weddingNow_35 : decode cX1_weddingNow 35 = .ok (.getfield 174, 3) := dk_180 0 174 (dk_at dksX1_weddingNow_1 11 rfl rfl)
theorem dX1_weddingNow_38 : decode cX1_weddingNow 38 = .ok (.iastore, 1) := dk_79 (dk_at dksX1_weddingNow_1 14 rfl rfl)
theorem dX1_weddingNow_39 : decode cX1_weddingNow 39 = .ok (.dup, 1) := dk_89 (dk_at dksX1_weddingNow_1 15 rfl rfl)
theorem dX1_weddingNow_40 : decode cX1_weddingNow 40 = .ok (.iconst 3, 1) := dk_6 (dk_at dksX1_weddingNow_1 16 rfl rfl)
theorem dX1_weddingNow_41 : decode cX1_weddingNow 41 = .ok (.aload_n 3, 1) := dk_45 (dk_at dksX1_weddingNow_1 17 rfl rfl)
theorem dX1_weddingNow_42 : decode cX1_weddingNow 42 = .ok (.getfield 182, 3) := dk_180 0 182 (dk_at dksX1_weddingNow_1 18 rfl rfl)
theorem dX1_weddingNow_45 : decode cX1_weddingNow 45 = .ok (.iastore, 1) := dk_79 (dk_at dksX1_weddingNow_1 21 rfl rfl)
theorem dX1_weddingNow_46 : decode cX1_weddingNow 46 = .ok (.dup, 1) := dk_89 (dk_at dksX1_weddingNow_1 22 rfl rfl)
theorem dX1_weddingNow_47 : decode cX1_weddingNow 47 = .ok (.iconst 4, 1) := dk_7 (dk_at dksX1_weddingNow_1 23 rfl rfl)
theorem dX1_weddingNow_48 : decode cX1_weddingNow 48 = .ok (.aload_n 3, 1) := dk_45 (dk_at dksX1_weddingNow_2 0 rfl rfl)
theorem dX1_weddingNow_49 : decode cX1_weddingNow 49 = .ok (.getfield 168, 3) := dk_180 0 168 (dk_at dksX1_weddingNow_2 1 rfl rfl)
theorem dX1_weddingNow_52 : decode cX1_weddingNow 52 = .ok (.iastore, 1) := dk_79 (dk_at dksX1_weddingNow_2 4 rfl rfl)
theorem dX1_weddingNow_53 : decode cX1_weddingNow 53 = .ok (.dup, 1) := dk_89 (dk_at dksX1_weddingNow_2 5 rfl rfl)
theorem dX1_weddingNow_54 : decode cX1_weddingNow 54 = .ok (.iconst 5, 1) := dk_8 (dk_at dksX1_weddingNow_2 6 rfl rfl)
theorem dX1_weddingNow_55 : decode cX1_weddingNow 55 = .ok (.aload_n 3, 1) := dk_45 (dk_at dksX1_weddingNow_2 7 rfl rfl)
theorem dX1_weddingNow_56 : decode cX1_weddingNow 56 = .ok (.getfield 396, 3) := dk_180 1 140 (dk_at dksX1_weddingNow_2 8 rfl rfl)
theorem dX1_weddingNow_59 : decode cX1_weddingNow 59 = .ok (.iastore, 1) := dk_79 (dk_at dksX1_weddingNow_2 11 rfl rfl)
theorem dX1_weddingNow_60 : decode cX1_weddingNow 60 = .ok (.dup, 1) := dk_89 (dk_at dksX1_weddingNow_2 12 rfl rfl)
theorem dX1_weddingNow_61 : decode cX1_weddingNow 61 = .ok (.bipush 6, 2) := dk_16 6 (dk_at dksX1_weddingNow_2 13 rfl rfl)
theorem dX1_weddingNow_63 : decode cX1_weddingNow 63 = .ok (.aload_n 3, 1) := dk_45 (dk_at dksX1_weddingNow_2 15 rfl rfl)
theorem dX1_weddingNow_64 : decode cX1_weddingNow 64 = .ok (.getfield 225, 3) := dk_180 0 225 (dk_at dksX1_weddingNow_2 16 rfl rfl)
theorem dX1_weddingNow_67 : decode cX1_weddingNow 67 = .ok (.invokevirtual 397, 3) := dk_182 1 141 (dk_at dksX1_weddingNow_2 19 rfl rfl)
theorem dX1_weddingNow_70 : decode cX1_weddingNow 70 = .ok (.iastore, 1) := dk_79 (dk_at dksX1_weddingNow_2 22 rfl rfl)
theorem dX1_weddingNow_71 : decode cX1_weddingNow 71 = .ok (.dup, 1) := dk_89 (dk_at dksX1_weddingNow_2 23 rfl rfl)
theorem dX1_weddingNow_72 : decode cX1_weddingNow 72 = .ok (.bipush 7, 2) := dk_16 7 (dk_at dksX1_weddingNow_3 0 rfl rfl)
theorem dX1_weddingNow_74 : decode cX1_weddingNow 74 = .ok (.aload_n 3, 1) := dk_45 (dk_at dksX1_weddingNow_3 2 rfl rfl)
theorem dX1_weddingNow_75 : decode cX1_weddingNow 75 = .ok (.getfield 195, 3) := dk_180 0 195 (dk_at dksX1_weddingNow_3 3 rfl rfl)
theorem dX1_weddingNow_78 : decode cX1_weddingNow 78 = .ok (.iastore, 1) := dk_79 (dk_at dksX1_weddingNow_3 6 rfl rfl)
theorem dX1_weddingNow_79 : decode cX1_weddingNow 79 = .ok (.dup, 1) := dk_89 (dk_at dksX1_weddingNow_3 7 rfl rfl)
theorem dX1_weddingNow_80 : decode cX1_weddingNow 80 = .ok (.bipush 8, 2) := dk_16 8 (dk_at dksX1_weddingNow_3 8 rfl rfl)
theorem dX1_weddingNow_82 : decode cX1_weddingNow 82 = .ok (.aload_n 3, 1) := dk_45 (dk_at dksX1_weddingNow_3 10 rfl rfl)
theorem dX1_weddingNow_83 : decode cX1_weddingNow 83 = .ok (.getfield 231, 3) := dk_180 0 231 (dk_at dksX1_weddingNow_3 11 rfl rfl)
theorem dX1_weddingNow_86 : decode cX1_weddingNow 86 = .ok (.iastore, 1) := dk_79 (dk_at dksX1_weddingNow_3 14 rfl rfl)
theorem dX1_weddingNow_87 : decode cX1_weddingNow 87 = .ok (.dup, 1) := dk_89 (dk_at dksX1_weddingNow_3 15 rfl rfl)
theorem dX1_weddingNow_88 : decode cX1_weddingNow 88 = .ok (.bipush 9, 2) := dk_16 9 (dk_at dksX1_weddingNow_3 16 rfl rfl)
theorem dX1_weddingNow_90 : decode cX1_weddingNow 90 = .ok (.aload_n 3, 1) := dk_45 (dk_at dksX1_weddingNow_3 18 rfl rfl)
theorem dX1_weddingNow_91 : decode cX1_weddingNow 91 = .ok (.getfield 262, 3) := dk_180 1 6 (dk_at dksX1_weddingNow_3 19 rfl rfl)
theorem dX1_weddingNow_94 : decode cX1_weddingNow 94 = .ok (.iastore, 1) := dk_79 (dk_at dksX1_weddingNow_3 22 rfl rfl)
theorem dX1_weddingNow_95 : decode cX1_weddingNow 95 = .ok (.dup, 1) := dk_89 (dk_at dksX1_weddingNow_3 23 rfl rfl)
theorem dX1_weddingNow_96 : decode cX1_weddingNow 96 = .ok (.bipush 10, 2) := dk_16 10 (dk_at dksX1_weddingNow_4 0 rfl rfl)
theorem dX1_weddingNow_98 : decode cX1_weddingNow 98 = .ok (.aload_n 3, 1) := dk_45 (dk_at dksX1_weddingNow_4 2 rfl rfl)
theorem dX1_weddingNow_99 : decode cX1_weddingNow 99 = .ok (.getfield 249, 3) := dk_180 0 249 (dk_at dksX1_weddingNow_4 3 rfl rfl)
theorem dX1_weddingNow_102 : decode cX1_weddingNow 102 = .ok (.iastore, 1) := dk_79 (dk_at dksX1_weddingNow_4 6 rfl rfl)
theorem dX1_weddingNow_103 : decode cX1_weddingNow 103 = .ok (.dup, 1) := dk_89 (dk_at dksX1_weddingNow_4 7 rfl rfl)
theorem dX1_weddingNow_104 : decode cX1_weddingNow 104 = .ok (.bipush 11, 2) := dk_16 11 (dk_at dksX1_weddingNow_4 8 rfl rfl)
theorem dX1_weddingNow_106 : decode cX1_weddingNow 106 = .ok (.aload_n 0, 1) := dk_42 (dk_at dksX1_weddingNow_4 10 rfl rfl)
theorem dX1_weddingNow_107 : decode cX1_weddingNow 107 = .ok (.iload_n 1, 1) := dk_27 (dk_at dksX1_weddingNow_4 11 rfl rfl)
theorem dX1_weddingNow_108 : decode cX1_weddingNow 108 = .ok (.invokevirtual 238, 3) := dk_182 0 238 (dk_at dksX1_weddingNow_4 12 rfl rfl)
theorem dX1_weddingNow_111 : decode cX1_weddingNow 111 = .ok (.iastore, 1) := dk_79 (dk_at dksX1_weddingNow_4 15 rfl rfl)
theorem dX1_weddingNow_112 : decode cX1_weddingNow 112 = .ok (.dup, 1) := dk_89 (dk_at dksX1_weddingNow_4 16 rfl rfl)
theorem dX1_weddingNow_113 : decode cX1_weddingNow 113 = .ok (.bipush 12, 2) := dk_16 12 (dk_at dksX1_weddingNow_4 17 rfl rfl)
theorem dX1_weddingNow_115 : decode cX1_weddingNow 115 = .ok (.aload_n 3, 1) := dk_45 (dk_at dksX1_weddingNow_4 19 rfl rfl)
theorem dX1_weddingNow_116 : decode cX1_weddingNow 116 = .ok (.invokevirtual 265, 3) := dk_182 1 9 (dk_at dksX1_weddingNow_4 20 rfl rfl)
theorem dX1_weddingNow_119 : decode cX1_weddingNow 119 = .ok (.iastore, 1) := dk_79 (dk_at dksX1_weddingNow_4 23 rfl rfl)
theorem dX1_weddingNow_120 : decode cX1_weddingNow 120 = .ok (.astore 4, 2) := dk_58 4 (dk_at dksX1_weddingNow_5 0 rfl rfl)
theorem dX1_weddingNow_122 : decode cX1_weddingNow 122 = .ok (.aload 4, 2) := dk_25 4 (dk_at dksX1_weddingNow_5 2 rfl rfl)
theorem dX1_weddingNow_124 : decode cX1_weddingNow 124 = .ok (.iload_n 2, 1) := dk_28 (dk_at dksX1_weddingNow_5 4 rfl rfl)
theorem dX1_weddingNow_125 : decode cX1_weddingNow 125 = .ok (.iaload, 1) := dk_46 (dk_at dksX1_weddingNow_5 5 rfl rfl)
theorem dX1_weddingNow_126 : decode cX1_weddingNow 126 = .ok (.ireturn, 1) := dk_172 (dk_at dksX1_weddingNow_5 6 rfl rfl)
abbrev cX1_place : ByteArray := prog_1_method_28_code
def yX1_place : MethodName := ⟨RX1, "place", "(I)I"⟩
def dkwX1_place_3 : List UInt8 := [178, 0, 222, 182, 0, 146, 153, 0, 7, 29, 167, 0, 4, 2, 172]
abbrev dktX1_place_3 : List UInt8 := dkwX1_place_3 ++ []
def dkwX1_place_2 : List UInt8 := [180, 0, 153, 182, 0, 219, 153, 0, 7, 4, 167, 0, 4, 3, 96, 62, 132, 4, 1, 167, 255, 211, 44]
abbrev dktX1_place_2 : List UInt8 := dkwX1_place_2 ++ dktX1_place_3
def dkwX1_place_1 : List UInt8 := [162, 0, 45, 29, 42, 180, 0, 45, 21, 4, 185, 0, 80, 2, 0, 192, 0, 85, 44, 180, 0, 150, 44]
abbrev dktX1_place_1 : List UInt8 := dkwX1_place_1 ++ dktX1_place_2
def dkwX1_place_0 : List UInt8 := [42, 180, 0, 45, 27, 185, 0, 80, 2, 0, 192, 0, 85, 77, 3, 62, 3, 54, 4, 21, 4, 27]
abbrev dktX1_place_0 : List UInt8 := dkwX1_place_0 ++ dktX1_place_1
theorem dksX1_place_0 : cX1_place.data.toList.drop 0 = dktX1_place_0 := by decide +kernel
theorem dksX1_place_1 : cX1_place.data.toList.drop 22 = dktX1_place_1 := dk_seg dksX1_place_0 22 rfl rfl
theorem dksX1_place_2 : cX1_place.data.toList.drop 45 = dktX1_place_2 := dk_seg dksX1_place_1 23 rfl rfl
theorem dksX1_place_3 : cX1_place.data.toList.drop 68 = dktX1_place_3 := dk_seg dksX1_place_2 23 rfl rfl
theorem dX1_place_0 : decode cX1_place 0 = .ok (.aload_n 0, 1) := dk_42 (dk_at dksX1_place_0 0 rfl rfl)
theorem dX1_place_1 : decode cX1_place 1 = .ok (.getfield 45, 3) := dk_180 0 45 (dk_at dksX1_place_0 1 rfl rfl)
theorem dX1_place_4 : decode cX1_place 4 = .ok (.iload_n 1, 1) := dk_27 (dk_at dksX1_place_0 4 rfl rfl)
theorem dX1_place_5 : decode cX1_place 5 = .ok (.invokeinterface 80 2, 5) := by decide +kernel
theorem dX1_place_10 : decode cX1_place 10 = .ok (.checkcast 85, 3) := dk_192 0 85 (dk_at dksX1_place_0 10 rfl rfl)
theorem dX1_place_13 : decode cX1_place 13 = .ok (.astore_n 2, 1) := dk_77 (dk_at dksX1_place_0 13 rfl rfl)
theorem dX1_place_14 : decode cX1_place 14 = .ok (.iconst 0, 1) := dk_3 (dk_at dksX1_place_0 14 rfl rfl)
theorem dX1_place_15 : decode cX1_place 15 = .ok (.istore_n 3, 1) := dk_62 (dk_at dksX1_place_0 15 rfl rfl)
theorem dX1_place_16 : decode cX1_place 16 = .ok (.iconst 0, 1) := dk_3 (dk_at dksX1_place_0 16 rfl rfl)
theorem dX1_place_17 : decode cX1_place 17 = .ok (.istore 4, 2) := dk_54 4 (dk_at dksX1_place_0 17 rfl rfl)
theorem dX1_place_19 : decode cX1_place 19 = .ok (.iload 4, 2) := dk_21 4 (dk_at dksX1_place_0 19 rfl rfl)
theorem dX1_place_21 : decode cX1_place 21 = .ok (.iload_n 1, 1) := dk_27 (dk_at dksX1_place_0 21 rfl rfl)
theorem dX1_place_22 : decode cX1_place 22 = .ok (.if_icmp .ge 45, 3) := dk_162 0 45 (dk_at dksX1_place_1 0 rfl rfl)
theorem dX1_place_25 : decode cX1_place 25 = .ok (.iload_n 3, 1) := dk_29 (dk_at dksX1_place_1 3 rfl rfl)
theorem dX1_place_26 : decode cX1_place 26 = .ok (.aload_n 0, 1) := dk_42 (dk_at dksX1_place_1 4 rfl rfl)
theorem dX1_place_27 : decode cX1_place 27 = .ok (.getfield 45, 3) := dk_180 0 45 (dk_at dksX1_place_1 5 rfl rfl)
theorem dX1_place_30 : decode cX1_place 30 = .ok (.iload 4, 2) := dk_21 4 (dk_at dksX1_place_1 8 rfl rfl)
theorem dX1_place_32 : decode cX1_place 32 = .ok (.invokeinterface 80 2, 5) := by decide +kernel
theorem dX1_place_37 : decode cX1_place 37 = .ok (.checkcast 85, 3) := dk_192 0 85 (dk_at dksX1_place_1 15 rfl rfl)
theorem dX1_place_40 : decode cX1_place 40 = .ok (.aload_n 2, 1) := dk_44 (dk_at dksX1_place_1 18 rfl rfl)
theorem dX1_place_41 : decode cX1_place 41 = .ok (.getfield 150, 3) := dk_180 0 150 (dk_at dksX1_place_1 19 rfl rfl)
theorem dX1_place_44 : decode cX1_place 44 = .ok (.aload_n 2, 1) := dk_44 (dk_at dksX1_place_1 22 rfl rfl)
theorem dX1_place_45 : decode cX1_place 45 = .ok (.getfield 153, 3) := dk_180 0 153 (dk_at dksX1_place_2 0 rfl rfl)
theorem dX1_place_48 : decode cX1_place 48 = .ok (.invokevirtual 219, 3) := dk_182 0 219 (dk_at dksX1_place_2 3 rfl rfl)
theorem dX1_place_51 : decode cX1_place 51 = .ok (.ifCond .eq 7, 3) := dk_153 0 7 (dk_at dksX1_place_2 6 rfl rfl)
theorem dX1_place_54 : decode cX1_place 54 = .ok (.iconst 1, 1) := dk_4 (dk_at dksX1_place_2 9 rfl rfl)
theorem dX1_place_55 : decode cX1_place 55 = .ok (.goto 4, 3) := dk_167 0 4 (dk_at dksX1_place_2 10 rfl rfl)
theorem dX1_place_58 : decode cX1_place 58 = .ok (.iconst 0, 1) := dk_3 (dk_at dksX1_place_2 13 rfl rfl)
theorem dX1_place_59 : decode cX1_place 59 = .ok (.iadd, 1) := dk_96 (dk_at dksX1_place_2 14 rfl rfl)
theorem dX1_place_60 : decode cX1_place 60 = .ok (.istore_n 3, 1) := dk_62 (dk_at dksX1_place_2 15 rfl rfl)
theorem dX1_place_61 : decode cX1_place 61 = .ok (.iinc 4 1, 3) := dk_132 4 1 (dk_at dksX1_place_2 16 rfl rfl)
theorem dX1_place_64 : decode cX1_place 64 = .ok (.goto (-45), 3) := dk_167 255 211 (dk_at dksX1_place_2 19 rfl rfl)
theorem dX1_place_67 : decode cX1_place 67 = .ok (.aload_n 2, 1) := dk_44 (dk_at dksX1_place_2 22 rfl rfl)
theorem dX1_place_68 : decode cX1_place 68 = .ok (.getstatic 222, 3) := dk_178 0 222 (dk_at dksX1_place_3 0 rfl rfl)
theorem dX1_place_71 : decode cX1_place 71 = .ok (.invokevirtual 146, 3) := dk_182 0 146 (dk_at dksX1_place_3 3 rfl rfl)
theorem dX1_place_74 : decode cX1_place 74 = .ok (.ifCond .eq 7, 3) := dk_153 0 7 (dk_at dksX1_place_3 6 rfl rfl)
theorem dX1_place_77 : decode cX1_place 77 = .ok (.iload_n 3, 1) := dk_29 (dk_at dksX1_place_3 9 rfl rfl)
theorem dX1_place_78 : decode cX1_place 78 = .ok (.goto 4, 3) := dk_167 0 4 (dk_at dksX1_place_3 10 rfl rfl)
theorem dX1_place_81 : decode cX1_place 81 = .ok (.iconst (-1), 1) := dk_2 (dk_at dksX1_place_3 13 rfl rfl)
theorem dX1_place_82 : decode cX1_place 82 = .ok (.ireturn, 1) := dk_172 (dk_at dksX1_place_3 14 rfl rfl)
abbrev cX1_fillings : ByteArray := prog_1_method_26_code
def yX1_fillings : MethodName := ⟨RX1, "fillings", "(I)LFirstdanceAgency$Fillings;"⟩
def dkwX1_fillings_0 : List UInt8 := [187, 0, 200, 89, 42, 27, 42, 27, 182, 0, 202, 3, 4, 183, 0, 205, 176]
abbrev dktX1_fillings_0 : List UInt8 := dkwX1_fillings_0 ++ []
theorem dksX1_fillings_0 : cX1_fillings.data.toList.drop 0 = dktX1_fillings_0 := by decide +kernel
theorem dX1_fillings_0 : decode cX1_fillings 0 = .ok (.new 200, 3) := dk_187 0 200 (dk_at dksX1_fillings_0 0 rfl rfl)
theorem dX1_fillings_3 : decode cX1_fillings 3 = .ok (.dup, 1) := dk_89 (dk_at dksX1_fillings_0 3 rfl rfl)
theorem dX1_fillings_4 : decode cX1_fillings 4 = .ok (.aload_n 0, 1) := dk_42 (dk_at dksX1_fillings_0 4 rfl rfl)
theorem dX1_fillings_5 : decode cX1_fillings 5 = .ok (.iload_n 1, 1) := dk_27 (dk_at dksX1_fillings_0 5 rfl rfl)
theorem dX1_fillings_6 : decode cX1_fillings 6 = .ok (.aload_n 0, 1) := dk_42 (dk_at dksX1_fillings_0 6 rfl rfl)
theorem dX1_fillings_7 : decode cX1_fillings 7 = .ok (.iload_n 1, 1) := dk_27 (dk_at dksX1_fillings_0 7 rfl rfl)
theorem dX1_fillings_8 : decode cX1_fillings 8 = .ok (.invokevirtual 202, 3) := dk_182 0 202 (dk_at dksX1_fillings_0 8 rfl rfl)
theorem dX1_fillings_11 : decode cX1_fillings 11 = .ok (.iconst 0, 1) := dk_3 (dk_at dksX1_fillings_0 11 rfl rfl)
theorem dX1_fillings_12 : decode cX1_fillings 12 = .ok (.iconst 1, 1) := dk_4 (dk_at dksX1_fillings_0 12 rfl rfl)
theorem dX1_fillings_13 : decode cX1_fillings 13 = .ok (.invokespecial 205, 3) := dk_183 0 205 (dk_at dksX1_fillings_0 13 rfl rfl)
theorem dX1_fillings_16 : decode cX1_fillings 16 = .ok (.areturn, 1) := dk_176 (dk_at dksX1_fillings_0 16 rfl rfl)
abbrev cX1_freeFor : ByteArray := prog_1_method_23_code
def yX1_freeFor : MethodName := ⟨RX1, "freeFor", "(I)I"⟩
def dkwX1_freeFor_1 : List UInt8 := [153, 0, 9, 4, 29, 120, 167, 0, 4, 3, 128, 61, 132, 3, 1, 167, 255, 221, 28, 172]
abbrev dktX1_freeFor_1 : List UInt8 := dkwX1_freeFor_1 ++ []
def dkwX1_freeFor_0 : List UInt8 := [3, 61, 3, 62, 29, 42, 180, 0, 26, 185, 0, 72, 1, 0, 162, 0, 28, 28, 42, 29, 27, 182, 0, 197]
abbrev dktX1_freeFor_0 : List UInt8 := dkwX1_freeFor_0 ++ dktX1_freeFor_1
theorem dksX1_freeFor_0 : cX1_freeFor.data.toList.drop 0 = dktX1_freeFor_0 := by decide +kernel
theorem dksX1_freeFor_1 : cX1_freeFor.data.toList.drop 24 = dktX1_freeFor_1 := dk_seg dksX1_freeFor_0 24 rfl rfl
theorem dX1_freeFor_0 : decode cX1_freeFor 0 = .ok (.iconst 0, 1) := dk_3 (dk_at dksX1_freeFor_0 0 rfl rfl)
theorem dX1_freeFor_1 : decode cX1_freeFor 1 = .ok (.istore_n 2, 1) := dk_61 (dk_at dksX1_freeFor_0 1 rfl rfl)
theorem dX1_freeFor_2 : decode cX1_freeFor 2 = .ok (.iconst 0, 1) := dk_3 (dk_at dksX1_freeFor_0 2 rfl rfl)
theorem dX1_freeFor_3 : decode cX1_freeFor 3 = .ok (.istore_n 3, 1) := dk_62 (dk_at dksX1_freeFor_0 3 rfl rfl)
theorem dX1_freeFor_4 : decode cX1_freeFor 4 = .ok (.iload_n 3, 1) := dk_29 (dk_at dksX1_freeFor_0 4 rfl rfl)
theorem dX1_freeFor_5 : decode cX1_freeFor 5 = .ok (.aload_n 0, 1) := dk_42 (dk_at dksX1_freeFor_0 5 rfl rfl)
theorem dX1_freeFor_6 : decode cX1_freeFor 6 = .ok (.getfield 26, 3) := dk_180 0 26 (dk_at dksX1_freeFor_0 6 rfl rfl)
theorem dX1_freeFor_9 : decode cX1_freeFor 9 = .ok (.invokeinterface 72 1, 5) := by decide +kernel
theorem dX1_freeFor_14 : decode cX1_freeFor 14 = .ok (.if_icmp .ge 28, 3) := dk_162 0 28 (dk_at dksX1_freeFor_0 14 rfl rfl)
theorem dX1_freeFor_17 : decode cX1_freeFor 17 = .ok (.iload_n 2, 1) := dk_28 (dk_at dksX1_freeFor_0 17 rfl rfl)
theorem dX1_freeFor_18 : decode cX1_freeFor 18 = .ok (.aload_n 0, 1) := dk_42 (dk_at dksX1_freeFor_0 18 rfl rfl)
theorem dX1_freeFor_19 : decode cX1_freeFor 19 = .ok (.iload_n 3, 1) := dk_29 (dk_at dksX1_freeFor_0 19 rfl rfl)
theorem dX1_freeFor_20 : decode cX1_freeFor 20 = .ok (.iload_n 1, 1) := dk_27 (dk_at dksX1_freeFor_0 20 rfl rfl)
theorem dX1_freeFor_21 : decode cX1_freeFor 21 = .ok (.invokevirtual 197, 3) := dk_182 0 197 (dk_at dksX1_freeFor_0 21 rfl rfl)
theorem dX1_freeFor_24 : decode cX1_freeFor 24 = .ok (.ifCond .eq 9, 3) := dk_153 0 9 (dk_at dksX1_freeFor_1 0 rfl rfl)
theorem dX1_freeFor_27 : decode cX1_freeFor 27 = .ok (.iconst 1, 1) := dk_4 (dk_at dksX1_freeFor_1 3 rfl rfl)
theorem dX1_freeFor_28 : decode cX1_freeFor 28 = .ok (.iload_n 3, 1) := dk_29 (dk_at dksX1_freeFor_1 4 rfl rfl)
theorem dX1_freeFor_29 : decode cX1_freeFor 29 = .ok (.ishl, 1) := dk_120 (dk_at dksX1_freeFor_1 5 rfl rfl)
theorem dX1_freeFor_30 : decode cX1_freeFor 30 = .ok (.goto 4, 3) := dk_167 0 4 (dk_at dksX1_freeFor_1 6 rfl rfl)
theorem dX1_freeFor_33 : decode cX1_freeFor 33 = .ok (.iconst 0, 1) := dk_3 (dk_at dksX1_freeFor_1 9 rfl rfl)
theorem dX1_freeFor_34 : decode cX1_freeFor 34 = .ok (.ior, 1) := dk_128 (dk_at dksX1_freeFor_1 10 rfl rfl)
theorem dX1_freeFor_35 : decode cX1_freeFor 35 = .ok (.istore_n 2, 1) := dk_61 (dk_at dksX1_freeFor_1 11 rfl rfl)
theorem dX1_freeFor_36 : decode cX1_freeFor 36 = .ok (.iinc 3 1, 3) := dk_132 3 1 (dk_at dksX1_freeFor_1 12 rfl rfl)
theorem dX1_freeFor_39 : decode cX1_freeFor 39 = .ok (.goto (-35), 3) := dk_167 255 221 (dk_at dksX1_freeFor_1 15 rfl rfl)
theorem dX1_freeFor_42 : decode cX1_freeFor 42 = .ok (.iload_n 2, 1) := dk_28 (dk_at dksX1_freeFor_1 18 rfl rfl)
theorem dX1_freeFor_43 : decode cX1_freeFor 43 = .ok (.ireturn, 1) := dk_172 (dk_at dksX1_freeFor_1 19 rfl rfl)
abbrev cX1_isFree : ByteArray := prog_1_method_22_code
def yX1_isFree : MethodName := ⟨RX1, "isFree", "(II)Z"⟩
def dkwX1_isFree_7 : List UInt8 := [132, 5, 1, 167, 255, 158, 4, 172]
abbrev dktX1_isFree_7 : List UInt8 := dkwX1_isFree_7 ++ []
def dkwX1_isFree_6 : List UInt8 := [167, 0, 4, 3, 54, 7, 21, 7, 153, 0, 15, 42, 21, 5, 28, 182, 0, 185, 154, 0, 5, 3, 172]
abbrev dktX1_isFree_6 : List UInt8 := dkwX1_isFree_6 ++ dktX1_isFree_7
def dkwX1_isFree_5 : List UInt8 := [180, 0, 153, 45, 180, 0, 153, 160, 0, 19, 25, 6, 180, 0, 195, 27, 184, 0, 123, 153, 0, 7, 4]
abbrev dktX1_isFree_5 : List UInt8 := dkwX1_isFree_5 ++ dktX1_isFree_6
def dkwX1_isFree_4 : List UInt8 := [192, 0, 85, 58, 6, 21, 5, 28, 159, 0, 42, 25, 6, 178, 0, 140, 182, 0, 146, 153, 0, 31, 25, 6]
abbrev dktX1_isFree_4 : List UInt8 := dkwX1_isFree_4 ++ dktX1_isFree_5
def dkwX1_isFree_3 : List UInt8 := [180, 0, 45, 185, 0, 72, 1, 0, 162, 0, 90, 42, 180, 0, 45, 21, 5, 185, 0, 80, 2, 0]
abbrev dktX1_isFree_3 : List UInt8 := dkwX1_isFree_3 ++ dktX1_isFree_4
def dkwX1_isFree_2 : List UInt8 := [180, 0, 171, 45, 180, 0, 174, 182, 0, 129, 2, 160, 0, 5, 3, 172, 3, 54, 5, 21, 5, 42]
abbrev dktX1_isFree_2 : List UInt8 := dkwX1_isFree_2 ++ dktX1_isFree_3
def dkwX1_isFree_1 : List UInt8 := [192, 0, 83, 58, 4, 25, 4, 180, 0, 191, 45, 180, 0, 153, 51, 154, 0, 23, 42, 180, 0, 38, 25, 4]
abbrev dktX1_isFree_1 : List UInt8 := dkwX1_isFree_1 ++ dktX1_isFree_2
def dkwX1_isFree_0 : List UInt8 := [42, 180, 0, 45, 28, 185, 0, 80, 2, 0, 192, 0, 85, 78, 42, 180, 0, 26, 27, 185, 0, 80, 2, 0]
abbrev dktX1_isFree_0 : List UInt8 := dkwX1_isFree_0 ++ dktX1_isFree_1
theorem dksX1_isFree_0 : cX1_isFree.data.toList.drop 0 = dktX1_isFree_0 := by decide +kernel
theorem dksX1_isFree_1 : cX1_isFree.data.toList.drop 24 = dktX1_isFree_1 := dk_seg dksX1_isFree_0 24 rfl rfl
theorem dksX1_isFree_2 : cX1_isFree.data.toList.drop 48 = dktX1_isFree_2 := dk_seg dksX1_isFree_1 24 rfl rfl
theorem dksX1_isFree_3 : cX1_isFree.data.toList.drop 70 = dktX1_isFree_3 := dk_seg dksX1_isFree_2 22 rfl rfl
theorem dksX1_isFree_4 : cX1_isFree.data.toList.drop 92 = dktX1_isFree_4 := dk_seg dksX1_isFree_3 22 rfl rfl
theorem dksX1_isFree_5 : cX1_isFree.data.toList.drop 116 = dktX1_isFree_5 := dk_seg dksX1_isFree_4 24 rfl rfl
theorem dksX1_isFree_6 : cX1_isFree.data.toList.drop 139 = dktX1_isFree_6 := dk_seg dksX1_isFree_5 23 rfl rfl
theorem dksX1_isFree_7 : cX1_isFree.data.toList.drop 162 = dktX1_isFree_7 := dk_seg dksX1_isFree_6 23 rfl rfl
theorem dX1_isFree_0 : decode cX1_isFree 0 = .ok (.aload_n 0, 1) := dk_42 (dk_at dksX1_isFree_0 0 rfl rfl)
theorem dX1_isFree_1 : decode cX1_isFree 1 = .ok (.getfield 45, 3) := dk_180 0 45 (dk_at dksX1_isFree_0 1 rfl rfl)
theorem dX1_isFree_4 : decode cX1_isFree 4 = .ok (.iload_n 2, 1) := dk_28 (dk_at dksX1_isFree_0 4 rfl rfl)
theorem dX1_isFree_5 : decode cX1_isFree 5 = .ok (.invokeinterface 80 2, 5) := by decide +kernel
theorem dX1_isFree_10 : decode cX1_isFree 10 = .ok (.checkcast 85, 3) := dk_192 0 85 (dk_at dksX1_isFree_0 10 rfl rfl)
theorem dX1_isFree_13 : decode cX1_isFree 13 = .ok (.astore_n 3, 1) := dk_78 (dk_at dksX1_isFree_0 13 rfl rfl)
theorem dX1_isFree_14 : decode cX1_isFree 14 = .ok (.aload_n 0, 1) := dk_42 (dk_at dksX1_isFree_0 14 rfl rfl)
theorem dX1_isFree_15 : decode cX1_isFree 15 = .ok (.getfield 26, 3) := dk_180 0 26 (dk_at dksX1_isFree_0 15 rfl rfl)
theorem dX1_isFree_18 : decode cX1_isFree 18 = .ok (.iload_n 1, 1) := dk_27 (dk_at dksX1_isFree_0 18 rfl rfl)
theorem dX1_isFree_19 : decode cX1_isFree 19 = .ok (.invokeinterface 80 2, 5) := by decide +kernel
theorem dX1_isFree_24 : decode cX1_isFree 24 = .ok (.checkcast 83, 3) := dk_192 0 83 (dk_at dksX1_isFree_1 0 rfl rfl)
theorem dX1_isFree_27 : decode cX1_isFree 27 = .ok (.astore 4, 2) := dk_58 4 (dk_at dksX1_isFree_1 3 rfl rfl)
theorem dX1_isFree_29 : decode cX1_isFree 29 = .ok (.aload 4, 2) := dk_25 4 (dk_at dksX1_isFree_1 5 rfl rfl)
theorem dX1_isFree_31 : decode cX1_isFree 31 = .ok (.getfield 191, 3) := dk_180 0 191 (dk_at dksX1_isFree_1 7 rfl rfl)
theorem dX1_isFree_34 : decode cX1_isFree 34 = .ok (.aload_n 3, 1) := dk_45 (dk_at dksX1_isFree_1 10 rfl rfl)
theorem dX1_isFree_35 : decode cX1_isFree 35 = .ok (.getfield 153, 3) := dk_180 0 153 (dk_at dksX1_isFree_1 11 rfl rfl)
theorem dX1_isFree_38 : decode cX1_isFree 38 = .ok (.baload, 1) := dk_51 (dk_at dksX1_isFree_1 14 rfl rfl)
theorem dX1_isFree_39 : decode cX1_isFree 39 = .ok (.ifCond .ne 23, 3) := dk_154 0 23 (dk_at dksX1_isFree_1 15 rfl rfl)
theorem dX1_isFree_42 : decode cX1_isFree 42 = .ok (.aload_n 0, 1) := dk_42 (dk_at dksX1_isFree_1 18 rfl rfl)
theorem dX1_isFree_43 : decode cX1_isFree 43 = .ok (.getfield 38, 3) := dk_180 0 38 (dk_at dksX1_isFree_1 19 rfl rfl)
theorem dX1_isFree_46 : decode cX1_isFree 46 = .ok (.aload 4, 2) := dk_25 4 (dk_at dksX1_isFree_1 22 rfl rfl)
theorem dX1_isFree_48 : decode cX1_isFree 48 = .ok (.getfield 171, 3) := dk_180 0 171 (dk_at dksX1_isFree_2 0 rfl rfl)
theorem dX1_isFree_51 : decode cX1_isFree 51 = .ok (.aload_n 3, 1) := dk_45 (dk_at dksX1_isFree_2 3 rfl rfl)
theorem dX1_isFree_52 : decode cX1_isFree 52 = .ok (.getfield 174, 3) := dk_180 0 174 (dk_at dksX1_isFree_2 4 rfl rfl)
theorem dX1_isFree_55 : decode cX1_isFree 55 = .ok (.invokevirtual 129, 3) := dk_182 0 129 (dk_at dksX1_isFree_2 7 rfl rfl)
theorem dX1_isFree_58 : decode cX1_isFree 58 = .ok (.iconst (-1), 1) := dk_2 (dk_at dksX1_isFree_2 10 rfl rfl)
theorem dX1_isFree_59 : decode cX1_isFree 59 = .ok (.if_icmp .ne 5, 3) := dk_160 0 5 (dk_at dksX1_isFree_2 11 rfl rfl)
theorem dX1_isFree_62 : decode cX1_isFree 62 = .ok (.iconst 0, 1) := dk_3 (dk_at dksX1_isFree_2 14 rfl rfl)
theorem dX1_isFree_63 : decode cX1_isFree 63 = .ok (.ireturn, 1) := dk_172 (dk_at dksX1_isFree_2 15 rfl rfl)
theorem dX1_isFree_64 : decode cX1_isFree 64 = .ok (.iconst 0, 1) := dk_3 (dk_at dksX1_isFree_2 16 rfl rfl)
theorem dX1_isFree_65 : decode cX1_isFree 65 = .ok (.istore 5, 2) := dk_54 5 (dk_at dksX1_isFree_2 17 rfl rfl)
theorem dX1_isFree_67 : decode cX1_isFree 67 = .ok (.iload 5, 2) := dk_21 5 (dk_at dksX1_isFree_2 19 rfl rfl)
theorem dX1_isFree_69 : decode cX1_isFree 69 = .ok (.aload_n 0, 1) := dk_42 (dk_at dksX1_isFree_2 21 rfl rfl)
theorem dX1_isFree_70 : decode cX1_isFree 70 = .ok (.getfield 45, 3) := dk_180 0 45 (dk_at dksX1_isFree_3 0 rfl rfl)
theorem dX1_isFree_73 : decode cX1_isFree 73 = .ok (.invokeinterface 72 1, 5) := by decide +kernel
theorem dX1_isFree_78 : decode cX1_isFree 78 = .ok (.if_icmp .ge 90, 3) := dk_162 0 90 (dk_at dksX1_isFree_3 8 rfl rfl)
theorem dX1_isFree_81 : decode cX1_isFree 81 = .ok (.aload_n 0, 1) := dk_42 (dk_at dksX1_isFree_3 11 rfl rfl)
theorem dX1_isFree_82 : decode cX1_isFree 82 = .ok (.getfield 45, 3) := dk_180 0 45 (dk_at dksX1_isFree_3 12 rfl rfl)
theorem dX1_isFree_85 : decode cX1_isFree 85 = .ok (.iload 5, 2) := dk_21 5 (dk_at dksX1_isFree_3 15 rfl rfl)
theorem dX1_isFree_87 : decode cX1_isFree 87 = .ok (.invokeinterface 80 2, 5) := by decide +kernel
theorem dX1_isFree_92 : decode cX1_isFree 92 = .ok (.checkcast 85, 3) := dk_192 0 85 (dk_at dksX1_isFree_4 0 rfl rfl)
theorem dX1_isFree_95 : decode cX1_isFree 95 = .ok (.astore 6, 2) := dk_58 6 (dk_at dksX1_isFree_4 3 rfl rfl)
theorem dX1_isFree_97 : decode cX1_isFree 97 = .ok (.iload 5, 2) := dk_21 5 (dk_at dksX1_isFree_4 5 rfl rfl)
theorem dX1_isFree_99 : decode cX1_isFree 99 = .ok (.iload_n 2, 1) := dk_28 (dk_at dksX1_isFree_4 7 rfl rfl)
theorem dX1_isFree_100 : decode cX1_isFree 100 = .ok (.if_icmp .eq 42, 3) := dk_159 0 42 (dk_at dksX1_isFree_4 8 rfl rfl)
theorem dX1_isFree_103 : decode cX1_isFree 103 = .ok (.aload 6, 2) := dk_25 6 (dk_at dksX1_isFree_4 11 rfl rfl)
theorem dX1_isFree_105 : decode cX1_isFree 105 = .ok (.getstatic 140, 3) := dk_178 0 140 (dk_at dksX1_isFree_4 13 rfl rfl)
theorem dX1_isFree_108 : decode cX1_isFree 108 = .ok (.invokevirtual 146, 3) := dk_182 0 146 (dk_at dksX1_isFree_4 16 rfl rfl)
theorem dX1_isFree_111 : decode cX1_isFree 111 = .ok (.ifCond .eq 31, 3) := dk_153 0 31 (dk_at dksX1_isFree_4 19 rfl rfl)
theorem dX1_isFree_114 : decode cX1_isFree 114 = .ok (.aload 6, 2) := dk_25 6 (dk_at dksX1_isFree_4 22 rfl rfl)
theorem dX1_isFree_116 : decode cX1_isFree 116 = .ok (.getfield 153, 3) := dk_180 0 153 (dk_at dksX1_isFree_5 0 rfl rfl)
theorem dX1_isFree_119 : decode cX1_isFree 119 = .ok (.aload_n 3, 1) := dk_45 (dk_at dksX1_isFree_5 3 rfl rfl)
theorem dX1_isFree_120 : decode cX1_isFree 120 = .ok (.getfield 153, 3) := dk_180 0 153 (dk_at dksX1_isFree_5 4 rfl rfl)
theorem dX1_isFree_123 : decode cX1_isFree 123 = .ok (.if_icmp .ne 19, 3) := dk_160 0 19 (dk_at dksX1_isFree_5 7 rfl rfl)
theorem dX1_isFree_126 : decode cX1_isFree 126 = .ok (.aload 6, 2) := dk_25 6 (dk_at dksX1_isFree_5 10 rfl rfl)
theorem dX1_isFree_128 : decode cX1_isFree 128 = .ok (.getfield 195, 3) := dk_180 0 195 (dk_at dksX1_isFree_5 12 rfl rfl)
theorem dX1_isFree_131 : decode cX1_isFree 131 = .ok (.iload_n 1, 1) := dk_27 (dk_at dksX1_isFree_5 15 rfl rfl)
theorem dX1_isFree_132 : decode cX1_isFree 132 = .ok (.invokestatic 123, 3) := dk_184 0 123 (dk_at dksX1_isFree_5 16 rfl rfl)
theorem dX1_isFree_135 : decode cX1_isFree 135 = .ok (.ifCond .eq 7, 3) := dk_153 0 7 (dk_at dksX1_isFree_5 19 rfl rfl)
theorem dX1_isFree_138 : decode cX1_isFree 138 = .ok (.iconst 1, 1) := dk_4 (dk_at dksX1_isFree_5 22 rfl rfl)
theorem dX1_isFree_139 : decode cX1_isFree 139 = .ok (.goto 4, 3) := dk_167 0 4 (dk_at dksX1_isFree_6 0 rfl rfl)
theorem dX1_isFree_142 : decode cX1_isFree 142 = .ok (.iconst 0, 1) := dk_3 (dk_at dksX1_isFree_6 3 rfl rfl)
theorem dX1_isFree_143 : decode cX1_isFree 143 = .ok (.istore 7, 2) := dk_54 7 (dk_at dksX1_isFree_6 4 rfl rfl)
theorem dX1_isFree_145 : decode cX1_isFree 145 = .ok (.iload 7, 2) := dk_21 7 (dk_at dksX1_isFree_6 6 rfl rfl)
theorem dX1_isFree_147 : decode cX1_isFree 147 = .ok (.ifCond .eq 15, 3) := dk_153 0 15 (dk_at dksX1_isFree_6 8 rfl rfl)
theorem dX1_isFree_150 : decode cX1_isFree 150 = .ok (.aload_n 0, 1) := dk_42 (dk_at dksX1_isFree_6 11 rfl rfl)
theorem dX1_isFree_151 : decode cX1_isFree 151 = .ok (.iload 5, 2) := dk_21 5 (dk_at dksX1_isFree_6 12 rfl rfl)
theorem dX1_isFree_153 : decode cX1_isFree 153 = .ok (.iload_n 2, 1) := dk_28 (dk_at dksX1_isFree_6 14 rfl rfl)
theorem dX1_isFree_154 : decode cX1_isFree 154 = .ok (.invokevirtual 185, 3) := dk_182 0 185 (dk_at dksX1_isFree_6 15 rfl rfl)
theorem dX1_isFree_157 : decode cX1_isFree 157 = .ok (.ifCond .ne 5, 3) := dk_154 0 5 (dk_at dksX1_isFree_6 18 rfl rfl)
theorem dX1_isFree_160 : decode cX1_isFree 160 = .ok (.iconst 0, 1) := dk_3 (dk_at dksX1_isFree_6 21 rfl rfl)
theorem dX1_isFree_161 : decode cX1_isFree 161 = .ok (.ireturn, 1) := dk_172 (dk_at dksX1_isFree_6 22 rfl rfl)
theorem dX1_isFree_162 : decode cX1_isFree 162 = .ok (.iinc 5 1, 3) := dk_132 5 1 (dk_at dksX1_isFree_7 0 rfl rfl)
theorem dX1_isFree_165 : decode cX1_isFree 165 = .ok (.goto (-98), 3) := dk_167 255 158 (dk_at dksX1_isFree_7 3 rfl rfl)
theorem dX1_isFree_168 : decode cX1_isFree 168 = .ok (.iconst 1, 1) := dk_4 (dk_at dksX1_isFree_7 6 rfl rfl)
theorem dX1_isFree_169 : decode cX1_isFree 169 = .ok (.ireturn, 1) := dk_172 (dk_at dksX1_isFree_7 7 rfl rfl)
abbrev cX1_canBeAtBoth : ByteArray := prog_1_method_21_code
def yX1_canBeAtBoth : MethodName := ⟨RX1, "canBeAtBoth", "(II)Z"⟩
def dkwX1_canBeAtBoth_4 : List UInt8 := [21, 5, 96, 25, 4, 180, 0, 182, 163, 0, 7, 4, 167, 0, 4, 3, 172]
abbrev dktX1_canBeAtBoth_4 : List UInt8 := dkwX1_canBeAtBoth_4 ++ []
def dkwX1_canBeAtBoth_3 : List UInt8 := [180, 0, 174, 25, 4, 180, 0, 174, 182, 0, 129, 54, 5, 21, 5, 2, 159, 0, 22, 45, 182, 0, 188]
abbrev dktX1_canBeAtBoth_3 : List UInt8 := dkwX1_canBeAtBoth_3 ++ dktX1_canBeAtBoth_4
def dkwX1_canBeAtBoth_2 : List UInt8 := [180, 0, 182, 160, 0, 15, 28, 27, 162, 0, 10, 42, 28, 27, 182, 0, 185, 172, 42, 180, 0, 38, 45]
abbrev dktX1_canBeAtBoth_2 : List UInt8 := dkwX1_canBeAtBoth_2 ++ dktX1_canBeAtBoth_3
def dkwX1_canBeAtBoth_1 : List UInt8 := [192, 0, 85, 58, 4, 25, 4, 180, 0, 182, 45, 180, 0, 182, 161, 0, 20, 25, 4, 180, 0, 182, 45]
abbrev dktX1_canBeAtBoth_1 : List UInt8 := dkwX1_canBeAtBoth_1 ++ dktX1_canBeAtBoth_2
def dkwX1_canBeAtBoth_0 : List UInt8 := [42, 180, 0, 45, 27, 185, 0, 80, 2, 0, 192, 0, 85, 78, 42, 180, 0, 45, 28, 185, 0, 80, 2, 0]
abbrev dktX1_canBeAtBoth_0 : List UInt8 := dkwX1_canBeAtBoth_0 ++ dktX1_canBeAtBoth_1
theorem dksX1_canBeAtBoth_0 : cX1_canBeAtBoth.data.toList.drop 0 = dktX1_canBeAtBoth_0 := by decide +kernel
theorem dksX1_canBeAtBoth_1 : cX1_canBeAtBoth.data.toList.drop 24 = dktX1_canBeAtBoth_1 := dk_seg dksX1_canBeAtBoth_0 24 rfl rfl
theorem dksX1_canBeAtBoth_2 : cX1_canBeAtBoth.data.toList.drop 47 = dktX1_canBeAtBoth_2 := dk_seg dksX1_canBeAtBoth_1 23 rfl rfl
theorem dksX1_canBeAtBoth_3 : cX1_canBeAtBoth.data.toList.drop 70 = dktX1_canBeAtBoth_3 := dk_seg dksX1_canBeAtBoth_2 23 rfl rfl
theorem dksX1_canBeAtBoth_4 : cX1_canBeAtBoth.data.toList.drop 93 = dktX1_canBeAtBoth_4 := dk_seg dksX1_canBeAtBoth_3 23 rfl rfl
theorem dX1_canBeAtBoth_0 : decode cX1_canBeAtBoth 0 = .ok (.aload_n 0, 1) := dk_42 (dk_at dksX1_canBeAtBoth_0 0 rfl rfl)
theorem dX1_canBeAtBoth_1 : decode cX1_canBeAtBoth 1 = .ok (.getfield 45, 3) := dk_180 0 45 (dk_at dksX1_canBeAtBoth_0 1 rfl rfl)
theorem dX1_canBeAtBoth_4 : decode cX1_canBeAtBoth 4 = .ok (.iload_n 1, 1) := dk_27 (dk_at dksX1_canBeAtBoth_0 4 rfl rfl)
theorem dX1_canBeAtBoth_5 : decode cX1_canBeAtBoth 5 = .ok (.invokeinterface 80 2, 5) := by decide +kernel
theorem dX1_canBeAtBoth_10 : decode cX1_canBeAtBoth 10 = .ok (.checkcast 85, 3) := dk_192 0 85 (dk_at dksX1_canBeAtBoth_0 10 rfl rfl)
theorem dX1_canBeAtBoth_13 : decode cX1_canBeAtBoth 13 = .ok (.astore_n 3, 1) := dk_78 (dk_at dksX1_canBeAtBoth_0 13 rfl rfl)
theorem dX1_canBeAtBoth_14 : decode cX1_canBeAtBoth 14 = .ok (.aload_n 0, 1) := dk_42 (dk_at dksX1_canBeAtBoth_0 14 rfl rfl)
theorem dX1_canBeAtBoth_15 : decode cX1_canBeAtBoth 15 = .ok (.getfield 45, 3) := dk_180 0 45 (dk_at dksX1_canBeAtBoth_0 15 rfl rfl)
theorem dX1_canBeAtBoth_18 : decode cX1_canBeAtBoth 18 = .ok (.iload_n 2, 1) := dk_28 (dk_at dksX1_canBeAtBoth_0 18 rfl rfl)
theorem dX1_canBeAtBoth_19 : decode cX1_canBeAtBoth 19 = .ok (.invokeinterface 80 2, 5) := by decide +kernel
theorem dX1_canBeAtBoth_24 : decode cX1_canBeAtBoth 24 = .ok (.checkcast 85, 3) := dk_192 0 85 (dk_at dksX1_canBeAtBoth_1 0 rfl rfl)
theorem dX1_canBeAtBoth_27 : decode cX1_canBeAtBoth 27 = .ok (.astore 4, 2) := dk_58 4 (dk_at dksX1_canBeAtBoth_1 3 rfl rfl)
theorem dX1_canBeAtBoth_29 : decode cX1_canBeAtBoth 29 = .ok (.aload 4, 2) := dk_25 4 (dk_at dksX1_canBeAtBoth_1 5 rfl rfl)
theorem dX1_canBeAtBoth_31 : decode cX1_canBeAtBoth 31 = .ok (.getfield 182, 3) := dk_180 0 182 (dk_at dksX1_canBeAtBoth_1 7 rfl rfl)
theorem dX1_canBeAtBoth_34 : decode cX1_canBeAtBoth 34 = .ok (.aload_n 3, 1) := dk_45 (dk_at dksX1_canBeAtBoth_1 10 rfl rfl)
theorem dX1_canBeAtBoth_35 : decode cX1_canBeAtBoth 35 = .ok (.getfield 182, 3) := dk_180 0 182 (dk_at dksX1_canBeAtBoth_1 11 rfl rfl)
theorem dX1_canBeAtBoth_38 : decode cX1_canBeAtBoth 38 = .ok (.if_icmp .lt 20, 3) := dk_161 0 20 (dk_at dksX1_canBeAtBoth_1 14 rfl rfl)
theorem dX1_canBeAtBoth_41 : decode cX1_canBeAtBoth 41 = .ok (.aload 4, 2) := dk_25 4 (dk_at dksX1_canBeAtBoth_1 17 rfl rfl)
theorem dX1_canBeAtBoth_43 : decode cX1_canBeAtBoth 43 = .ok (.getfield 182, 3) := dk_180 0 182 (dk_at dksX1_canBeAtBoth_1 19 rfl rfl)
theorem dX1_canBeAtBoth_46 : decode cX1_canBeAtBoth 46 = .ok (.aload_n 3, 1) := dk_45 (dk_at dksX1_canBeAtBoth_1 22 rfl rfl)
theorem dX1_canBeAtBoth_47 : decode cX1_canBeAtBoth 47 = .ok (.getfield 182, 3) := dk_180 0 182 (dk_at dksX1_canBeAtBoth_2 0 rfl rfl)
theorem dX1_canBeAtBoth_50 : decode cX1_canBeAtBoth 50 = .ok (.if_icmp .ne 15, 3) := dk_160 0 15 (dk_at dksX1_canBeAtBoth_2 3 rfl rfl)
theorem dX1_canBeAtBoth_53 : decode cX1_canBeAtBoth 53 = .ok (.iload_n 2, 1) := dk_28 (dk_at dksX1_canBeAtBoth_2 6 rfl rfl)
theorem dX1_canBeAtBoth_54 : decode cX1_canBeAtBoth 54 = .ok (.iload_n 1, 1) := dk_27 (dk_at dksX1_canBeAtBoth_2 7 rfl rfl)
theorem dX1_canBeAtBoth_55 : decode cX1_canBeAtBoth 55 = .ok (.if_icmp .ge 10, 3) := dk_162 0 10 (dk_at dksX1_canBeAtBoth_2 8 rfl rfl)
theorem dX1_canBeAtBoth_58 : decode cX1_canBeAtBoth 58 = .ok (.aload_n 0, 1) := dk_42 (dk_at dksX1_canBeAtBoth_2 11 rfl rfl)
theorem dX1_canBeAtBoth_59 : decode cX1_canBeAtBoth 59 = .ok (.iload_n 2, 1) := dk_28 (dk_at dksX1_canBeAtBoth_2 12 rfl rfl)
theorem dX1_canBeAtBoth_60 : decode cX1_canBeAtBoth 60 = .ok (.iload_n 1, 1) := dk_27 (dk_at dksX1_canBeAtBoth_2 13 rfl rfl)
theorem dX1_canBeAtBoth_61 : decode cX1_canBeAtBoth 61 = .ok (.invokevirtual 185, 3) := dk_182 0 185 (dk_at dksX1_canBeAtBoth_2 14 rfl rfl)
theorem dX1_canBeAtBoth_64 : decode cX1_canBeAtBoth 64 = .ok (.ireturn, 1) := dk_172 (dk_at dksX1_canBeAtBoth_2 17 rfl rfl)
theorem dX1_canBeAtBoth_65 : decode cX1_canBeAtBoth 65 = .ok (.aload_n 0, 1) := dk_42 (dk_at dksX1_canBeAtBoth_2 18 rfl rfl)
theorem dX1_canBeAtBoth_66 : decode cX1_canBeAtBoth 66 = .ok (.getfield 38, 3) := dk_180 0 38 (dk_at dksX1_canBeAtBoth_2 19 rfl rfl)
theorem dX1_canBeAtBoth_69 : decode cX1_canBeAtBoth 69 = .ok (.aload_n 3, 1) := dk_45 (dk_at dksX1_canBeAtBoth_2 22 rfl rfl)
theorem dX1_canBeAtBoth_70 : decode cX1_canBeAtBoth 70 = .ok (.getfield 174, 3) := dk_180 0 174 (dk_at dksX1_canBeAtBoth_3 0 rfl rfl)
theorem dX1_canBeAtBoth_73 : decode cX1_canBeAtBoth 73 = .ok (.aload 4, 2) := dk_25 4 (dk_at dksX1_canBeAtBoth_3 3 rfl rfl)
theorem dX1_canBeAtBoth_75 : decode cX1_canBeAtBoth 75 = .ok (.getfield 174, 3) := dk_180 0 174 (dk_at dksX1_canBeAtBoth_3 5 rfl rfl)
theorem dX1_canBeAtBoth_78 : decode cX1_canBeAtBoth 78 = .ok (.invokevirtual 129, 3) := dk_182 0 129 (dk_at dksX1_canBeAtBoth_3 8 rfl rfl)
theorem dX1_canBeAtBoth_81 : decode cX1_canBeAtBoth 81 = .ok (.istore 5, 2) := dk_54 5 (dk_at dksX1_canBeAtBoth_3 11 rfl rfl)
theorem dX1_canBeAtBoth_83 : decode cX1_canBeAtBoth 83 = .ok (.iload 5, 2) := dk_21 5 (dk_at dksX1_canBeAtBoth_3 13 rfl rfl)
theorem dX1_canBeAtBoth_85 : decode cX1_canBeAtBoth 85 = .ok (.iconst (-1), 1) := dk_2 (dk_at dksX1_canBeAtBoth_3 15 rfl rfl)
theorem dX1_canBeAtBoth_86 : decode cX1_canBeAtBoth 86 = .ok (.if_icmp .eq 22, 3) := dk_159 0 22 (dk_at dksX1_canBeAtBoth_3 16 rfl rfl)
theorem dX1_canBeAtBoth_89 : decode cX1_canBeAtBoth 89 = .ok (.aload_n 3, 1) := dk_45 (dk_at dksX1_canBeAtBoth_3 19 rfl rfl)
theorem dX1_canBeAtBoth_90 : decode cX1_canBeAtBoth 90 = .ok (.invokevirtual 188, 3) := dk_182 0 188 (dk_at dksX1_canBeAtBoth_3 20 rfl rfl)
theorem dX1_canBeAtBoth_93 : decode cX1_canBeAtBoth 93 = .ok (.iload 5, 2) := dk_21 5 (dk_at dksX1_canBeAtBoth_4 0 rfl rfl)
theorem dX1_canBeAtBoth_95 : decode cX1_canBeAtBoth 95 = .ok (.iadd, 1) := dk_96 (dk_at dksX1_canBeAtBoth_4 2 rfl rfl)
theorem dX1_canBeAtBoth_96 : decode cX1_canBeAtBoth 96 = .ok (.aload 4, 2) := dk_25 4 (dk_at dksX1_canBeAtBoth_4 3 rfl rfl)
theorem dX1_canBeAtBoth_98 : decode cX1_canBeAtBoth 98 = .ok (.getfield 182, 3) := dk_180 0 182 (dk_at dksX1_canBeAtBoth_4 5 rfl rfl)
theorem dX1_canBeAtBoth_101 : decode cX1_canBeAtBoth 101 = .ok (.if_icmp .gt 7, 3) := dk_163 0 7 (dk_at dksX1_canBeAtBoth_4 8 rfl rfl)
theorem dX1_canBeAtBoth_104 : decode cX1_canBeAtBoth 104 = .ok (.iconst 1, 1) := dk_4 (dk_at dksX1_canBeAtBoth_4 11 rfl rfl)
theorem dX1_canBeAtBoth_105 : decode cX1_canBeAtBoth 105 = .ok (.goto 4, 3) := dk_167 0 4 (dk_at dksX1_canBeAtBoth_4 12 rfl rfl)
theorem dX1_canBeAtBoth_108 : decode cX1_canBeAtBoth 108 = .ok (.iconst 0, 1) := dk_3 (dk_at dksX1_canBeAtBoth_4 15 rfl rfl)
theorem dX1_canBeAtBoth_109 : decode cX1_canBeAtBoth 109 = .ok (.ireturn, 1) := dk_172 (dk_at dksX1_canBeAtBoth_4 16 rfl rfl)
abbrev cX1_cost : ByteArray := prog_1_method_20_code
def yX1_cost : MethodName := ⟨RX1, "cost", "(ILFirstdanceAgency$Wedding;)I"⟩
def dkwX1_cost_1 : List UInt8 := [16, 10, 3, 42, 180, 0, 38, 45, 180, 0, 171, 44, 180, 0, 174, 182, 0, 129, 184, 0, 177, 104, 96, 172]
abbrev dktX1_cost_1 : List UInt8 := dkwX1_cost_1 ++ []
def dkwX1_cost_0 : List UInt8 := [42, 180, 0, 26, 27, 185, 0, 80, 2, 0, 192, 0, 83, 78, 45, 180, 0, 165, 44, 180, 0, 168, 104]
abbrev dktX1_cost_0 : List UInt8 := dkwX1_cost_0 ++ dktX1_cost_1
theorem dksX1_cost_0 : cX1_cost.data.toList.drop 0 = dktX1_cost_0 := by decide +kernel
theorem dksX1_cost_1 : cX1_cost.data.toList.drop 23 = dktX1_cost_1 := dk_seg dksX1_cost_0 23 rfl rfl
theorem dX1_cost_0 : decode cX1_cost 0 = .ok (.aload_n 0, 1) := dk_42 (dk_at dksX1_cost_0 0 rfl rfl)
theorem dX1_cost_1 : decode cX1_cost 1 = .ok (.getfield 26, 3) := dk_180 0 26 (dk_at dksX1_cost_0 1 rfl rfl)
theorem dX1_cost_4 : decode cX1_cost 4 = .ok (.iload_n 1, 1) := dk_27 (dk_at dksX1_cost_0 4 rfl rfl)
theorem dX1_cost_5 : decode cX1_cost 5 = .ok (.invokeinterface 80 2, 5) := by decide +kernel
theorem dX1_cost_10 : decode cX1_cost 10 = .ok (.checkcast 83, 3) := dk_192 0 83 (dk_at dksX1_cost_0 10 rfl rfl)
theorem dX1_cost_13 : decode cX1_cost 13 = .ok (.astore_n 3, 1) := dk_78 (dk_at dksX1_cost_0 13 rfl rfl)
theorem dX1_cost_14 : decode cX1_cost 14 = .ok (.aload_n 3, 1) := dk_45 (dk_at dksX1_cost_0 14 rfl rfl)
theorem dX1_cost_15 : decode cX1_cost 15 = .ok (.getfield 165, 3) := dk_180 0 165 (dk_at dksX1_cost_0 15 rfl rfl)
theorem dX1_cost_18 : decode cX1_cost 18 = .ok (.aload_n 2, 1) := dk_44 (dk_at dksX1_cost_0 18 rfl rfl)
theorem dX1_cost_19 : decode cX1_cost 19 = .ok (.getfield 168, 3) := dk_180 0 168 (dk_at dksX1_cost_0 19 rfl rfl)
theorem dX1_cost_22 : decode cX1_cost 22 = .ok (.imul, 1) := dk_104 (dk_at dksX1_cost_0 22 rfl rfl)
theorem dX1_cost_23 : decode cX1_cost 23 = .ok (.bipush 10, 2) := dk_16 10 (dk_at dksX1_cost_1 0 rfl rfl)
theorem dX1_cost_25 : decode cX1_cost 25 = .ok (.iconst 0, 1) := dk_3 (dk_at dksX1_cost_1 2 rfl rfl)
theorem dX1_cost_26 : decode cX1_cost 26 = .ok (.aload_n 0, 1) := dk_42 (dk_at dksX1_cost_1 3 rfl rfl)
theorem dX1_cost_27 : decode cX1_cost 27 = .ok (.getfield 38, 3) := dk_180 0 38 (dk_at dksX1_cost_1 4 rfl rfl)
theorem dX1_cost_30 : decode cX1_cost 30 = .ok (.aload_n 3, 1) := dk_45 (dk_at dksX1_cost_1 7 rfl rfl)
theorem dX1_cost_31 : decode cX1_cost 31 = .ok (.getfield 171, 3) := dk_180 0 171 (dk_at dksX1_cost_1 8 rfl rfl)
theorem dX1_cost_34 : decode cX1_cost 34 = .ok (.aload_n 2, 1) := dk_44 (dk_at dksX1_cost_1 11 rfl rfl)
theorem dX1_cost_35 : decode cX1_cost 35 = .ok (.getfield 174, 3) := dk_180 0 174 (dk_at dksX1_cost_1 12 rfl rfl)
theorem dX1_cost_38 : decode cX1_cost 38 = .ok (.invokevirtual 129, 3) := dk_182 0 129 (dk_at dksX1_cost_1 15 rfl rfl)
theorem dX1_cost_41 : decode cX1_cost 41 = .ok (.invokestatic 177, 3) := dk_184 0 177 (dk_at dksX1_cost_1 18 rfl rfl)
theorem dX1_cost_44 : decode cX1_cost 44 = .ok (.imul, 1) := dk_104 (dk_at dksX1_cost_1 21 rfl rfl)
theorem dX1_cost_45 : decode cX1_cost 45 = .ok (.iadd, 1) := dk_96 (dk_at dksX1_cost_1 22 rfl rfl)
theorem dX1_cost_46 : decode cX1_cost 46 = .ok (.ireturn, 1) := dk_172 (dk_at dksX1_cost_1 23 rfl rfl)
abbrev cX1_playable : ByteArray := prog_1_method_25_code
def yX1_playable : MethodName := ⟨RX1, "playable", "(I)I"⟩
def dkwX1_playable_3 : List UInt8 := [27, 184, 0, 107, 4, 160, 0, 7, 28, 167, 0, 4, 29, 172]
abbrev dktX1_playable_3 : List UInt8 := dkwX1_playable_3 ++ []
def dkwX1_playable_2 : List UInt8 := [167, 0, 4, 3, 54, 5, 29, 28, 21, 5, 126, 128, 62, 28, 21, 5, 128, 61, 132, 4, 1, 167, 255, 195]
abbrev dktX1_playable_2 : List UInt8 := dkwX1_playable_2 ++ dktX1_playable_3
def dkwX1_playable_1 : List UInt8 := [184, 0, 123, 153, 0, 23, 42, 180, 0, 26, 21, 4, 185, 0, 80, 2, 0, 192, 0, 83, 180, 0, 104]
abbrev dktX1_playable_1 : List UInt8 := dkwX1_playable_1 ++ dktX1_playable_2
def dkwX1_playable_0 : List UInt8 := [3, 61, 3, 62, 3, 54, 4, 21, 4, 42, 180, 0, 26, 185, 0, 72, 1, 0, 162, 0, 53, 27, 21, 4]
abbrev dktX1_playable_0 : List UInt8 := dkwX1_playable_0 ++ dktX1_playable_1
theorem dksX1_playable_0 : cX1_playable.data.toList.drop 0 = dktX1_playable_0 := by decide +kernel
theorem dksX1_playable_1 : cX1_playable.data.toList.drop 24 = dktX1_playable_1 := dk_seg dksX1_playable_0 24 rfl rfl
theorem dksX1_playable_2 : cX1_playable.data.toList.drop 47 = dktX1_playable_2 := dk_seg dksX1_playable_1 23 rfl rfl
theorem dksX1_playable_3 : cX1_playable.data.toList.drop 71 = dktX1_playable_3 := dk_seg dksX1_playable_2 24 rfl rfl
theorem dX1_playable_0 : decode cX1_playable 0 = .ok (.iconst 0, 1) := dk_3 (dk_at dksX1_playable_0 0 rfl rfl)
theorem dX1_playable_1 : decode cX1_playable 1 = .ok (.istore_n 2, 1) := dk_61 (dk_at dksX1_playable_0 1 rfl rfl)
theorem dX1_playable_2 : decode cX1_playable 2 = .ok (.iconst 0, 1) := dk_3 (dk_at dksX1_playable_0 2 rfl rfl)
theorem dX1_playable_3 : decode cX1_playable 3 = .ok (.istore_n 3, 1) := dk_62 (dk_at dksX1_playable_0 3 rfl rfl)
theorem dX1_playable_4 : decode cX1_playable 4 = .ok (.iconst 0, 1) := dk_3 (dk_at dksX1_playable_0 4 rfl rfl)
theorem dX1_playable_5 : decode cX1_playable 5 = .ok (.istore 4, 2) := dk_54 4 (dk_at dksX1_playable_0 5 rfl rfl)
theorem dX1_playable_7 : decode cX1_playable 7 = .ok (.iload 4, 2) := dk_21 4 (dk_at dksX1_playable_0 7 rfl rfl)
theorem dX1_playable_9 : decode cX1_playable 9 = .ok (.aload_n 0, 1) := dk_42 (dk_at dksX1_playable_0 9 rfl rfl)
theorem dX1_playable_10 : decode cX1_playable 10 = .ok (.getfield 26, 3) := dk_180 0 26 (dk_at dksX1_playable_0 10 rfl rfl)
theorem dX1_playable_13 : decode cX1_playable 13 = .ok (.invokeinterface 72 1, 5) := by decide +kernel
theorem dX1_playable_18 : decode cX1_playable 18 = .ok (.if_icmp .ge 53, 3) := dk_162 0 53 (dk_at dksX1_playable_0 18 rfl rfl)
theorem dX1_playable_21 : decode cX1_playable 21 = .ok (.iload_n 1, 1) := dk_27 (dk_at dksX1_playable_0 21 rfl rfl)
theorem dX1_playable_22 : decode cX1_playable 22 = .ok (.iload 4, 2) := dk_21 4 (dk_at dksX1_playable_0 22 rfl rfl)
theorem dX1_playable_24 : decode cX1_playable 24 = .ok (.invokestatic 123, 3) := dk_184 0 123 (dk_at dksX1_playable_1 0 rfl rfl)
theorem dX1_playable_27 : decode cX1_playable 27 = .ok (.ifCond .eq 23, 3) := dk_153 0 23 (dk_at dksX1_playable_1 3 rfl rfl)
theorem dX1_playable_30 : decode cX1_playable 30 = .ok (.aload_n 0, 1) := dk_42 (dk_at dksX1_playable_1 6 rfl rfl)
theorem dX1_playable_31 : decode cX1_playable 31 = .ok (.getfield 26, 3) := dk_180 0 26 (dk_at dksX1_playable_1 7 rfl rfl)
theorem dX1_playable_34 : decode cX1_playable 34 = .ok (.iload 4, 2) := dk_21 4 (dk_at dksX1_playable_1 10 rfl rfl)
theorem dX1_playable_36 : decode cX1_playable 36 = .ok (.invokeinterface 80 2, 5) := by decide +kernel
theorem dX1_playable_41 : decode cX1_playable 41 = .ok (.checkcast 83, 3) := dk_192 0 83 (dk_at dksX1_playable_1 17 rfl rfl)
theorem dX1_playable_44 : decode cX1_playable 44 = .ok (.getfield 104, 3) := dk_180 0 104 (dk_at dksX1_playable_1 20 rfl rfl)
theorem dX1_playable_47 : decode cX1_playable 47 = .ok (.goto 4, 3) := dk_167 0 4 (dk_at dksX1_playable_2 0 rfl rfl)
theorem dX1_playable_50 : decode cX1_playable 50 = .ok (.iconst 0, 1) := dk_3 (dk_at dksX1_playable_2 3 rfl rfl)
theorem dX1_playable_51 : decode cX1_playable 51 = .ok (.istore 5, 2) := dk_54 5 (dk_at dksX1_playable_2 4 rfl rfl)
theorem dX1_playable_53 : decode cX1_playable 53 = .ok (.iload_n 3, 1) := dk_29 (dk_at dksX1_playable_2 6 rfl rfl)
theorem dX1_playable_54 : decode cX1_playable 54 = .ok (.iload_n 2, 1) := dk_28 (dk_at dksX1_playable_2 7 rfl rfl)
theorem dX1_playable_55 : decode cX1_playable 55 = .ok (.iload 5, 2) := dk_21 5 (dk_at dksX1_playable_2 8 rfl rfl)
theorem dX1_playable_57 : decode cX1_playable 57 = .ok (.iand, 1) := dk_126 (dk_at dksX1_playable_2 10 rfl rfl)
theorem dX1_playable_58 : decode cX1_playable 58 = .ok (.ior, 1) := dk_128 (dk_at dksX1_playable_2 11 rfl rfl)
theorem dX1_playable_59 : decode cX1_playable 59 = .ok (.istore_n 3, 1) := dk_62 (dk_at dksX1_playable_2 12 rfl rfl)
theorem dX1_playable_60 : decode cX1_playable 60 = .ok (.iload_n 2, 1) := dk_28 (dk_at dksX1_playable_2 13 rfl rfl)
theorem dX1_playable_61 : decode cX1_playable 61 = .ok (.iload 5, 2) := dk_21 5 (dk_at dksX1_playable_2 14 rfl rfl)
theorem dX1_playable_63 : decode cX1_playable 63 = .ok (.ior, 1) := dk_128 (dk_at dksX1_playable_2 16 rfl rfl)
theorem dX1_playable_64 : decode cX1_playable 64 = .ok (.istore_n 2, 1) := dk_61 (dk_at dksX1_playable_2 17 rfl rfl)
theorem dX1_playable_65 : decode cX1_playable 65 = .ok (.iinc 4 1, 3) := dk_132 4 1 (dk_at dksX1_playable_2 18 rfl rfl)
theorem dX1_playable_68 : decode cX1_playable 68 = .ok (.goto (-61), 3) := dk_167 255 195 (dk_at dksX1_playable_2 21 rfl rfl)
theorem dX1_playable_71 : decode cX1_playable 71 = .ok (.iload_n 1, 1) := dk_27 (dk_at dksX1_playable_3 0 rfl rfl)
theorem dX1_playable_72 : decode cX1_playable 72 = .ok (.invokestatic 107, 3) := dk_184 0 107 (dk_at dksX1_playable_3 1 rfl rfl)
theorem dX1_playable_75 : decode cX1_playable 75 = .ok (.iconst 1, 1) := dk_4 (dk_at dksX1_playable_3 4 rfl rfl)
theorem dX1_playable_76 : decode cX1_playable 76 = .ok (.if_icmp .ne 7, 3) := dk_160 0 7 (dk_at dksX1_playable_3 5 rfl rfl)
theorem dX1_playable_79 : decode cX1_playable 79 = .ok (.iload_n 2, 1) := dk_28 (dk_at dksX1_playable_3 8 rfl rfl)
theorem dX1_playable_80 : decode cX1_playable 80 = .ok (.goto 4, 3) := dk_167 0 4 (dk_at dksX1_playable_3 9 rfl rfl)
theorem dX1_playable_83 : decode cX1_playable 83 = .ok (.iload_n 3, 1) := dk_29 (dk_at dksX1_playable_3 12 rfl rfl)
theorem dX1_playable_84 : decode cX1_playable 84 = .ok (.ireturn, 1) := dk_172 (dk_at dksX1_playable_3 13 rfl rfl)
abbrev cX1_arePeaceful : ByteArray := prog_1_method_24_code
def yX1_arePeaceful : MethodName := ⟨RX1, "arePeaceful", "(I)Z"⟩
def dkwX1_arePeaceful_2 : List UInt8 := [132, 2, 1, 167, 255, 209, 4, 172]
abbrev dktX1_arePeaceful_2 : List UInt8 := dkwX1_arePeaceful_2 ++ []
def dkwX1_arePeaceful_1 : List UInt8 := [180, 0, 26, 28, 185, 0, 80, 2, 0, 192, 0, 83, 180, 0, 120, 27, 126, 153, 0, 5, 3, 172]
abbrev dktX1_arePeaceful_1 : List UInt8 := dkwX1_arePeaceful_1 ++ dktX1_arePeaceful_2
def dkwX1_arePeaceful_0 : List UInt8 := [3, 61, 28, 42, 180, 0, 26, 185, 0, 72, 1, 0, 162, 0, 40, 27, 28, 184, 0, 123, 153, 0, 26, 42]
abbrev dktX1_arePeaceful_0 : List UInt8 := dkwX1_arePeaceful_0 ++ dktX1_arePeaceful_1
theorem dksX1_arePeaceful_0 : cX1_arePeaceful.data.toList.drop 0 = dktX1_arePeaceful_0 := by decide +kernel
theorem dksX1_arePeaceful_1 : cX1_arePeaceful.data.toList.drop 24 = dktX1_arePeaceful_1 := dk_seg dksX1_arePeaceful_0 24 rfl rfl
theorem dksX1_arePeaceful_2 : cX1_arePeaceful.data.toList.drop 46 = dktX1_arePeaceful_2 := dk_seg dksX1_arePeaceful_1 22 rfl rfl
theorem dX1_arePeaceful_0 : decode cX1_arePeaceful 0 = .ok (.iconst 0, 1) := dk_3 (dk_at dksX1_arePeaceful_0 0 rfl rfl)
theorem dX1_arePeaceful_1 : decode cX1_arePeaceful 1 = .ok (.istore_n 2, 1) := dk_61 (dk_at dksX1_arePeaceful_0 1 rfl rfl)
theorem dX1_arePeaceful_2 : decode cX1_arePeaceful 2 = .ok (.iload_n 2, 1) := dk_28 (dk_at dksX1_arePeaceful_0 2 rfl rfl)
theorem dX1_arePeaceful_3 : decode cX1_arePeaceful 3 = .ok (.aload_n 0, 1) := dk_42 (dk_at dksX1_arePeaceful_0 3 rfl rfl)
theorem dX1_arePeaceful_4 : decode cX1_arePeaceful 4 = .ok (.getfield 26, 3) := dk_180 0 26 (dk_at dksX1_arePeaceful_0 4 rfl rfl)
theorem dX1_arePeaceful_7 : decode cX1_arePeaceful 7 = .ok (.invokeinterface 72 1, 5) := by decide +kernel
theorem dX1_arePeaceful_12 : decode cX1_arePeaceful 12 = .ok (.if_icmp .ge 40, 3) := dk_162 0 40 (dk_at dksX1_arePeaceful_0 12 rfl rfl)
theorem dX1_arePeaceful_15 : decode cX1_arePeaceful 15 = .ok (.iload_n 1, 1) := dk_27 (dk_at dksX1_arePeaceful_0 15 rfl rfl)
theorem dX1_arePeaceful_16 : decode cX1_arePeaceful 16 = .ok (.iload_n 2, 1) := dk_28 (dk_at dksX1_arePeaceful_0 16 rfl rfl)
theorem dX1_arePeaceful_17 : decode cX1_arePeaceful 17 = .ok (.invokestatic 123, 3) := dk_184 0 123 (dk_at dksX1_arePeaceful_0 17 rfl rfl)
theorem dX1_arePeaceful_20 : decode cX1_arePeaceful 20 = .ok (.ifCond .eq 26, 3) := dk_153 0 26 (dk_at dksX1_arePeaceful_0 20 rfl rfl)
theorem dX1_arePeaceful_23 : decode cX1_arePeaceful 23 = .ok (.aload_n 0, 1) := dk_42 (dk_at dksX1_arePeaceful_0 23 rfl rfl)
theorem dX1_arePeaceful_24 : decode cX1_arePeaceful 24 = .ok (.getfield 26, 3) := dk_180 0 26 (dk_at dksX1_arePeaceful_1 0 rfl rfl)
theorem dX1_arePeaceful_27 : decode cX1_arePeaceful 27 = .ok (.iload_n 2, 1) := dk_28 (dk_at dksX1_arePeaceful_1 3 rfl rfl)
theorem dX1_arePeaceful_28 : decode cX1_arePeaceful 28 = .ok (.invokeinterface 80 2, 5) := by decide +kernel
theorem dX1_arePeaceful_33 : decode cX1_arePeaceful 33 = .ok (.checkcast 83, 3) := dk_192 0 83 (dk_at dksX1_arePeaceful_1 9 rfl rfl)
theorem dX1_arePeaceful_36 : decode cX1_arePeaceful 36 = .ok (.getfield 120, 3) := dk_180 0 120 (dk_at dksX1_arePeaceful_1 12 rfl rfl)
theorem dX1_arePeaceful_39 : decode cX1_arePeaceful 39 = .ok (.iload_n 1, 1) := dk_27 (dk_at dksX1_arePeaceful_1 15 rfl rfl)
theorem dX1_arePeaceful_40 : decode cX1_arePeaceful 40 = .ok (.iand, 1) := dk_126 (dk_at dksX1_arePeaceful_1 16 rfl rfl)
theorem dX1_arePeaceful_41 : decode cX1_arePeaceful 41 = .ok (.ifCond .eq 5, 3) := dk_153 0 5 (dk_at dksX1_arePeaceful_1 17 rfl rfl)
theorem dX1_arePeaceful_44 : decode cX1_arePeaceful 44 = .ok (.iconst 0, 1) := dk_3 (dk_at dksX1_arePeaceful_1 20 rfl rfl)
theorem dX1_arePeaceful_45 : decode cX1_arePeaceful 45 = .ok (.ireturn, 1) := dk_172 (dk_at dksX1_arePeaceful_1 21 rfl rfl)
theorem dX1_arePeaceful_46 : decode cX1_arePeaceful 46 = .ok (.iinc 2 1, 3) := dk_132 2 1 (dk_at dksX1_arePeaceful_2 0 rfl rfl)
theorem dX1_arePeaceful_49 : decode cX1_arePeaceful 49 = .ok (.goto (-47), 3) := dk_167 255 209 (dk_at dksX1_arePeaceful_2 3 rfl rfl)
theorem dX1_arePeaceful_52 : decode cX1_arePeaceful 52 = .ok (.iconst 1, 1) := dk_4 (dk_at dksX1_arePeaceful_2 6 rfl rfl)
theorem dX1_arePeaceful_53 : decode cX1_arePeaceful 53 = .ok (.ireturn, 1) := dk_172 (dk_at dksX1_arePeaceful_2 7 rfl rfl)
abbrev cX1_fillingNow : ByteArray := prog_1_method_60_code
def yX1_fillingNow : MethodName := ⟨RX1, "fillingNow", "(ILFirstdanceAgency$Fillings;I)I"⟩
def dkwX1_fillingNow_2 : List UInt8 := [44, 180, 0, 208, 172, 44, 182, 0, 228, 172, 44, 180, 1, 147, 172, 42, 27, 44, 182, 1, 149, 172]
abbrev dktX1_fillingNow_2 : List UInt8 := dkwX1_fillingNow_2 ++ []
def dkwX1_fillingNow_1 : List UInt8 := [170, 0, 0, 0, 0, 0, 42, 0, 0, 0, 0, 0, 0, 0, 2, 0, 0, 0, 27, 0, 0, 0, 32, 0, 0, 0, 37]
abbrev dktX1_fillingNow_1 : List UInt8 := dkwX1_fillingNow_1 ++ dktX1_fillingNow_2
def dkwX1_fillingNow_0 : List UInt8 := [29]
abbrev dktX1_fillingNow_0 : List UInt8 := dkwX1_fillingNow_0 ++ dktX1_fillingNow_1
theorem dksX1_fillingNow_0 : cX1_fillingNow.data.toList.drop 0 = dktX1_fillingNow_0 := by decide +kernel
theorem dksX1_fillingNow_1 : cX1_fillingNow.data.toList.drop 1 = dktX1_fillingNow_1 := dk_seg dksX1_fillingNow_0 1 rfl rfl
theorem dksX1_fillingNow_2 : cX1_fillingNow.data.toList.drop 28 = dktX1_fillingNow_2 := dk_seg dksX1_fillingNow_1 27 rfl rfl
theorem dX1_fillingNow_0 : decode cX1_fillingNow 0 = .ok (.iload_n 3, 1) := dk_29 (dk_at dksX1_fillingNow_0 0 rfl rfl)
theorem dX1_fillingNow_1 : decode cX1_fillingNow 1 = .ok (.tableswitch 42 0 2 #[27, 32, 37], 27) := by decide +kernel
theorem dX1_fillingNow_28 : decode cX1_fillingNow 28 = .ok (.aload_n 2, 1) := dk_44 (dk_at dksX1_fillingNow_2 0 rfl rfl)
theorem dX1_fillingNow_29 : decode cX1_fillingNow 29 = .ok (.getfield 208, 3) := dk_180 0 208 (dk_at dksX1_fillingNow_2 1 rfl rfl)
theorem dX1_fillingNow_32 : decode cX1_fillingNow 32 = .ok (.ireturn, 1) := dk_172 (dk_at dksX1_fillingNow_2 4 rfl rfl)
theorem dX1_fillingNow_33 : decode cX1_fillingNow 33 = .ok (.aload_n 2, 1) := dk_44 (dk_at dksX1_fillingNow_2 5 rfl rfl)
theorem dX1_fillingNow_34 : decode cX1_fillingNow 34 = .ok (.invokevirtual 228, 3) := dk_182 0 228 (dk_at dksX1_fillingNow_2 6 rfl rfl)
theorem dX1_fillingNow_37 : decode cX1_fillingNow 37 = .ok (.ireturn, 1) := dk_172 (dk_at dksX1_fillingNow_2 9 rfl rfl)
theorem dX1_fillingNow_38 : decode cX1_fillingNow 38 = .ok (.aload_n 2, 1) := dk_44 (dk_at dksX1_fillingNow_2 10 rfl rfl)
theorem dX1_fillingNow_39 : decode cX1_fillingNow 39 = .ok (.getfield 403, 3) := dk_180 1 147 (dk_at dksX1_fillingNow_2 11 rfl rfl)
theorem dX1_fillingNow_42 : decode cX1_fillingNow 42 = .ok (.ireturn, 1) := dk_172 (dk_at dksX1_fillingNow_2 14 rfl rfl)
theorem dX1_fillingNow_43 : decode cX1_fillingNow 43 = .ok (.aload_n 0, 1) := dk_42 (dk_at dksX1_fillingNow_2 15 rfl rfl)
theorem dX1_fillingNow_44 : decode cX1_fillingNow 44 = .ok (.iload_n 1, 1) := dk_27 (dk_at dksX1_fillingNow_2 16 rfl rfl)
theorem dX1_fillingNow_45 : decode cX1_fillingNow 45 = .ok (.aload_n 2, 1) := dk_44 (dk_at dksX1_fillingNow_2 17 rfl rfl)
theorem dX1_fillingNow_46 : decode cX1_fillingNow 46 = .ok (.invokevirtual 405, 3) := dk_182 1 149 (dk_at dksX1_fillingNow_2 18 rfl rfl)
theorem dX1_fillingNow_49 : decode cX1_fillingNow 49 = .ok (.ireturn, 1) := dk_172 (dk_at dksX1_fillingNow_2 21 rfl rfl)
abbrev cX1_why : ByteArray := prog_1_method_27_code
def yX1_why : MethodName := ⟨RX1, "why", "(ILFirstdanceAgency$Fillings;)I"⟩
def dkwX1_why_2 : List UInt8 := [3, 3, 183, 0, 205, 180, 0, 208, 2, 159, 0, 7, 6, 167, 0, 4, 7, 172]
abbrev dktX1_why_2 : List UInt8 := dkwX1_why_2 ++ []
def dkwX1_why_1 : List UInt8 := [182, 0, 137, 162, 0, 5, 4, 172, 44, 180, 0, 215, 154, 0, 5, 5, 172, 187, 0, 200, 89, 42, 27, 29]
abbrev dktX1_why_1 : List UInt8 := dkwX1_why_1 ++ dktX1_why_2
def dkwX1_why_0 : List UInt8 := [44, 180, 0, 208, 2, 159, 0, 5, 3, 172, 42, 27, 182, 0, 202, 62, 29, 184, 0, 107, 44, 180, 0, 211]
abbrev dktX1_why_0 : List UInt8 := dkwX1_why_0 ++ dktX1_why_1
theorem dksX1_why_0 : cX1_why.data.toList.drop 0 = dktX1_why_0 := by decide +kernel
theorem dksX1_why_1 : cX1_why.data.toList.drop 24 = dktX1_why_1 := dk_seg dksX1_why_0 24 rfl rfl
theorem dksX1_why_2 : cX1_why.data.toList.drop 48 = dktX1_why_2 := dk_seg dksX1_why_1 24 rfl rfl
theorem dX1_why_0 : decode cX1_why 0 = .ok (.aload_n 2, 1) := dk_44 (dk_at dksX1_why_0 0 rfl rfl)
theorem dX1_why_1 : decode cX1_why 1 = .ok (.getfield 208, 3) := dk_180 0 208 (dk_at dksX1_why_0 1 rfl rfl)
theorem dX1_why_4 : decode cX1_why 4 = .ok (.iconst (-1), 1) := dk_2 (dk_at dksX1_why_0 4 rfl rfl)
theorem dX1_why_5 : decode cX1_why 5 = .ok (.if_icmp .eq 5, 3) := dk_159 0 5 (dk_at dksX1_why_0 5 rfl rfl)
theorem dX1_why_8 : decode cX1_why 8 = .ok (.iconst 0, 1) := dk_3 (dk_at dksX1_why_0 8 rfl rfl)
theorem dX1_why_9 : decode cX1_why 9 = .ok (.ireturn, 1) := dk_172 (dk_at dksX1_why_0 9 rfl rfl)
theorem dX1_why_10 : decode cX1_why 10 = .ok (.aload_n 0, 1) := dk_42 (dk_at dksX1_why_0 10 rfl rfl)
theorem dX1_why_11 : decode cX1_why 11 = .ok (.iload_n 1, 1) := dk_27 (dk_at dksX1_why_0 11 rfl rfl)
theorem dX1_why_12 : decode cX1_why 12 = .ok (.invokevirtual 202, 3) := dk_182 0 202 (dk_at dksX1_why_0 12 rfl rfl)
theorem dX1_why_15 : decode cX1_why 15 = .ok (.istore_n 3, 1) := dk_62 (dk_at dksX1_why_0 15 rfl rfl)
theorem dX1_why_16 : decode cX1_why 16 = .ok (.iload_n 3, 1) := dk_29 (dk_at dksX1_why_0 16 rfl rfl)
theorem dX1_why_17 : decode cX1_why 17 = .ok (.invokestatic 107, 3) := dk_184 0 107 (dk_at dksX1_why_0 17 rfl rfl)
theorem dX1_why_20 : decode cX1_why 20 = .ok (.aload_n 2, 1) := dk_44 (dk_at dksX1_why_0 20 rfl rfl)
theorem dX1_why_21 : decode cX1_why 21 = .ok (.getfield 211, 3) := dk_180 0 211 (dk_at dksX1_why_0 21 rfl rfl)
theorem dX1_why_24 : decode cX1_why 24 = .ok (.invokevirtual 137, 3) := dk_182 0 137 (dk_at dksX1_why_1 0 rfl rfl)
theorem dX1_why_27 : decode cX1_why 27 = .ok (.if_icmp .ge 5, 3) := dk_162 0 5 (dk_at dksX1_why_1 3 rfl rfl)
theorem dX1_why_30 : decode cX1_why 30 = .ok (.iconst 1, 1) := dk_4 (dk_at dksX1_why_1 6 rfl rfl)
theorem dX1_why_31 : decode cX1_why 31 = .ok (.ireturn, 1) := dk_172 (dk_at dksX1_why_1 7 rfl rfl)
theorem dX1_why_32 : decode cX1_why 32 = .ok (.aload_n 2, 1) := dk_44 (dk_at dksX1_why_1 8 rfl rfl)
theorem dX1_why_33 : decode cX1_why 33 = .ok (.getfield 215, 3) := dk_180 0 215 (dk_at dksX1_why_1 9 rfl rfl)
theorem dX1_why_36 : decode cX1_why 36 = .ok (.ifCond .ne 5, 3) := dk_154 0 5 (dk_at dksX1_why_1 12 rfl rfl)
theorem dX1_why_39 : decode cX1_why 39 = .ok (.iconst 2, 1) := dk_5 (dk_at dksX1_why_1 15 rfl rfl)
theorem dX1_why_40 : decode cX1_why 40 = .ok (.ireturn, 1) := dk_172 (dk_at dksX1_why_1 16 rfl rfl)
theorem dX1_why_41 : decode cX1_why 41 = .ok (.new 200, 3) := dk_187 0 200 (dk_at dksX1_why_1 17 rfl rfl)
theorem dX1_why_44 : decode cX1_why 44 = .ok (.dup, 1) := dk_89 (dk_at dksX1_why_1 20 rfl rfl)
theorem dX1_why_45 : decode cX1_why 45 = .ok (.aload_n 0, 1) := dk_42 (dk_at dksX1_why_1 21 rfl rfl)
theorem dX1_why_46 : decode cX1_why 46 = .ok (.iload_n 1, 1) := dk_27 (dk_at dksX1_why_1 22 rfl rfl)
theorem dX1_why_47 : decode cX1_why 47 = .ok (.iload_n 3, 1) := dk_29 (dk_at dksX1_why_1 23 rfl rfl)
theorem dX1_why_48 : decode cX1_why 48 = .ok (.iconst 0, 1) := dk_3 (dk_at dksX1_why_2 0 rfl rfl)
theorem dX1_why_49 : decode cX1_why 49 = .ok (.iconst 0, 1) := dk_3 (dk_at dksX1_why_2 1 rfl rfl)
theorem dX1_why_50 : decode cX1_why 50 = .ok (.invokespecial 205, 3) := dk_183 0 205 (dk_at dksX1_why_2 2 rfl rfl)
theorem dX1_why_53 : decode cX1_why 53 = .ok (.getfield 208, 3) := dk_180 0 208 (dk_at dksX1_why_2 5 rfl rfl)
theorem dX1_why_56 : decode cX1_why 56 = .ok (.iconst (-1), 1) := dk_2 (dk_at dksX1_why_2 8 rfl rfl)
theorem dX1_why_57 : decode cX1_why 57 = .ok (.if_icmp .eq 7, 3) := dk_159 0 7 (dk_at dksX1_why_2 9 rfl rfl)
theorem dX1_why_60 : decode cX1_why 60 = .ok (.iconst 3, 1) := dk_6 (dk_at dksX1_why_2 12 rfl rfl)
theorem dX1_why_61 : decode cX1_why 61 = .ok (.goto 4, 3) := dk_167 0 4 (dk_at dksX1_why_2 13 rfl rfl)
theorem dX1_why_64 : decode cX1_why 64 = .ok (.iconst 4, 1) := dk_7 (dk_at dksX1_why_2 16 rfl rfl)
theorem dX1_why_65 : decode cX1_why 65 = .ok (.ireturn, 1) := dk_172 (dk_at dksX1_why_2 17 rfl rfl)
abbrev cX1_setNow : ByteArray := prog_1_method_43_code
def yX1_setNow : MethodName := ⟨RX1, "setNow", "(IZ)I"⟩
def dkwX1_setNow_1 : List UInt8 := [192, 0, 11, 180, 1, 82, 167, 0, 13, 45, 182, 0, 7, 192, 0, 11, 182, 1, 90, 172]
abbrev dktX1_setNow_1 : List UInt8 := dkwX1_setNow_1 ++ []
def dkwX1_setNow_0 : List UInt8 := [42, 27, 182, 1, 27, 78, 45, 182, 0, 1, 154, 0, 5, 3, 172, 28, 153, 0, 16, 45, 182, 0, 7]
abbrev dktX1_setNow_0 : List UInt8 := dkwX1_setNow_0 ++ dktX1_setNow_1
theorem dksX1_setNow_0 : cX1_setNow.data.toList.drop 0 = dktX1_setNow_0 := by decide +kernel
theorem dksX1_setNow_1 : cX1_setNow.data.toList.drop 23 = dktX1_setNow_1 := dk_seg dksX1_setNow_0 23 rfl rfl
theorem dX1_setNow_0 : decode cX1_setNow 0 = .ok (.aload_n 0, 1) := dk_42 (dk_at dksX1_setNow_0 0 rfl rfl)
theorem dX1_setNow_1 : decode cX1_setNow 1 = .ok (.iload_n 1, 1) := dk_27 (dk_at dksX1_setNow_0 1 rfl rfl)
theorem dX1_setNow_2 : decode cX1_setNow 2 = .ok (.invokevirtual 283, 3) := dk_182 1 27 (dk_at dksX1_setNow_0 2 rfl rfl)
theorem dX1_setNow_5 : decode cX1_setNow 5 = .ok (.astore_n 3, 1) := dk_78 (dk_at dksX1_setNow_0 5 rfl rfl)
theorem dX1_setNow_6 : decode cX1_setNow 6 = .ok (.aload_n 3, 1) := dk_45 (dk_at dksX1_setNow_0 6 rfl rfl)
theorem dX1_setNow_7 : decode cX1_setNow 7 = .ok (.invokevirtual 1, 3) := dk_182 0 1 (dk_at dksX1_setNow_0 7 rfl rfl)
theorem dX1_setNow_10 : decode cX1_setNow 10 = .ok (.ifCond .ne 5, 3) := dk_154 0 5 (dk_at dksX1_setNow_0 10 rfl rfl)
theorem dX1_setNow_13 : decode cX1_setNow 13 = .ok (.iconst 0, 1) := dk_3 (dk_at dksX1_setNow_0 13 rfl rfl)
theorem dX1_setNow_14 : decode cX1_setNow 14 = .ok (.ireturn, 1) := dk_172 (dk_at dksX1_setNow_0 14 rfl rfl)
theorem dX1_setNow_15 : decode cX1_setNow 15 = .ok (.iload_n 2, 1) := dk_28 (dk_at dksX1_setNow_0 15 rfl rfl)
theorem dX1_setNow_16 : decode cX1_setNow 16 = .ok (.ifCond .eq 16, 3) := dk_153 0 16 (dk_at dksX1_setNow_0 16 rfl rfl)
theorem dX1_setNow_19 : decode cX1_setNow 19 = .ok (.aload_n 3, 1) := dk_45 (dk_at dksX1_setNow_0 19 rfl rfl)
theorem dX1_setNow_20 : decode cX1_setNow 20 = .ok (.invokevirtual 7, 3) := dk_182 0 7 (dk_at dksX1_setNow_0 20 rfl rfl)
theorem dX1_setNow_23 : decode cX1_setNow 23 = .ok (.checkcast 11, 3) := dk_192 0 11 (dk_at dksX1_setNow_1 0 rfl rfl)
theorem dX1_setNow_26 : decode cX1_setNow 26 = .ok (.getfield 338, 3) := dk_180 1 82 (dk_at dksX1_setNow_1 3 rfl rfl)
theorem dX1_setNow_29 : decode cX1_setNow 29 = .ok (.goto 13, 3) := dk_167 0 13 (dk_at dksX1_setNow_1 6 rfl rfl)
theorem dX1_setNow_32 : decode cX1_setNow 32 = .ok (.aload_n 3, 1) := dk_45 (dk_at dksX1_setNow_1 9 rfl rfl)
theorem dX1_setNow_33 : decode cX1_setNow 33 = .ok (.invokevirtual 7, 3) := dk_182 0 7 (dk_at dksX1_setNow_1 10 rfl rfl)
theorem dX1_setNow_36 : decode cX1_setNow 36 = .ok (.checkcast 11, 3) := dk_192 0 11 (dk_at dksX1_setNow_1 13 rfl rfl)
theorem dX1_setNow_39 : decode cX1_setNow 39 = .ok (.invokevirtual 346, 3) := dk_182 1 90 (dk_at dksX1_setNow_1 16 rfl rfl)
theorem dX1_setNow_42 : decode cX1_setNow 42 = .ok (.ireturn, 1) := dk_172 (dk_at dksX1_setNow_1 19 rfl rfl)
abbrev cX1_bestSet : ByteArray := prog_1_method_42_code
def yX1_bestSet : MethodName := ⟨RX1, "bestSet", "(I)Ljava/util/Optional;"⟩
def dkwX1_bestSet_11 : List UInt8 := [192, 0, 2, 184, 1, 78, 58, 4, 132, 5, 255, 167, 255, 49, 25, 4, 176]
abbrev dktX1_bestSet_11 : List UInt8 := dkwX1_bestSet_11 ++ []
def dkwX1_bestSet_10 : List UInt8 := [21, 8, 183, 1, 83, 184, 1, 86, 185, 0, 113, 3, 0, 87, 25, 4, 45, 21, 5, 185, 0, 80, 2, 0]
abbrev dktX1_bestSet_10 : List UInt8 := dkwX1_bestSet_10 ++ dktX1_bestSet_11
def dkwX1_bestSet_9 : List UInt8 := [45, 21, 5, 187, 0, 11, 89, 44, 21, 5, 185, 0, 80, 2, 0, 192, 1, 55, 182, 1, 71, 25, 7]
abbrev dktX1_bestSet_9 : List UInt8 := dkwX1_bestSet_9 ++ dktX1_bestSet_10
def dkwX1_bestSet_8 : List UInt8 := [182, 0, 1, 153, 0, 17, 25, 7, 182, 0, 7, 192, 0, 11, 180, 1, 82, 167, 0, 4, 3, 96, 54, 8]
abbrev dktX1_bestSet_8 : List UInt8 := dkwX1_bestSet_8 ++ dktX1_bestSet_9
def dkwX1_bestSet_7 : List UInt8 := [184, 1, 78, 167, 0, 5, 25, 7, 58, 7, 132, 8, 1, 167, 255, 185, 25, 6, 180, 0, 117, 25, 7]
abbrev dktX1_bestSet_7 : List UInt8 := dkwX1_bestSet_7 ++ dktX1_bestSet_8
def dkwX1_bestSet_6 : List UInt8 := [192, 0, 48, 25, 6, 182, 1, 74, 153, 0, 22, 25, 7, 45, 21, 8, 185, 0, 80, 2, 0, 192, 0, 2]
abbrev dktX1_bestSet_6 : List UInt8 := dkwX1_bestSet_6 ++ dktX1_bestSet_7
def dkwX1_bestSet_5 : List UInt8 := [180, 0, 32, 44, 21, 8, 185, 0, 80, 2, 0, 192, 1, 55, 182, 1, 71, 185, 0, 80, 2, 0]
abbrev dktX1_bestSet_5 : List UInt8 := dkwX1_bestSet_5 ++ dktX1_bestSet_6
def dkwX1_bestSet_4 : List UInt8 := [184, 1, 67, 58, 7, 21, 5, 4, 96, 54, 8, 21, 8, 44, 185, 0, 72, 1, 0, 162, 0, 66, 42]
abbrev dktX1_bestSet_4 : List UInt8 := dkwX1_bestSet_4 ++ dktX1_bestSet_5
def dkwX1_bestSet_3 : List UInt8 := [44, 21, 5, 185, 0, 80, 2, 0, 192, 1, 55, 182, 1, 71, 185, 0, 80, 2, 0, 192, 0, 48, 58, 6]
abbrev dktX1_bestSet_3 : List UInt8 := dkwX1_bestSet_3 ++ dktX1_bestSet_4
def dkwX1_bestSet_2 : List UInt8 := [184, 1, 67, 58, 4, 44, 185, 0, 72, 1, 0, 4, 100, 54, 5, 21, 5, 155, 0, 208, 42, 180, 0, 32]
abbrev dktX1_bestSet_2 : List UInt8 := dkwX1_bestSet_2 ++ dktX1_bestSet_3
def dkwX1_bestSet_1 : List UInt8 := [185, 0, 72, 1, 0, 162, 0, 19, 45, 184, 1, 67, 185, 0, 53, 2, 0, 87, 132, 4, 1, 167, 255, 232]
abbrev dktX1_bestSet_1 : List UInt8 := dkwX1_bestSet_1 ++ dktX1_bestSet_2
def dkwX1_bestSet_0 : List UInt8 := [42, 42, 27, 182, 1, 60, 182, 1, 63, 77, 187, 0, 23, 89, 183, 0, 25, 78, 3, 54, 4, 21, 4, 44]
abbrev dktX1_bestSet_0 : List UInt8 := dkwX1_bestSet_0 ++ dktX1_bestSet_1
theorem dksX1_bestSet_0 : cX1_bestSet.data.toList.drop 0 = dktX1_bestSet_0 := by decide +kernel
theorem dksX1_bestSet_1 : cX1_bestSet.data.toList.drop 24 = dktX1_bestSet_1 := dk_seg dksX1_bestSet_0 24 rfl rfl
theorem dksX1_bestSet_2 : cX1_bestSet.data.toList.drop 48 = dktX1_bestSet_2 := dk_seg dksX1_bestSet_1 24 rfl rfl
theorem dksX1_bestSet_3 : cX1_bestSet.data.toList.drop 72 = dktX1_bestSet_3 := dk_seg dksX1_bestSet_2 24 rfl rfl
theorem dksX1_bestSet_4 : cX1_bestSet.data.toList.drop 96 = dktX1_bestSet_4 := dk_seg dksX1_bestSet_3 24 rfl rfl
theorem dksX1_bestSet_5 : cX1_bestSet.data.toList.drop 119 = dktX1_bestSet_5 := dk_seg dksX1_bestSet_4 23 rfl rfl
theorem dksX1_bestSet_6 : cX1_bestSet.data.toList.drop 141 = dktX1_bestSet_6 := dk_seg dksX1_bestSet_5 22 rfl rfl
theorem dksX1_bestSet_7 : cX1_bestSet.data.toList.drop 165 = dktX1_bestSet_7 := dk_seg dksX1_bestSet_6 24 rfl rfl
theorem dksX1_bestSet_8 : cX1_bestSet.data.toList.drop 188 = dktX1_bestSet_8 := dk_seg dksX1_bestSet_7 23 rfl rfl
theorem dksX1_bestSet_9 : cX1_bestSet.data.toList.drop 212 = dktX1_bestSet_9 := dk_seg dksX1_bestSet_8 24 rfl rfl
theorem dksX1_bestSet_10 : cX1_bestSet.data.toList.drop 235 = dktX1_bestSet_10 := dk_seg dksX1_bestSet_9 23 rfl rfl
theorem dksX1_bestSet_11 : cX1_bestSet.data.toList.drop 259 = dktX1_bestSet_11 := dk_seg dksX1_bestSet_10 24 rfl rfl
theorem dX1_bestSet_0 : decode cX1_bestSet 0 = .ok (.aload_n 0, 1) := dk_42 (dk_at dksX1_bestSet_0 0 rfl rfl)
theorem dX1_bestSet_1 : decode cX1_bestSet 1 = .ok (.aload_n 0, 1) := dk_42 (dk_at dksX1_bestSet_0 1 rfl rfl)
theorem dX1_bestSet_2 : decode cX1_bestSet 2 = .ok (.iload_n 1, 1) := dk_27 (dk_at dksX1_bestSet_0 2 rfl rfl)
theorem dX1_bestSet_3 : decode cX1_bestSet 3 = .ok (.invokevirtual 316, 3) := dk_182 1 60 (dk_at dksX1_bestSet_0 3 rfl rfl)
theorem dX1_bestSet_6 : decode cX1_bestSet 6 = .ok (.invokevirtual 319, 3) := dk_182 1 63 (dk_at dksX1_bestSet_0 6 rfl rfl)
theorem dX1_bestSet_9 : decode cX1_bestSet 9 = .ok (.astore_n 2, 1) := dk_77 (dk_at dksX1_bestSet_0 9 rfl rfl)
theorem dX1_bestSet_10 : decode cX1_bestSet 10 = .ok (.new 23, 3) := dk_187 0 23 (dk_at dksX1_bestSet_0 10 rfl rfl)
theorem dX1_bestSet_13 : decode cX1_bestSet 13 = .ok (.dup, 1) := dk_89 (dk_at dksX1_bestSet_0 13 rfl rfl)
theorem dX1_bestSet_14 : decode cX1_bestSet 14 = .ok (.invokespecial 25, 3) := dk_183 0 25 (dk_at dksX1_bestSet_0 14 rfl rfl)
theorem dX1_bestSet_17 : decode cX1_bestSet 17 = .ok (.astore_n 3, 1) := dk_78 (dk_at dksX1_bestSet_0 17 rfl rfl)
theorem dX1_bestSet_18 : decode cX1_bestSet 18 = .ok (.iconst 0, 1) := dk_3 (dk_at dksX1_bestSet_0 18 rfl rfl)
theorem dX1_bestSet_19 : decode cX1_bestSet 19 = .ok (.istore 4, 2) := dk_54 4 (dk_at dksX1_bestSet_0 19 rfl rfl)
theorem dX1_bestSet_21 : decode cX1_bestSet 21 = .ok (.iload 4, 2) := dk_21 4 (dk_at dksX1_bestSet_0 21 rfl rfl)
theorem dX1_bestSet_23 : decode cX1_bestSet 23 = .ok (.aload_n 2, 1) := dk_44 (dk_at dksX1_bestSet_0 23 rfl rfl)
theorem dX1_bestSet_24 : decode cX1_bestSet 24 = .ok (.invokeinterface 72 1, 5) := by decide +kernel
theorem dX1_bestSet_29 : decode cX1_bestSet 29 = .ok (.if_icmp .ge 19, 3) := dk_162 0 19 (dk_at dksX1_bestSet_1 5 rfl rfl)
theorem dX1_bestSet_32 : decode cX1_bestSet 32 = .ok (.aload_n 3, 1) := dk_45 (dk_at dksX1_bestSet_1 8 rfl rfl)
theorem dX1_bestSet_33 : decode cX1_bestSet 33 = .ok (.invokestatic 323, 3) := dk_184 1 67 (dk_at dksX1_bestSet_1 9 rfl rfl)
theorem dX1_bestSet_36 : decode cX1_bestSet 36 = .ok (.invokeinterface 53 2, 5) := by decide +kernel
theorem dX1_bestSet_41 : decode cX1_bestSet 41 = .ok (.pop, 1) := dk_87 (dk_at dksX1_bestSet_1 17 rfl rfl)
theorem dX1_bestSet_42 : decode cX1_bestSet 42 = .ok (.iinc 4 1, 3) := dk_132 4 1 (dk_at dksX1_bestSet_1 18 rfl rfl)
theorem dX1_bestSet_45 : decode cX1_bestSet 45 = .ok (.goto (-24), 3) := dk_167 255 232 (dk_at dksX1_bestSet_1 21 rfl rfl)
theorem dX1_bestSet_48 : decode cX1_bestSet 48 = .ok (.invokestatic 323, 3) := dk_184 1 67 (dk_at dksX1_bestSet_2 0 rfl rfl)
theorem dX1_bestSet_51 : decode cX1_bestSet 51 = .ok (.astore 4, 2) := dk_58 4 (dk_at dksX1_bestSet_2 3 rfl rfl)
theorem dX1_bestSet_53 : decode cX1_bestSet 53 = .ok (.aload_n 2, 1) := dk_44 (dk_at dksX1_bestSet_2 5 rfl rfl)
theorem dX1_bestSet_54 : decode cX1_bestSet 54 = .ok (.invokeinterface 72 1, 5) := by decide +kernel
theorem dX1_bestSet_59 : decode cX1_bestSet 59 = .ok (.iconst 1, 1) := dk_4 (dk_at dksX1_bestSet_2 11 rfl rfl)
theorem dX1_bestSet_60 : decode cX1_bestSet 60 = .ok (.isub, 1) := dk_100 (dk_at dksX1_bestSet_2 12 rfl rfl)
theorem dX1_bestSet_61 : decode cX1_bestSet 61 = .ok (.istore 5, 2) := dk_54 5 (dk_at dksX1_bestSet_2 13 rfl rfl)
theorem dX1_bestSet_63 : decode cX1_bestSet 63 = .ok (.iload 5, 2) := dk_21 5 (dk_at dksX1_bestSet_2 15 rfl rfl)
theorem dX1_bestSet_65 : decode cX1_bestSet 65 = .ok (.ifCond .lt 208, 3) := dk_155 0 208 (dk_at dksX1_bestSet_2 17 rfl rfl)
theorem dX1_bestSet_68 : decode cX1_bestSet 68 = .ok (.aload_n 0, 1) := dk_42 (dk_at dksX1_bestSet_2 20 rfl rfl)
theorem dX1_bestSet_69 : decode cX1_bestSet 69 = .ok (.getfield 32, 3) := dk_180 0 32 (dk_at dksX1_bestSet_2 21 rfl rfl)
theorem dX1_bestSet_72 : decode cX1_bestSet 72 = .ok (.aload_n 2, 1) := dk_44 (dk_at dksX1_bestSet_3 0 rfl rfl)
theorem dX1_bestSet_73 : decode cX1_bestSet 73 = .ok (.iload 5, 2) := dk_21 5 (dk_at dksX1_bestSet_3 1 rfl rfl)
theorem dX1_bestSet_75 : decode cX1_bestSet 75 = .ok (.invokeinterface 80 2, 5) := by decide +kernel
theorem dX1_bestSet_80 : decode cX1_bestSet 80 = .ok (.checkcast 311, 3) := dk_192 1 55 (dk_at dksX1_bestSet_3 8 rfl rfl)
theorem dX1_bestSet_83 : decode cX1_bestSet 83 = .ok (.invokevirtual 327, 3) := dk_182 1 71 (dk_at dksX1_bestSet_3 11 rfl rfl)
theorem dX1_bestSet_86 : decode cX1_bestSet 86 = .ok (.invokeinterface 80 2, 5) := by decide +kernel
theorem dX1_bestSet_91 : decode cX1_bestSet 91 = .ok (.checkcast 48, 3) := dk_192 0 48 (dk_at dksX1_bestSet_3 19 rfl rfl)
theorem dX1_bestSet_94 : decode cX1_bestSet 94 = .ok (.astore 6, 2) := dk_58 6 (dk_at dksX1_bestSet_3 22 rfl rfl)
theorem dX1_bestSet_96 : decode cX1_bestSet 96 = .ok (.invokestatic 323, 3) := dk_184 1 67 (dk_at dksX1_bestSet_4 0 rfl rfl)
theorem dX1_bestSet_99 : decode cX1_bestSet 99 = .ok (.astore 7, 2) := dk_58 7 (dk_at dksX1_bestSet_4 3 rfl rfl)
theorem dX1_bestSet_101 : decode cX1_bestSet 101 = .ok (.iload 5, 2) := dk_21 5 (dk_at dksX1_bestSet_4 5 rfl rfl)
theorem dX1_bestSet_103 : decode cX1_bestSet 103 = .ok (.iconst 1, 1) := dk_4 (dk_at dksX1_bestSet_4 7 rfl rfl)
theorem dX1_bestSet_104 : decode cX1_bestSet 104 = .ok (.iadd, 1) := dk_96 (dk_at dksX1_bestSet_4 8 rfl rfl)
theorem dX1_bestSet_105 : decode cX1_bestSet 105 = .ok (.istore 8, 2) := dk_54 8 (dk_at dksX1_bestSet_4 9 rfl rfl)
theorem dX1_bestSet_107 : decode cX1_bestSet 107 = .ok (.iload 8, 2) := dk_21 8 (dk_at dksX1_bestSet_4 11 rfl rfl)
theorem dX1_bestSet_109 : decode cX1_bestSet 109 = .ok (.aload_n 2, 1) := dk_44 (dk_at dksX1_bestSet_4 13 rfl rfl)
theorem dX1_bestSet_110 : decode cX1_bestSet 110 = .ok (.invokeinterface 72 1, 5) := by decide +kernel
theorem dX1_bestSet_115 : decode cX1_bestSet 115 = .ok (.if_icmp .ge 66, 3) := dk_162 0 66 (dk_at dksX1_bestSet_4 19 rfl rfl)
theorem dX1_bestSet_118 : decode cX1_bestSet 118 = .ok (.aload_n 0, 1) := dk_42 (dk_at dksX1_bestSet_4 22 rfl rfl)
theorem dX1_bestSet_119 : decode cX1_bestSet 119 = .ok (.getfield 32, 3) := dk_180 0 32 (dk_at dksX1_bestSet_5 0 rfl rfl)
theorem dX1_bestSet_122 : decode cX1_bestSet 122 = .ok (.aload_n 2, 1) := dk_44 (dk_at dksX1_bestSet_5 3 rfl rfl)
theorem dX1_bestSet_123 : decode cX1_bestSet 123 = .ok (.iload 8, 2) := dk_21 8 (dk_at dksX1_bestSet_5 4 rfl rfl)
theorem dX1_bestSet_125 : decode cX1_bestSet 125 = .ok (.invokeinterface 80 2, 5) := by decide +kernel
theorem dX1_bestSet_130 : decode cX1_bestSet 130 = .ok (.checkcast 311, 3) := dk_192 1 55 (dk_at dksX1_bestSet_5 11 rfl rfl)
theorem dX1_bestSet_133 : decode cX1_bestSet 133 = .ok (.invokevirtual 327, 3) := dk_182 1 71 (dk_at dksX1_bestSet_5 14 rfl rfl)
theorem dX1_bestSet_136 : decode cX1_bestSet 136 = .ok (.invokeinterface 80 2, 5) := by decide +kernel
theorem dX1_bestSet_141 : decode cX1_bestSet 141 = .ok (.checkcast 48, 3) := dk_192 0 48 (dk_at dksX1_bestSet_6 0 rfl rfl)
theorem dX1_bestSet_144 : decode cX1_bestSet 144 = .ok (.aload 6, 2) := dk_25 6 (dk_at dksX1_bestSet_6 3 rfl rfl)
theorem dX1_bestSet_146 : decode cX1_bestSet 146 = .ok (.invokevirtual 330, 3) := dk_182 1 74 (dk_at dksX1_bestSet_6 5 rfl rfl)
theorem dX1_bestSet_149 : decode cX1_bestSet 149 = .ok (.ifCond .eq 22, 3) := dk_153 0 22 (dk_at dksX1_bestSet_6 8 rfl rfl)
theorem dX1_bestSet_152 : decode cX1_bestSet 152 = .ok (.aload 7, 2) := dk_25 7 (dk_at dksX1_bestSet_6 11 rfl rfl)
theorem dX1_bestSet_154 : decode cX1_bestSet 154 = .ok (.aload_n 3, 1) := dk_45 (dk_at dksX1_bestSet_6 13 rfl rfl)
theorem dX1_bestSet_155 : decode cX1_bestSet 155 = .ok (.iload 8, 2) := dk_21 8 (dk_at dksX1_bestSet_6 14 rfl rfl)
theorem dX1_bestSet_157 : decode cX1_bestSet 157 = .ok (.invokeinterface 80 2, 5) := by decide +kernel
theorem dX1_bestSet_162 : decode cX1_bestSet 162 = .ok (.checkcast 2, 3) := dk_192 0 2 (dk_at dksX1_bestSet_6 21 rfl rfl)
theorem dX1_bestSet_165 : decode cX1_bestSet 165 = .ok (.invokestatic 334, 3) := dk_184 1 78 (dk_at dksX1_bestSet_7 0 rfl rfl)
theorem dX1_bestSet_168 : decode cX1_bestSet 168 = .ok (.goto 5, 3) := dk_167 0 5 (dk_at dksX1_bestSet_7 3 rfl rfl)
theorem dX1_bestSet_171 : decode cX1_bestSet 171 = .ok (.aload 7, 2) := dk_25 7 (dk_at dksX1_bestSet_7 6 rfl rfl)
theorem dX1_bestSet_173 : decode cX1_bestSet 173 = .ok (.astore 7, 2) := dk_58 7 (dk_at dksX1_bestSet_7 8 rfl rfl)
theorem dX1_bestSet_175 : decode cX1_bestSet 175 = .ok (.iinc 8 1, 3) := dk_132 8 1 (dk_at dksX1_bestSet_7 10 rfl rfl)
theorem dX1_bestSet_178 : decode cX1_bestSet 178 = .ok (.goto (-71), 3) := dk_167 255 185 (dk_at dksX1_bestSet_7 13 rfl rfl)
theorem dX1_bestSet_181 : decode cX1_bestSet 181 = .ok (.aload 6, 2) := dk_25 6 (dk_at dksX1_bestSet_7 16 rfl rfl)
theorem dX1_bestSet_183 : decode cX1_bestSet 183 = .ok (.getfield 117, 3) := dk_180 0 117 (dk_at dksX1_bestSet_7 18 rfl rfl)
theorem dX1_bestSet_186 : decode cX1_bestSet 186 = .ok (.aload 7, 2) := dk_25 7 (dk_at dksX1_bestSet_7 21 rfl rfl)
theorem dX1_bestSet_188 : decode cX1_bestSet 188 = .ok (.invokevirtual 1, 3) := dk_182 0 1 (dk_at dksX1_bestSet_8 0 rfl rfl)
theorem dX1_bestSet_191 : decode cX1_bestSet 191 = .ok (.ifCond .eq 17, 3) := dk_153 0 17 (dk_at dksX1_bestSet_8 3 rfl rfl)
theorem dX1_bestSet_194 : decode cX1_bestSet 194 = .ok (.aload 7, 2) := dk_25 7 (dk_at dksX1_bestSet_8 6 rfl rfl)
theorem dX1_bestSet_196 : decode cX1_bestSet 196 = .ok (.invokevirtual 7, 3) := dk_182 0 7 (dk_at dksX1_bestSet_8 8 rfl rfl)
theorem dX1_bestSet_199 : decode cX1_bestSet 199 = .ok (.checkcast 11, 3) := dk_192 0 11 (dk_at dksX1_bestSet_8 11 rfl rfl)
theorem dX1_bestSet_202 : decode cX1_bestSet 202 = .ok (.getfield 338, 3) := dk_180 1 82 (dk_at dksX1_bestSet_8 14 rfl rfl)
theorem dX1_bestSet_205 : decode cX1_bestSet 205 = .ok (.goto 4, 3) := dk_167 0 4 (dk_at dksX1_bestSet_8 17 rfl rfl)
theorem dX1_bestSet_208 : decode cX1_bestSet 208 = .ok (.iconst 0, 1) := dk_3 (dk_at dksX1_bestSet_8 20 rfl rfl)
theorem dX1_bestSet_209 : decode cX1_bestSet 209 = .ok (.iadd, 1) := dk_96 (dk_at dksX1_bestSet_8 21 rfl rfl)
theorem dX1_bestSet_210 : decode cX1_bestSet 210 = .ok (.istore 8, 2) := dk_54 8 (dk_at dksX1_bestSet_8 22 rfl rfl)
theorem dX1_bestSet_212 : decode cX1_bestSet 212 = .ok (.aload_n 3, 1) := dk_45 (dk_at dksX1_bestSet_9 0 rfl rfl)
theorem dX1_bestSet_213 : decode cX1_bestSet 213 = .ok (.iload 5, 2) := dk_21 5 (dk_at dksX1_bestSet_9 1 rfl rfl)
theorem dX1_bestSet_215 : decode cX1_bestSet 215 = .ok (.new 11, 3) := dk_187 0 11 (dk_at dksX1_bestSet_9 3 rfl rfl)
theorem dX1_bestSet_218 : decode cX1_bestSet 218 = .ok (.dup, 1) := dk_89 (dk_at dksX1_bestSet_9 6 rfl rfl)
theorem dX1_bestSet_219 : decode cX1_bestSet 219 = .ok (.aload_n 2, 1) := dk_44 (dk_at dksX1_bestSet_9 7 rfl rfl)
theorem dX1_bestSet_220 : decode cX1_bestSet 220 = .ok (.iload 5, 2) := dk_21 5 (dk_at dksX1_bestSet_9 8 rfl rfl)
theorem dX1_bestSet_222 : decode cX1_bestSet 222 = .ok (.invokeinterface 80 2, 5) := by decide +kernel
theorem dX1_bestSet_227 : decode cX1_bestSet 227 = .ok (.checkcast 311, 3) := dk_192 1 55 (dk_at dksX1_bestSet_9 15 rfl rfl)
theorem dX1_bestSet_230 : decode cX1_bestSet 230 = .ok (.invokevirtual 327, 3) := dk_182 1 71 (dk_at dksX1_bestSet_9 18 rfl rfl)
theorem dX1_bestSet_233 : decode cX1_bestSet 233 = .ok (.aload 7, 2) := dk_25 7 (dk_at dksX1_bestSet_9 21 rfl rfl)
theorem dX1_bestSet_235 : decode cX1_bestSet 235 = .ok (.iload 8, 2) := dk_21 8 (dk_at dksX1_bestSet_10 0 rfl rfl)
theorem dX1_bestSet_237 : decode cX1_bestSet 237 = .ok (.invokespecial 339, 3) := dk_183 1 83 (dk_at dksX1_bestSet_10 2 rfl rfl)
theorem dX1_bestSet_240 : decode cX1_bestSet 240 = .ok (.invokestatic 342, 3) := dk_184 1 86 (dk_at dksX1_bestSet_10 5 rfl rfl)
theorem dX1_bestSet_243 : decode cX1_bestSet 243 = .ok (.invokeinterface 113 3, 5) := by decide +kernel
theorem dX1_bestSet_248 : decode cX1_bestSet 248 = .ok (.pop, 1) := dk_87 (dk_at dksX1_bestSet_10 13 rfl rfl)
theorem dX1_bestSet_249 : decode cX1_bestSet 249 = .ok (.aload 4, 2) := dk_25 4 (dk_at dksX1_bestSet_10 14 rfl rfl)
theorem dX1_bestSet_251 : decode cX1_bestSet 251 = .ok (.aload_n 3, 1) := dk_45 (dk_at dksX1_bestSet_10 16 rfl rfl)
theorem dX1_bestSet_252 : decode cX1_bestSet 252 = .ok (.iload 5, 2) := dk_21 5 (dk_at dksX1_bestSet_10 17 rfl rfl)
theorem dX1_bestSet_254 : decode cX1_bestSet 254 = .ok (.invokeinterface 80 2, 5) := by decide +kernel
theorem dX1_bestSet_259 : decode cX1_bestSet 259 = .ok (.checkcast 2, 3) := dk_192 0 2 (dk_at dksX1_bestSet_11 0 rfl rfl)
theorem dX1_bestSet_262 : decode cX1_bestSet 262 = .ok (.invokestatic 334, 3) := dk_184 1 78 (dk_at dksX1_bestSet_11 3 rfl rfl)
theorem dX1_bestSet_265 : decode cX1_bestSet 265 = .ok (.astore 4, 2) := dk_58 4 (dk_at dksX1_bestSet_11 6 rfl rfl)
theorem dX1_bestSet_267 : decode cX1_bestSet 267 = .ok (.iinc 5 (-1), 3) := dk_132 5 255 (dk_at dksX1_bestSet_11 8 rfl rfl)
theorem dX1_bestSet_270 : decode cX1_bestSet 270 = .ok (.goto (-207), 3) := dk_167 255 49 (dk_at dksX1_bestSet_11 11 rfl rfl)
theorem dX1_bestSet_273 : decode cX1_bestSet 273 = .ok (.aload 4, 2) := dk_25 4 (dk_at dksX1_bestSet_11 14 rfl rfl)
theorem dX1_bestSet_275 : decode cX1_bestSet 275 = .ok (.areturn, 1) := dk_176 (dk_at dksX1_bestSet_11 16 rfl rfl)
abbrev cX1_sorted : ByteArray := prog_1_method_41_code
def yX1_sorted : MethodName := ⟨RX1, "sorted", "(I)Ljava/util/List;"⟩
def dkwX1_sorted_3 : List UInt8 := [132, 4, 1, 167, 255, 204, 132, 3, 1, 167, 255, 189, 44, 176]
abbrev dktX1_sorted_3 : List UInt8 := dkwX1_sorted_3 ++ []
def dkwX1_sorted_2 : List UInt8 := [192, 0, 48, 180, 1, 51, 29, 160, 0, 15, 44, 21, 4, 184, 1, 54, 185, 0, 53, 2, 0, 87]
abbrev dktX1_sorted_2 : List UInt8 := dkwX1_sorted_2 ++ dktX1_sorted_3
def dkwX1_sorted_1 : List UInt8 := [162, 0, 51, 27, 21, 4, 184, 0, 123, 153, 0, 36, 42, 180, 0, 32, 21, 4, 185, 0, 80, 2, 0]
abbrev dktX1_sorted_1 : List UInt8 := dkwX1_sorted_1 ++ dktX1_sorted_2
def dkwX1_sorted_0 : List UInt8 := [187, 0, 23, 89, 183, 0, 25, 77, 3, 62, 29, 16, 9, 163, 0, 67, 3, 54, 4, 21, 4, 16, 16]
abbrev dktX1_sorted_0 : List UInt8 := dkwX1_sorted_0 ++ dktX1_sorted_1
theorem dksX1_sorted_0 : cX1_sorted.data.toList.drop 0 = dktX1_sorted_0 := by decide +kernel
theorem dksX1_sorted_1 : cX1_sorted.data.toList.drop 23 = dktX1_sorted_1 := dk_seg dksX1_sorted_0 23 rfl rfl
theorem dksX1_sorted_2 : cX1_sorted.data.toList.drop 46 = dktX1_sorted_2 := dk_seg dksX1_sorted_1 23 rfl rfl
theorem dksX1_sorted_3 : cX1_sorted.data.toList.drop 68 = dktX1_sorted_3 := dk_seg dksX1_sorted_2 22 rfl rfl
theorem dX1_sorted_0 : decode cX1_sorted 0 = .ok (.new 23, 3) := dk_187 0 23 (dk_at dksX1_sorted_0 0 rfl rfl)
theorem dX1_sorted_3 : decode cX1_sorted 3 = .ok (.dup, 1) := dk_89 (dk_at dksX1_sorted_0 3 rfl rfl)
theorem dX1_sorted_4 : decode cX1_sorted 4 = .ok (.invokespecial 25, 3) := dk_183 0 25 (dk_at dksX1_sorted_0 4 rfl rfl)
theorem dX1_sorted_7 : decode cX1_sorted 7 = .ok (.astore_n 2, 1) := dk_77 (dk_at dksX1_sorted_0 7 rfl rfl)
theorem dX1_sorted_8 : decode cX1_sorted 8 = .ok (.iconst 0, 1) := dk_3 (dk_at dksX1_sorted_0 8 rfl rfl)
theorem dX1_sorted_9 : decode cX1_sorted 9 = .ok (.istore_n 3, 1) := dk_62 (dk_at dksX1_sorted_0 9 rfl rfl)
theorem dX1_sorted_10 : decode cX1_sorted 10 = .ok (.iload_n 3, 1) := dk_29 (dk_at dksX1_sorted_0 10 rfl rfl)
theorem dX1_sorted_11 : decode cX1_sorted 11 = .ok (.bipush 9, 2) := dk_16 9 (dk_at dksX1_sorted_0 11 rfl rfl)
theorem dX1_sorted_13 : decode cX1_sorted 13 = .ok (.if_icmp .gt 67, 3) := dk_163 0 67 (dk_at dksX1_sorted_0 13 rfl rfl)
theorem dX1_sorted_16 : decode cX1_sorted 16 = .ok (.iconst 0, 1) := dk_3 (dk_at dksX1_sorted_0 16 rfl rfl)
theorem dX1_sorted_17 : decode cX1_sorted 17 = .ok (.istore 4, 2) := dk_54 4 (dk_at dksX1_sorted_0 17 rfl rfl)
theorem dX1_sorted_19 : decode cX1_sorted 19 = .ok (.iload 4, 2) := dk_21 4 (dk_at dksX1_sorted_0 19 rfl rfl)
theorem dX1_sorted_21 : decode cX1_sorted 21 = .ok (.bipush 16, 2) := dk_16 16 (dk_at dksX1_sorted_0 21 rfl rfl)
theorem dX1_sorted_23 : decode cX1_sorted 23 = .ok (.if_icmp .ge 51, 3) := dk_162 0 51 (dk_at dksX1_sorted_1 0 rfl rfl)
theorem dX1_sorted_26 : decode cX1_sorted 26 = .ok (.iload_n 1, 1) := dk_27 (dk_at dksX1_sorted_1 3 rfl rfl)
theorem dX1_sorted_27 : decode cX1_sorted 27 = .ok (.iload 4, 2) := dk_21 4 (dk_at dksX1_sorted_1 4 rfl rfl)
theorem dX1_sorted_29 : decode cX1_sorted 29 = .ok (.invokestatic 123, 3) := dk_184 0 123 (dk_at dksX1_sorted_1 6 rfl rfl)
theorem dX1_sorted_32 : decode cX1_sorted 32 = .ok (.ifCond .eq 36, 3) := dk_153 0 36 (dk_at dksX1_sorted_1 9 rfl rfl)
theorem dX1_sorted_35 : decode cX1_sorted 35 = .ok (.aload_n 0, 1) := dk_42 (dk_at dksX1_sorted_1 12 rfl rfl)
theorem dX1_sorted_36 : decode cX1_sorted 36 = .ok (.getfield 32, 3) := dk_180 0 32 (dk_at dksX1_sorted_1 13 rfl rfl)
theorem dX1_sorted_39 : decode cX1_sorted 39 = .ok (.iload 4, 2) := dk_21 4 (dk_at dksX1_sorted_1 16 rfl rfl)
theorem dX1_sorted_41 : decode cX1_sorted 41 = .ok (.invokeinterface 80 2, 5) := by decide +kernel
theorem dX1_sorted_46 : decode cX1_sorted 46 = .ok (.checkcast 48, 3) := dk_192 0 48 (dk_at dksX1_sorted_2 0 rfl rfl)
theorem dX1_sorted_49 : decode cX1_sorted 49 = .ok (.getfield 307, 3) := dk_180 1 51 (dk_at dksX1_sorted_2 3 rfl rfl)
theorem dX1_sorted_52 : decode cX1_sorted 52 = .ok (.iload_n 3, 1) := dk_29 (dk_at dksX1_sorted_2 6 rfl rfl)
theorem dX1_sorted_53 : decode cX1_sorted 53 = .ok (.if_icmp .ne 15, 3) := dk_160 0 15 (dk_at dksX1_sorted_2 7 rfl rfl)
theorem dX1_sorted_56 : decode cX1_sorted 56 = .ok (.aload_n 2, 1) := dk_44 (dk_at dksX1_sorted_2 10 rfl rfl)
theorem dX1_sorted_57 : decode cX1_sorted 57 = .ok (.iload 4, 2) := dk_21 4 (dk_at dksX1_sorted_2 11 rfl rfl)
theorem dX1_sorted_59 : decode cX1_sorted 59 = .ok (.invokestatic 310, 3) := dk_184 1 54 (dk_at dksX1_sorted_2 13 rfl rfl)
theorem dX1_sorted_62 : decode cX1_sorted 62 = .ok (.invokeinterface 53 2, 5) := by decide +kernel
theorem dX1_sorted_67 : decode cX1_sorted 67 = .ok (.pop, 1) := dk_87 (dk_at dksX1_sorted_2 21 rfl rfl)
theorem dX1_sorted_68 : decode cX1_sorted 68 = .ok (.iinc 4 1, 3) := dk_132 4 1 (dk_at dksX1_sorted_3 0 rfl rfl)
theorem dX1_sorted_71 : decode cX1_sorted 71 = .ok (.goto (-52), 3) := dk_167 255 204 (dk_at dksX1_sorted_3 3 rfl rfl)
theorem dX1_sorted_74 : decode cX1_sorted 74 = .ok (.iinc 3 1, 3) := dk_132 3 1 (dk_at dksX1_sorted_3 6 rfl rfl)
theorem dX1_sorted_77 : decode cX1_sorted 77 = .ok (.goto (-67), 3) := dk_167 255 189 (dk_at dksX1_sorted_3 9 rfl rfl)
theorem dX1_sorted_80 : decode cX1_sorted 80 = .ok (.aload_n 2, 1) := dk_44 (dk_at dksX1_sorted_3 12 rfl rfl)
theorem dX1_sorted_81 : decode cX1_sorted 81 = .ok (.areturn, 1) := dk_176 (dk_at dksX1_sorted_3 13 rfl rfl)
abbrev cX1_better : ByteArray := prog_1_method_3_code
def yX1_better : MethodName := ⟨RX1, "better", "(Ljava/util/Optional;Ljava/util/Optional;)Ljava/util/Optional;"⟩
def dkwX1_better_1 : List UInt8 := [182, 0, 7, 192, 0, 11, 182, 0, 13, 153, 0, 7, 43, 167, 0, 4, 42, 176]
abbrev dktX1_better_1 : List UInt8 := dkwX1_better_1 ++ []
def dkwX1_better_0 : List UInt8 := [42, 182, 0, 1, 154, 0, 5, 43, 176, 43, 182, 0, 1, 153, 0, 27, 43, 182, 0, 7, 192, 0, 11, 42]
abbrev dktX1_better_0 : List UInt8 := dkwX1_better_0 ++ dktX1_better_1
theorem dksX1_better_0 : cX1_better.data.toList.drop 0 = dktX1_better_0 := by decide +kernel
theorem dksX1_better_1 : cX1_better.data.toList.drop 24 = dktX1_better_1 := dk_seg dksX1_better_0 24 rfl rfl
theorem dX1_better_0 : decode cX1_better 0 = .ok (.aload_n 0, 1) := dk_42 (dk_at dksX1_better_0 0 rfl rfl)
theorem dX1_better_1 : decode cX1_better 1 = .ok (.invokevirtual 1, 3) := dk_182 0 1 (dk_at dksX1_better_0 1 rfl rfl)
theorem dX1_better_4 : decode cX1_better 4 = .ok (.ifCond .ne 5, 3) := dk_154 0 5 (dk_at dksX1_better_0 4 rfl rfl)
theorem dX1_better_7 : decode cX1_better 7 = .ok (.aload_n 1, 1) := dk_43 (dk_at dksX1_better_0 7 rfl rfl)
theorem dX1_better_8 : decode cX1_better 8 = .ok (.areturn, 1) := dk_176 (dk_at dksX1_better_0 8 rfl rfl)
theorem dX1_better_9 : decode cX1_better 9 = .ok (.aload_n 1, 1) := dk_43 (dk_at dksX1_better_0 9 rfl rfl)
theorem dX1_better_10 : decode cX1_better 10 = .ok (.invokevirtual 1, 3) := dk_182 0 1 (dk_at dksX1_better_0 10 rfl rfl)
theorem dX1_better_13 : decode cX1_better 13 = .ok (.ifCond .eq 27, 3) := dk_153 0 27 (dk_at dksX1_better_0 13 rfl rfl)
theorem dX1_better_16 : decode cX1_better 16 = .ok (.aload_n 1, 1) := dk_43 (dk_at dksX1_better_0 16 rfl rfl)
theorem dX1_better_17 : decode cX1_better 17 = .ok (.invokevirtual 7, 3) := dk_182 0 7 (dk_at dksX1_better_0 17 rfl rfl)
theorem dX1_better_20 : decode cX1_better 20 = .ok (.checkcast 11, 3) := dk_192 0 11 (dk_at dksX1_better_0 20 rfl rfl)
theorem dX1_better_23 : decode cX1_better 23 = .ok (.aload_n 0, 1) := dk_42 (dk_at dksX1_better_0 23 rfl rfl)
theorem dX1_better_24 : decode cX1_better 24 = .ok (.invokevirtual 7, 3) := dk_182 0 7 (dk_at dksX1_better_1 0 rfl rfl)
theorem dX1_better_27 : decode cX1_better 27 = .ok (.checkcast 11, 3) := dk_192 0 11 (dk_at dksX1_better_1 3 rfl rfl)
theorem dX1_better_30 : decode cX1_better 30 = .ok (.invokevirtual 13, 3) := dk_182 0 13 (dk_at dksX1_better_1 6 rfl rfl)
theorem dX1_better_33 : decode cX1_better 33 = .ok (.ifCond .eq 7, 3) := dk_153 0 7 (dk_at dksX1_better_1 9 rfl rfl)
theorem dX1_better_36 : decode cX1_better 36 = .ok (.aload_n 1, 1) := dk_43 (dk_at dksX1_better_1 12 rfl rfl)
theorem dX1_better_37 : decode cX1_better 37 = .ok (.goto 4, 3) := dk_167 0 4 (dk_at dksX1_better_1 13 rfl rfl)
theorem dX1_better_40 : decode cX1_better 40 = .ok (.aload_n 0, 1) := dk_42 (dk_at dksX1_better_1 16 rfl rfl)
theorem dX1_better_41 : decode cX1_better 41 = .ok (.areturn, 1) := dk_176 (dk_at dksX1_better_1 17 rfl rfl)
abbrev cX1_player : ByteArray := prog_1_method_12_code
def yX1_player : MethodName := ⟨RX1, "player", "(IIII)I"⟩
def dkwX1_player_3 : List UInt8 := [87, 42, 180, 0, 26, 185, 0, 72, 1, 0, 4, 100, 172]
abbrev dktX1_player_3 : List UInt8 := dkwX1_player_3 ++ []
def dkwX1_player_2 : List UInt8 := [184, 0, 96, 42, 180, 0, 26, 187, 0, 83, 89, 27, 28, 29, 21, 4, 183, 0, 99, 185, 0, 53, 2, 0]
abbrev dktX1_player_2 : List UInt8 := dkwX1_player_2 ++ dktX1_player_3
def dkwX1_player_1 : List UInt8 := [184, 0, 88, 42, 180, 0, 26, 185, 0, 72, 1, 0, 16, 10, 162, 0, 7, 4, 167, 0, 4, 3]
abbrev dktX1_player_1 : List UInt8 := dkwX1_player_1 ++ dktX1_player_2
def dkwX1_player_0 : List UInt8 := [29, 16, 6, 184, 0, 76, 27, 4, 16, 63, 184, 0, 88, 28, 184, 0, 92, 21, 4, 4, 16, 99]
abbrev dktX1_player_0 : List UInt8 := dkwX1_player_0 ++ dktX1_player_1
theorem dksX1_player_0 : cX1_player.data.toList.drop 0 = dktX1_player_0 := by decide +kernel
theorem dksX1_player_1 : cX1_player.data.toList.drop 22 = dktX1_player_1 := dk_seg dksX1_player_0 22 rfl rfl
theorem dksX1_player_2 : cX1_player.data.toList.drop 44 = dktX1_player_2 := dk_seg dksX1_player_1 22 rfl rfl
theorem dksX1_player_3 : cX1_player.data.toList.drop 68 = dktX1_player_3 := dk_seg dksX1_player_2 24 rfl rfl
theorem dX1_player_0 : decode cX1_player 0 = .ok (.iload_n 3, 1) := dk_29 (dk_at dksX1_player_0 0 rfl rfl)
theorem dX1_player_1 : decode cX1_player 1 = .ok (.bipush 6, 2) := dk_16 6 (dk_at dksX1_player_0 1 rfl rfl)
theorem dX1_player_3 : decode cX1_player 3 = .ok (.invokestatic 76, 3) := dk_184 0 76 (dk_at dksX1_player_0 3 rfl rfl)
theorem dX1_player_6 : decode cX1_player 6 = .ok (.iload_n 1, 1) := dk_27 (dk_at dksX1_player_0 6 rfl rfl)
theorem dX1_player_7 : decode cX1_player 7 = .ok (.iconst 1, 1) := dk_4 (dk_at dksX1_player_0 7 rfl rfl)
theorem dX1_player_8 : decode cX1_player 8 = .ok (.bipush 63, 2) := dk_16 63 (dk_at dksX1_player_0 8 rfl rfl)
theorem dX1_player_10 : decode cX1_player 10 = .ok (.invokestatic 88, 3) := dk_184 0 88 (dk_at dksX1_player_0 10 rfl rfl)
theorem dX1_player_13 : decode cX1_player 13 = .ok (.iload_n 2, 1) := dk_28 (dk_at dksX1_player_0 13 rfl rfl)
theorem dX1_player_14 : decode cX1_player 14 = .ok (.invokestatic 92, 3) := dk_184 0 92 (dk_at dksX1_player_0 14 rfl rfl)
theorem dX1_player_17 : decode cX1_player 17 = .ok (.iload 4, 2) := dk_21 4 (dk_at dksX1_player_0 17 rfl rfl)
theorem dX1_player_19 : decode cX1_player 19 = .ok (.iconst 1, 1) := dk_4 (dk_at dksX1_player_0 19 rfl rfl)
theorem dX1_player_20 : decode cX1_player 20 = .ok (.bipush 99, 2) := dk_16 99 (dk_at dksX1_player_0 20 rfl rfl)
theorem dX1_player_22 : decode cX1_player 22 = .ok (.invokestatic 88, 3) := dk_184 0 88 (dk_at dksX1_player_1 0 rfl rfl)
theorem dX1_player_25 : decode cX1_player 25 = .ok (.aload_n 0, 1) := dk_42 (dk_at dksX1_player_1 3 rfl rfl)
theorem dX1_player_26 : decode cX1_player 26 = .ok (.getfield 26, 3) := dk_180 0 26 (dk_at dksX1_player_1 4 rfl rfl)
theorem dX1_player_29 : decode cX1_player 29 = .ok (.invokeinterface 72 1, 5) := by decide +kernel
theorem dX1_player_34 : decode cX1_player 34 = .ok (.bipush 10, 2) := dk_16 10 (dk_at dksX1_player_1 12 rfl rfl)
theorem dX1_player_36 : decode cX1_player 36 = .ok (.if_icmp .ge 7, 3) := dk_162 0 7 (dk_at dksX1_player_1 14 rfl rfl)
theorem dX1_player_39 : decode cX1_player 39 = .ok (.iconst 1, 1) := dk_4 (dk_at dksX1_player_1 17 rfl rfl)
theorem dX1_player_40 : decode cX1_player 40 = .ok (.goto 4, 3) := dk_167 0 4 (dk_at dksX1_player_1 18 rfl rfl)
theorem dX1_player_43 : decode cX1_player 43 = .ok (.iconst 0, 1) := dk_3 (dk_at dksX1_player_1 21 rfl rfl)
theorem dX1_player_44 : decode cX1_player 44 = .ok (.invokestatic 96, 3) := dk_184 0 96 (dk_at dksX1_player_2 0 rfl rfl)
theorem dX1_player_47 : decode cX1_player 47 = .ok (.aload_n 0, 1) := dk_42 (dk_at dksX1_player_2 3 rfl rfl)
theorem dX1_player_48 : decode cX1_player 48 = .ok (.getfield 26, 3) := dk_180 0 26 (dk_at dksX1_player_2 4 rfl rfl)
theorem dX1_player_51 : decode cX1_player 51 = .ok (.new 83, 3) := dk_187 0 83 (dk_at dksX1_player_2 7 rfl rfl)
theorem dX1_player_54 : decode cX1_player 54 = .ok (.dup, 1) := dk_89 (dk_at dksX1_player_2 10 rfl rfl)
theorem dX1_player_55 : decode cX1_player 55 = .ok (.iload_n 1, 1) := dk_27 (dk_at dksX1_player_2 11 rfl rfl)
theorem dX1_player_56 : decode cX1_player 56 = .ok (.iload_n 2, 1) := dk_28 (dk_at dksX1_player_2 12 rfl rfl)
theorem dX1_player_57 : decode cX1_player 57 = .ok (.iload_n 3, 1) := dk_29 (dk_at dksX1_player_2 13 rfl rfl)
theorem dX1_player_58 : decode cX1_player 58 = .ok (.iload 4, 2) := dk_21 4 (dk_at dksX1_player_2 14 rfl rfl)
theorem dX1_player_60 : decode cX1_player 60 = .ok (.invokespecial 99, 3) := dk_183 0 99 (dk_at dksX1_player_2 16 rfl rfl)
theorem dX1_player_63 : decode cX1_player 63 = .ok (.invokeinterface 53 2, 5) := by decide +kernel
theorem dX1_player_68 : decode cX1_player 68 = .ok (.pop, 1) := dk_87 (dk_at dksX1_player_3 0 rfl rfl)
theorem dX1_player_69 : decode cX1_player 69 = .ok (.aload_n 0, 1) := dk_42 (dk_at dksX1_player_3 1 rfl rfl)
theorem dX1_player_70 : decode cX1_player 70 = .ok (.getfield 26, 3) := dk_180 0 26 (dk_at dksX1_player_3 2 rfl rfl)
theorem dX1_player_73 : decode cX1_player 73 = .ok (.invokeinterface 72 1, 5) := by decide +kernel
theorem dX1_player_78 : decode cX1_player 78 = .ok (.iconst 1, 1) := dk_4 (dk_at dksX1_player_3 10 rfl rfl)
theorem dX1_player_79 : decode cX1_player 79 = .ok (.isub, 1) := dk_100 (dk_at dksX1_player_3 11 rfl rfl)
theorem dX1_player_80 : decode cX1_player 80 = .ok (.ireturn, 1) := dk_172 (dk_at dksX1_player_3 12 rfl rfl)
abbrev cX1_checkPlace : ByteArray := prog_1_method_8_code
def yX1_checkPlace : MethodName := ⟨RX1, "checkPlace", "(II)V"⟩
def dkwX1_checkPlace_0 : List UInt8 := [26, 155, 0, 8, 26, 27, 161, 0, 11, 187, 0, 69, 89, 183, 0, 71, 191, 177]
abbrev dktX1_checkPlace_0 : List UInt8 := dkwX1_checkPlace_0 ++ []
theorem dksX1_checkPlace_0 : cX1_checkPlace.data.toList.drop 0 = dktX1_checkPlace_0 := by decide +kernel
theorem dX1_checkPlace_0 : decode cX1_checkPlace 0 = .ok (.iload_n 0, 1) := dk_26 (dk_at dksX1_checkPlace_0 0 rfl rfl)
theorem dX1_checkPlace_1 : decode cX1_checkPlace 1 = .ok (.ifCond .lt 8, 3) := dk_155 0 8 (dk_at dksX1_checkPlace_0 1 rfl rfl)
theorem dX1_checkPlace_4 : decode cX1_checkPlace 4 = .ok (.iload_n 0, 1) := dk_26 (dk_at dksX1_checkPlace_0 4 rfl rfl)
theorem dX1_checkPlace_5 : decode cX1_checkPlace 5 = .ok (.iload_n 1, 1) := dk_27 (dk_at dksX1_checkPlace_0 5 rfl rfl)
theorem dX1_checkPlace_6 : decode cX1_checkPlace 6 = .ok (.if_icmp .lt 11, 3) := dk_161 0 11 (dk_at dksX1_checkPlace_0 6 rfl rfl)
theorem dX1_checkPlace_9 : decode cX1_checkPlace 9 = .ok (.new 69, 3) := dk_187 0 69 (dk_at dksX1_checkPlace_0 9 rfl rfl)
theorem dX1_checkPlace_12 : decode cX1_checkPlace 12 = .ok (.dup, 1) := dk_89 (dk_at dksX1_checkPlace_0 12 rfl rfl)
theorem dX1_checkPlace_13 : decode cX1_checkPlace 13 = .ok (.invokespecial 71, 3) := dk_183 0 71 (dk_at dksX1_checkPlace_0 13 rfl rfl)
theorem dX1_checkPlace_16 : decode cX1_checkPlace 16 = .ok (.athrow, 1) := dk_191 (dk_at dksX1_checkPlace_0 16 rfl rfl)
theorem dX1_checkPlace_17 : decode cX1_checkPlace 17 = .ok (.return_, 1) := dk_177 (dk_at dksX1_checkPlace_0 17 rfl rfl)
abbrev cX1_mustBeIn : ByteArray := prog_1_method_6_code
def yX1_mustBeIn : MethodName := ⟨RX1, "mustBeIn", "(III)V"⟩
def dkwX1_mustBeIn_0 : List UInt8 := [26, 27, 161, 0, 12, 26, 28, 163, 0, 7, 4, 167, 0, 4, 3, 184, 0, 62, 177]
abbrev dktX1_mustBeIn_0 : List UInt8 := dkwX1_mustBeIn_0 ++ []
theorem dksX1_mustBeIn_0 : cX1_mustBeIn.data.toList.drop 0 = dktX1_mustBeIn_0 := by decide +kernel
theorem dX1_mustBeIn_0 : decode cX1_mustBeIn 0 = .ok (.iload_n 0, 1) := dk_26 (dk_at dksX1_mustBeIn_0 0 rfl rfl)
theorem dX1_mustBeIn_1 : decode cX1_mustBeIn 1 = .ok (.iload_n 1, 1) := dk_27 (dk_at dksX1_mustBeIn_0 1 rfl rfl)
theorem dX1_mustBeIn_2 : decode cX1_mustBeIn 2 = .ok (.if_icmp .lt 12, 3) := dk_161 0 12 (dk_at dksX1_mustBeIn_0 2 rfl rfl)
theorem dX1_mustBeIn_5 : decode cX1_mustBeIn 5 = .ok (.iload_n 0, 1) := dk_26 (dk_at dksX1_mustBeIn_0 5 rfl rfl)
theorem dX1_mustBeIn_6 : decode cX1_mustBeIn 6 = .ok (.iload_n 2, 1) := dk_28 (dk_at dksX1_mustBeIn_0 6 rfl rfl)
theorem dX1_mustBeIn_7 : decode cX1_mustBeIn 7 = .ok (.if_icmp .gt 7, 3) := dk_163 0 7 (dk_at dksX1_mustBeIn_0 7 rfl rfl)
theorem dX1_mustBeIn_10 : decode cX1_mustBeIn 10 = .ok (.iconst 1, 1) := dk_4 (dk_at dksX1_mustBeIn_0 10 rfl rfl)
theorem dX1_mustBeIn_11 : decode cX1_mustBeIn 11 = .ok (.goto 4, 3) := dk_167 0 4 (dk_at dksX1_mustBeIn_0 11 rfl rfl)
theorem dX1_mustBeIn_14 : decode cX1_mustBeIn 14 = .ok (.iconst 0, 1) := dk_3 (dk_at dksX1_mustBeIn_0 14 rfl rfl)
theorem dX1_mustBeIn_15 : decode cX1_mustBeIn 15 = .ok (.invokestatic 62, 3) := dk_184 0 62 (dk_at dksX1_mustBeIn_0 15 rfl rfl)
theorem dX1_mustBeIn_18 : decode cX1_mustBeIn 18 = .ok (.return_, 1) := dk_177 (dk_at dksX1_mustBeIn_0 18 rfl rfl)
abbrev cX1_must : ByteArray := prog_1_method_5_code
def yX1_must : MethodName := ⟨RX1, "must", "(Z)V"⟩
def dkwX1_must_0 : List UInt8 := [26, 154, 0, 11, 187, 0, 59, 89, 183, 0, 61, 191, 177]
abbrev dktX1_must_0 : List UInt8 := dkwX1_must_0 ++ []
theorem dksX1_must_0 : cX1_must.data.toList.drop 0 = dktX1_must_0 := by decide +kernel
theorem dX1_must_0 : decode cX1_must 0 = .ok (.iload_n 0, 1) := dk_26 (dk_at dksX1_must_0 0 rfl rfl)
theorem dX1_must_1 : decode cX1_must 1 = .ok (.ifCond .ne 11, 3) := dk_154 0 11 (dk_at dksX1_must_0 1 rfl rfl)
theorem dX1_must_4 : decode cX1_must 4 = .ok (.new 59, 3) := dk_187 0 59 (dk_at dksX1_must_0 4 rfl rfl)
theorem dX1_must_7 : decode cX1_must 7 = .ok (.dup, 1) := dk_89 (dk_at dksX1_must_0 7 rfl rfl)
theorem dX1_must_8 : decode cX1_must 8 = .ok (.invokespecial 61, 3) := dk_183 0 61 (dk_at dksX1_must_0 8 rfl rfl)
theorem dX1_must_11 : decode cX1_must 11 = .ok (.athrow, 1) := dk_191 (dk_at dksX1_must_0 11 rfl rfl)
theorem dX1_must_12 : decode cX1_must 12 = .ok (.return_, 1) := dk_177 (dk_at dksX1_must_0 12 rfl rfl)
abbrev cX1_mustBeSongs : ByteArray := prog_1_method_11_code
def yX1_mustBeSongs : MethodName := ⟨RX1, "mustBeSongs", "(I)V"⟩
def dkwX1_mustBeSongs_0 : List UInt8 := [26, 3, 18, 87, 184, 0, 88, 177]
abbrev dktX1_mustBeSongs_0 : List UInt8 := dkwX1_mustBeSongs_0 ++ []
theorem dksX1_mustBeSongs_0 : cX1_mustBeSongs.data.toList.drop 0 = dktX1_mustBeSongs_0 := by decide +kernel
theorem dX1_mustBeSongs_0 : decode cX1_mustBeSongs 0 = .ok (.iload_n 0, 1) := dk_26 (dk_at dksX1_mustBeSongs_0 0 rfl rfl)
theorem dX1_mustBeSongs_1 : decode cX1_mustBeSongs 1 = .ok (.iconst 0, 1) := dk_3 (dk_at dksX1_mustBeSongs_0 1 rfl rfl)
theorem dX1_mustBeSongs_2 : decode cX1_mustBeSongs 2 = .ok (.ldc 87, 2) := dk_18 87 (dk_at dksX1_mustBeSongs_0 2 rfl rfl)
theorem dX1_mustBeSongs_4 : decode cX1_mustBeSongs 4 = .ok (.invokestatic 88, 3) := dk_184 0 88 (dk_at dksX1_mustBeSongs_0 4 rfl rfl)
theorem dX1_mustBeSongs_7 : decode cX1_mustBeSongs 7 = .ok (.return_, 1) := dk_177 (dk_at dksX1_mustBeSongs_0 7 rfl rfl)
abbrev cX1_checkState : ByteArray := prog_1_method_7_code
def yX1_checkState : MethodName := ⟨RX1, "checkState", "(Z)V"⟩
def dkwX1_checkState_0 : List UInt8 := [26, 154, 0, 11, 187, 0, 66, 89, 183, 0, 68, 191, 177]
abbrev dktX1_checkState_0 : List UInt8 := dkwX1_checkState_0 ++ []
theorem dksX1_checkState_0 : cX1_checkState.data.toList.drop 0 = dktX1_checkState_0 := by decide +kernel
theorem dX1_checkState_0 : decode cX1_checkState 0 = .ok (.iload_n 0, 1) := dk_26 (dk_at dksX1_checkState_0 0 rfl rfl)
theorem dX1_checkState_1 : decode cX1_checkState 1 = .ok (.ifCond .ne 11, 3) := dk_154 0 11 (dk_at dksX1_checkState_0 1 rfl rfl)
theorem dX1_checkState_4 : decode cX1_checkState 4 = .ok (.new 66, 3) := dk_187 0 66 (dk_at dksX1_checkState_0 4 rfl rfl)
theorem dX1_checkState_7 : decode cX1_checkState 7 = .ok (.dup, 1) := dk_89 (dk_at dksX1_checkState_0 7 rfl rfl)
theorem dX1_checkState_8 : decode cX1_checkState 8 = .ok (.invokespecial 68, 3) := dk_183 0 68 (dk_at dksX1_checkState_0 8 rfl rfl)
theorem dX1_checkState_11 : decode cX1_checkState 11 = .ok (.athrow, 1) := dk_191 (dk_at dksX1_checkState_0 11 rfl rfl)
theorem dX1_checkState_12 : decode cX1_checkState 12 = .ok (.return_, 1) := dk_177 (dk_at dksX1_checkState_0 12 rfl rfl)
abbrev cX1_learn : ByteArray := prog_1_method_13_code
def yX1_learn : MethodName := ⟨RX1, "learn", "(II)I"⟩
def dkwX1_learn_1 : List UInt8 := [184, 0, 107, 172]
abbrev dktX1_learn_1 : List UInt8 := dkwX1_learn_1 ++ []
def dkwX1_learn_0 : List UInt8 := [42, 27, 182, 0, 100, 78, 28, 184, 0, 92, 45, 89, 180, 0, 104, 28, 128, 181, 0, 104, 45, 180, 0, 104]
abbrev dktX1_learn_0 : List UInt8 := dkwX1_learn_0 ++ dktX1_learn_1
theorem dksX1_learn_0 : cX1_learn.data.toList.drop 0 = dktX1_learn_0 := by decide +kernel
theorem dksX1_learn_1 : cX1_learn.data.toList.drop 24 = dktX1_learn_1 := dk_seg dksX1_learn_0 24 rfl rfl
theorem dX1_learn_0 : decode cX1_learn 0 = .ok (.aload_n 0, 1) := dk_42 (dk_at dksX1_learn_0 0 rfl rfl)
theorem dX1_learn_1 : decode cX1_learn 1 = .ok (.iload_n 1, 1) := dk_27 (dk_at dksX1_learn_0 1 rfl rfl)
theorem dX1_learn_2 : decode cX1_learn 2 = .ok (.invokevirtual 100, 3) := dk_182 0 100 (dk_at dksX1_learn_0 2 rfl rfl)
theorem dX1_learn_5 : decode cX1_learn 5 = .ok (.astore_n 3, 1) := dk_78 (dk_at dksX1_learn_0 5 rfl rfl)
theorem dX1_learn_6 : decode cX1_learn 6 = .ok (.iload_n 2, 1) := dk_28 (dk_at dksX1_learn_0 6 rfl rfl)
theorem dX1_learn_7 : decode cX1_learn 7 = .ok (.invokestatic 92, 3) := dk_184 0 92 (dk_at dksX1_learn_0 7 rfl rfl)
theorem dX1_learn_10 : decode cX1_learn 10 = .ok (.aload_n 3, 1) := dk_45 (dk_at dksX1_learn_0 10 rfl rfl)
theorem dX1_learn_11 : decode cX1_learn 11 = .ok (.dup, 1) := dk_89 (dk_at dksX1_learn_0 11 rfl rfl)
theorem dX1_learn_12 : decode cX1_learn 12 = .ok (.getfield 104, 3) := dk_180 0 104 (dk_at dksX1_learn_0 12 rfl rfl)
theorem dX1_learn_15 : decode cX1_learn 15 = .ok (.iload_n 2, 1) := dk_28 (dk_at dksX1_learn_0 15 rfl rfl)
theorem dX1_learn_16 : decode cX1_learn 16 = .ok (.ior, 1) := dk_128 (dk_at dksX1_learn_0 16 rfl rfl)
theorem dX1_learn_17 : decode cX1_learn 17 = .ok (.putfield 104, 3) := dk_181 0 104 (dk_at dksX1_learn_0 17 rfl rfl)
theorem dX1_learn_20 : decode cX1_learn 20 = .ok (.aload_n 3, 1) := dk_45 (dk_at dksX1_learn_0 20 rfl rfl)
theorem dX1_learn_21 : decode cX1_learn 21 = .ok (.getfield 104, 3) := dk_180 0 104 (dk_at dksX1_learn_0 21 rfl rfl)
theorem dX1_learn_24 : decode cX1_learn 24 = .ok (.invokestatic 107, 3) := dk_184 0 107 (dk_at dksX1_learn_1 0 rfl rfl)
theorem dX1_learn_27 : decode cX1_learn 27 = .ok (.ireturn, 1) := dk_172 (dk_at dksX1_learn_1 3 rfl rfl)
abbrev cX1_playerAt : ByteArray := prog_1_method_9_code
def yX1_playerAt : MethodName := ⟨RX1, "playerAt", "(I)LFirstdanceAgency$Player;"⟩
def dkwX1_playerAt_1 : List UInt8 := [192, 0, 83, 176]
abbrev dktX1_playerAt_1 : List UInt8 := dkwX1_playerAt_1 ++ []
def dkwX1_playerAt_0 : List UInt8 := [27, 42, 180, 0, 26, 185, 0, 72, 1, 0, 184, 0, 76, 42, 180, 0, 26, 27, 185, 0, 80, 2, 0]
abbrev dktX1_playerAt_0 : List UInt8 := dkwX1_playerAt_0 ++ dktX1_playerAt_1
theorem dksX1_playerAt_0 : cX1_playerAt.data.toList.drop 0 = dktX1_playerAt_0 := by decide +kernel
theorem dksX1_playerAt_1 : cX1_playerAt.data.toList.drop 23 = dktX1_playerAt_1 := dk_seg dksX1_playerAt_0 23 rfl rfl
theorem dX1_playerAt_0 : decode cX1_playerAt 0 = .ok (.iload_n 1, 1) := dk_27 (dk_at dksX1_playerAt_0 0 rfl rfl)
theorem dX1_playerAt_1 : decode cX1_playerAt 1 = .ok (.aload_n 0, 1) := dk_42 (dk_at dksX1_playerAt_0 1 rfl rfl)
theorem dX1_playerAt_2 : decode cX1_playerAt 2 = .ok (.getfield 26, 3) := dk_180 0 26 (dk_at dksX1_playerAt_0 2 rfl rfl)
theorem dX1_playerAt_5 : decode cX1_playerAt 5 = .ok (.invokeinterface 72 1, 5) := by decide +kernel
theorem dX1_playerAt_10 : decode cX1_playerAt 10 = .ok (.invokestatic 76, 3) := dk_184 0 76 (dk_at dksX1_playerAt_0 10 rfl rfl)
theorem dX1_playerAt_13 : decode cX1_playerAt 13 = .ok (.aload_n 0, 1) := dk_42 (dk_at dksX1_playerAt_0 13 rfl rfl)
theorem dX1_playerAt_14 : decode cX1_playerAt 14 = .ok (.getfield 26, 3) := dk_180 0 26 (dk_at dksX1_playerAt_0 14 rfl rfl)
theorem dX1_playerAt_17 : decode cX1_playerAt 17 = .ok (.iload_n 1, 1) := dk_27 (dk_at dksX1_playerAt_0 17 rfl rfl)
theorem dX1_playerAt_18 : decode cX1_playerAt 18 = .ok (.invokeinterface 80 2, 5) := by decide +kernel
theorem dX1_playerAt_23 : decode cX1_playerAt 23 = .ok (.checkcast 83, 3) := dk_192 0 83 (dk_at dksX1_playerAt_1 0 rfl rfl)
theorem dX1_playerAt_26 : decode cX1_playerAt 26 = .ok (.areturn, 1) := dk_176 (dk_at dksX1_playerAt_1 3 rfl rfl)
abbrev cX1_song : ByteArray := prog_1_method_14_code
def yX1_song : MethodName := ⟨RX1, "song", "(IIII)I"⟩
def dkwX1_song_3 : List UInt8 := [25, 5, 180, 0, 117, 172]
abbrev dktX1_song_3 : List UInt8 := dkwX1_song_3 ++ []
def dkwX1_song_2 : List UInt8 := [185, 0, 80, 2, 0, 192, 0, 48, 180, 0, 110, 183, 0, 50, 185, 0, 113, 3, 0, 192, 0, 48, 58, 5]
abbrev dktX1_song_2 : List UInt8 := dkwX1_song_2 ++ dktX1_song_3
def dkwX1_song_1 : List UInt8 := [16, 9, 184, 0, 88, 42, 180, 0, 32, 27, 187, 0, 48, 89, 28, 29, 21, 4, 42, 180, 0, 32, 27]
abbrev dktX1_song_1 : List UInt8 := dkwX1_song_1 ++ dktX1_song_2
def dkwX1_song_0 : List UInt8 := [27, 16, 16, 184, 0, 76, 28, 3, 16, 11, 184, 0, 88, 29, 3, 16, 9, 184, 0, 88, 21, 4, 5]
abbrev dktX1_song_0 : List UInt8 := dkwX1_song_0 ++ dktX1_song_1
theorem dksX1_song_0 : cX1_song.data.toList.drop 0 = dktX1_song_0 := by decide +kernel
theorem dksX1_song_1 : cX1_song.data.toList.drop 23 = dktX1_song_1 := dk_seg dksX1_song_0 23 rfl rfl
theorem dksX1_song_2 : cX1_song.data.toList.drop 46 = dktX1_song_2 := dk_seg dksX1_song_1 23 rfl rfl
theorem dksX1_song_3 : cX1_song.data.toList.drop 70 = dktX1_song_3 := dk_seg dksX1_song_2 24 rfl rfl
theorem dX1_song_0 : decode cX1_song 0 = .ok (.iload_n 1, 1) := dk_27 (dk_at dksX1_song_0 0 rfl rfl)
theorem dX1_song_1 : decode cX1_song 1 = .ok (.bipush 16, 2) := dk_16 16 (dk_at dksX1_song_0 1 rfl rfl)
theorem dX1_song_3 : decode cX1_song 3 = .ok (.invokestatic 76, 3) := dk_184 0 76 (dk_at dksX1_song_0 3 rfl rfl)
theorem dX1_song_6 : decode cX1_song 6 = .ok (.iload_n 2, 1) := dk_28 (dk_at dksX1_song_0 6 rfl rfl)
theorem dX1_song_7 : decode cX1_song 7 = .ok (.iconst 0, 1) := dk_3 (dk_at dksX1_song_0 7 rfl rfl)
theorem dX1_song_8 : decode cX1_song 8 = .ok (.bipush 11, 2) := dk_16 11 (dk_at dksX1_song_0 8 rfl rfl)
theorem dX1_song_10 : decode cX1_song 10 = .ok (.invokestatic 88, 3) := dk_184 0 88 (dk_at dksX1_song_0 10 rfl rfl)
theorem dX1_song_13 : decode cX1_song 13 = .ok (.iload_n 3, 1) := dk_29 (dk_at dksX1_song_0 13 rfl rfl)
theorem dX1_song_14 : decode cX1_song 14 = .ok (.iconst 0, 1) := dk_3 (dk_at dksX1_song_0 14 rfl rfl)
theorem dX1_song_15 : decode cX1_song 15 = .ok (.bipush 9, 2) := dk_16 9 (dk_at dksX1_song_0 15 rfl rfl)
theorem dX1_song_17 : decode cX1_song 17 = .ok (.invokestatic 88, 3) := dk_184 0 88 (dk_at dksX1_song_0 17 rfl rfl)
theorem dX1_song_20 : decode cX1_song 20 = .ok (.iload 4, 2) := dk_21 4 (dk_at dksX1_song_0 20 rfl rfl)
theorem dX1_song_22 : decode cX1_song 22 = .ok (.iconst 2, 1) := dk_5 (dk_at dksX1_song_0 22 rfl rfl)
theorem dX1_song_23 : decode cX1_song 23 = .ok (.bipush 9, 2) := dk_16 9 (dk_at dksX1_song_1 0 rfl rfl)
theorem dX1_song_25 : decode cX1_song 25 = .ok (.invokestatic 88, 3) := dk_184 0 88 (dk_at dksX1_song_1 2 rfl rfl)
theorem dX1_song_28 : decode cX1_song 28 = .ok (.aload_n 0, 1) := dk_42 (dk_at dksX1_song_1 5 rfl rfl)
theorem dX1_song_29 : decode cX1_song 29 = .ok (.getfield 32, 3) := dk_180 0 32 (dk_at dksX1_song_1 6 rfl rfl)
theorem dX1_song_32 : decode cX1_song 32 = .ok (.iload_n 1, 1) := dk_27 (dk_at dksX1_song_1 9 rfl rfl)
theorem dX1_song_33 : decode cX1_song 33 = .ok (.new 48, 3) := dk_187 0 48 (dk_at dksX1_song_1 10 rfl rfl)
theorem dX1_song_36 : decode cX1_song 36 = .ok (.dup, 1) := dk_89 (dk_at dksX1_song_1 13 rfl rfl)
theorem dX1_song_37 : decode cX1_song 37 = .ok (.iload_n 2, 1) := dk_28 (dk_at dksX1_song_1 14 rfl rfl)
theorem dX1_song_38 : decode cX1_song 38 = .ok (.iload_n 3, 1) := dk_29 (dk_at dksX1_song_1 15 rfl rfl)
theorem dX1_song_39 : decode cX1_song 39 = .ok (.iload 4, 2) := dk_21 4 (dk_at dksX1_song_1 16 rfl rfl)
theorem dX1_song_41 : decode cX1_song 41 = .ok (.aload_n 0, 1) := dk_42 (dk_at dksX1_song_1 18 rfl rfl)
theorem dX1_song_42 : decode cX1_song 42 = .ok (.getfield 32, 3) := dk_180 0 32 (dk_at dksX1_song_1 19 rfl rfl)
theorem dX1_song_45 : decode cX1_song 45 = .ok (.iload_n 1, 1) := dk_27 (dk_at dksX1_song_1 22 rfl rfl)
theorem dX1_song_46 : decode cX1_song 46 = .ok (.invokeinterface 80 2, 5) := by decide +kernel
theorem dX1_song_51 : decode cX1_song 51 = .ok (.checkcast 48, 3) := dk_192 0 48 (dk_at dksX1_song_2 5 rfl rfl)
theorem dX1_song_54 : decode cX1_song 54 = .ok (.getfield 110, 3) := dk_180 0 110 (dk_at dksX1_song_2 8 rfl rfl)
theorem dX1_song_57 : decode cX1_song 57 = .ok (.invokespecial 50, 3) := dk_183 0 50 (dk_at dksX1_song_2 11 rfl rfl)
theorem dX1_song_60 : decode cX1_song 60 = .ok (.invokeinterface 113 3, 5) := by decide +kernel
theorem dX1_song_65 : decode cX1_song 65 = .ok (.checkcast 48, 3) := dk_192 0 48 (dk_at dksX1_song_2 19 rfl rfl)
theorem dX1_song_68 : decode cX1_song 68 = .ok (.astore 5, 2) := dk_58 5 (dk_at dksX1_song_2 22 rfl rfl)
theorem dX1_song_70 : decode cX1_song 70 = .ok (.aload 5, 2) := dk_25 5 (dk_at dksX1_song_3 0 rfl rfl)
theorem dX1_song_72 : decode cX1_song 72 = .ok (.getfield 117, 3) := dk_180 0 117 (dk_at dksX1_song_3 2 rfl rfl)
theorem dX1_song_75 : decode cX1_song 75 = .ok (.ireturn, 1) := dk_172 (dk_at dksX1_song_3 5 rfl rfl)
abbrev cX1_feud : ByteArray := prog_1_method_15_code
def yX1_feud : MethodName := ⟨RX1, "feud", "(IIZ)Z"⟩
def dkwX1_feud_4 : List UInt8 := [27, 120, 2, 130, 126, 181, 0, 120, 21, 6, 172]
abbrev dktX1_feud_4 : List UInt8 := dkwX1_feud_4 ++ []
def dkwX1_feud_3 : List UInt8 := [25, 5, 29, 153, 0, 15, 25, 5, 180, 0, 120, 4, 27, 120, 128, 167, 0, 14, 25, 5, 180, 0, 120, 4]
abbrev dktX1_feud_3 : List UInt8 := dkwX1_feud_3 ++ dktX1_feud_4
def dkwX1_feud_2 : List UInt8 := [180, 0, 120, 4, 28, 120, 128, 167, 0, 14, 25, 4, 180, 0, 120, 4, 28, 120, 2, 130, 126, 181, 0, 120]
abbrev dktX1_feud_2 : List UInt8 := dkwX1_feud_2 ++ dktX1_feud_3
def dkwX1_feud_1 : List UInt8 := [184, 0, 62, 25, 4, 180, 0, 120, 28, 184, 0, 123, 54, 6, 25, 4, 29, 153, 0, 15, 25, 4]
abbrev dktX1_feud_1 : List UInt8 := dkwX1_feud_1 ++ dktX1_feud_2
def dkwX1_feud_0 : List UInt8 := [42, 27, 182, 0, 100, 58, 4, 42, 28, 182, 0, 100, 58, 5, 27, 28, 159, 0, 7, 4, 167, 0, 4, 3]
abbrev dktX1_feud_0 : List UInt8 := dkwX1_feud_0 ++ dktX1_feud_1
theorem dksX1_feud_0 : cX1_feud.data.toList.drop 0 = dktX1_feud_0 := by decide +kernel
theorem dksX1_feud_1 : cX1_feud.data.toList.drop 24 = dktX1_feud_1 := dk_seg dksX1_feud_0 24 rfl rfl
theorem dksX1_feud_2 : cX1_feud.data.toList.drop 46 = dktX1_feud_2 := dk_seg dksX1_feud_1 22 rfl rfl
theorem dksX1_feud_3 : cX1_feud.data.toList.drop 70 = dktX1_feud_3 := dk_seg dksX1_feud_2 24 rfl rfl
theorem dksX1_feud_4 : cX1_feud.data.toList.drop 94 = dktX1_feud_4 := dk_seg dksX1_feud_3 24 rfl rfl
theorem dX1_feud_0 : decode cX1_feud 0 = .ok (.aload_n 0, 1) := dk_42 (dk_at dksX1_feud_0 0 rfl rfl)
theorem dX1_feud_1 : decode cX1_feud 1 = .ok (.iload_n 1, 1) := dk_27 (dk_at dksX1_feud_0 1 rfl rfl)
theorem dX1_feud_2 : decode cX1_feud 2 = .ok (.invokevirtual 100, 3) := dk_182 0 100 (dk_at dksX1_feud_0 2 rfl rfl)
theorem dX1_feud_5 : decode cX1_feud 5 = .ok (.astore 4, 2) := dk_58 4 (dk_at dksX1_feud_0 5 rfl rfl)
theorem dX1_feud_7 : decode cX1_feud 7 = .ok (.aload_n 0, 1) := dk_42 (dk_at dksX1_feud_0 7 rfl rfl)
theorem dX1_feud_8 : decode cX1_feud 8 = .ok (.iload_n 2, 1) := dk_28 (dk_at dksX1_feud_0 8 rfl rfl)
theorem dX1_feud_9 : decode cX1_feud 9 = .ok (.invokevirtual 100, 3) := dk_182 0 100 (dk_at dksX1_feud_0 9 rfl rfl)
theorem dX1_feud_12 : decode cX1_feud 12 = .ok (.astore 5, 2) := dk_58 5 (dk_at dksX1_feud_0 12 rfl rfl)
theorem dX1_feud_14 : decode cX1_feud 14 = .ok (.iload_n 1, 1) := dk_27 (dk_at dksX1_feud_0 14 rfl rfl)
theorem dX1_feud_15 : decode cX1_feud 15 = .ok (.iload_n 2, 1) := dk_28 (dk_at dksX1_feud_0 15 rfl rfl)
theorem dX1_feud_16 : decode cX1_feud 16 = .ok (.if_icmp .eq 7, 3) := dk_159 0 7 (dk_at dksX1_feud_0 16 rfl rfl)
theorem dX1_feud_19 : decode cX1_feud 19 = .ok (.iconst 1, 1) := dk_4 (dk_at dksX1_feud_0 19 rfl rfl)
theorem dX1_feud_20 : decode cX1_feud 20 = .ok (.goto 4, 3) := dk_167 0 4 (dk_at dksX1_feud_0 20 rfl rfl)
theorem dX1_feud_23 : decode cX1_feud 23 = .ok (.iconst 0, 1) := dk_3 (dk_at dksX1_feud_0 23 rfl rfl)
theorem dX1_feud_24 : decode cX1_feud 24 = .ok (.invokestatic 62, 3) := dk_184 0 62 (dk_at dksX1_feud_1 0 rfl rfl)
theorem dX1_feud_27 : decode cX1_feud 27 = .ok (.aload 4, 2) := dk_25 4 (dk_at dksX1_feud_1 3 rfl rfl)
theorem dX1_feud_29 : decode cX1_feud 29 = .ok (.getfield 120, 3) := dk_180 0 120 (dk_at dksX1_feud_1 5 rfl rfl)
theorem dX1_feud_32 : decode cX1_feud 32 = .ok (.iload_n 2, 1) := dk_28 (dk_at dksX1_feud_1 8 rfl rfl)
theorem dX1_feud_33 : decode cX1_feud 33 = .ok (.invokestatic 123, 3) := dk_184 0 123 (dk_at dksX1_feud_1 9 rfl rfl)
theorem dX1_feud_36 : decode cX1_feud 36 = .ok (.istore 6, 2) := dk_54 6 (dk_at dksX1_feud_1 12 rfl rfl)
theorem dX1_feud_38 : decode cX1_feud 38 = .ok (.aload 4, 2) := dk_25 4 (dk_at dksX1_feud_1 14 rfl rfl)
theorem dX1_feud_40 : decode cX1_feud 40 = .ok (.iload_n 3, 1) := dk_29 (dk_at dksX1_feud_1 16 rfl rfl)
theorem dX1_feud_41 : decode cX1_feud 41 = .ok (.ifCond .eq 15, 3) := dk_153 0 15 (dk_at dksX1_feud_1 17 rfl rfl)
theorem dX1_feud_44 : decode cX1_feud 44 = .ok (.aload 4, 2) := dk_25 4 (dk_at dksX1_feud_1 20 rfl rfl)
theorem dX1_feud_46 : decode cX1_feud 46 = .ok (.getfield 120, 3) := dk_180 0 120 (dk_at dksX1_feud_2 0 rfl rfl)
theorem dX1_feud_49 : decode cX1_feud 49 = .ok (.iconst 1, 1) := dk_4 (dk_at dksX1_feud_2 3 rfl rfl)
theorem dX1_feud_50 : decode cX1_feud 50 = .ok (.iload_n 2, 1) := dk_28 (dk_at dksX1_feud_2 4 rfl rfl)
theorem dX1_feud_51 : decode cX1_feud 51 = .ok (.ishl, 1) := dk_120 (dk_at dksX1_feud_2 5 rfl rfl)
theorem dX1_feud_52 : decode cX1_feud 52 = .ok (.ior, 1) := dk_128 (dk_at dksX1_feud_2 6 rfl rfl)
theorem dX1_feud_53 : decode cX1_feud 53 = .ok (.goto 14, 3) := dk_167 0 14 (dk_at dksX1_feud_2 7 rfl rfl)
theorem dX1_feud_56 : decode cX1_feud 56 = .ok (.aload 4, 2) := dk_25 4 (dk_at dksX1_feud_2 10 rfl rfl)
theorem dX1_feud_58 : decode cX1_feud 58 = .ok (.getfield 120, 3) := dk_180 0 120 (dk_at dksX1_feud_2 12 rfl rfl)
theorem dX1_feud_61 : decode cX1_feud 61 = .ok (.iconst 1, 1) := dk_4 (dk_at dksX1_feud_2 15 rfl rfl)
theorem dX1_feud_62 : decode cX1_feud 62 = .ok (.iload_n 2, 1) := dk_28 (dk_at dksX1_feud_2 16 rfl rfl)
theorem dX1_feud_63 : decode cX1_feud 63 = .ok (.ishl, 1) := dk_120 (dk_at dksX1_feud_2 17 rfl rfl)
theorem dX1_feud_64 : decode cX1_feud 64 = .ok (.iconst (-1), 1) := dk_2 (dk_at dksX1_feud_2 18 rfl rfl)
theorem dX1_feud_65 : decode cX1_feud 65 = .ok (.ixor, 1) := dk_130 (dk_at dksX1_feud_2 19 rfl rfl)
theorem dX1_feud_66 : decode cX1_feud 66 = .ok (.iand, 1) := dk_126 (dk_at dksX1_feud_2 20 rfl rfl)
theorem dX1_feud_67 : decode cX1_feud 67 = .ok (.putfield 120, 3) := dk_181 0 120 (dk_at dksX1_feud_2 21 rfl rfl)
theorem dX1_feud_70 : decode cX1_feud 70 = .ok (.aload 5, 2) := dk_25 5 (dk_at dksX1_feud_3 0 rfl rfl)
theorem dX1_feud_72 : decode cX1_feud 72 = .ok (.iload_n 3, 1) := dk_29 (dk_at dksX1_feud_3 2 rfl rfl)
theorem dX1_feud_73 : decode cX1_feud 73 = .ok (.ifCond .eq 15, 3) := dk_153 0 15 (dk_at dksX1_feud_3 3 rfl rfl)
theorem dX1_feud_76 : decode cX1_feud 76 = .ok (.aload 5, 2) := dk_25 5 (dk_at dksX1_feud_3 6 rfl rfl)
theorem dX1_feud_78 : decode cX1_feud 78 = .ok (.getfield 120, 3) := dk_180 0 120 (dk_at dksX1_feud_3 8 rfl rfl)
theorem dX1_feud_81 : decode cX1_feud 81 = .ok (.iconst 1, 1) := dk_4 (dk_at dksX1_feud_3 11 rfl rfl)
theorem dX1_feud_82 : decode cX1_feud 82 = .ok (.iload_n 1, 1) := dk_27 (dk_at dksX1_feud_3 12 rfl rfl)
theorem dX1_feud_83 : decode cX1_feud 83 = .ok (.ishl, 1) := dk_120 (dk_at dksX1_feud_3 13 rfl rfl)
theorem dX1_feud_84 : decode cX1_feud 84 = .ok (.ior, 1) := dk_128 (dk_at dksX1_feud_3 14 rfl rfl)
theorem dX1_feud_85 : decode cX1_feud 85 = .ok (.goto 14, 3) := dk_167 0 14 (dk_at dksX1_feud_3 15 rfl rfl)
theorem dX1_feud_88 : decode cX1_feud 88 = .ok (.aload 5, 2) := dk_25 5 (dk_at dksX1_feud_3 18 rfl rfl)
theorem dX1_feud_90 : decode cX1_feud 90 = .ok (.getfield 120, 3) := dk_180 0 120 (dk_at dksX1_feud_3 20 rfl rfl)
theorem dX1_feud_93 : decode cX1_feud 93 = .ok (.iconst 1, 1) := dk_4 (dk_at dksX1_feud_3 23 rfl rfl)
theorem dX1_feud_94 : decode cX1_feud 94 = .ok (.iload_n 1, 1) := dk_27 (dk_at dksX1_feud_4 0 rfl rfl)
theorem dX1_feud_95 : decode cX1_feud 95 = .ok (.ishl, 1) := dk_120 (dk_at dksX1_feud_4 1 rfl rfl)
theorem dX1_feud_96 : decode cX1_feud 96 = .ok (.iconst (-1), 1) := dk_2 (dk_at dksX1_feud_4 2 rfl rfl)
theorem dX1_feud_97 : decode cX1_feud 97 = .ok (.ixor, 1) := dk_130 (dk_at dksX1_feud_4 3 rfl rfl)
theorem dX1_feud_98 : decode cX1_feud 98 = .ok (.iand, 1) := dk_126 (dk_at dksX1_feud_4 4 rfl rfl)
theorem dX1_feud_99 : decode cX1_feud 99 = .ok (.putfield 120, 3) := dk_181 0 120 (dk_at dksX1_feud_4 5 rfl rfl)
theorem dX1_feud_102 : decode cX1_feud 102 = .ok (.iload 6, 2) := dk_21 6 (dk_at dksX1_feud_4 8 rfl rfl)
theorem dX1_feud_104 : decode cX1_feud 104 = .ok (.ireturn, 1) := dk_172 (dk_at dksX1_feud_4 10 rfl rfl)
abbrev cX1_road : ByteArray := prog_1_method_16_code
def yX1_road : MethodName := ⟨RX1, "road", "(III)I"⟩
def dkwX1_road_2 : List UInt8 := [27, 28, 182, 0, 129, 172]
abbrev dktX1_road_2 : List UInt8 := dkwX1_road_2 ++ []
def dkwX1_road_1 : List UInt8 := [184, 0, 62, 29, 3, 16, 9, 184, 0, 88, 42, 180, 0, 38, 27, 28, 29, 182, 0, 127, 42, 180, 0, 38]
abbrev dktX1_road_1 : List UInt8 := dkwX1_road_1 ++ dktX1_road_2
def dkwX1_road_0 : List UInt8 := [27, 16, 6, 184, 0, 76, 28, 16, 6, 184, 0, 76, 27, 28, 159, 0, 7, 4, 167, 0, 4, 3]
abbrev dktX1_road_0 : List UInt8 := dkwX1_road_0 ++ dktX1_road_1
theorem dksX1_road_0 : cX1_road.data.toList.drop 0 = dktX1_road_0 := by decide +kernel
theorem dksX1_road_1 : cX1_road.data.toList.drop 22 = dktX1_road_1 := dk_seg dksX1_road_0 22 rfl rfl
theorem dksX1_road_2 : cX1_road.data.toList.drop 46 = dktX1_road_2 := dk_seg dksX1_road_1 24 rfl rfl
theorem dX1_road_0 : decode cX1_road 0 = .ok (.iload_n 1, 1) := dk_27 (dk_at dksX1_road_0 0 rfl rfl)
theorem dX1_road_1 : decode cX1_road 1 = .ok (.bipush 6, 2) := dk_16 6 (dk_at dksX1_road_0 1 rfl rfl)
theorem dX1_road_3 : decode cX1_road 3 = .ok (.invokestatic 76, 3) := dk_184 0 76 (dk_at dksX1_road_0 3 rfl rfl)
theorem dX1_road_6 : decode cX1_road 6 = .ok (.iload_n 2, 1) := dk_28 (dk_at dksX1_road_0 6 rfl rfl)
theorem dX1_road_7 : decode cX1_road 7 = .ok (.bipush 6, 2) := dk_16 6 (dk_at dksX1_road_0 7 rfl rfl)
theorem dX1_road_9 : decode cX1_road 9 = .ok (.invokestatic 76, 3) := dk_184 0 76 (dk_at dksX1_road_0 9 rfl rfl)
theorem dX1_road_12 : decode cX1_road 12 = .ok (.iload_n 1, 1) := dk_27 (dk_at dksX1_road_0 12 rfl rfl)
theorem dX1_road_13 : decode cX1_road 13 = .ok (.iload_n 2, 1) := dk_28 (dk_at dksX1_road_0 13 rfl rfl)
theorem dX1_road_14 : decode cX1_road 14 = .ok (.if_icmp .eq 7, 3) := dk_159 0 7 (dk_at dksX1_road_0 14 rfl rfl)
theorem dX1_road_17 : decode cX1_road 17 = .ok (.iconst 1, 1) := dk_4 (dk_at dksX1_road_0 17 rfl rfl)
theorem dX1_road_18 : decode cX1_road 18 = .ok (.goto 4, 3) := dk_167 0 4 (dk_at dksX1_road_0 18 rfl rfl)
theorem dX1_road_21 : decode cX1_road 21 = .ok (.iconst 0, 1) := dk_3 (dk_at dksX1_road_0 21 rfl rfl)
theorem dX1_road_22 : decode cX1_road 22 = .ok (.invokestatic 62, 3) := dk_184 0 62 (dk_at dksX1_road_1 0 rfl rfl)
theorem dX1_road_25 : decode cX1_road 25 = .ok (.iload_n 3, 1) := dk_29 (dk_at dksX1_road_1 3 rfl rfl)
theorem dX1_road_26 : decode cX1_road 26 = .ok (.iconst 0, 1) := dk_3 (dk_at dksX1_road_1 4 rfl rfl)
theorem dX1_road_27 : decode cX1_road 27 = .ok (.bipush 9, 2) := dk_16 9 (dk_at dksX1_road_1 5 rfl rfl)
theorem dX1_road_29 : decode cX1_road 29 = .ok (.invokestatic 88, 3) := dk_184 0 88 (dk_at dksX1_road_1 7 rfl rfl)
theorem dX1_road_32 : decode cX1_road 32 = .ok (.aload_n 0, 1) := dk_42 (dk_at dksX1_road_1 10 rfl rfl)
theorem dX1_road_33 : decode cX1_road 33 = .ok (.getfield 38, 3) := dk_180 0 38 (dk_at dksX1_road_1 11 rfl rfl)
theorem dX1_road_36 : decode cX1_road 36 = .ok (.iload_n 1, 1) := dk_27 (dk_at dksX1_road_1 14 rfl rfl)
theorem dX1_road_37 : decode cX1_road 37 = .ok (.iload_n 2, 1) := dk_28 (dk_at dksX1_road_1 15 rfl rfl)
theorem dX1_road_38 : decode cX1_road 38 = .ok (.iload_n 3, 1) := dk_29 (dk_at dksX1_road_1 16 rfl rfl)
theorem dX1_road_39 : decode cX1_road 39 = .ok (.invokevirtual 127, 3) := dk_182 0 127 (dk_at dksX1_road_1 17 rfl rfl)
theorem dX1_road_42 : decode cX1_road 42 = .ok (.aload_n 0, 1) := dk_42 (dk_at dksX1_road_1 20 rfl rfl)
theorem dX1_road_43 : decode cX1_road 43 = .ok (.getfield 38, 3) := dk_180 0 38 (dk_at dksX1_road_1 21 rfl rfl)
theorem dX1_road_46 : decode cX1_road 46 = .ok (.iload_n 1, 1) := dk_27 (dk_at dksX1_road_2 0 rfl rfl)
theorem dX1_road_47 : decode cX1_road 47 = .ok (.iload_n 2, 1) := dk_28 (dk_at dksX1_road_2 1 rfl rfl)
theorem dX1_road_48 : decode cX1_road 48 = .ok (.invokevirtual 129, 3) := dk_182 0 129 (dk_at dksX1_road_2 2 rfl rfl)
theorem dX1_road_51 : decode cX1_road 51 = .ok (.ireturn, 1) := dk_172 (dk_at dksX1_road_2 5 rfl rfl)
abbrev cX1_band : ByteArray := prog_1_method_17_code
def yX1_band : MethodName := ⟨RX1, "band", "(I)I"⟩
def dkwX1_band_3 : List UInt8 := [180, 0, 42, 185, 0, 72, 1, 0, 4, 100, 172]
abbrev dktX1_band_3 : List UInt8 := dkwX1_band_3 ++ []
def dkwX1_band_2 : List UInt8 := [162, 0, 7, 4, 167, 0, 4, 3, 184, 0, 96, 42, 180, 0, 42, 44, 185, 0, 53, 2, 0, 87, 42]
abbrev dktX1_band_2 : List UInt8 := dkwX1_band_2 ++ dktX1_band_3
def dkwX1_band_1 : List UInt8 := [163, 0, 7, 4, 167, 0, 4, 3, 184, 0, 62, 42, 180, 0, 42, 185, 0, 72, 1, 0, 16, 6]
abbrev dktX1_band_1 : List UInt8 := dkwX1_band_1 ++ dktX1_band_2
def dkwX1_band_0 : List UInt8 := [27, 4, 17, 2, 216, 184, 0, 88, 187, 0, 133, 89, 27, 183, 0, 135, 77, 44, 182, 0, 137, 8]
abbrev dktX1_band_0 : List UInt8 := dkwX1_band_0 ++ dktX1_band_1
theorem dksX1_band_0 : cX1_band.data.toList.drop 0 = dktX1_band_0 := by decide +kernel
theorem dksX1_band_1 : cX1_band.data.toList.drop 22 = dktX1_band_1 := dk_seg dksX1_band_0 22 rfl rfl
theorem dksX1_band_2 : cX1_band.data.toList.drop 44 = dktX1_band_2 := dk_seg dksX1_band_1 22 rfl rfl
theorem dksX1_band_3 : cX1_band.data.toList.drop 67 = dktX1_band_3 := dk_seg dksX1_band_2 23 rfl rfl
theorem dX1_band_0 : decode cX1_band 0 = .ok (.iload_n 1, 1) := dk_27 (dk_at dksX1_band_0 0 rfl rfl)
theorem dX1_band_1 : decode cX1_band 1 = .ok (.iconst 1, 1) := dk_4 (dk_at dksX1_band_0 1 rfl rfl)
theorem dX1_band_2 : decode cX1_band 2 = .ok (.sipush 728, 3) := dk_17 2 216 (dk_at dksX1_band_0 2 rfl rfl)
theorem dX1_band_5 : decode cX1_band 5 = .ok (.invokestatic 88, 3) := dk_184 0 88 (dk_at dksX1_band_0 5 rfl rfl)
theorem dX1_band_8 : decode cX1_band 8 = .ok (.new 133, 3) := dk_187 0 133 (dk_at dksX1_band_0 8 rfl rfl)
theorem dX1_band_11 : decode cX1_band 11 = .ok (.dup, 1) := dk_89 (dk_at dksX1_band_0 11 rfl rfl)
theorem dX1_band_12 : decode cX1_band 12 = .ok (.iload_n 1, 1) := dk_27 (dk_at dksX1_band_0 12 rfl rfl)
theorem dX1_band_13 : decode cX1_band 13 = .ok (.invokespecial 135, 3) := dk_183 0 135 (dk_at dksX1_band_0 13 rfl rfl)
theorem dX1_band_16 : decode cX1_band 16 = .ok (.astore_n 2, 1) := dk_77 (dk_at dksX1_band_0 16 rfl rfl)
theorem dX1_band_17 : decode cX1_band 17 = .ok (.aload_n 2, 1) := dk_44 (dk_at dksX1_band_0 17 rfl rfl)
theorem dX1_band_18 : decode cX1_band 18 = .ok (.invokevirtual 137, 3) := dk_182 0 137 (dk_at dksX1_band_0 18 rfl rfl)
theorem dX1_band_21 : decode cX1_band 21 = .ok (.iconst 5, 1) := dk_8 (dk_at dksX1_band_0 21 rfl rfl)
theorem dX1_band_22 : decode cX1_band 22 = .ok (.if_icmp .gt 7, 3) := dk_163 0 7 (dk_at dksX1_band_1 0 rfl rfl)
theorem dX1_band_25 : decode cX1_band 25 = .ok (.iconst 1, 1) := dk_4 (dk_at dksX1_band_1 3 rfl rfl)
theorem dX1_band_26 : decode cX1_band 26 = .ok (.goto 4, 3) := dk_167 0 4 (dk_at dksX1_band_1 4 rfl rfl)
theorem dX1_band_29 : decode cX1_band 29 = .ok (.iconst 0, 1) := dk_3 (dk_at dksX1_band_1 7 rfl rfl)
theorem dX1_band_30 : decode cX1_band 30 = .ok (.invokestatic 62, 3) := dk_184 0 62 (dk_at dksX1_band_1 8 rfl rfl)
theorem dX1_band_33 : decode cX1_band 33 = .ok (.aload_n 0, 1) := dk_42 (dk_at dksX1_band_1 11 rfl rfl)
theorem dX1_band_34 : decode cX1_band 34 = .ok (.getfield 42, 3) := dk_180 0 42 (dk_at dksX1_band_1 12 rfl rfl)
theorem dX1_band_37 : decode cX1_band 37 = .ok (.invokeinterface 72 1, 5) := by decide +kernel
theorem dX1_band_42 : decode cX1_band 42 = .ok (.bipush 6, 2) := dk_16 6 (dk_at dksX1_band_1 20 rfl rfl)
theorem dX1_band_44 : decode cX1_band 44 = .ok (.if_icmp .ge 7, 3) := dk_162 0 7 (dk_at dksX1_band_2 0 rfl rfl)
theorem dX1_band_47 : decode cX1_band 47 = .ok (.iconst 1, 1) := dk_4 (dk_at dksX1_band_2 3 rfl rfl)
theorem dX1_band_48 : decode cX1_band 48 = .ok (.goto 4, 3) := dk_167 0 4 (dk_at dksX1_band_2 4 rfl rfl)
theorem dX1_band_51 : decode cX1_band 51 = .ok (.iconst 0, 1) := dk_3 (dk_at dksX1_band_2 7 rfl rfl)
theorem dX1_band_52 : decode cX1_band 52 = .ok (.invokestatic 96, 3) := dk_184 0 96 (dk_at dksX1_band_2 8 rfl rfl)
theorem dX1_band_55 : decode cX1_band 55 = .ok (.aload_n 0, 1) := dk_42 (dk_at dksX1_band_2 11 rfl rfl)
theorem dX1_band_56 : decode cX1_band 56 = .ok (.getfield 42, 3) := dk_180 0 42 (dk_at dksX1_band_2 12 rfl rfl)
theorem dX1_band_59 : decode cX1_band 59 = .ok (.aload_n 2, 1) := dk_44 (dk_at dksX1_band_2 15 rfl rfl)
theorem dX1_band_60 : decode cX1_band 60 = .ok (.invokeinterface 53 2, 5) := by decide +kernel
theorem dX1_band_65 : decode cX1_band 65 = .ok (.pop, 1) := dk_87 (dk_at dksX1_band_2 21 rfl rfl)
theorem dX1_band_66 : decode cX1_band 66 = .ok (.aload_n 0, 1) := dk_42 (dk_at dksX1_band_2 22 rfl rfl)
theorem dX1_band_67 : decode cX1_band 67 = .ok (.getfield 42, 3) := dk_180 0 42 (dk_at dksX1_band_3 0 rfl rfl)
theorem dX1_band_70 : decode cX1_band 70 = .ok (.invokeinterface 72 1, 5) := by decide +kernel
theorem dX1_band_75 : decode cX1_band 75 = .ok (.iconst 1, 1) := dk_4 (dk_at dksX1_band_3 8 rfl rfl)
theorem dX1_band_76 : decode cX1_band 76 = .ok (.isub, 1) := dk_100 (dk_at dksX1_band_3 9 rfl rfl)
theorem dX1_band_77 : decode cX1_band 77 = .ok (.ireturn, 1) := dk_172 (dk_at dksX1_band_3 10 rfl rfl)
abbrev cX1_ask : ByteArray := prog_1_method_19_code
def yX1_ask : MethodName := ⟨RX1, "ask", "(IIIIII)I"⟩
def dkwX1_ask_6 : List UInt8 := [172]
abbrev dktX1_ask_6 : List UInt8 := dkwX1_ask_6 ++ []
def dkwX1_ask_5 : List UInt8 := [42, 180, 0, 156, 183, 0, 162, 185, 0, 53, 2, 0, 87, 42, 180, 0, 45, 185, 0, 72, 1, 0, 4, 100]
abbrev dktX1_ask_5 : List UInt8 := dkwX1_ask_5 ++ dktX1_ask_6
def dkwX1_ask_4 : List UInt8 := [167, 0, 4, 3, 184, 0, 96, 42, 180, 0, 45, 187, 0, 85, 89, 27, 28, 29, 21, 4, 21, 5, 21, 6]
abbrev dktX1_ask_4 : List UInt8 := dkwX1_ask_4 ++ dktX1_ask_5
def dkwX1_ask_3 : List UInt8 := [180, 0, 45, 185, 0, 72, 1, 0, 16, 14, 162, 0, 16, 42, 27, 28, 182, 0, 159, 154, 0, 7, 4]
abbrev dktX1_ask_3 : List UInt8 := dkwX1_ask_3 ++ dktX1_ask_4
def dkwX1_ask_2 : List UInt8 := [21, 4, 21, 5, 96, 16, 24, 163, 0, 7, 4, 167, 0, 4, 3, 184, 0, 62, 21, 6, 184, 0, 92, 42]
abbrev dktX1_ask_2 : List UInt8 := dkwX1_ask_2 ++ dktX1_ask_3
def dkwX1_ask_1 : List UInt8 := [17, 1, 109, 184, 0, 88, 21, 4, 16, 10, 16, 22, 184, 0, 88, 21, 5, 4, 16, 6, 184, 0, 88]
abbrev dktX1_ask_1 : List UInt8 := dkwX1_ask_1 ++ dktX1_ask_2
def dkwX1_ask_0 : List UInt8 := [27, 42, 180, 0, 42, 185, 0, 72, 1, 0, 184, 0, 76, 29, 16, 6, 184, 0, 76, 28, 42, 180, 0, 156]
abbrev dktX1_ask_0 : List UInt8 := dkwX1_ask_0 ++ dktX1_ask_1
theorem dksX1_ask_0 : cX1_ask.data.toList.drop 0 = dktX1_ask_0 := by decide +kernel
theorem dksX1_ask_1 : cX1_ask.data.toList.drop 24 = dktX1_ask_1 := dk_seg dksX1_ask_0 24 rfl rfl
theorem dksX1_ask_2 : cX1_ask.data.toList.drop 47 = dktX1_ask_2 := dk_seg dksX1_ask_1 23 rfl rfl
theorem dksX1_ask_3 : cX1_ask.data.toList.drop 71 = dktX1_ask_3 := dk_seg dksX1_ask_2 24 rfl rfl
theorem dksX1_ask_4 : cX1_ask.data.toList.drop 94 = dktX1_ask_4 := dk_seg dksX1_ask_3 23 rfl rfl
theorem dksX1_ask_5 : cX1_ask.data.toList.drop 118 = dktX1_ask_5 := dk_seg dksX1_ask_4 24 rfl rfl
theorem dksX1_ask_6 : cX1_ask.data.toList.drop 142 = dktX1_ask_6 := dk_seg dksX1_ask_5 24 rfl rfl
theorem dX1_ask_0 : decode cX1_ask 0 = .ok (.iload_n 1, 1) := dk_27 (dk_at dksX1_ask_0 0 rfl rfl)
theorem dX1_ask_1 : decode cX1_ask 1 = .ok (.aload_n 0, 1) := dk_42 (dk_at dksX1_ask_0 1 rfl rfl)
theorem dX1_ask_2 : decode cX1_ask 2 = .ok (.getfield 42, 3) := dk_180 0 42 (dk_at dksX1_ask_0 2 rfl rfl)
theorem dX1_ask_5 : decode cX1_ask 5 = .ok (.invokeinterface 72 1, 5) := by decide +kernel
theorem dX1_ask_10 : decode cX1_ask 10 = .ok (.invokestatic 76, 3) := dk_184 0 76 (dk_at dksX1_ask_0 10 rfl rfl)
theorem dX1_ask_13 : decode cX1_ask 13 = .ok (.iload_n 3, 1) := dk_29 (dk_at dksX1_ask_0 13 rfl rfl)
theorem dX1_ask_14 : decode cX1_ask 14 = .ok (.bipush 6, 2) := dk_16 6 (dk_at dksX1_ask_0 14 rfl rfl)
theorem dX1_ask_16 : decode cX1_ask 16 = .ok (.invokestatic 76, 3) := dk_184 0 76 (dk_at dksX1_ask_0 16 rfl rfl)
theorem dX1_ask_19 : decode cX1_ask 19 = .ok (.iload_n 2, 1) := dk_28 (dk_at dksX1_ask_0 19 rfl rfl)
theorem dX1_ask_20 : decode cX1_ask 20 = .ok (.aload_n 0, 1) := dk_42 (dk_at dksX1_ask_0 20 rfl rfl)
theorem dX1_ask_21 : decode cX1_ask 21 = .ok (.getfield 156, 3) := dk_180 0 156 (dk_at dksX1_ask_0 21 rfl rfl)
theorem dX1_ask_24 : decode cX1_ask 24 = .ok (.sipush 365, 3) := dk_17 1 109 (dk_at dksX1_ask_1 0 rfl rfl)
theorem dX1_ask_27 : decode cX1_ask 27 = .ok (.invokestatic 88, 3) := dk_184 0 88 (dk_at dksX1_ask_1 3 rfl rfl)
theorem dX1_ask_30 : decode cX1_ask 30 = .ok (.iload 4, 2) := dk_21 4 (dk_at dksX1_ask_1 6 rfl rfl)
theorem dX1_ask_32 : decode cX1_ask 32 = .ok (.bipush 10, 2) := dk_16 10 (dk_at dksX1_ask_1 8 rfl rfl)
theorem dX1_ask_34 : decode cX1_ask 34 = .ok (.bipush 22, 2) := dk_16 22 (dk_at dksX1_ask_1 10 rfl rfl)
theorem dX1_ask_36 : decode cX1_ask 36 = .ok (.invokestatic 88, 3) := dk_184 0 88 (dk_at dksX1_ask_1 12 rfl rfl)
theorem dX1_ask_39 : decode cX1_ask 39 = .ok (.iload 5, 2) := dk_21 5 (dk_at dksX1_ask_1 15 rfl rfl)
theorem dX1_ask_41 : decode cX1_ask 41 = .ok (.iconst 1, 1) := dk_4 (dk_at dksX1_ask_1 17 rfl rfl)
theorem dX1_ask_42 : decode cX1_ask 42 = .ok (.bipush 6, 2) := dk_16 6 (dk_at dksX1_ask_1 18 rfl rfl)
theorem dX1_ask_44 : decode cX1_ask 44 = .ok (.invokestatic 88, 3) := dk_184 0 88 (dk_at dksX1_ask_1 20 rfl rfl)
theorem dX1_ask_47 : decode cX1_ask 47 = .ok (.iload 4, 2) := dk_21 4 (dk_at dksX1_ask_2 0 rfl rfl)
theorem dX1_ask_49 : decode cX1_ask 49 = .ok (.iload 5, 2) := dk_21 5 (dk_at dksX1_ask_2 2 rfl rfl)
theorem dX1_ask_51 : decode cX1_ask 51 = .ok (.iadd, 1) := dk_96 (dk_at dksX1_ask_2 4 rfl rfl)
theorem dX1_ask_52 : decode cX1_ask 52 = .ok (.bipush 24, 2) := dk_16 24 (dk_at dksX1_ask_2 5 rfl rfl)
theorem dX1_ask_54 : decode cX1_ask 54 = .ok (.if_icmp .gt 7, 3) := dk_163 0 7 (dk_at dksX1_ask_2 7 rfl rfl)
theorem dX1_ask_57 : decode cX1_ask 57 = .ok (.iconst 1, 1) := dk_4 (dk_at dksX1_ask_2 10 rfl rfl)
theorem dX1_ask_58 : decode cX1_ask 58 = .ok (.goto 4, 3) := dk_167 0 4 (dk_at dksX1_ask_2 11 rfl rfl)
theorem dX1_ask_61 : decode cX1_ask 61 = .ok (.iconst 0, 1) := dk_3 (dk_at dksX1_ask_2 14 rfl rfl)
theorem dX1_ask_62 : decode cX1_ask 62 = .ok (.invokestatic 62, 3) := dk_184 0 62 (dk_at dksX1_ask_2 15 rfl rfl)
theorem dX1_ask_65 : decode cX1_ask 65 = .ok (.iload 6, 2) := dk_21 6 (dk_at dksX1_ask_2 18 rfl rfl)
theorem dX1_ask_67 : decode cX1_ask 67 = .ok (.invokestatic 92, 3) := dk_184 0 92 (dk_at dksX1_ask_2 20 rfl rfl)
theorem dX1_ask_70 : decode cX1_ask 70 = .ok (.aload_n 0, 1) := dk_42 (dk_at dksX1_ask_2 23 rfl rfl)
theorem dX1_ask_71 : decode cX1_ask 71 = .ok (.getfield 45, 3) := dk_180 0 45 (dk_at dksX1_ask_3 0 rfl rfl)
theorem dX1_ask_74 : decode cX1_ask 74 = .ok (.invokeinterface 72 1, 5) := by decide +kernel
theorem dX1_ask_79 : decode cX1_ask 79 = .ok (.bipush 14, 2) := dk_16 14 (dk_at dksX1_ask_3 8 rfl rfl)
theorem dX1_ask_81 : decode cX1_ask 81 = .ok (.if_icmp .ge 16, 3) := dk_162 0 16 (dk_at dksX1_ask_3 10 rfl rfl)
theorem dX1_ask_84 : decode cX1_ask 84 = .ok (.aload_n 0, 1) := dk_42 (dk_at dksX1_ask_3 13 rfl rfl)
theorem dX1_ask_85 : decode cX1_ask 85 = .ok (.iload_n 1, 1) := dk_27 (dk_at dksX1_ask_3 14 rfl rfl)
theorem dX1_ask_86 : decode cX1_ask 86 = .ok (.iload_n 2, 1) := dk_28 (dk_at dksX1_ask_3 15 rfl rfl)
theorem dX1_ask_87 : decode cX1_ask 87 = .ok (.invokevirtual 159, 3) := dk_182 0 159 (dk_at dksX1_ask_3 16 rfl rfl)
theorem dX1_ask_90 : decode cX1_ask 90 = .ok (.ifCond .ne 7, 3) := dk_154 0 7 (dk_at dksX1_ask_3 19 rfl rfl)
theorem dX1_ask_93 : decode cX1_ask 93 = .ok (.iconst 1, 1) := dk_4 (dk_at dksX1_ask_3 22 rfl rfl)
theorem dX1_ask_94 : decode cX1_ask 94 = .ok (.goto 4, 3) := dk_167 0 4 (dk_at dksX1_ask_4 0 rfl rfl)
theorem dX1_ask_97 : decode cX1_ask 97 = .ok (.iconst 0, 1) := dk_3 (dk_at dksX1_ask_4 3 rfl rfl)
theorem dX1_ask_98 : decode cX1_ask 98 = .ok (.invokestatic 96, 3) := dk_184 0 96 (dk_at dksX1_ask_4 4 rfl rfl)
theorem dX1_ask_101 : decode cX1_ask 101 = .ok (.aload_n 0, 1) := dk_42 (dk_at dksX1_ask_4 7 rfl rfl)
theorem dX1_ask_102 : decode cX1_ask 102 = .ok (.getfield 45, 3) := dk_180 0 45 (dk_at dksX1_ask_4 8 rfl rfl)
theorem dX1_ask_105 : decode cX1_ask 105 = .ok (.new 85, 3) := dk_187 0 85 (dk_at dksX1_ask_4 11 rfl rfl)
theorem dX1_ask_108 : decode cX1_ask 108 = .ok (.dup, 1) := dk_89 (dk_at dksX1_ask_4 14 rfl rfl)
theorem dX1_ask_109 : decode cX1_ask 109 = .ok (.iload_n 1, 1) := dk_27 (dk_at dksX1_ask_4 15 rfl rfl)
theorem dX1_ask_110 : decode cX1_ask 110 = .ok (.iload_n 2, 1) := dk_28 (dk_at dksX1_ask_4 16 rfl rfl)
theorem dX1_ask_111 : decode cX1_ask 111 = .ok (.iload_n 3, 1) := dk_29 (dk_at dksX1_ask_4 17 rfl rfl)
theorem dX1_ask_112 : decode cX1_ask 112 = .ok (.iload 4, 2) := dk_21 4 (dk_at dksX1_ask_4 18 rfl rfl)
theorem dX1_ask_114 : decode cX1_ask 114 = .ok (.iload 5, 2) := dk_21 5 (dk_at dksX1_ask_4 20 rfl rfl)
theorem dX1_ask_116 : decode cX1_ask 116 = .ok (.iload 6, 2) := dk_21 6 (dk_at dksX1_ask_4 22 rfl rfl)
theorem dX1_ask_118 : decode cX1_ask 118 = .ok (.aload_n 0, 1) := dk_42 (dk_at dksX1_ask_5 0 rfl rfl)
theorem dX1_ask_119 : decode cX1_ask 119 = .ok (.getfield 156, 3) := dk_180 0 156 (dk_at dksX1_ask_5 1 rfl rfl)
theorem dX1_ask_122 : decode cX1_ask 122 = .ok (.invokespecial 162, 3) := dk_183 0 162 (dk_at dksX1_ask_5 4 rfl rfl)
theorem dX1_ask_125 : decode cX1_ask 125 = .ok (.invokeinterface 53 2, 5) := by decide +kernel
theorem dX1_ask_130 : decode cX1_ask 130 = .ok (.pop, 1) := dk_87 (dk_at dksX1_ask_5 12 rfl rfl)
theorem dX1_ask_131 : decode cX1_ask 131 = .ok (.aload_n 0, 1) := dk_42 (dk_at dksX1_ask_5 13 rfl rfl)
theorem dX1_ask_132 : decode cX1_ask 132 = .ok (.getfield 45, 3) := dk_180 0 45 (dk_at dksX1_ask_5 14 rfl rfl)
theorem dX1_ask_135 : decode cX1_ask 135 = .ok (.invokeinterface 72 1, 5) := by decide +kernel
theorem dX1_ask_140 : decode cX1_ask 140 = .ok (.iconst 1, 1) := dk_4 (dk_at dksX1_ask_5 22 rfl rfl)
theorem dX1_ask_141 : decode cX1_ask 141 = .ok (.isub, 1) := dk_100 (dk_at dksX1_ask_5 23 rfl rfl)
theorem dX1_ask_142 : decode cX1_ask 142 = .ok (.ireturn, 1) := dk_172 (dk_at dksX1_ask_6 0 rfl rfl)
abbrev cX1_isFixed : ByteArray := prog_1_method_18_code
def yX1_isFixed : MethodName := ⟨RX1, "isFixed", "(II)Z"⟩
def dkwX1_isFixed_3 : List UInt8 := [3, 172]
abbrev dktX1_isFixed_3 : List UInt8 := dkwX1_isFixed_3 ++ []
def dkwX1_isFixed_2 : List UInt8 := [180, 0, 150, 27, 160, 0, 14, 25, 4, 180, 0, 153, 28, 160, 0, 5, 4, 172, 132, 3, 1, 167, 255, 194]
abbrev dktX1_isFixed_2 : List UInt8 := dkwX1_isFixed_2 ++ dktX1_isFixed_3
def dkwX1_isFixed_1 : List UInt8 := [185, 0, 80, 2, 0, 192, 0, 85, 58, 4, 25, 4, 178, 0, 140, 182, 0, 146, 153, 0, 23, 25, 4]
abbrev dktX1_isFixed_1 : List UInt8 := dkwX1_isFixed_1 ++ dktX1_isFixed_2
def dkwX1_isFixed_0 : List UInt8 := [3, 62, 29, 42, 180, 0, 45, 185, 0, 72, 1, 0, 162, 0, 55, 42, 180, 0, 45, 29]
abbrev dktX1_isFixed_0 : List UInt8 := dkwX1_isFixed_0 ++ dktX1_isFixed_1
theorem dksX1_isFixed_0 : cX1_isFixed.data.toList.drop 0 = dktX1_isFixed_0 := by decide +kernel
theorem dksX1_isFixed_1 : cX1_isFixed.data.toList.drop 20 = dktX1_isFixed_1 := dk_seg dksX1_isFixed_0 20 rfl rfl
theorem dksX1_isFixed_2 : cX1_isFixed.data.toList.drop 43 = dktX1_isFixed_2 := dk_seg dksX1_isFixed_1 23 rfl rfl
theorem dksX1_isFixed_3 : cX1_isFixed.data.toList.drop 67 = dktX1_isFixed_3 := dk_seg dksX1_isFixed_2 24 rfl rfl
theorem dX1_isFixed_0 : decode cX1_isFixed 0 = .ok (.iconst 0, 1) := dk_3 (dk_at dksX1_isFixed_0 0 rfl rfl)
theorem dX1_isFixed_1 : decode cX1_isFixed 1 = .ok (.istore_n 3, 1) := dk_62 (dk_at dksX1_isFixed_0 1 rfl rfl)
theorem dX1_isFixed_2 : decode cX1_isFixed 2 = .ok (.iload_n 3, 1) := dk_29 (dk_at dksX1_isFixed_0 2 rfl rfl)
theorem dX1_isFixed_3 : decode cX1_isFixed 3 = .ok (.aload_n 0, 1) := dk_42 (dk_at dksX1_isFixed_0 3 rfl rfl)
theorem dX1_isFixed_4 : decode cX1_isFixed 4 = .ok (.getfield 45, 3) := dk_180 0 45 (dk_at dksX1_isFixed_0 4 rfl rfl)
theorem dX1_isFixed_7 : decode cX1_isFixed 7 = .ok (.invokeinterface 72 1, 5) := by decide +kernel
theorem dX1_isFixed_12 : decode cX1_isFixed 12 = .ok (.if_icmp .ge 55, 3) := dk_162 0 55 (dk_at dksX1_isFixed_0 12 rfl rfl)
theorem dX1_isFixed_15 : decode cX1_isFixed 15 = .ok (.aload_n 0, 1) := dk_42 (dk_at dksX1_isFixed_0 15 rfl rfl)
theorem dX1_isFixed_16 : decode cX1_isFixed 16 = .ok (.getfield 45, 3) := dk_180 0 45 (dk_at dksX1_isFixed_0 16 rfl rfl)
theorem dX1_isFixed_19 : decode cX1_isFixed 19 = .ok (.iload_n 3, 1) := dk_29 (dk_at dksX1_isFixed_0 19 rfl rfl)
theorem dX1_isFixed_20 : decode cX1_isFixed 20 = .ok (.invokeinterface 80 2, 5) := by decide +kernel
theorem dX1_isFixed_25 : decode cX1_isFixed 25 = .ok (.checkcast 85, 3) := dk_192 0 85 (dk_at dksX1_isFixed_1 5 rfl rfl)
theorem dX1_isFixed_28 : decode cX1_isFixed 28 = .ok (.astore 4, 2) := dk_58 4 (dk_at dksX1_isFixed_1 8 rfl rfl)
theorem dX1_isFixed_30 : decode cX1_isFixed 30 = .ok (.aload 4, 2) := dk_25 4 (dk_at dksX1_isFixed_1 10 rfl rfl)
theorem dX1_isFixed_32 : decode cX1_isFixed 32 = .ok (.getstatic 140, 3) := dk_178 0 140 (dk_at dksX1_isFixed_1 12 rfl rfl)
theorem dX1_isFixed_35 : decode cX1_isFixed 35 = .ok (.invokevirtual 146, 3) := dk_182 0 146 (dk_at dksX1_isFixed_1 15 rfl rfl)
theorem dX1_isFixed_38 : decode cX1_isFixed 38 = .ok (.ifCond .eq 23, 3) := dk_153 0 23 (dk_at dksX1_isFixed_1 18 rfl rfl)
theorem dX1_isFixed_41 : decode cX1_isFixed 41 = .ok (.aload 4, 2) := dk_25 4 (dk_at dksX1_isFixed_1 21 rfl rfl)
theorem dX1_isFixed_43 : decode cX1_isFixed 43 = .ok (.getfield 150, 3) := dk_180 0 150 (dk_at dksX1_isFixed_2 0 rfl rfl)
theorem dX1_isFixed_46 : decode cX1_isFixed 46 = .ok (.iload_n 1, 1) := dk_27 (dk_at dksX1_isFixed_2 3 rfl rfl)
theorem dX1_isFixed_47 : decode cX1_isFixed 47 = .ok (.if_icmp .ne 14, 3) := dk_160 0 14 (dk_at dksX1_isFixed_2 4 rfl rfl)
theorem dX1_isFixed_50 : decode cX1_isFixed 50 = .ok (.aload 4, 2) := dk_25 4 (dk_at dksX1_isFixed_2 7 rfl rfl)
theorem dX1_isFixed_52 : decode cX1_isFixed 52 = .ok (.getfield 153, 3) := dk_180 0 153 (dk_at dksX1_isFixed_2 9 rfl rfl)
theorem dX1_isFixed_55 : decode cX1_isFixed 55 = .ok (.iload_n 2, 1) := dk_28 (dk_at dksX1_isFixed_2 12 rfl rfl)
theorem dX1_isFixed_56 : decode cX1_isFixed 56 = .ok (.if_icmp .ne 5, 3) := dk_160 0 5 (dk_at dksX1_isFixed_2 13 rfl rfl)
theorem dX1_isFixed_59 : decode cX1_isFixed 59 = .ok (.iconst 1, 1) := dk_4 (dk_at dksX1_isFixed_2 16 rfl rfl)
theorem dX1_isFixed_60 : decode cX1_isFixed 60 = .ok (.ireturn, 1) := dk_172 (dk_at dksX1_isFixed_2 17 rfl rfl)
theorem dX1_isFixed_61 : decode cX1_isFixed 61 = .ok (.iinc 3 1, 3) := dk_132 3 1 (dk_at dksX1_isFixed_2 18 rfl rfl)
theorem dX1_isFixed_64 : decode cX1_isFixed 64 = .ok (.goto (-62), 3) := dk_167 255 194 (dk_at dksX1_isFixed_2 21 rfl rfl)
theorem dX1_isFixed_67 : decode cX1_isFixed 67 = .ok (.iconst 0, 1) := dk_3 (dk_at dksX1_isFixed_3 0 rfl rfl)
theorem dX1_isFixed_68 : decode cX1_isFixed 68 = .ok (.ireturn, 1) := dk_172 (dk_at dksX1_isFixed_3 1 rfl rfl)
abbrev cX1_fix : ByteArray := prog_1_method_30_code
def yX1_fix : MethodName := ⟨RX1, "fix", "(I)I"⟩
def dkwX1_fix_5 : List UInt8 := [25, 5, 180, 0, 225, 181, 0, 225, 132, 4, 1, 167, 255, 191, 44, 180, 0, 231, 172]
abbrev dktX1_fix_5 : List UInt8 := dkwX1_fix_5 ++ []
def dkwX1_fix_4 : List UInt8 := [25, 5, 25, 5, 44, 180, 0, 150, 44, 180, 0, 153, 182, 0, 219, 153, 0, 9, 178, 0, 252, 167, 0, 8]
abbrev dktX1_fix_4 : List UInt8 := dkwX1_fix_4 ++ dktX1_fix_5
def dkwX1_fix_3 : List UInt8 := [185, 0, 72, 1, 0, 162, 0, 57, 42, 180, 0, 45, 21, 4, 185, 0, 80, 2, 0, 192, 0, 85, 58, 5]
abbrev dktX1_fix_3 : List UInt8 := dkwX1_fix_3 ++ dktX1_fix_4
def dkwX1_fix_2 : List UInt8 := [182, 0, 245, 44, 44, 180, 0, 231, 8, 108, 181, 0, 249, 3, 54, 4, 21, 4, 42, 180, 0, 45]
abbrev dktX1_fix_2 : List UInt8 := dkwX1_fix_2 ++ dktX1_fix_3
def dkwX1_fix_1 : List UInt8 := [182, 0, 241, 78, 45, 180, 0, 208, 2, 159, 0, 7, 4, 167, 0, 4, 3, 184, 0, 96, 42, 27, 45]
abbrev dktX1_fix_1 : List UInt8 := dkwX1_fix_1 ++ dktX1_fix_2
def dkwX1_fix_0 : List UInt8 := [42, 27, 182, 0, 234, 77, 42, 27, 182, 0, 238, 154, 0, 7, 4, 167, 0, 4, 3, 184, 0, 96, 42, 27]
abbrev dktX1_fix_0 : List UInt8 := dkwX1_fix_0 ++ dktX1_fix_1
theorem dksX1_fix_0 : cX1_fix.data.toList.drop 0 = dktX1_fix_0 := by decide +kernel
theorem dksX1_fix_1 : cX1_fix.data.toList.drop 24 = dktX1_fix_1 := dk_seg dksX1_fix_0 24 rfl rfl
theorem dksX1_fix_2 : cX1_fix.data.toList.drop 47 = dktX1_fix_2 := dk_seg dksX1_fix_1 23 rfl rfl
theorem dksX1_fix_3 : cX1_fix.data.toList.drop 69 = dktX1_fix_3 := dk_seg dksX1_fix_2 22 rfl rfl
theorem dksX1_fix_4 : cX1_fix.data.toList.drop 93 = dktX1_fix_4 := dk_seg dksX1_fix_3 24 rfl rfl
theorem dksX1_fix_5 : cX1_fix.data.toList.drop 117 = dktX1_fix_5 := dk_seg dksX1_fix_4 24 rfl rfl
theorem dX1_fix_0 : decode cX1_fix 0 = .ok (.aload_n 0, 1) := dk_42 (dk_at dksX1_fix_0 0 rfl rfl)
theorem dX1_fix_1 : decode cX1_fix 1 = .ok (.iload_n 1, 1) := dk_27 (dk_at dksX1_fix_0 1 rfl rfl)
theorem dX1_fix_2 : decode cX1_fix 2 = .ok (.invokevirtual 234, 3) := dk_182 0 234 (dk_at dksX1_fix_0 2 rfl rfl)
theorem dX1_fix_5 : decode cX1_fix 5 = .ok (.astore_n 2, 1) := dk_77 (dk_at dksX1_fix_0 5 rfl rfl)
theorem dX1_fix_6 : decode cX1_fix 6 = .ok (.aload_n 0, 1) := dk_42 (dk_at dksX1_fix_0 6 rfl rfl)
theorem dX1_fix_7 : decode cX1_fix 7 = .ok (.iload_n 1, 1) := dk_27 (dk_at dksX1_fix_0 7 rfl rfl)
theorem dX1_fix_8 : decode cX1_fix 8 = .ok (.invokevirtual 238, 3) := dk_182 0 238 (dk_at dksX1_fix_0 8 rfl rfl)
theorem dX1_fix_11 : decode cX1_fix 11 = .ok (.ifCond .ne 7, 3) := dk_154 0 7 (dk_at dksX1_fix_0 11 rfl rfl)
theorem dX1_fix_14 : decode cX1_fix 14 = .ok (.iconst 1, 1) := dk_4 (dk_at dksX1_fix_0 14 rfl rfl)
theorem dX1_fix_15 : decode cX1_fix 15 = .ok (.goto 4, 3) := dk_167 0 4 (dk_at dksX1_fix_0 15 rfl rfl)
theorem dX1_fix_18 : decode cX1_fix 18 = .ok (.iconst 0, 1) := dk_3 (dk_at dksX1_fix_0 18 rfl rfl)
theorem dX1_fix_19 : decode cX1_fix 19 = .ok (.invokestatic 96, 3) := dk_184 0 96 (dk_at dksX1_fix_0 19 rfl rfl)
theorem dX1_fix_22 : decode cX1_fix 22 = .ok (.aload_n 0, 1) := dk_42 (dk_at dksX1_fix_0 22 rfl rfl)
theorem dX1_fix_23 : decode cX1_fix 23 = .ok (.iload_n 1, 1) := dk_27 (dk_at dksX1_fix_0 23 rfl rfl)
theorem dX1_fix_24 : decode cX1_fix 24 = .ok (.invokevirtual 241, 3) := dk_182 0 241 (dk_at dksX1_fix_1 0 rfl rfl)
theorem dX1_fix_27 : decode cX1_fix 27 = .ok (.astore_n 3, 1) := dk_78 (dk_at dksX1_fix_1 3 rfl rfl)
theorem dX1_fix_28 : decode cX1_fix 28 = .ok (.aload_n 3, 1) := dk_45 (dk_at dksX1_fix_1 4 rfl rfl)
theorem dX1_fix_29 : decode cX1_fix 29 = .ok (.getfield 208, 3) := dk_180 0 208 (dk_at dksX1_fix_1 5 rfl rfl)
theorem dX1_fix_32 : decode cX1_fix 32 = .ok (.iconst (-1), 1) := dk_2 (dk_at dksX1_fix_1 8 rfl rfl)
theorem dX1_fix_33 : decode cX1_fix 33 = .ok (.if_icmp .eq 7, 3) := dk_159 0 7 (dk_at dksX1_fix_1 9 rfl rfl)
theorem dX1_fix_36 : decode cX1_fix 36 = .ok (.iconst 1, 1) := dk_4 (dk_at dksX1_fix_1 12 rfl rfl)
theorem dX1_fix_37 : decode cX1_fix 37 = .ok (.goto 4, 3) := dk_167 0 4 (dk_at dksX1_fix_1 13 rfl rfl)
theorem dX1_fix_40 : decode cX1_fix 40 = .ok (.iconst 0, 1) := dk_3 (dk_at dksX1_fix_1 16 rfl rfl)
theorem dX1_fix_41 : decode cX1_fix 41 = .ok (.invokestatic 96, 3) := dk_184 0 96 (dk_at dksX1_fix_1 17 rfl rfl)
theorem dX1_fix_44 : decode cX1_fix 44 = .ok (.aload_n 0, 1) := dk_42 (dk_at dksX1_fix_1 20 rfl rfl)
theorem dX1_fix_45 : decode cX1_fix 45 = .ok (.iload_n 1, 1) := dk_27 (dk_at dksX1_fix_1 21 rfl rfl)
theorem dX1_fix_46 : decode cX1_fix 46 = .ok (.aload_n 3, 1) := dk_45 (dk_at dksX1_fix_1 22 rfl rfl)
theorem dX1_fix_47 : decode cX1_fix 47 = .ok (.invokevirtual 245, 3) := dk_182 0 245 (dk_at dksX1_fix_2 0 rfl rfl)
theorem dX1_fix_50 : decode cX1_fix 50 = .ok (.aload_n 2, 1) := dk_44 (dk_at dksX1_fix_2 3 rfl rfl)
theorem dX1_fix_51 : decode cX1_fix 51 = .ok (.aload_n 2, 1) := dk_44 (dk_at dksX1_fix_2 4 rfl rfl)
theorem dX1_fix_52 : decode cX1_fix 52 = .ok (.getfield 231, 3) := dk_180 0 231 (dk_at dksX1_fix_2 5 rfl rfl)
theorem dX1_fix_55 : decode cX1_fix 55 = .ok (.iconst 5, 1) := dk_8 (dk_at dksX1_fix_2 8 rfl rfl)
theorem dX1_fix_56 : decode cX1_fix 56 = .ok (.idiv, 1) := dk_108 (dk_at dksX1_fix_2 9 rfl rfl)
theorem dX1_fix_57 : decode cX1_fix 57 = .ok (.putfield 249, 3) := dk_181 0 249 (dk_at dksX1_fix_2 10 rfl rfl)
theorem dX1_fix_60 : decode cX1_fix 60 = .ok (.iconst 0, 1) := dk_3 (dk_at dksX1_fix_2 13 rfl rfl)
theorem dX1_fix_61 : decode cX1_fix 61 = .ok (.istore 4, 2) := dk_54 4 (dk_at dksX1_fix_2 14 rfl rfl)
theorem dX1_fix_63 : decode cX1_fix 63 = .ok (.iload 4, 2) := dk_21 4 (dk_at dksX1_fix_2 16 rfl rfl)
theorem dX1_fix_65 : decode cX1_fix 65 = .ok (.aload_n 0, 1) := dk_42 (dk_at dksX1_fix_2 18 rfl rfl)
theorem dX1_fix_66 : decode cX1_fix 66 = .ok (.getfield 45, 3) := dk_180 0 45 (dk_at dksX1_fix_2 19 rfl rfl)
theorem dX1_fix_69 : decode cX1_fix 69 = .ok (.invokeinterface 72 1, 5) := by decide +kernel
theorem dX1_fix_74 : decode cX1_fix 74 = .ok (.if_icmp .ge 57, 3) := dk_162 0 57 (dk_at dksX1_fix_3 5 rfl rfl)
theorem dX1_fix_77 : decode cX1_fix 77 = .ok (.aload_n 0, 1) := dk_42 (dk_at dksX1_fix_3 8 rfl rfl)
theorem dX1_fix_78 : decode cX1_fix 78 = .ok (.getfield 45, 3) := dk_180 0 45 (dk_at dksX1_fix_3 9 rfl rfl)
theorem dX1_fix_81 : decode cX1_fix 81 = .ok (.iload 4, 2) := dk_21 4 (dk_at dksX1_fix_3 12 rfl rfl)
theorem dX1_fix_83 : decode cX1_fix 83 = .ok (.invokeinterface 80 2, 5) := by decide +kernel
theorem dX1_fix_88 : decode cX1_fix 88 = .ok (.checkcast 85, 3) := dk_192 0 85 (dk_at dksX1_fix_3 19 rfl rfl)
theorem dX1_fix_91 : decode cX1_fix 91 = .ok (.astore 5, 2) := dk_58 5 (dk_at dksX1_fix_3 22 rfl rfl)
theorem dX1_fix_93 : decode cX1_fix 93 = .ok (.aload 5, 2) := dk_25 5 (dk_at dksX1_fix_4 0 rfl rfl)
theorem dX1_fix_95 : decode cX1_fix 95 = .ok (.aload 5, 2) := dk_25 5 (dk_at dksX1_fix_4 2 rfl rfl)
theorem dX1_fix_97 : decode cX1_fix 97 = .ok (.aload_n 2, 1) := dk_44 (dk_at dksX1_fix_4 4 rfl rfl)
theorem dX1_fix_98 : decode cX1_fix 98 = .ok (.getfield 150, 3) := dk_180 0 150 (dk_at dksX1_fix_4 5 rfl rfl)
theorem dX1_fix_101 : decode cX1_fix 101 = .ok (.aload_n 2, 1) := dk_44 (dk_at dksX1_fix_4 8 rfl rfl)
theorem dX1_fix_102 : decode cX1_fix 102 = .ok (.getfield 153, 3) := dk_180 0 153 (dk_at dksX1_fix_4 9 rfl rfl)
theorem dX1_fix_105 : decode cX1_fix 105 = .ok (.invokevirtual 219, 3) := dk_182 0 219 (dk_at dksX1_fix_4 12 rfl rfl)
theorem dX1_fix_108 : decode cX1_fix 108 = .ok (.ifCond .eq 9, 3) := dk_153 0 9 (dk_at dksX1_fix_4 15 rfl rfl)
theorem dX1_fix_111 : decode cX1_fix 111 = .ok (.getstatic 252, 3) := dk_178 0 252 (dk_at dksX1_fix_4 18 rfl rfl)
theorem dX1_fix_114 : decode cX1_fix 114 = .ok (.goto 8, 3) := dk_167 0 8 (dk_at dksX1_fix_4 21 rfl rfl)
theorem dX1_fix_117 : decode cX1_fix 117 = .ok (.aload 5, 2) := dk_25 5 (dk_at dksX1_fix_5 0 rfl rfl)
theorem dX1_fix_119 : decode cX1_fix 119 = .ok (.getfield 225, 3) := dk_180 0 225 (dk_at dksX1_fix_5 2 rfl rfl)
theorem dX1_fix_122 : decode cX1_fix 122 = .ok (.putfield 225, 3) := dk_181 0 225 (dk_at dksX1_fix_5 5 rfl rfl)
theorem dX1_fix_125 : decode cX1_fix 125 = .ok (.iinc 4 1, 3) := dk_132 4 1 (dk_at dksX1_fix_5 8 rfl rfl)
theorem dX1_fix_128 : decode cX1_fix 128 = .ok (.goto (-65), 3) := dk_167 255 191 (dk_at dksX1_fix_5 11 rfl rfl)
theorem dX1_fix_131 : decode cX1_fix 131 = .ok (.aload_n 2, 1) := dk_44 (dk_at dksX1_fix_5 14 rfl rfl)
theorem dX1_fix_132 : decode cX1_fix 132 = .ok (.getfield 231, 3) := dk_180 0 231 (dk_at dksX1_fix_5 15 rfl rfl)
theorem dX1_fix_135 : decode cX1_fix 135 = .ok (.ireturn, 1) := dk_172 (dk_at dksX1_fix_5 18 rfl rfl)
abbrev cX1_weddingAt : ByteArray := prog_1_method_10_code
def yX1_weddingAt : MethodName := ⟨RX1, "weddingAt", "(I)LFirstdanceAgency$Wedding;"⟩
def dkwX1_weddingAt_1 : List UInt8 := [192, 0, 85, 176]
abbrev dktX1_weddingAt_1 : List UInt8 := dkwX1_weddingAt_1 ++ []
def dkwX1_weddingAt_0 : List UInt8 := [27, 42, 180, 0, 45, 185, 0, 72, 1, 0, 184, 0, 76, 42, 180, 0, 45, 27, 185, 0, 80, 2, 0]
abbrev dktX1_weddingAt_0 : List UInt8 := dkwX1_weddingAt_0 ++ dktX1_weddingAt_1
theorem dksX1_weddingAt_0 : cX1_weddingAt.data.toList.drop 0 = dktX1_weddingAt_0 := by decide +kernel
theorem dksX1_weddingAt_1 : cX1_weddingAt.data.toList.drop 23 = dktX1_weddingAt_1 := dk_seg dksX1_weddingAt_0 23 rfl rfl
theorem dX1_weddingAt_0 : decode cX1_weddingAt 0 = .ok (.iload_n 1, 1) := dk_27 (dk_at dksX1_weddingAt_0 0 rfl rfl)
theorem dX1_weddingAt_1 : decode cX1_weddingAt 1 = .ok (.aload_n 0, 1) := dk_42 (dk_at dksX1_weddingAt_0 1 rfl rfl)
theorem dX1_weddingAt_2 : decode cX1_weddingAt 2 = .ok (.getfield 45, 3) := dk_180 0 45 (dk_at dksX1_weddingAt_0 2 rfl rfl)
theorem dX1_weddingAt_5 : decode cX1_weddingAt 5 = .ok (.invokeinterface 72 1, 5) := by decide +kernel
theorem dX1_weddingAt_10 : decode cX1_weddingAt 10 = .ok (.invokestatic 76, 3) := dk_184 0 76 (dk_at dksX1_weddingAt_0 10 rfl rfl)
theorem dX1_weddingAt_13 : decode cX1_weddingAt 13 = .ok (.aload_n 0, 1) := dk_42 (dk_at dksX1_weddingAt_0 13 rfl rfl)
theorem dX1_weddingAt_14 : decode cX1_weddingAt 14 = .ok (.getfield 45, 3) := dk_180 0 45 (dk_at dksX1_weddingAt_0 14 rfl rfl)
theorem dX1_weddingAt_17 : decode cX1_weddingAt 17 = .ok (.iload_n 1, 1) := dk_27 (dk_at dksX1_weddingAt_0 17 rfl rfl)
theorem dX1_weddingAt_18 : decode cX1_weddingAt 18 = .ok (.invokeinterface 80 2, 5) := by decide +kernel
theorem dX1_weddingAt_23 : decode cX1_weddingAt 23 = .ok (.checkcast 85, 3) := dk_192 0 85 (dk_at dksX1_weddingAt_1 0 rfl rfl)
theorem dX1_weddingAt_26 : decode cX1_weddingAt 26 = .ok (.areturn, 1) := dk_176 (dk_at dksX1_weddingAt_1 3 rfl rfl)
abbrev cX1_take : ByteArray := prog_1_method_29_code
def yX1_take : MethodName := ⟨RX1, "take", "(ILFirstdanceAgency$Fillings;)V"⟩
def dkwX1_take_1 : List UInt8 := [180, 0, 208, 181, 0, 195, 45, 44, 182, 0, 228, 16, 6, 104, 8, 108, 16, 50, 96, 181, 0, 231, 177]
abbrev dktX1_take_1 : List UInt8 := dkwX1_take_1 ++ []
def dkwX1_take_0 : List UInt8 := [42, 180, 0, 45, 27, 185, 0, 80, 2, 0, 192, 0, 85, 78, 45, 178, 0, 140, 181, 0, 225, 45, 44]
abbrev dktX1_take_0 : List UInt8 := dkwX1_take_0 ++ dktX1_take_1
theorem dksX1_take_0 : cX1_take.data.toList.drop 0 = dktX1_take_0 := by decide +kernel
theorem dksX1_take_1 : cX1_take.data.toList.drop 23 = dktX1_take_1 := dk_seg dksX1_take_0 23 rfl rfl
theorem dX1_take_0 : decode cX1_take 0 = .ok (.aload_n 0, 1) := dk_42 (dk_at dksX1_take_0 0 rfl rfl)
theorem dX1_take_1 : decode cX1_take 1 = .ok (.getfield 45, 3) := dk_180 0 45 (dk_at dksX1_take_0 1 rfl rfl)
theorem dX1_take_4 : decode cX1_take 4 = .ok (.iload_n 1, 1) := dk_27 (dk_at dksX1_take_0 4 rfl rfl)
theorem dX1_take_5 : decode cX1_take 5 = .ok (.invokeinterface 80 2, 5) := by decide +kernel
theorem dX1_take_10 : decode cX1_take 10 = .ok (.checkcast 85, 3) := dk_192 0 85 (dk_at dksX1_take_0 10 rfl rfl)
theorem dX1_take_13 : decode cX1_take 13 = .ok (.astore_n 3, 1) := dk_78 (dk_at dksX1_take_0 13 rfl rfl)
theorem dX1_take_14 : decode cX1_take 14 = .ok (.aload_n 3, 1) := dk_45 (dk_at dksX1_take_0 14 rfl rfl)
theorem dX1_take_15 : decode cX1_take 15 = .ok (.getstatic 140, 3) := dk_178 0 140 (dk_at dksX1_take_0 15 rfl rfl)
theorem dX1_take_18 : decode cX1_take 18 = .ok (.putfield 225, 3) := dk_181 0 225 (dk_at dksX1_take_0 18 rfl rfl)
theorem dX1_take_21 : decode cX1_take 21 = .ok (.aload_n 3, 1) := dk_45 (dk_at dksX1_take_0 21 rfl rfl)
theorem dX1_take_22 : decode cX1_take 22 = .ok (.aload_n 2, 1) := dk_44 (dk_at dksX1_take_0 22 rfl rfl)
theorem dX1_take_23 : decode cX1_take 23 = .ok (.getfield 208, 3) := dk_180 0 208 (dk_at dksX1_take_1 0 rfl rfl)
theorem dX1_take_26 : decode cX1_take 26 = .ok (.putfield 195, 3) := dk_181 0 195 (dk_at dksX1_take_1 3 rfl rfl)
theorem dX1_take_29 : decode cX1_take 29 = .ok (.aload_n 3, 1) := dk_45 (dk_at dksX1_take_1 6 rfl rfl)
theorem dX1_take_30 : decode cX1_take 30 = .ok (.aload_n 2, 1) := dk_44 (dk_at dksX1_take_1 7 rfl rfl)
theorem dX1_take_31 : decode cX1_take 31 = .ok (.invokevirtual 228, 3) := dk_182 0 228 (dk_at dksX1_take_1 8 rfl rfl)
theorem dX1_take_34 : decode cX1_take 34 = .ok (.bipush 6, 2) := dk_16 6 (dk_at dksX1_take_1 11 rfl rfl)
theorem dX1_take_36 : decode cX1_take 36 = .ok (.imul, 1) := dk_104 (dk_at dksX1_take_1 13 rfl rfl)
theorem dX1_take_37 : decode cX1_take 37 = .ok (.iconst 5, 1) := dk_8 (dk_at dksX1_take_1 14 rfl rfl)
theorem dX1_take_38 : decode cX1_take 38 = .ok (.idiv, 1) := dk_108 (dk_at dksX1_take_1 15 rfl rfl)
theorem dX1_take_39 : decode cX1_take 39 = .ok (.bipush 50, 2) := dk_16 50 (dk_at dksX1_take_1 16 rfl rfl)
theorem dX1_take_41 : decode cX1_take 41 = .ok (.iadd, 1) := dk_96 (dk_at dksX1_take_1 18 rfl rfl)
theorem dX1_take_42 : decode cX1_take 42 = .ok (.putfield 231, 3) := dk_181 0 231 (dk_at dksX1_take_1 19 rfl rfl)
theorem dX1_take_45 : decode cX1_take 45 = .ok (.return_, 1) := dk_177 (dk_at dksX1_take_1 22 rfl rfl)
abbrev cX1_cancel : ByteArray := prog_1_method_32_code
def yX1_cancel : MethodName := ⟨RX1, "cancel", "(I)I"⟩
def dkwX1_cancel_3 : List UInt8 := [181, 0, 225, 29, 172]
abbrev dktX1_cancel_3 : List UInt8 := dkwX1_cancel_3 ++ []
def dkwX1_cancel_2 : List UInt8 := [182, 0, 255, 167, 0, 4, 3, 62, 44, 44, 180, 0, 249, 29, 184, 0, 177, 181, 0, 249, 44, 178, 0, 252]
abbrev dktX1_cancel_2 : List UInt8 := dkwX1_cancel_2 ++ dktX1_cancel_3
def dkwX1_cancel_1 : List UInt8 := [153, 0, 7, 4, 167, 0, 4, 3, 184, 0, 96, 44, 178, 0, 140, 182, 0, 146, 153, 0, 11, 42, 44]
abbrev dktX1_cancel_1 : List UInt8 := dkwX1_cancel_1 ++ dktX1_cancel_2
def dkwX1_cancel_0 : List UInt8 := [42, 27, 182, 0, 234, 77, 44, 178, 0, 222, 182, 0, 146, 154, 0, 13, 44, 178, 0, 140, 182, 0, 146]
abbrev dktX1_cancel_0 : List UInt8 := dkwX1_cancel_0 ++ dktX1_cancel_1
theorem dksX1_cancel_0 : cX1_cancel.data.toList.drop 0 = dktX1_cancel_0 := by decide +kernel
theorem dksX1_cancel_1 : cX1_cancel.data.toList.drop 23 = dktX1_cancel_1 := dk_seg dksX1_cancel_0 23 rfl rfl
theorem dksX1_cancel_2 : cX1_cancel.data.toList.drop 46 = dktX1_cancel_2 := dk_seg dksX1_cancel_1 23 rfl rfl
theorem dksX1_cancel_3 : cX1_cancel.data.toList.drop 70 = dktX1_cancel_3 := dk_seg dksX1_cancel_2 24 rfl rfl
theorem dX1_cancel_0 : decode cX1_cancel 0 = .ok (.aload_n 0, 1) := dk_42 (dk_at dksX1_cancel_0 0 rfl rfl)
theorem dX1_cancel_1 : decode cX1_cancel 1 = .ok (.iload_n 1, 1) := dk_27 (dk_at dksX1_cancel_0 1 rfl rfl)
theorem dX1_cancel_2 : decode cX1_cancel 2 = .ok (.invokevirtual 234, 3) := dk_182 0 234 (dk_at dksX1_cancel_0 2 rfl rfl)
theorem dX1_cancel_5 : decode cX1_cancel 5 = .ok (.astore_n 2, 1) := dk_77 (dk_at dksX1_cancel_0 5 rfl rfl)
theorem dX1_cancel_6 : decode cX1_cancel 6 = .ok (.aload_n 2, 1) := dk_44 (dk_at dksX1_cancel_0 6 rfl rfl)
theorem dX1_cancel_7 : decode cX1_cancel 7 = .ok (.getstatic 222, 3) := dk_178 0 222 (dk_at dksX1_cancel_0 7 rfl rfl)
theorem dX1_cancel_10 : decode cX1_cancel 10 = .ok (.invokevirtual 146, 3) := dk_182 0 146 (dk_at dksX1_cancel_0 10 rfl rfl)
theorem dX1_cancel_13 : decode cX1_cancel 13 = .ok (.ifCond .ne 13, 3) := dk_154 0 13 (dk_at dksX1_cancel_0 13 rfl rfl)
theorem dX1_cancel_16 : decode cX1_cancel 16 = .ok (.aload_n 2, 1) := dk_44 (dk_at dksX1_cancel_0 16 rfl rfl)
theorem dX1_cancel_17 : decode cX1_cancel 17 = .ok (.getstatic 140, 3) := dk_178 0 140 (dk_at dksX1_cancel_0 17 rfl rfl)
theorem dX1_cancel_20 : decode cX1_cancel 20 = .ok (.invokevirtual 146, 3) := dk_182 0 146 (dk_at dksX1_cancel_0 20 rfl rfl)
theorem dX1_cancel_23 : decode cX1_cancel 23 = .ok (.ifCond .eq 7, 3) := dk_153 0 7 (dk_at dksX1_cancel_1 0 rfl rfl)
theorem dX1_cancel_26 : decode cX1_cancel 26 = .ok (.iconst 1, 1) := dk_4 (dk_at dksX1_cancel_1 3 rfl rfl)
theorem dX1_cancel_27 : decode cX1_cancel 27 = .ok (.goto 4, 3) := dk_167 0 4 (dk_at dksX1_cancel_1 4 rfl rfl)
theorem dX1_cancel_30 : decode cX1_cancel 30 = .ok (.iconst 0, 1) := dk_3 (dk_at dksX1_cancel_1 7 rfl rfl)
theorem dX1_cancel_31 : decode cX1_cancel 31 = .ok (.invokestatic 96, 3) := dk_184 0 96 (dk_at dksX1_cancel_1 8 rfl rfl)
theorem dX1_cancel_34 : decode cX1_cancel 34 = .ok (.aload_n 2, 1) := dk_44 (dk_at dksX1_cancel_1 11 rfl rfl)
theorem dX1_cancel_35 : decode cX1_cancel 35 = .ok (.getstatic 140, 3) := dk_178 0 140 (dk_at dksX1_cancel_1 12 rfl rfl)
theorem dX1_cancel_38 : decode cX1_cancel 38 = .ok (.invokevirtual 146, 3) := dk_182 0 146 (dk_at dksX1_cancel_1 15 rfl rfl)
theorem dX1_cancel_41 : decode cX1_cancel 41 = .ok (.ifCond .eq 11, 3) := dk_153 0 11 (dk_at dksX1_cancel_1 18 rfl rfl)
theorem dX1_cancel_44 : decode cX1_cancel 44 = .ok (.aload_n 0, 1) := dk_42 (dk_at dksX1_cancel_1 21 rfl rfl)
theorem dX1_cancel_45 : decode cX1_cancel 45 = .ok (.aload_n 2, 1) := dk_44 (dk_at dksX1_cancel_1 22 rfl rfl)
theorem dX1_cancel_46 : decode cX1_cancel 46 = .ok (.invokevirtual 255, 3) := dk_182 0 255 (dk_at dksX1_cancel_2 0 rfl rfl)
theorem dX1_cancel_49 : decode cX1_cancel 49 = .ok (.goto 4, 3) := dk_167 0 4 (dk_at dksX1_cancel_2 3 rfl rfl)
theorem dX1_cancel_52 : decode cX1_cancel 52 = .ok (.iconst 0, 1) := dk_3 (dk_at dksX1_cancel_2 6 rfl rfl)
theorem dX1_cancel_53 : decode cX1_cancel 53 = .ok (.istore_n 3, 1) := dk_62 (dk_at dksX1_cancel_2 7 rfl rfl)
theorem dX1_cancel_54 : decode cX1_cancel 54 = .ok (.aload_n 2, 1) := dk_44 (dk_at dksX1_cancel_2 8 rfl rfl)
theorem dX1_cancel_55 : decode cX1_cancel 55 = .ok (.aload_n 2, 1) := dk_44 (dk_at dksX1_cancel_2 9 rfl rfl)
theorem dX1_cancel_56 : decode cX1_cancel 56 = .ok (.getfield 249, 3) := dk_180 0 249 (dk_at dksX1_cancel_2 10 rfl rfl)
theorem dX1_cancel_59 : decode cX1_cancel 59 = .ok (.iload_n 3, 1) := dk_29 (dk_at dksX1_cancel_2 13 rfl rfl)
theorem dX1_cancel_60 : decode cX1_cancel 60 = .ok (.invokestatic 177, 3) := dk_184 0 177 (dk_at dksX1_cancel_2 14 rfl rfl)
theorem dX1_cancel_63 : decode cX1_cancel 63 = .ok (.putfield 249, 3) := dk_181 0 249 (dk_at dksX1_cancel_2 17 rfl rfl)
theorem dX1_cancel_66 : decode cX1_cancel 66 = .ok (.aload_n 2, 1) := dk_44 (dk_at dksX1_cancel_2 20 rfl rfl)
theorem dX1_cancel_67 : decode cX1_cancel 67 = .ok (.getstatic 252, 3) := dk_178 0 252 (dk_at dksX1_cancel_2 21 rfl rfl)
theorem dX1_cancel_70 : decode cX1_cancel 70 = .ok (.putfield 225, 3) := dk_181 0 225 (dk_at dksX1_cancel_3 0 rfl rfl)
theorem dX1_cancel_73 : decode cX1_cancel 73 = .ok (.iload_n 3, 1) := dk_29 (dk_at dksX1_cancel_3 3 rfl rfl)
theorem dX1_cancel_74 : decode cX1_cancel 74 = .ok (.ireturn, 1) := dk_172 (dk_at dksX1_cancel_3 4 rfl rfl)
abbrev cX1_owed : ByteArray := prog_1_method_31_code
def yX1_owed : MethodName := ⟨RX1, "owed", "(LFirstdanceAgency$Wedding;)I"⟩
def dkwX1_owed_2 : List UInt8 := [180, 0, 231, 29, 104, 16, 100, 108, 172]
abbrev dktX1_owed_2 : List UInt8 := dkwX1_owed_2 ++ []
def dkwX1_owed_1 : List UInt8 := [161, 0, 8, 16, 40, 167, 0, 16, 28, 16, 7, 161, 0, 8, 16, 70, 167, 0, 5, 16, 100, 62, 43]
abbrev dktX1_owed_1 : List UInt8 := dkwX1_owed_1 ++ dktX1_owed_2
def dkwX1_owed_0 : List UInt8 := [43, 180, 0, 153, 42, 180, 0, 156, 100, 61, 28, 16, 30, 161, 0, 8, 16, 20, 167, 0, 27, 28, 16, 14]
abbrev dktX1_owed_0 : List UInt8 := dkwX1_owed_0 ++ dktX1_owed_1
theorem dksX1_owed_0 : cX1_owed.data.toList.drop 0 = dktX1_owed_0 := by decide +kernel
theorem dksX1_owed_1 : cX1_owed.data.toList.drop 24 = dktX1_owed_1 := dk_seg dksX1_owed_0 24 rfl rfl
theorem dksX1_owed_2 : cX1_owed.data.toList.drop 47 = dktX1_owed_2 := dk_seg dksX1_owed_1 23 rfl rfl
theorem dX1_owed_0 : decode cX1_owed 0 = .ok (.aload_n 1, 1) := dk_43 (dk_at dksX1_owed_0 0 rfl rfl)
theorem dX1_owed_1 : decode cX1_owed 1 = .ok (.getfield 153, 3) := dk_180 0 153 (dk_at dksX1_owed_0 1 rfl rfl)
theorem dX1_owed_4 : decode cX1_owed 4 = .ok (.aload_n 0, 1) := dk_42 (dk_at dksX1_owed_0 4 rfl rfl)
theorem dX1_owed_5 : decode cX1_owed 5 = .ok (.getfield 156, 3) := dk_180 0 156 (dk_at dksX1_owed_0 5 rfl rfl)
theorem dX1_owed_8 : decode cX1_owed 8 = .ok (.isub, 1) := dk_100 (dk_at dksX1_owed_0 8 rfl rfl)
theorem dX1_owed_9 : decode cX1_owed 9 = .ok (.istore_n 2, 1) := dk_61 (dk_at dksX1_owed_0 9 rfl rfl)
theorem dX1_owed_10 : decode cX1_owed 10 = .ok (.iload_n 2, 1) := dk_28 (dk_at dksX1_owed_0 10 rfl rfl)
theorem dX1_owed_11 : decode cX1_owed 11 = .ok (.bipush 30, 2) := dk_16 30 (dk_at dksX1_owed_0 11 rfl rfl)
theorem dX1_owed_13 : decode cX1_owed 13 = .ok (.if_icmp .lt 8, 3) := dk_161 0 8 (dk_at dksX1_owed_0 13 rfl rfl)
theorem dX1_owed_16 : decode cX1_owed 16 = .ok (.bipush 20, 2) := dk_16 20 (dk_at dksX1_owed_0 16 rfl rfl)
theorem dX1_owed_18 : decode cX1_owed 18 = .ok (.goto 27, 3) := dk_167 0 27 (dk_at dksX1_owed_0 18 rfl rfl)
theorem dX1_owed_21 : decode cX1_owed 21 = .ok (.iload_n 2, 1) := dk_28 (dk_at dksX1_owed_0 21 rfl rfl)
theorem dX1_owed_22 : decode cX1_owed 22 = .ok (.bipush 14, 2) := dk_16 14 (dk_at dksX1_owed_0 22 rfl rfl)
theorem dX1_owed_24 : decode cX1_owed 24 = .ok (.if_icmp .lt 8, 3) := dk_161 0 8 (dk_at dksX1_owed_1 0 rfl rfl)
theorem dX1_owed_27 : decode cX1_owed 27 = .ok (.bipush 40, 2) := dk_16 40 (dk_at dksX1_owed_1 3 rfl rfl)
theorem dX1_owed_29 : decode cX1_owed 29 = .ok (.goto 16, 3) := dk_167 0 16 (dk_at dksX1_owed_1 5 rfl rfl)
theorem dX1_owed_32 : decode cX1_owed 32 = .ok (.iload_n 2, 1) := dk_28 (dk_at dksX1_owed_1 8 rfl rfl)
theorem dX1_owed_33 : decode cX1_owed 33 = .ok (.bipush 7, 2) := dk_16 7 (dk_at dksX1_owed_1 9 rfl rfl)
theorem dX1_owed_35 : decode cX1_owed 35 = .ok (.if_icmp .lt 8, 3) := dk_161 0 8 (dk_at dksX1_owed_1 11 rfl rfl)
theorem dX1_owed_38 : decode cX1_owed 38 = .ok (.bipush 70, 2) := dk_16 70 (dk_at dksX1_owed_1 14 rfl rfl)
theorem dX1_owed_40 : decode cX1_owed 40 = .ok (.goto 5, 3) := dk_167 0 5 (dk_at dksX1_owed_1 16 rfl rfl)
theorem dX1_owed_43 : decode cX1_owed 43 = .ok (.bipush 100, 2) := dk_16 100 (dk_at dksX1_owed_1 19 rfl rfl)
theorem dX1_owed_45 : decode cX1_owed 45 = .ok (.istore_n 3, 1) := dk_62 (dk_at dksX1_owed_1 21 rfl rfl)
theorem dX1_owed_46 : decode cX1_owed 46 = .ok (.aload_n 1, 1) := dk_43 (dk_at dksX1_owed_1 22 rfl rfl)
theorem dX1_owed_47 : decode cX1_owed 47 = .ok (.getfield 231, 3) := dk_180 0 231 (dk_at dksX1_owed_2 0 rfl rfl)
theorem dX1_owed_50 : decode cX1_owed 50 = .ok (.iload_n 3, 1) := dk_29 (dk_at dksX1_owed_2 3 rfl rfl)
theorem dX1_owed_51 : decode cX1_owed 51 = .ok (.imul, 1) := dk_104 (dk_at dksX1_owed_2 4 rfl rfl)
theorem dX1_owed_52 : decode cX1_owed 52 = .ok (.bipush 100, 2) := dk_16 100 (dk_at dksX1_owed_2 5 rfl rfl)
theorem dX1_owed_54 : decode cX1_owed 54 = .ok (.idiv, 1) := dk_108 (dk_at dksX1_owed_2 7 rfl rfl)
theorem dX1_owed_55 : decode cX1_owed 55 = .ok (.ireturn, 1) := dk_172 (dk_at dksX1_owed_2 8 rfl rfl)
abbrev cX1_ill : ByteArray := prog_1_method_34_code
def yX1_ill : MethodName := ⟨RX1, "ill", "(II)I"⟩
def dkwX1_ill_0 : List UInt8 := [42, 27, 182, 0, 100, 87, 28, 42, 180, 0, 156, 17, 1, 109, 184, 0, 88, 42, 27, 28, 182, 1, 3, 172]
abbrev dktX1_ill_0 : List UInt8 := dkwX1_ill_0 ++ []
theorem dksX1_ill_0 : cX1_ill.data.toList.drop 0 = dktX1_ill_0 := by decide +kernel
theorem dX1_ill_0 : decode cX1_ill 0 = .ok (.aload_n 0, 1) := dk_42 (dk_at dksX1_ill_0 0 rfl rfl)
theorem dX1_ill_1 : decode cX1_ill 1 = .ok (.iload_n 1, 1) := dk_27 (dk_at dksX1_ill_0 1 rfl rfl)
theorem dX1_ill_2 : decode cX1_ill 2 = .ok (.invokevirtual 100, 3) := dk_182 0 100 (dk_at dksX1_ill_0 2 rfl rfl)
theorem dX1_ill_5 : decode cX1_ill 5 = .ok (.pop, 1) := dk_87 (dk_at dksX1_ill_0 5 rfl rfl)
theorem dX1_ill_6 : decode cX1_ill 6 = .ok (.iload_n 2, 1) := dk_28 (dk_at dksX1_ill_0 6 rfl rfl)
theorem dX1_ill_7 : decode cX1_ill 7 = .ok (.aload_n 0, 1) := dk_42 (dk_at dksX1_ill_0 7 rfl rfl)
theorem dX1_ill_8 : decode cX1_ill 8 = .ok (.getfield 156, 3) := dk_180 0 156 (dk_at dksX1_ill_0 8 rfl rfl)
theorem dX1_ill_11 : decode cX1_ill 11 = .ok (.sipush 365, 3) := dk_17 1 109 (dk_at dksX1_ill_0 11 rfl rfl)
theorem dX1_ill_14 : decode cX1_ill 14 = .ok (.invokestatic 88, 3) := dk_184 0 88 (dk_at dksX1_ill_0 14 rfl rfl)
theorem dX1_ill_17 : decode cX1_ill 17 = .ok (.aload_n 0, 1) := dk_42 (dk_at dksX1_ill_0 17 rfl rfl)
theorem dX1_ill_18 : decode cX1_ill 18 = .ok (.iload_n 1, 1) := dk_27 (dk_at dksX1_ill_0 18 rfl rfl)
theorem dX1_ill_19 : decode cX1_ill 19 = .ok (.iload_n 2, 1) := dk_28 (dk_at dksX1_ill_0 19 rfl rfl)
theorem dX1_ill_20 : decode cX1_ill 20 = .ok (.invokevirtual 259, 3) := dk_182 1 3 (dk_at dksX1_ill_0 20 rfl rfl)
theorem dX1_ill_23 : decode cX1_ill 23 = .ok (.ireturn, 1) := dk_172 (dk_at dksX1_ill_0 23 rfl rfl)
abbrev cX1_fall : ByteArray := prog_1_method_33_code
def yX1_fall : MethodName := ⟨RX1, "fall", "(II)I"⟩
def dkwX1_fall_7 : List UInt8 := [167, 255, 120, 29, 172]
abbrev dktX1_fall_7 : List UInt8 := dkwX1_fall_7 ++ []
def dkwX1_fall_6 : List UInt8 := [181, 0, 225, 25, 5, 25, 5, 180, 0, 231, 16, 10, 108, 116, 181, 0, 249, 132, 3, 1, 132, 4, 1]
abbrev dktX1_fall_6 : List UInt8 := dkwX1_fall_6 ++ dktX1_fall_7
def dkwX1_fall_5 : List UInt8 := [2, 159, 0, 16, 25, 5, 25, 6, 180, 0, 208, 181, 0, 195, 167, 0, 28, 25, 5, 178, 0, 252]
abbrev dktX1_fall_5 : List UInt8 := dkwX1_fall_5 ++ dktX1_fall_6
def dkwX1_fall_4 : List UInt8 := [21, 4, 42, 21, 4, 182, 0, 202, 25, 5, 180, 0, 195, 4, 183, 0, 205, 58, 6, 25, 6, 180, 0, 208]
abbrev dktX1_fall_4 : List UInt8 := dkwX1_fall_4 ++ dktX1_fall_5
def dkwX1_fall_3 : List UInt8 := [180, 0, 153, 28, 160, 0, 86, 25, 5, 180, 0, 195, 27, 184, 0, 123, 153, 0, 74, 187, 0, 200, 89, 42]
abbrev dktX1_fall_3 : List UInt8 := dkwX1_fall_3 ++ dktX1_fall_4
def dkwX1_fall_2 : List UInt8 := [185, 0, 80, 2, 0, 192, 0, 85, 58, 5, 25, 5, 178, 0, 140, 182, 0, 146, 153, 0, 95, 25, 5]
abbrev dktX1_fall_2 : List UInt8 := dkwX1_fall_2 ++ dktX1_fall_3
def dkwX1_fall_1 : List UInt8 := [21, 4, 42, 180, 0, 45, 185, 0, 72, 1, 0, 162, 0, 128, 42, 180, 0, 45, 21, 4]
abbrev dktX1_fall_1 : List UInt8 := dkwX1_fall_1 ++ dktX1_fall_2
def dkwX1_fall_0 : List UInt8 := [42, 180, 0, 26, 27, 185, 0, 80, 2, 0, 192, 0, 83, 180, 0, 191, 28, 4, 84, 3, 62, 3, 54, 4]
abbrev dktX1_fall_0 : List UInt8 := dkwX1_fall_0 ++ dktX1_fall_1
theorem dksX1_fall_0 : cX1_fall.data.toList.drop 0 = dktX1_fall_0 := by decide +kernel
theorem dksX1_fall_1 : cX1_fall.data.toList.drop 24 = dktX1_fall_1 := dk_seg dksX1_fall_0 24 rfl rfl
theorem dksX1_fall_2 : cX1_fall.data.toList.drop 44 = dktX1_fall_2 := dk_seg dksX1_fall_1 20 rfl rfl
theorem dksX1_fall_3 : cX1_fall.data.toList.drop 67 = dktX1_fall_3 := dk_seg dksX1_fall_2 23 rfl rfl
theorem dksX1_fall_4 : cX1_fall.data.toList.drop 91 = dktX1_fall_4 := dk_seg dksX1_fall_3 24 rfl rfl
theorem dksX1_fall_5 : cX1_fall.data.toList.drop 115 = dktX1_fall_5 := dk_seg dksX1_fall_4 24 rfl rfl
theorem dksX1_fall_6 : cX1_fall.data.toList.drop 137 = dktX1_fall_6 := dk_seg dksX1_fall_5 22 rfl rfl
theorem dksX1_fall_7 : cX1_fall.data.toList.drop 160 = dktX1_fall_7 := dk_seg dksX1_fall_6 23 rfl rfl
theorem dX1_fall_0 : decode cX1_fall 0 = .ok (.aload_n 0, 1) := dk_42 (dk_at dksX1_fall_0 0 rfl rfl)
theorem dX1_fall_1 : decode cX1_fall 1 = .ok (.getfield 26, 3) := dk_180 0 26 (dk_at dksX1_fall_0 1 rfl rfl)
theorem dX1_fall_4 : decode cX1_fall 4 = .ok (.iload_n 1, 1) := dk_27 (dk_at dksX1_fall_0 4 rfl rfl)
theorem dX1_fall_5 : decode cX1_fall 5 = .ok (.invokeinterface 80 2, 5) := by decide +kernel
theorem dX1_fall_10 : decode cX1_fall 10 = .ok (.checkcast 83, 3) := dk_192 0 83 (dk_at dksX1_fall_0 10 rfl rfl)
theorem dX1_fall_13 : decode cX1_fall 13 = .ok (.getfield 191, 3) := dk_180 0 191 (dk_at dksX1_fall_0 13 rfl rfl)
theorem dX1_fall_16 : decode cX1_fall 16 = .ok (.iload_n 2, 1) := dk_28 (dk_at dksX1_fall_0 16 rfl rfl)
theorem dX1_fall_17 : decode cX1_fall 17 = .ok (.iconst 1, 1) := dk_4 (dk_at dksX1_fall_0 17 rfl rfl)
theorem dX1_fall_18 : decode cX1_fall 18 = .ok (.bastore, 1) := dk_84 (dk_at dksX1_fall_0 18 rfl rfl)
theorem dX1_fall_19 : decode cX1_fall 19 = .ok (.iconst 0, 1) := dk_3 (dk_at dksX1_fall_0 19 rfl rfl)
theorem dX1_fall_20 : decode cX1_fall 20 = .ok (.istore_n 3, 1) := dk_62 (dk_at dksX1_fall_0 20 rfl rfl)
theorem dX1_fall_21 : decode cX1_fall 21 = .ok (.iconst 0, 1) := dk_3 (dk_at dksX1_fall_0 21 rfl rfl)
theorem dX1_fall_22 : decode cX1_fall 22 = .ok (.istore 4, 2) := dk_54 4 (dk_at dksX1_fall_0 22 rfl rfl)
theorem dX1_fall_24 : decode cX1_fall 24 = .ok (.iload 4, 2) := dk_21 4 (dk_at dksX1_fall_1 0 rfl rfl)
theorem dX1_fall_26 : decode cX1_fall 26 = .ok (.aload_n 0, 1) := dk_42 (dk_at dksX1_fall_1 2 rfl rfl)
theorem dX1_fall_27 : decode cX1_fall 27 = .ok (.getfield 45, 3) := dk_180 0 45 (dk_at dksX1_fall_1 3 rfl rfl)
theorem dX1_fall_30 : decode cX1_fall 30 = .ok (.invokeinterface 72 1, 5) := by decide +kernel
theorem dX1_fall_35 : decode cX1_fall 35 = .ok (.if_icmp .ge 128, 3) := dk_162 0 128 (dk_at dksX1_fall_1 11 rfl rfl)
theorem dX1_fall_38 : decode cX1_fall 38 = .ok (.aload_n 0, 1) := dk_42 (dk_at dksX1_fall_1 14 rfl rfl)
theorem dX1_fall_39 : decode cX1_fall 39 = .ok (.getfield 45, 3) := dk_180 0 45 (dk_at dksX1_fall_1 15 rfl rfl)
theorem dX1_fall_42 : decode cX1_fall 42 = .ok (.iload 4, 2) := dk_21 4 (dk_at dksX1_fall_1 18 rfl rfl)
theorem dX1_fall_44 : decode cX1_fall 44 = .ok (.invokeinterface 80 2, 5) := by decide +kernel
theorem dX1_fall_49 : decode cX1_fall 49 = .ok (.checkcast 85, 3) := dk_192 0 85 (dk_at dksX1_fall_2 5 rfl rfl)
theorem dX1_fall_52 : decode cX1_fall 52 = .ok (.astore 5, 2) := dk_58 5 (dk_at dksX1_fall_2 8 rfl rfl)
theorem dX1_fall_54 : decode cX1_fall 54 = .ok (.aload 5, 2) := dk_25 5 (dk_at dksX1_fall_2 10 rfl rfl)
theorem dX1_fall_56 : decode cX1_fall 56 = .ok (.getstatic 140, 3) := dk_178 0 140 (dk_at dksX1_fall_2 12 rfl rfl)
theorem dX1_fall_59 : decode cX1_fall 59 = .ok (.invokevirtual 146, 3) := dk_182 0 146 (dk_at dksX1_fall_2 15 rfl rfl)
theorem dX1_fall_62 : decode cX1_fall 62 = .ok (.ifCond .eq 95, 3) := dk_153 0 95 (dk_at dksX1_fall_2 18 rfl rfl)
theorem dX1_fall_65 : decode cX1_fall 65 = .ok (.aload 5, 2) := dk_25 5 (dk_at dksX1_fall_2 21 rfl rfl)
theorem dX1_fall_67 : decode cX1_fall 67 = .ok (.getfield 153, 3) := dk_180 0 153 (dk_at dksX1_fall_3 0 rfl rfl)
theorem dX1_fall_70 : decode cX1_fall 70 = .ok (.iload_n 2, 1) := dk_28 (dk_at dksX1_fall_3 3 rfl rfl)
theorem dX1_fall_71 : decode cX1_fall 71 = .ok (.if_icmp .ne 86, 3) := dk_160 0 86 (dk_at dksX1_fall_3 4 rfl rfl)
theorem dX1_fall_74 : decode cX1_fall 74 = .ok (.aload 5, 2) := dk_25 5 (dk_at dksX1_fall_3 7 rfl rfl)
theorem dX1_fall_76 : decode cX1_fall 76 = .ok (.getfield 195, 3) := dk_180 0 195 (dk_at dksX1_fall_3 9 rfl rfl)
theorem dX1_fall_79 : decode cX1_fall 79 = .ok (.iload_n 1, 1) := dk_27 (dk_at dksX1_fall_3 12 rfl rfl)
theorem dX1_fall_80 : decode cX1_fall 80 = .ok (.invokestatic 123, 3) := dk_184 0 123 (dk_at dksX1_fall_3 13 rfl rfl)
theorem dX1_fall_83 : decode cX1_fall 83 = .ok (.ifCond .eq 74, 3) := dk_153 0 74 (dk_at dksX1_fall_3 16 rfl rfl)
theorem dX1_fall_86 : decode cX1_fall 86 = .ok (.new 200, 3) := dk_187 0 200 (dk_at dksX1_fall_3 19 rfl rfl)
theorem dX1_fall_89 : decode cX1_fall 89 = .ok (.dup, 1) := dk_89 (dk_at dksX1_fall_3 22 rfl rfl)
theorem dX1_fall_90 : decode cX1_fall 90 = .ok (.aload_n 0, 1) := dk_42 (dk_at dksX1_fall_3 23 rfl rfl)
theorem dX1_fall_91 : decode cX1_fall 91 = .ok (.iload 4, 2) := dk_21 4 (dk_at dksX1_fall_4 0 rfl rfl)
theorem dX1_fall_93 : decode cX1_fall 93 = .ok (.aload_n 0, 1) := dk_42 (dk_at dksX1_fall_4 2 rfl rfl)
theorem dX1_fall_94 : decode cX1_fall 94 = .ok (.iload 4, 2) := dk_21 4 (dk_at dksX1_fall_4 3 rfl rfl)
theorem dX1_fall_96 : decode cX1_fall 96 = .ok (.invokevirtual 202, 3) := dk_182 0 202 (dk_at dksX1_fall_4 5 rfl rfl)
theorem dX1_fall_99 : decode cX1_fall 99 = .ok (.aload 5, 2) := dk_25 5 (dk_at dksX1_fall_4 8 rfl rfl)
theorem dX1_fall_101 : decode cX1_fall 101 = .ok (.getfield 195, 3) := dk_180 0 195 (dk_at dksX1_fall_4 10 rfl rfl)
theorem dX1_fall_104 : decode cX1_fall 104 = .ok (.iconst 1, 1) := dk_4 (dk_at dksX1_fall_4 13 rfl rfl)
theorem dX1_fall_105 : decode cX1_fall 105 = .ok (.invokespecial 205, 3) := dk_183 0 205 (dk_at dksX1_fall_4 14 rfl rfl)
theorem dX1_fall_108 : decode cX1_fall 108 = .ok (.astore 6, 2) := dk_58 6 (dk_at dksX1_fall_4 17 rfl rfl)
theorem dX1_fall_110 : decode cX1_fall 110 = .ok (.aload 6, 2) := dk_25 6 (dk_at dksX1_fall_4 19 rfl rfl)
theorem dX1_fall_112 : decode cX1_fall 112 = .ok (.getfield 208, 3) := dk_180 0 208 (dk_at dksX1_fall_4 21 rfl rfl)
theorem dX1_fall_115 : decode cX1_fall 115 = .ok (.iconst (-1), 1) := dk_2 (dk_at dksX1_fall_5 0 rfl rfl)
theorem dX1_fall_116 : decode cX1_fall 116 = .ok (.if_icmp .eq 16, 3) := dk_159 0 16 (dk_at dksX1_fall_5 1 rfl rfl)
theorem dX1_fall_119 : decode cX1_fall 119 = .ok (.aload 5, 2) := dk_25 5 (dk_at dksX1_fall_5 4 rfl rfl)
theorem dX1_fall_121 : decode cX1_fall 121 = .ok (.aload 6, 2) := dk_25 6 (dk_at dksX1_fall_5 6 rfl rfl)
theorem dX1_fall_123 : decode cX1_fall 123 = .ok (.getfield 208, 3) := dk_180 0 208 (dk_at dksX1_fall_5 8 rfl rfl)
theorem dX1_fall_126 : decode cX1_fall 126 = .ok (.putfield 195, 3) := dk_181 0 195 (dk_at dksX1_fall_5 11 rfl rfl)
theorem dX1_fall_129 : decode cX1_fall 129 = .ok (.goto 28, 3) := dk_167 0 28 (dk_at dksX1_fall_5 14 rfl rfl)
theorem dX1_fall_132 : decode cX1_fall 132 = .ok (.aload 5, 2) := dk_25 5 (dk_at dksX1_fall_5 17 rfl rfl)
theorem dX1_fall_134 : decode cX1_fall 134 = .ok (.getstatic 252, 3) := dk_178 0 252 (dk_at dksX1_fall_5 19 rfl rfl)
theorem dX1_fall_137 : decode cX1_fall 137 = .ok (.putfield 225, 3) := dk_181 0 225 (dk_at dksX1_fall_6 0 rfl rfl)
theorem dX1_fall_140 : decode cX1_fall 140 = .ok (.aload 5, 2) := dk_25 5 (dk_at dksX1_fall_6 3 rfl rfl)
theorem dX1_fall_142 : decode cX1_fall 142 = .ok (.aload 5, 2) := dk_25 5 (dk_at dksX1_fall_6 5 rfl rfl)
theorem dX1_fall_144 : decode cX1_fall 144 = .ok (.getfield 231, 3) := dk_180 0 231 (dk_at dksX1_fall_6 7 rfl rfl)
theorem dX1_fall_147 : decode cX1_fall 147 = .ok (.bipush 10, 2) := dk_16 10 (dk_at dksX1_fall_6 10 rfl rfl)
theorem dX1_fall_149 : decode cX1_fall 149 = .ok (.idiv, 1) := dk_108 (dk_at dksX1_fall_6 12 rfl rfl)
theorem dX1_fall_150 : decode cX1_fall 150 = .ok (.ineg, 1) := dk_116 (dk_at dksX1_fall_6 13 rfl rfl)
theorem dX1_fall_151 : decode cX1_fall 151 = .ok (.putfield 249, 3) := dk_181 0 249 (dk_at dksX1_fall_6 14 rfl rfl)
theorem dX1_fall_154 : decode cX1_fall 154 = .ok (.iinc 3 1, 3) := dk_132 3 1 (dk_at dksX1_fall_6 17 rfl rfl)
theorem dX1_fall_157 : decode cX1_fall 157 = .ok (.iinc 4 1, 3) := dk_132 4 1 (dk_at dksX1_fall_6 20 rfl rfl)
theorem dX1_fall_160 : decode cX1_fall 160 = .ok (.goto (-136), 3) := dk_167 255 120 (dk_at dksX1_fall_7 0 rfl rfl)
theorem dX1_fall_163 : decode cX1_fall 163 = .ok (.iload_n 3, 1) := dk_29 (dk_at dksX1_fall_7 3 rfl rfl)
theorem dX1_fall_164 : decode cX1_fall 164 = .ok (.ireturn, 1) := dk_172 (dk_at dksX1_fall_7 4 rfl rfl)
abbrev cX1_late : ByteArray := prog_1_method_35_code
def yX1_late : MethodName := ⟨RX1, "late", "(II)I"⟩
def dkwX1_late_1 : List UInt8 := [45, 28, 181, 1, 6, 45, 182, 1, 9, 172]
abbrev dktX1_late_1 : List UInt8 := dkwX1_late_1 ++ []
def dkwX1_late_0 : List UInt8 := [42, 27, 182, 0, 234, 78, 28, 3, 17, 0, 240, 184, 0, 88, 45, 178, 0, 140, 182, 0, 146, 184, 0, 96]
abbrev dktX1_late_0 : List UInt8 := dkwX1_late_0 ++ dktX1_late_1
theorem dksX1_late_0 : cX1_late.data.toList.drop 0 = dktX1_late_0 := by decide +kernel
theorem dksX1_late_1 : cX1_late.data.toList.drop 24 = dktX1_late_1 := dk_seg dksX1_late_0 24 rfl rfl
theorem dX1_late_0 : decode cX1_late 0 = .ok (.aload_n 0, 1) := dk_42 (dk_at dksX1_late_0 0 rfl rfl)
theorem dX1_late_1 : decode cX1_late 1 = .ok (.iload_n 1, 1) := dk_27 (dk_at dksX1_late_0 1 rfl rfl)
theorem dX1_late_2 : decode cX1_late 2 = .ok (.invokevirtual 234, 3) := dk_182 0 234 (dk_at dksX1_late_0 2 rfl rfl)
theorem dX1_late_5 : decode cX1_late 5 = .ok (.astore_n 3, 1) := dk_78 (dk_at dksX1_late_0 5 rfl rfl)
theorem dX1_late_6 : decode cX1_late 6 = .ok (.iload_n 2, 1) := dk_28 (dk_at dksX1_late_0 6 rfl rfl)
theorem dX1_late_7 : decode cX1_late 7 = .ok (.iconst 0, 1) := dk_3 (dk_at dksX1_late_0 7 rfl rfl)
theorem dX1_late_8 : decode cX1_late 8 = .ok (.sipush 240, 3) := dk_17 0 240 (dk_at dksX1_late_0 8 rfl rfl)
theorem dX1_late_11 : decode cX1_late 11 = .ok (.invokestatic 88, 3) := dk_184 0 88 (dk_at dksX1_late_0 11 rfl rfl)
theorem dX1_late_14 : decode cX1_late 14 = .ok (.aload_n 3, 1) := dk_45 (dk_at dksX1_late_0 14 rfl rfl)
theorem dX1_late_15 : decode cX1_late 15 = .ok (.getstatic 140, 3) := dk_178 0 140 (dk_at dksX1_late_0 15 rfl rfl)
theorem dX1_late_18 : decode cX1_late 18 = .ok (.invokevirtual 146, 3) := dk_182 0 146 (dk_at dksX1_late_0 18 rfl rfl)
theorem dX1_late_21 : decode cX1_late 21 = .ok (.invokestatic 96, 3) := dk_184 0 96 (dk_at dksX1_late_0 21 rfl rfl)
theorem dX1_late_24 : decode cX1_late 24 = .ok (.aload_n 3, 1) := dk_45 (dk_at dksX1_late_1 0 rfl rfl)
theorem dX1_late_25 : decode cX1_late 25 = .ok (.iload_n 2, 1) := dk_28 (dk_at dksX1_late_1 1 rfl rfl)
theorem dX1_late_26 : decode cX1_late 26 = .ok (.putfield 262, 3) := dk_181 1 6 (dk_at dksX1_late_1 2 rfl rfl)
theorem dX1_late_29 : decode cX1_late 29 = .ok (.aload_n 3, 1) := dk_45 (dk_at dksX1_late_1 5 rfl rfl)
theorem dX1_late_30 : decode cX1_late 30 = .ok (.invokevirtual 265, 3) := dk_182 1 9 (dk_at dksX1_late_1 6 rfl rfl)
theorem dX1_late_33 : decode cX1_late 33 = .ok (.ireturn, 1) := dk_172 (dk_at dksX1_late_1 9 rfl rfl)
abbrev cX1_pass : ByteArray := prog_1_method_40_code
def yX1_pass : MethodName := ⟨RX1, "pass", "(I)I"⟩
def dkwX1_pass_1 : List UInt8 := [184, 0, 96, 27, 61, 28, 158, 0, 13, 42, 182, 1, 49, 132, 2, 255, 167, 255, 245, 42, 180, 0, 156, 172]
abbrev dktX1_pass_1 : List UInt8 := dkwX1_pass_1 ++ []
def dkwX1_pass_0 : List UInt8 := [27, 4, 16, 60, 184, 0, 88, 42, 180, 0, 156, 27, 96, 17, 1, 109, 163, 0, 7, 4, 167, 0, 4, 3]
abbrev dktX1_pass_0 : List UInt8 := dkwX1_pass_0 ++ dktX1_pass_1
theorem dksX1_pass_0 : cX1_pass.data.toList.drop 0 = dktX1_pass_0 := by decide +kernel
theorem dksX1_pass_1 : cX1_pass.data.toList.drop 24 = dktX1_pass_1 := dk_seg dksX1_pass_0 24 rfl rfl
theorem dX1_pass_0 : decode cX1_pass 0 = .ok (.iload_n 1, 1) := dk_27 (dk_at dksX1_pass_0 0 rfl rfl)
theorem dX1_pass_1 : decode cX1_pass 1 = .ok (.iconst 1, 1) := dk_4 (dk_at dksX1_pass_0 1 rfl rfl)
theorem dX1_pass_2 : decode cX1_pass 2 = .ok (.bipush 60, 2) := dk_16 60 (dk_at dksX1_pass_0 2 rfl rfl)
theorem dX1_pass_4 : decode cX1_pass 4 = .ok (.invokestatic 88, 3) := dk_184 0 88 (dk_at dksX1_pass_0 4 rfl rfl)
theorem dX1_pass_7 : decode cX1_pass 7 = .ok (.aload_n 0, 1) := dk_42 (dk_at dksX1_pass_0 7 rfl rfl)
theorem dX1_pass_8 : decode cX1_pass 8 = .ok (.getfield 156, 3) := dk_180 0 156 (dk_at dksX1_pass_0 8 rfl rfl)
theorem dX1_pass_11 : decode cX1_pass 11 = .ok (.iload_n 1, 1) := dk_27 (dk_at dksX1_pass_0 11 rfl rfl)
theorem dX1_pass_12 : decode cX1_pass 12 = .ok (.iadd, 1) := dk_96 (dk_at dksX1_pass_0 12 rfl rfl)
theorem dX1_pass_13 : decode cX1_pass 13 = .ok (.sipush 365, 3) := dk_17 1 109 (dk_at dksX1_pass_0 13 rfl rfl)
theorem dX1_pass_16 : decode cX1_pass 16 = .ok (.if_icmp .gt 7, 3) := dk_163 0 7 (dk_at dksX1_pass_0 16 rfl rfl)
theorem dX1_pass_19 : decode cX1_pass 19 = .ok (.iconst 1, 1) := dk_4 (dk_at dksX1_pass_0 19 rfl rfl)
theorem dX1_pass_20 : decode cX1_pass 20 = .ok (.goto 4, 3) := dk_167 0 4 (dk_at dksX1_pass_0 20 rfl rfl)
theorem dX1_pass_23 : decode cX1_pass 23 = .ok (.iconst 0, 1) := dk_3 (dk_at dksX1_pass_0 23 rfl rfl)
theorem dX1_pass_24 : decode cX1_pass 24 = .ok (.invokestatic 96, 3) := dk_184 0 96 (dk_at dksX1_pass_1 0 rfl rfl)
theorem dX1_pass_27 : decode cX1_pass 27 = .ok (.iload_n 1, 1) := dk_27 (dk_at dksX1_pass_1 3 rfl rfl)
theorem dX1_pass_28 : decode cX1_pass 28 = .ok (.istore_n 2, 1) := dk_61 (dk_at dksX1_pass_1 4 rfl rfl)
theorem dX1_pass_29 : decode cX1_pass 29 = .ok (.iload_n 2, 1) := dk_28 (dk_at dksX1_pass_1 5 rfl rfl)
theorem dX1_pass_30 : decode cX1_pass 30 = .ok (.ifCond .le 13, 3) := dk_158 0 13 (dk_at dksX1_pass_1 6 rfl rfl)
theorem dX1_pass_33 : decode cX1_pass 33 = .ok (.aload_n 0, 1) := dk_42 (dk_at dksX1_pass_1 9 rfl rfl)
theorem dX1_pass_34 : decode cX1_pass 34 = .ok (.invokevirtual 305, 3) := dk_182 1 49 (dk_at dksX1_pass_1 10 rfl rfl)
theorem dX1_pass_37 : decode cX1_pass 37 = .ok (.iinc 2 (-1), 3) := dk_132 2 255 (dk_at dksX1_pass_1 13 rfl rfl)
theorem dX1_pass_40 : decode cX1_pass 40 = .ok (.goto (-11), 3) := dk_167 255 245 (dk_at dksX1_pass_1 16 rfl rfl)
theorem dX1_pass_43 : decode cX1_pass 43 = .ok (.aload_n 0, 1) := dk_42 (dk_at dksX1_pass_1 19 rfl rfl)
theorem dX1_pass_44 : decode cX1_pass 44 = .ok (.getfield 156, 3) := dk_180 0 156 (dk_at dksX1_pass_1 20 rfl rfl)
theorem dX1_pass_47 : decode cX1_pass 47 = .ok (.ireturn, 1) := dk_172 (dk_at dksX1_pass_1 23 rfl rfl)
abbrev cX1_end : ByteArray := prog_1_method_39_code
def yX1_end : MethodName := ⟨RX1, "end", "()V"⟩
def dkwX1_end_8 : List UInt8 := [167, 255, 168, 177]
abbrev dktX1_end_8 : List UInt8 := dkwX1_end_8 ++ []
def dkwX1_end_7 : List UInt8 := [153, 0, 13, 29, 153, 0, 9, 178, 0, 252, 167, 0, 7, 44, 180, 0, 225, 181, 0, 225, 132, 1, 1]
abbrev dktX1_end_7 : List UInt8 := dkwX1_end_7 ++ dktX1_end_8
def dkwX1_end_6 : List UInt8 := [44, 180, 1, 46, 100, 8, 161, 0, 7, 4, 167, 0, 4, 3, 62, 44, 44, 178, 0, 222, 182, 0, 146]
abbrev dktX1_end_6 : List UInt8 := dkwX1_end_6 ++ dktX1_end_7
def dkwX1_end_5 : List UInt8 := [185, 0, 80, 2, 0, 192, 0, 85, 77, 44, 180, 0, 153, 42, 180, 0, 156, 161, 0, 16, 42, 180, 0, 156]
abbrev dktX1_end_5 : List UInt8 := dkwX1_end_5 ++ dktX1_end_6
def dkwX1_end_4 : List UInt8 := [181, 0, 156, 3, 60, 27, 42, 180, 0, 45, 185, 0, 72, 1, 0, 162, 0, 81, 42, 180, 0, 45, 27]
abbrev dktX1_end_4 : List UInt8 := dkwX1_end_4 ++ dktX1_end_5
def dkwX1_end_3 : List UInt8 := [185, 0, 80, 2, 0, 192, 0, 85, 182, 1, 42, 132, 1, 1, 167, 255, 178, 42, 89, 180, 0, 156, 4, 96]
abbrev dktX1_end_3 : List UInt8 := dkwX1_end_3 ++ dktX1_end_4
def dkwX1_end_2 : List UInt8 := [185, 0, 80, 2, 0, 192, 0, 85, 180, 0, 153, 42, 180, 0, 156, 160, 0, 20, 42, 42, 180, 0, 45, 27]
abbrev dktX1_end_2 : List UInt8 := dkwX1_end_2 ++ dktX1_end_3
def dkwX1_end_1 : List UInt8 := [185, 0, 80, 2, 0, 192, 0, 85, 178, 0, 140, 182, 0, 146, 153, 0, 43, 42, 180, 0, 45, 27]
abbrev dktX1_end_1 : List UInt8 := dkwX1_end_1 ++ dktX1_end_2
def dkwX1_end_0 : List UInt8 := [3, 60, 27, 42, 180, 0, 45, 185, 0, 72, 1, 0, 162, 0, 71, 42, 180, 0, 45, 27]
abbrev dktX1_end_0 : List UInt8 := dkwX1_end_0 ++ dktX1_end_1
theorem dksX1_end_0 : cX1_end.data.toList.drop 0 = dktX1_end_0 := by decide +kernel
theorem dksX1_end_1 : cX1_end.data.toList.drop 20 = dktX1_end_1 := dk_seg dksX1_end_0 20 rfl rfl
theorem dksX1_end_2 : cX1_end.data.toList.drop 42 = dktX1_end_2 := dk_seg dksX1_end_1 22 rfl rfl
theorem dksX1_end_3 : cX1_end.data.toList.drop 66 = dktX1_end_3 := dk_seg dksX1_end_2 24 rfl rfl
theorem dksX1_end_4 : cX1_end.data.toList.drop 90 = dktX1_end_4 := dk_seg dksX1_end_3 24 rfl rfl
theorem dksX1_end_5 : cX1_end.data.toList.drop 113 = dktX1_end_5 := dk_seg dksX1_end_4 23 rfl rfl
theorem dksX1_end_6 : cX1_end.data.toList.drop 137 = dktX1_end_6 := dk_seg dksX1_end_5 24 rfl rfl
theorem dksX1_end_7 : cX1_end.data.toList.drop 160 = dktX1_end_7 := dk_seg dksX1_end_6 23 rfl rfl
theorem dksX1_end_8 : cX1_end.data.toList.drop 183 = dktX1_end_8 := dk_seg dksX1_end_7 23 rfl rfl
theorem dX1_end_0 : decode cX1_end 0 = .ok (.iconst 0, 1) := dk_3 (dk_at dksX1_end_0 0 rfl rfl)
theorem dX1_end_1 : decode cX1_end 1 = .ok (.istore_n 1, 1) := dk_60 (dk_at dksX1_end_0 1 rfl rfl)
theorem dX1_end_2 : decode cX1_end 2 = .ok (.iload_n 1, 1) := dk_27 (dk_at dksX1_end_0 2 rfl rfl)
theorem dX1_end_3 : decode cX1_end 3 = .ok (.aload_n 0, 1) := dk_42 (dk_at dksX1_end_0 3 rfl rfl)
theorem dX1_end_4 : decode cX1_end 4 = .ok (.getfield 45, 3) := dk_180 0 45 (dk_at dksX1_end_0 4 rfl rfl)
theorem dX1_end_7 : decode cX1_end 7 = .ok (.invokeinterface 72 1, 5) := by decide +kernel
theorem dX1_end_12 : decode cX1_end 12 = .ok (.if_icmp .ge 71, 3) := dk_162 0 71 (dk_at dksX1_end_0 12 rfl rfl)
theorem dX1_end_15 : decode cX1_end 15 = .ok (.aload_n 0, 1) := dk_42 (dk_at dksX1_end_0 15 rfl rfl)
theorem dX1_end_16 : decode cX1_end 16 = .ok (.getfield 45, 3) := dk_180 0 45 (dk_at dksX1_end_0 16 rfl rfl)
theorem dX1_end_19 : decode cX1_end 19 = .ok (.iload_n 1, 1) := dk_27 (dk_at dksX1_end_0 19 rfl rfl)
theorem dX1_end_20 : decode cX1_end 20 = .ok (.invokeinterface 80 2, 5) := by decide +kernel
theorem dX1_end_25 : decode cX1_end 25 = .ok (.checkcast 85, 3) := dk_192 0 85 (dk_at dksX1_end_1 5 rfl rfl)
theorem dX1_end_28 : decode cX1_end 28 = .ok (.getstatic 140, 3) := dk_178 0 140 (dk_at dksX1_end_1 8 rfl rfl)
theorem dX1_end_31 : decode cX1_end 31 = .ok (.invokevirtual 146, 3) := dk_182 0 146 (dk_at dksX1_end_1 11 rfl rfl)
theorem dX1_end_34 : decode cX1_end 34 = .ok (.ifCond .eq 43, 3) := dk_153 0 43 (dk_at dksX1_end_1 14 rfl rfl)
theorem dX1_end_37 : decode cX1_end 37 = .ok (.aload_n 0, 1) := dk_42 (dk_at dksX1_end_1 17 rfl rfl)
theorem dX1_end_38 : decode cX1_end 38 = .ok (.getfield 45, 3) := dk_180 0 45 (dk_at dksX1_end_1 18 rfl rfl)
theorem dX1_end_41 : decode cX1_end 41 = .ok (.iload_n 1, 1) := dk_27 (dk_at dksX1_end_1 21 rfl rfl)
theorem dX1_end_42 : decode cX1_end 42 = .ok (.invokeinterface 80 2, 5) := by decide +kernel
theorem dX1_end_47 : decode cX1_end 47 = .ok (.checkcast 85, 3) := dk_192 0 85 (dk_at dksX1_end_2 5 rfl rfl)
theorem dX1_end_50 : decode cX1_end 50 = .ok (.getfield 153, 3) := dk_180 0 153 (dk_at dksX1_end_2 8 rfl rfl)
theorem dX1_end_53 : decode cX1_end 53 = .ok (.aload_n 0, 1) := dk_42 (dk_at dksX1_end_2 11 rfl rfl)
theorem dX1_end_54 : decode cX1_end 54 = .ok (.getfield 156, 3) := dk_180 0 156 (dk_at dksX1_end_2 12 rfl rfl)
theorem dX1_end_57 : decode cX1_end 57 = .ok (.if_icmp .ne 20, 3) := dk_160 0 20 (dk_at dksX1_end_2 15 rfl rfl)
theorem dX1_end_60 : decode cX1_end 60 = .ok (.aload_n 0, 1) := dk_42 (dk_at dksX1_end_2 18 rfl rfl)
theorem dX1_end_61 : decode cX1_end 61 = .ok (.aload_n 0, 1) := dk_42 (dk_at dksX1_end_2 19 rfl rfl)
theorem dX1_end_62 : decode cX1_end 62 = .ok (.getfield 45, 3) := dk_180 0 45 (dk_at dksX1_end_2 20 rfl rfl)
theorem dX1_end_65 : decode cX1_end 65 = .ok (.iload_n 1, 1) := dk_27 (dk_at dksX1_end_2 23 rfl rfl)
theorem dX1_end_66 : decode cX1_end 66 = .ok (.invokeinterface 80 2, 5) := by decide +kernel
theorem dX1_end_71 : decode cX1_end 71 = .ok (.checkcast 85, 3) := dk_192 0 85 (dk_at dksX1_end_3 5 rfl rfl)
theorem dX1_end_74 : decode cX1_end 74 = .ok (.invokevirtual 298, 3) := dk_182 1 42 (dk_at dksX1_end_3 8 rfl rfl)
theorem dX1_end_77 : decode cX1_end 77 = .ok (.iinc 1 1, 3) := dk_132 1 1 (dk_at dksX1_end_3 11 rfl rfl)
theorem dX1_end_80 : decode cX1_end 80 = .ok (.goto (-78), 3) := dk_167 255 178 (dk_at dksX1_end_3 14 rfl rfl)
theorem dX1_end_83 : decode cX1_end 83 = .ok (.aload_n 0, 1) := dk_42 (dk_at dksX1_end_3 17 rfl rfl)
theorem dX1_end_84 : decode cX1_end 84 = .ok (.dup, 1) := dk_89 (dk_at dksX1_end_3 18 rfl rfl)
theorem dX1_end_85 : decode cX1_end 85 = .ok (.getfield 156, 3) := dk_180 0 156 (dk_at dksX1_end_3 19 rfl rfl)
theorem dX1_end_88 : decode cX1_end 88 = .ok (.iconst 1, 1) := dk_4 (dk_at dksX1_end_3 22 rfl rfl)
theorem dX1_end_89 : decode cX1_end 89 = .ok (.iadd, 1) := dk_96 (dk_at dksX1_end_3 23 rfl rfl)
theorem dX1_end_90 : decode cX1_end 90 = .ok (.putfield 156, 3) := dk_181 0 156 (dk_at dksX1_end_4 0 rfl rfl)
theorem dX1_end_93 : decode cX1_end 93 = .ok (.iconst 0, 1) := dk_3 (dk_at dksX1_end_4 3 rfl rfl)
theorem dX1_end_94 : decode cX1_end 94 = .ok (.istore_n 1, 1) := dk_60 (dk_at dksX1_end_4 4 rfl rfl)
theorem dX1_end_95 : decode cX1_end 95 = .ok (.iload_n 1, 1) := dk_27 (dk_at dksX1_end_4 5 rfl rfl)
theorem dX1_end_96 : decode cX1_end 96 = .ok (.aload_n 0, 1) := dk_42 (dk_at dksX1_end_4 6 rfl rfl)
theorem dX1_end_97 : decode cX1_end 97 = .ok (.getfield 45, 3) := dk_180 0 45 (dk_at dksX1_end_4 7 rfl rfl)
theorem dX1_end_100 : decode cX1_end 100 = .ok (.invokeinterface 72 1, 5) := by decide +kernel
theorem dX1_end_105 : decode cX1_end 105 = .ok (.if_icmp .ge 81, 3) := dk_162 0 81 (dk_at dksX1_end_4 15 rfl rfl)
theorem dX1_end_108 : decode cX1_end 108 = .ok (.aload_n 0, 1) := dk_42 (dk_at dksX1_end_4 18 rfl rfl)
theorem dX1_end_109 : decode cX1_end 109 = .ok (.getfield 45, 3) := dk_180 0 45 (dk_at dksX1_end_4 19 rfl rfl)
theorem dX1_end_112 : decode cX1_end 112 = .ok (.iload_n 1, 1) := dk_27 (dk_at dksX1_end_4 22 rfl rfl)
theorem dX1_end_113 : decode cX1_end 113 = .ok (.invokeinterface 80 2, 5) := by decide +kernel
theorem dX1_end_118 : decode cX1_end 118 = .ok (.checkcast 85, 3) := dk_192 0 85 (dk_at dksX1_end_5 5 rfl rfl)
theorem dX1_end_121 : decode cX1_end 121 = .ok (.astore_n 2, 1) := dk_77 (dk_at dksX1_end_5 8 rfl rfl)
theorem dX1_end_122 : decode cX1_end 122 = .ok (.aload_n 2, 1) := dk_44 (dk_at dksX1_end_5 9 rfl rfl)
theorem dX1_end_123 : decode cX1_end 123 = .ok (.getfield 153, 3) := dk_180 0 153 (dk_at dksX1_end_5 10 rfl rfl)
theorem dX1_end_126 : decode cX1_end 126 = .ok (.aload_n 0, 1) := dk_42 (dk_at dksX1_end_5 13 rfl rfl)
theorem dX1_end_127 : decode cX1_end 127 = .ok (.getfield 156, 3) := dk_180 0 156 (dk_at dksX1_end_5 14 rfl rfl)
theorem dX1_end_130 : decode cX1_end 130 = .ok (.if_icmp .lt 16, 3) := dk_161 0 16 (dk_at dksX1_end_5 17 rfl rfl)
theorem dX1_end_133 : decode cX1_end 133 = .ok (.aload_n 0, 1) := dk_42 (dk_at dksX1_end_5 20 rfl rfl)
theorem dX1_end_134 : decode cX1_end 134 = .ok (.getfield 156, 3) := dk_180 0 156 (dk_at dksX1_end_5 21 rfl rfl)
theorem dX1_end_137 : decode cX1_end 137 = .ok (.aload_n 2, 1) := dk_44 (dk_at dksX1_end_6 0 rfl rfl)
theorem dX1_end_138 : decode cX1_end 138 = .ok (.getfield 302, 3) := dk_180 1 46 (dk_at dksX1_end_6 1 rfl rfl)
theorem dX1_end_141 : decode cX1_end 141 = .ok (.isub, 1) := dk_100 (dk_at dksX1_end_6 4 rfl rfl)
theorem dX1_end_142 : decode cX1_end 142 = .ok (.iconst 5, 1) := dk_8 (dk_at dksX1_end_6 5 rfl rfl)
theorem dX1_end_143 : decode cX1_end 143 = .ok (.if_icmp .lt 7, 3) := dk_161 0 7 (dk_at dksX1_end_6 6 rfl rfl)
theorem dX1_end_146 : decode cX1_end 146 = .ok (.iconst 1, 1) := dk_4 (dk_at dksX1_end_6 9 rfl rfl)
theorem dX1_end_147 : decode cX1_end 147 = .ok (.goto 4, 3) := dk_167 0 4 (dk_at dksX1_end_6 10 rfl rfl)
theorem dX1_end_150 : decode cX1_end 150 = .ok (.iconst 0, 1) := dk_3 (dk_at dksX1_end_6 13 rfl rfl)
theorem dX1_end_151 : decode cX1_end 151 = .ok (.istore_n 3, 1) := dk_62 (dk_at dksX1_end_6 14 rfl rfl)
theorem dX1_end_152 : decode cX1_end 152 = .ok (.aload_n 2, 1) := dk_44 (dk_at dksX1_end_6 15 rfl rfl)
theorem dX1_end_153 : decode cX1_end 153 = .ok (.aload_n 2, 1) := dk_44 (dk_at dksX1_end_6 16 rfl rfl)
theorem dX1_end_154 : decode cX1_end 154 = .ok (.getstatic 222, 3) := dk_178 0 222 (dk_at dksX1_end_6 17 rfl rfl)
theorem dX1_end_157 : decode cX1_end 157 = .ok (.invokevirtual 146, 3) := dk_182 0 146 (dk_at dksX1_end_6 20 rfl rfl)
theorem dX1_end_160 : decode cX1_end 160 = .ok (.ifCond .eq 13, 3) := dk_153 0 13 (dk_at dksX1_end_7 0 rfl rfl)
theorem dX1_end_163 : decode cX1_end 163 = .ok (.iload_n 3, 1) := dk_29 (dk_at dksX1_end_7 3 rfl rfl)
theorem dX1_end_164 : decode cX1_end 164 = .ok (.ifCond .eq 9, 3) := dk_153 0 9 (dk_at dksX1_end_7 4 rfl rfl)
theorem dX1_end_167 : decode cX1_end 167 = .ok (.getstatic 252, 3) := dk_178 0 252 (dk_at dksX1_end_7 7 rfl rfl)
theorem dX1_end_170 : decode cX1_end 170 = .ok (.goto 7, 3) := dk_167 0 7 (dk_at dksX1_end_7 10 rfl rfl)
theorem dX1_end_173 : decode cX1_end 173 = .ok (.aload_n 2, 1) := dk_44 (dk_at dksX1_end_7 13 rfl rfl)
theorem dX1_end_174 : decode cX1_end 174 = .ok (.getfield 225, 3) := dk_180 0 225 (dk_at dksX1_end_7 14 rfl rfl)
theorem dX1_end_177 : decode cX1_end 177 = .ok (.putfield 225, 3) := dk_181 0 225 (dk_at dksX1_end_7 17 rfl rfl)
theorem dX1_end_180 : decode cX1_end 180 = .ok (.iinc 1 1, 3) := dk_132 1 1 (dk_at dksX1_end_7 20 rfl rfl)
theorem dX1_end_183 : decode cX1_end 183 = .ok (.goto (-88), 3) := dk_167 255 168 (dk_at dksX1_end_8 0 rfl rfl)
theorem dX1_end_186 : decode cX1_end 186 = .ok (.return_, 1) := dk_177 (dk_at dksX1_end_8 3 rfl rfl)
abbrev cX1_play : ByteArray := prog_1_method_38_code
def yX1_play : MethodName := ⟨RX1, "play", "(LFirstdanceAgency$Wedding;)V"⟩
def dkwX1_play_6 : List UInt8 := [182, 0, 7, 192, 0, 11, 180, 1, 38, 77, 167, 255, 200, 177]
abbrev dktX1_play_6 : List UInt8 := dkwX1_play_6 ++ []
def dkwX1_play_5 : List UInt8 := [180, 0, 32, 29, 185, 0, 80, 2, 0, 192, 0, 48, 182, 1, 34, 185, 0, 113, 3, 0, 87, 44]
abbrev dktX1_play_5 : List UInt8 := dkwX1_play_5 ++ dktX1_play_6
def dkwX1_play_4 : List UInt8 := [182, 0, 1, 153, 0, 55, 44, 182, 0, 7, 192, 0, 11, 180, 1, 31, 62, 42, 180, 0, 32, 29, 42]
abbrev dktX1_play_4 : List UInt8 := dkwX1_play_4 ++ dktX1_play_5
def dkwX1_play_3 : List UInt8 := [167, 0, 4, 3, 96, 181, 1, 21, 132, 2, 1, 167, 255, 198, 42, 43, 180, 0, 195, 182, 1, 27, 77, 44]
abbrev dktX1_play_3 : List UInt8 := dkwX1_play_3 ++ dktX1_play_4
def dkwX1_play_2 : List UInt8 := [192, 0, 83, 89, 180, 1, 21, 43, 180, 0, 195, 28, 184, 0, 123, 153, 0, 12, 42, 28, 43, 182, 1, 24]
abbrev dktX1_play_2 : List UInt8 := dkwX1_play_2 ++ dktX1_play_3
def dkwX1_play_1 : List UInt8 := [42, 180, 0, 26, 185, 0, 72, 1, 0, 162, 0, 51, 42, 180, 0, 26, 28, 185, 0, 80, 2, 0]
abbrev dktX1_play_1 : List UInt8 := dkwX1_play_1 ++ dktX1_play_2
def dkwX1_play_0 : List UInt8 := [43, 178, 1, 15, 181, 0, 225, 43, 43, 180, 0, 231, 42, 43, 182, 1, 18, 96, 181, 0, 249, 3, 61, 28]
abbrev dktX1_play_0 : List UInt8 := dkwX1_play_0 ++ dktX1_play_1
theorem dksX1_play_0 : cX1_play.data.toList.drop 0 = dktX1_play_0 := by decide +kernel
theorem dksX1_play_1 : cX1_play.data.toList.drop 24 = dktX1_play_1 := dk_seg dksX1_play_0 24 rfl rfl
theorem dksX1_play_2 : cX1_play.data.toList.drop 46 = dktX1_play_2 := dk_seg dksX1_play_1 22 rfl rfl
theorem dksX1_play_3 : cX1_play.data.toList.drop 70 = dktX1_play_3 := dk_seg dksX1_play_2 24 rfl rfl
theorem dksX1_play_4 : cX1_play.data.toList.drop 94 = dktX1_play_4 := dk_seg dksX1_play_3 24 rfl rfl
theorem dksX1_play_5 : cX1_play.data.toList.drop 117 = dktX1_play_5 := dk_seg dksX1_play_4 23 rfl rfl
theorem dksX1_play_6 : cX1_play.data.toList.drop 139 = dktX1_play_6 := dk_seg dksX1_play_5 22 rfl rfl
theorem dX1_play_0 : decode cX1_play 0 = .ok (.aload_n 1, 1) := dk_43 (dk_at dksX1_play_0 0 rfl rfl)
theorem dX1_play_1 : decode cX1_play 1 = .ok (.getstatic 271, 3) := dk_178 1 15 (dk_at dksX1_play_0 1 rfl rfl)
theorem dX1_play_4 : decode cX1_play 4 = .ok (.putfield 225, 3) := dk_181 0 225 (dk_at dksX1_play_0 4 rfl rfl)
theorem dX1_play_7 : decode cX1_play 7 = .ok (.aload_n 1, 1) := dk_43 (dk_at dksX1_play_0 7 rfl rfl)
theorem dX1_play_8 : decode cX1_play 8 = .ok (.aload_n 1, 1) := dk_43 (dk_at dksX1_play_0 8 rfl rfl)
theorem dX1_play_9 : decode cX1_play 9 = .ok (.getfield 231, 3) := dk_180 0 231 (dk_at dksX1_play_0 9 rfl rfl)
theorem dX1_play_12 : decode cX1_play 12 = .ok (.aload_n 0, 1) := dk_42 (dk_at dksX1_play_0 12 rfl rfl)
theorem dX1_play_13 : decode cX1_play 13 = .ok (.aload_n 1, 1) := dk_43 (dk_at dksX1_play_0 13 rfl rfl)
theorem dX1_play_14 : decode cX1_play 14 = .ok (.invokevirtual 274, 3) := dk_182 1 18 (dk_at dksX1_play_0 14 rfl rfl)
theorem dX1_play_17 : decode cX1_play 17 = .ok (.iadd, 1) := dk_96 (dk_at dksX1_play_0 17 rfl rfl)
theorem dX1_play_18 : decode cX1_play 18 = .ok (.putfield 249, 3) := dk_181 0 249 (dk_at dksX1_play_0 18 rfl rfl)
theorem dX1_play_21 : decode cX1_play 21 = .ok (.iconst 0, 1) := dk_3 (dk_at dksX1_play_0 21 rfl rfl)
theorem dX1_play_22 : decode cX1_play 22 = .ok (.istore_n 2, 1) := dk_61 (dk_at dksX1_play_0 22 rfl rfl)
theorem dX1_play_23 : decode cX1_play 23 = .ok (.iload_n 2, 1) := dk_28 (dk_at dksX1_play_0 23 rfl rfl)
theorem dX1_play_24 : decode cX1_play 24 = .ok (.aload_n 0, 1) := dk_42 (dk_at dksX1_play_1 0 rfl rfl)
theorem dX1_play_25 : decode cX1_play 25 = .ok (.getfield 26, 3) := dk_180 0 26 (dk_at dksX1_play_1 1 rfl rfl)
theorem dX1_play_28 : decode cX1_play 28 = .ok (.invokeinterface 72 1, 5) := by decide +kernel
theorem dX1_play_33 : decode cX1_play 33 = .ok (.if_icmp .ge 51, 3) := dk_162 0 51 (dk_at dksX1_play_1 9 rfl rfl)
theorem dX1_play_36 : decode cX1_play 36 = .ok (.aload_n 0, 1) := dk_42 (dk_at dksX1_play_1 12 rfl rfl)
theorem dX1_play_37 : decode cX1_play 37 = .ok (.getfield 26, 3) := dk_180 0 26 (dk_at dksX1_play_1 13 rfl rfl)
theorem dX1_play_40 : decode cX1_play 40 = .ok (.iload_n 2, 1) := dk_28 (dk_at dksX1_play_1 16 rfl rfl)
theorem dX1_play_41 : decode cX1_play 41 = .ok (.invokeinterface 80 2, 5) := by decide +kernel
theorem dX1_play_46 : decode cX1_play 46 = .ok (.checkcast 83, 3) := dk_192 0 83 (dk_at dksX1_play_2 0 rfl rfl)
theorem dX1_play_49 : decode cX1_play 49 = .ok (.dup, 1) := dk_89 (dk_at dksX1_play_2 3 rfl rfl)
theorem dX1_play_50 : decode cX1_play 50 = .ok (.getfield 277, 3) := dk_180 1 21 (dk_at dksX1_play_2 4 rfl rfl)
theorem dX1_play_53 : decode cX1_play 53 = .ok (.aload_n 1, 1) := dk_43 (dk_at dksX1_play_2 7 rfl rfl)
theorem dX1_play_54 : decode cX1_play 54 = .ok (.getfield 195, 3) := dk_180 0 195 (dk_at dksX1_play_2 8 rfl rfl)
theorem dX1_play_57 : decode cX1_play 57 = .ok (.iload_n 2, 1) := dk_28 (dk_at dksX1_play_2 11 rfl rfl)
theorem dX1_play_58 : decode cX1_play 58 = .ok (.invokestatic 123, 3) := dk_184 0 123 (dk_at dksX1_play_2 12 rfl rfl)
theorem dX1_play_61 : decode cX1_play 61 = .ok (.ifCond .eq 12, 3) := dk_153 0 12 (dk_at dksX1_play_2 15 rfl rfl)
theorem dX1_play_64 : decode cX1_play 64 = .ok (.aload_n 0, 1) := dk_42 (dk_at dksX1_play_2 18 rfl rfl)
theorem dX1_play_65 : decode cX1_play 65 = .ok (.iload_n 2, 1) := dk_28 (dk_at dksX1_play_2 19 rfl rfl)
theorem dX1_play_66 : decode cX1_play 66 = .ok (.aload_n 1, 1) := dk_43 (dk_at dksX1_play_2 20 rfl rfl)
theorem dX1_play_67 : decode cX1_play 67 = .ok (.invokevirtual 280, 3) := dk_182 1 24 (dk_at dksX1_play_2 21 rfl rfl)
theorem dX1_play_70 : decode cX1_play 70 = .ok (.goto 4, 3) := dk_167 0 4 (dk_at dksX1_play_3 0 rfl rfl)
theorem dX1_play_73 : decode cX1_play 73 = .ok (.iconst 0, 1) := dk_3 (dk_at dksX1_play_3 3 rfl rfl)
theorem dX1_play_74 : decode cX1_play 74 = .ok (.iadd, 1) := dk_96 (dk_at dksX1_play_3 4 rfl rfl)
theorem dX1_play_75 : decode cX1_play 75 = .ok (.putfield 277, 3) := dk_181 1 21 (dk_at dksX1_play_3 5 rfl rfl)
theorem dX1_play_78 : decode cX1_play 78 = .ok (.iinc 2 1, 3) := dk_132 2 1 (dk_at dksX1_play_3 8 rfl rfl)
theorem dX1_play_81 : decode cX1_play 81 = .ok (.goto (-58), 3) := dk_167 255 198 (dk_at dksX1_play_3 11 rfl rfl)
theorem dX1_play_84 : decode cX1_play 84 = .ok (.aload_n 0, 1) := dk_42 (dk_at dksX1_play_3 14 rfl rfl)
theorem dX1_play_85 : decode cX1_play 85 = .ok (.aload_n 1, 1) := dk_43 (dk_at dksX1_play_3 15 rfl rfl)
theorem dX1_play_86 : decode cX1_play 86 = .ok (.getfield 195, 3) := dk_180 0 195 (dk_at dksX1_play_3 16 rfl rfl)
theorem dX1_play_89 : decode cX1_play 89 = .ok (.invokevirtual 283, 3) := dk_182 1 27 (dk_at dksX1_play_3 19 rfl rfl)
theorem dX1_play_92 : decode cX1_play 92 = .ok (.astore_n 2, 1) := dk_77 (dk_at dksX1_play_3 22 rfl rfl)
theorem dX1_play_93 : decode cX1_play 93 = .ok (.aload_n 2, 1) := dk_44 (dk_at dksX1_play_3 23 rfl rfl)
theorem dX1_play_94 : decode cX1_play 94 = .ok (.invokevirtual 1, 3) := dk_182 0 1 (dk_at dksX1_play_4 0 rfl rfl)
theorem dX1_play_97 : decode cX1_play 97 = .ok (.ifCond .eq 55, 3) := dk_153 0 55 (dk_at dksX1_play_4 3 rfl rfl)
theorem dX1_play_100 : decode cX1_play 100 = .ok (.aload_n 2, 1) := dk_44 (dk_at dksX1_play_4 6 rfl rfl)
theorem dX1_play_101 : decode cX1_play 101 = .ok (.invokevirtual 7, 3) := dk_182 0 7 (dk_at dksX1_play_4 7 rfl rfl)
theorem dX1_play_104 : decode cX1_play 104 = .ok (.checkcast 11, 3) := dk_192 0 11 (dk_at dksX1_play_4 10 rfl rfl)
theorem dX1_play_107 : decode cX1_play 107 = .ok (.getfield 287, 3) := dk_180 1 31 (dk_at dksX1_play_4 13 rfl rfl)
theorem dX1_play_110 : decode cX1_play 110 = .ok (.istore_n 3, 1) := dk_62 (dk_at dksX1_play_4 16 rfl rfl)
theorem dX1_play_111 : decode cX1_play 111 = .ok (.aload_n 0, 1) := dk_42 (dk_at dksX1_play_4 17 rfl rfl)
theorem dX1_play_112 : decode cX1_play 112 = .ok (.getfield 32, 3) := dk_180 0 32 (dk_at dksX1_play_4 18 rfl rfl)
theorem dX1_play_115 : decode cX1_play 115 = .ok (.iload_n 3, 1) := dk_29 (dk_at dksX1_play_4 21 rfl rfl)
theorem dX1_play_116 : decode cX1_play 116 = .ok (.aload_n 0, 1) := dk_42 (dk_at dksX1_play_4 22 rfl rfl)
theorem dX1_play_117 : decode cX1_play 117 = .ok (.getfield 32, 3) := dk_180 0 32 (dk_at dksX1_play_5 0 rfl rfl)
theorem dX1_play_120 : decode cX1_play 120 = .ok (.iload_n 3, 1) := dk_29 (dk_at dksX1_play_5 3 rfl rfl)
theorem dX1_play_121 : decode cX1_play 121 = .ok (.invokeinterface 80 2, 5) := by decide +kernel
theorem dX1_play_126 : decode cX1_play 126 = .ok (.checkcast 48, 3) := dk_192 0 48 (dk_at dksX1_play_5 9 rfl rfl)
theorem dX1_play_129 : decode cX1_play 129 = .ok (.invokevirtual 290, 3) := dk_182 1 34 (dk_at dksX1_play_5 12 rfl rfl)
theorem dX1_play_132 : decode cX1_play 132 = .ok (.invokeinterface 113 3, 5) := by decide +kernel
theorem dX1_play_137 : decode cX1_play 137 = .ok (.pop, 1) := dk_87 (dk_at dksX1_play_5 20 rfl rfl)
theorem dX1_play_138 : decode cX1_play 138 = .ok (.aload_n 2, 1) := dk_44 (dk_at dksX1_play_5 21 rfl rfl)
theorem dX1_play_139 : decode cX1_play 139 = .ok (.invokevirtual 7, 3) := dk_182 0 7 (dk_at dksX1_play_6 0 rfl rfl)
theorem dX1_play_142 : decode cX1_play 142 = .ok (.checkcast 11, 3) := dk_192 0 11 (dk_at dksX1_play_6 3 rfl rfl)
theorem dX1_play_145 : decode cX1_play 145 = .ok (.getfield 294, 3) := dk_180 1 38 (dk_at dksX1_play_6 6 rfl rfl)
theorem dX1_play_148 : decode cX1_play 148 = .ok (.astore_n 2, 1) := dk_77 (dk_at dksX1_play_6 9 rfl rfl)
theorem dX1_play_149 : decode cX1_play 149 = .ok (.goto (-56), 3) := dk_167 255 200 (dk_at dksX1_play_6 10 rfl rfl)
theorem dX1_play_152 : decode cX1_play 152 = .ok (.return_, 1) := dk_177 (dk_at dksX1_play_6 13 rfl rfl)
abbrev cX1_extra : ByteArray := prog_1_method_36_code
def yX1_extra : MethodName := ⟨RX1, "extra", "(LFirstdanceAgency$Wedding;)I"⟩
def dkwX1_extra_2 : List UInt8 := [167, 0, 4, 3, 96, 61, 132, 3, 1, 167, 255, 206, 43, 182, 1, 9, 28, 104, 7, 108, 172]
abbrev dktX1_extra_2 : List UInt8 := dkwX1_extra_2 ++ []
def dkwX1_extra_1 : List UInt8 := [184, 0, 123, 153, 0, 22, 42, 180, 0, 26, 29, 185, 0, 80, 2, 0, 192, 0, 83, 180, 0, 165]
abbrev dktX1_extra_1 : List UInt8 := dkwX1_extra_1 ++ dktX1_extra_2
def dkwX1_extra_0 : List UInt8 := [3, 61, 3, 62, 29, 42, 180, 0, 26, 185, 0, 72, 1, 0, 162, 0, 43, 28, 43, 180, 0, 195, 29]
abbrev dktX1_extra_0 : List UInt8 := dkwX1_extra_0 ++ dktX1_extra_1
theorem dksX1_extra_0 : cX1_extra.data.toList.drop 0 = dktX1_extra_0 := by decide +kernel
theorem dksX1_extra_1 : cX1_extra.data.toList.drop 23 = dktX1_extra_1 := dk_seg dksX1_extra_0 23 rfl rfl
theorem dksX1_extra_2 : cX1_extra.data.toList.drop 45 = dktX1_extra_2 := dk_seg dksX1_extra_1 22 rfl rfl
theorem dX1_extra_0 : decode cX1_extra 0 = .ok (.iconst 0, 1) := dk_3 (dk_at dksX1_extra_0 0 rfl rfl)
theorem dX1_extra_1 : decode cX1_extra 1 = .ok (.istore_n 2, 1) := dk_61 (dk_at dksX1_extra_0 1 rfl rfl)
theorem dX1_extra_2 : decode cX1_extra 2 = .ok (.iconst 0, 1) := dk_3 (dk_at dksX1_extra_0 2 rfl rfl)
theorem dX1_extra_3 : decode cX1_extra 3 = .ok (.istore_n 3, 1) := dk_62 (dk_at dksX1_extra_0 3 rfl rfl)
theorem dX1_extra_4 : decode cX1_extra 4 = .ok (.iload_n 3, 1) := dk_29 (dk_at dksX1_extra_0 4 rfl rfl)
theorem dX1_extra_5 : decode cX1_extra 5 = .ok (.aload_n 0, 1) := dk_42 (dk_at dksX1_extra_0 5 rfl rfl)
theorem dX1_extra_6 : decode cX1_extra 6 = .ok (.getfield 26, 3) := dk_180 0 26 (dk_at dksX1_extra_0 6 rfl rfl)
theorem dX1_extra_9 : decode cX1_extra 9 = .ok (.invokeinterface 72 1, 5) := by decide +kernel
theorem dX1_extra_14 : decode cX1_extra 14 = .ok (.if_icmp .ge 43, 3) := dk_162 0 43 (dk_at dksX1_extra_0 14 rfl rfl)
theorem dX1_extra_17 : decode cX1_extra 17 = .ok (.iload_n 2, 1) := dk_28 (dk_at dksX1_extra_0 17 rfl rfl)
theorem dX1_extra_18 : decode cX1_extra 18 = .ok (.aload_n 1, 1) := dk_43 (dk_at dksX1_extra_0 18 rfl rfl)
theorem dX1_extra_19 : decode cX1_extra 19 = .ok (.getfield 195, 3) := dk_180 0 195 (dk_at dksX1_extra_0 19 rfl rfl)
theorem dX1_extra_22 : decode cX1_extra 22 = .ok (.iload_n 3, 1) := dk_29 (dk_at dksX1_extra_0 22 rfl rfl)
theorem dX1_extra_23 : decode cX1_extra 23 = .ok (.invokestatic 123, 3) := dk_184 0 123 (dk_at dksX1_extra_1 0 rfl rfl)
theorem dX1_extra_26 : decode cX1_extra 26 = .ok (.ifCond .eq 22, 3) := dk_153 0 22 (dk_at dksX1_extra_1 3 rfl rfl)
theorem dX1_extra_29 : decode cX1_extra 29 = .ok (.aload_n 0, 1) := dk_42 (dk_at dksX1_extra_1 6 rfl rfl)
theorem dX1_extra_30 : decode cX1_extra 30 = .ok (.getfield 26, 3) := dk_180 0 26 (dk_at dksX1_extra_1 7 rfl rfl)
theorem dX1_extra_33 : decode cX1_extra 33 = .ok (.iload_n 3, 1) := dk_29 (dk_at dksX1_extra_1 10 rfl rfl)
theorem dX1_extra_34 : decode cX1_extra 34 = .ok (.invokeinterface 80 2, 5) := by decide +kernel
theorem dX1_extra_39 : decode cX1_extra 39 = .ok (.checkcast 83, 3) := dk_192 0 83 (dk_at dksX1_extra_1 16 rfl rfl)
theorem dX1_extra_42 : decode cX1_extra 42 = .ok (.getfield 165, 3) := dk_180 0 165 (dk_at dksX1_extra_1 19 rfl rfl)
theorem dX1_extra_45 : decode cX1_extra 45 = .ok (.goto 4, 3) := dk_167 0 4 (dk_at dksX1_extra_2 0 rfl rfl)
theorem dX1_extra_48 : decode cX1_extra 48 = .ok (.iconst 0, 1) := dk_3 (dk_at dksX1_extra_2 3 rfl rfl)
theorem dX1_extra_49 : decode cX1_extra 49 = .ok (.iadd, 1) := dk_96 (dk_at dksX1_extra_2 4 rfl rfl)
theorem dX1_extra_50 : decode cX1_extra 50 = .ok (.istore_n 2, 1) := dk_61 (dk_at dksX1_extra_2 5 rfl rfl)
theorem dX1_extra_51 : decode cX1_extra 51 = .ok (.iinc 3 1, 3) := dk_132 3 1 (dk_at dksX1_extra_2 6 rfl rfl)
theorem dX1_extra_54 : decode cX1_extra 54 = .ok (.goto (-50), 3) := dk_167 255 206 (dk_at dksX1_extra_2 9 rfl rfl)
theorem dX1_extra_57 : decode cX1_extra 57 = .ok (.aload_n 1, 1) := dk_43 (dk_at dksX1_extra_2 12 rfl rfl)
theorem dX1_extra_58 : decode cX1_extra 58 = .ok (.invokevirtual 265, 3) := dk_182 1 9 (dk_at dksX1_extra_2 13 rfl rfl)
theorem dX1_extra_61 : decode cX1_extra 61 = .ok (.iload_n 2, 1) := dk_28 (dk_at dksX1_extra_2 16 rfl rfl)
theorem dX1_extra_62 : decode cX1_extra 62 = .ok (.imul, 1) := dk_104 (dk_at dksX1_extra_2 17 rfl rfl)
theorem dX1_extra_63 : decode cX1_extra 63 = .ok (.iconst 4, 1) := dk_7 (dk_at dksX1_extra_2 18 rfl rfl)
theorem dX1_extra_64 : decode cX1_extra 64 = .ok (.idiv, 1) := dk_108 (dk_at dksX1_extra_2 19 rfl rfl)
theorem dX1_extra_65 : decode cX1_extra 65 = .ok (.ireturn, 1) := dk_172 (dk_at dksX1_extra_2 20 rfl rfl)
abbrev cX1_earns : ByteArray := prog_1_method_37_code
def yX1_earns : MethodName := ⟨RX1, "earns", "(ILFirstdanceAgency$Wedding;)I"⟩
def dkwX1_earns_1 : List UInt8 := [180, 0, 165, 104, 7, 108, 96, 172]
abbrev dktX1_earns_1 : List UInt8 := dkwX1_earns_1 ++ []
def dkwX1_earns_0 : List UInt8 := [42, 27, 44, 182, 1, 12, 44, 182, 1, 9, 42, 180, 0, 26, 27, 185, 0, 80, 2, 0, 192, 0, 83]
abbrev dktX1_earns_0 : List UInt8 := dkwX1_earns_0 ++ dktX1_earns_1
theorem dksX1_earns_0 : cX1_earns.data.toList.drop 0 = dktX1_earns_0 := by decide +kernel
theorem dksX1_earns_1 : cX1_earns.data.toList.drop 23 = dktX1_earns_1 := dk_seg dksX1_earns_0 23 rfl rfl
theorem dX1_earns_0 : decode cX1_earns 0 = .ok (.aload_n 0, 1) := dk_42 (dk_at dksX1_earns_0 0 rfl rfl)
theorem dX1_earns_1 : decode cX1_earns 1 = .ok (.iload_n 1, 1) := dk_27 (dk_at dksX1_earns_0 1 rfl rfl)
theorem dX1_earns_2 : decode cX1_earns 2 = .ok (.aload_n 2, 1) := dk_44 (dk_at dksX1_earns_0 2 rfl rfl)
theorem dX1_earns_3 : decode cX1_earns 3 = .ok (.invokevirtual 268, 3) := dk_182 1 12 (dk_at dksX1_earns_0 3 rfl rfl)
theorem dX1_earns_6 : decode cX1_earns 6 = .ok (.aload_n 2, 1) := dk_44 (dk_at dksX1_earns_0 6 rfl rfl)
theorem dX1_earns_7 : decode cX1_earns 7 = .ok (.invokevirtual 265, 3) := dk_182 1 9 (dk_at dksX1_earns_0 7 rfl rfl)
theorem dX1_earns_10 : decode cX1_earns 10 = .ok (.aload_n 0, 1) := dk_42 (dk_at dksX1_earns_0 10 rfl rfl)
theorem dX1_earns_11 : decode cX1_earns 11 = .ok (.getfield 26, 3) := dk_180 0 26 (dk_at dksX1_earns_0 11 rfl rfl)
theorem dX1_earns_14 : decode cX1_earns 14 = .ok (.iload_n 1, 1) := dk_27 (dk_at dksX1_earns_0 14 rfl rfl)
theorem dX1_earns_15 : decode cX1_earns 15 = .ok (.invokeinterface 80 2, 5) := by decide +kernel
theorem dX1_earns_20 : decode cX1_earns 20 = .ok (.checkcast 83, 3) := dk_192 0 83 (dk_at dksX1_earns_0 20 rfl rfl)
theorem dX1_earns_23 : decode cX1_earns 23 = .ok (.getfield 165, 3) := dk_180 0 165 (dk_at dksX1_earns_1 0 rfl rfl)
theorem dX1_earns_26 : decode cX1_earns 26 = .ok (.imul, 1) := dk_104 (dk_at dksX1_earns_1 3 rfl rfl)
theorem dX1_earns_27 : decode cX1_earns 27 = .ok (.iconst 4, 1) := dk_7 (dk_at dksX1_earns_1 4 rfl rfl)
theorem dX1_earns_28 : decode cX1_earns 28 = .ok (.idiv, 1) := dk_108 (dk_at dksX1_earns_1 5 rfl rfl)
theorem dX1_earns_29 : decode cX1_earns 29 = .ok (.iadd, 1) := dk_96 (dk_at dksX1_earns_1 6 rfl rfl)
theorem dX1_earns_30 : decode cX1_earns 30 = .ok (.ireturn, 1) := dk_172 (dk_at dksX1_earns_1 7 rfl rfl)
abbrev cX1_ofPlayer : ByteArray := prog_1_method_49_code
def yX1_ofPlayer : MethodName := ⟨RX1, "ofPlayer", "(II)I"⟩
def dkwX1_ofPlayer_0 : List UInt8 := [42, 27, 182, 0, 100, 87, 28, 3, 16, 8, 184, 0, 88, 42, 27, 28, 182, 1, 115, 172]
abbrev dktX1_ofPlayer_0 : List UInt8 := dkwX1_ofPlayer_0 ++ []
theorem dksX1_ofPlayer_0 : cX1_ofPlayer.data.toList.drop 0 = dktX1_ofPlayer_0 := by decide +kernel
theorem dX1_ofPlayer_0 : decode cX1_ofPlayer 0 = .ok (.aload_n 0, 1) := dk_42 (dk_at dksX1_ofPlayer_0 0 rfl rfl)
theorem dX1_ofPlayer_1 : decode cX1_ofPlayer 1 = .ok (.iload_n 1, 1) := dk_27 (dk_at dksX1_ofPlayer_0 1 rfl rfl)
theorem dX1_ofPlayer_2 : decode cX1_ofPlayer 2 = .ok (.invokevirtual 100, 3) := dk_182 0 100 (dk_at dksX1_ofPlayer_0 2 rfl rfl)
theorem dX1_ofPlayer_5 : decode cX1_ofPlayer 5 = .ok (.pop, 1) := dk_87 (dk_at dksX1_ofPlayer_0 5 rfl rfl)
theorem dX1_ofPlayer_6 : decode cX1_ofPlayer 6 = .ok (.iload_n 2, 1) := dk_28 (dk_at dksX1_ofPlayer_0 6 rfl rfl)
theorem dX1_ofPlayer_7 : decode cX1_ofPlayer 7 = .ok (.iconst 0, 1) := dk_3 (dk_at dksX1_ofPlayer_0 7 rfl rfl)
theorem dX1_ofPlayer_8 : decode cX1_ofPlayer 8 = .ok (.bipush 8, 2) := dk_16 8 (dk_at dksX1_ofPlayer_0 8 rfl rfl)
theorem dX1_ofPlayer_10 : decode cX1_ofPlayer 10 = .ok (.invokestatic 88, 3) := dk_184 0 88 (dk_at dksX1_ofPlayer_0 10 rfl rfl)
theorem dX1_ofPlayer_13 : decode cX1_ofPlayer 13 = .ok (.aload_n 0, 1) := dk_42 (dk_at dksX1_ofPlayer_0 13 rfl rfl)
theorem dX1_ofPlayer_14 : decode cX1_ofPlayer 14 = .ok (.iload_n 1, 1) := dk_27 (dk_at dksX1_ofPlayer_0 14 rfl rfl)
theorem dX1_ofPlayer_15 : decode cX1_ofPlayer 15 = .ok (.iload_n 2, 1) := dk_28 (dk_at dksX1_ofPlayer_0 15 rfl rfl)
theorem dX1_ofPlayer_16 : decode cX1_ofPlayer 16 = .ok (.invokevirtual 371, 3) := dk_182 1 115 (dk_at dksX1_ofPlayer_0 16 rfl rfl)
theorem dX1_ofPlayer_19 : decode cX1_ofPlayer 19 = .ok (.ireturn, 1) := dk_172 (dk_at dksX1_ofPlayer_0 19 rfl rfl)
abbrev cX1_ofSong : ByteArray := prog_1_method_52_code
def yX1_ofSong : MethodName := ⟨RX1, "ofSong", "(II)I"⟩
def dkwX1_ofSong_0 : List UInt8 := [27, 16, 16, 184, 0, 76, 28, 3, 8, 184, 0, 88, 42, 27, 28, 182, 1, 127, 172]
abbrev dktX1_ofSong_0 : List UInt8 := dkwX1_ofSong_0 ++ []
theorem dksX1_ofSong_0 : cX1_ofSong.data.toList.drop 0 = dktX1_ofSong_0 := by decide +kernel
theorem dX1_ofSong_0 : decode cX1_ofSong 0 = .ok (.iload_n 1, 1) := dk_27 (dk_at dksX1_ofSong_0 0 rfl rfl)
theorem dX1_ofSong_1 : decode cX1_ofSong 1 = .ok (.bipush 16, 2) := dk_16 16 (dk_at dksX1_ofSong_0 1 rfl rfl)
theorem dX1_ofSong_3 : decode cX1_ofSong 3 = .ok (.invokestatic 76, 3) := dk_184 0 76 (dk_at dksX1_ofSong_0 3 rfl rfl)
theorem dX1_ofSong_6 : decode cX1_ofSong 6 = .ok (.iload_n 2, 1) := dk_28 (dk_at dksX1_ofSong_0 6 rfl rfl)
theorem dX1_ofSong_7 : decode cX1_ofSong 7 = .ok (.iconst 0, 1) := dk_3 (dk_at dksX1_ofSong_0 7 rfl rfl)
theorem dX1_ofSong_8 : decode cX1_ofSong 8 = .ok (.iconst 5, 1) := dk_8 (dk_at dksX1_ofSong_0 8 rfl rfl)
theorem dX1_ofSong_9 : decode cX1_ofSong 9 = .ok (.invokestatic 88, 3) := dk_184 0 88 (dk_at dksX1_ofSong_0 9 rfl rfl)
theorem dX1_ofSong_12 : decode cX1_ofSong 12 = .ok (.aload_n 0, 1) := dk_42 (dk_at dksX1_ofSong_0 12 rfl rfl)
theorem dX1_ofSong_13 : decode cX1_ofSong 13 = .ok (.iload_n 1, 1) := dk_27 (dk_at dksX1_ofSong_0 13 rfl rfl)
theorem dX1_ofSong_14 : decode cX1_ofSong 14 = .ok (.iload_n 2, 1) := dk_28 (dk_at dksX1_ofSong_0 14 rfl rfl)
theorem dX1_ofSong_15 : decode cX1_ofSong 15 = .ok (.invokevirtual 383, 3) := dk_182 1 127 (dk_at dksX1_ofSong_0 15 rfl rfl)
theorem dX1_ofSong_18 : decode cX1_ofSong 18 = .ok (.ireturn, 1) := dk_172 (dk_at dksX1_ofSong_0 18 rfl rfl)
abbrev cX1_ofBand : ByteArray := prog_1_method_55_code
def yX1_ofBand : MethodName := ⟨RX1, "ofBand", "(II)I"⟩
def dkwX1_ofBand_1 : List UInt8 := [182, 1, 137, 172]
abbrev dktX1_ofBand_1 : List UInt8 := dkwX1_ofBand_1 ++ []
def dkwX1_ofBand_0 : List UInt8 := [27, 42, 180, 0, 42, 185, 0, 72, 1, 0, 184, 0, 76, 28, 3, 16, 8, 184, 0, 88, 42, 27, 28]
abbrev dktX1_ofBand_0 : List UInt8 := dkwX1_ofBand_0 ++ dktX1_ofBand_1
theorem dksX1_ofBand_0 : cX1_ofBand.data.toList.drop 0 = dktX1_ofBand_0 := by decide +kernel
theorem dksX1_ofBand_1 : cX1_ofBand.data.toList.drop 23 = dktX1_ofBand_1 := dk_seg dksX1_ofBand_0 23 rfl rfl
theorem dX1_ofBand_0 : decode cX1_ofBand 0 = .ok (.iload_n 1, 1) := dk_27 (dk_at dksX1_ofBand_0 0 rfl rfl)
theorem dX1_ofBand_1 : decode cX1_ofBand 1 = .ok (.aload_n 0, 1) := dk_42 (dk_at dksX1_ofBand_0 1 rfl rfl)
theorem dX1_ofBand_2 : decode cX1_ofBand 2 = .ok (.getfield 42, 3) := dk_180 0 42 (dk_at dksX1_ofBand_0 2 rfl rfl)
theorem dX1_ofBand_5 : decode cX1_ofBand 5 = .ok (.invokeinterface 72 1, 5) := by decide +kernel
theorem dX1_ofBand_10 : decode cX1_ofBand 10 = .ok (.invokestatic 76, 3) := dk_184 0 76 (dk_at dksX1_ofBand_0 10 rfl rfl)
theorem dX1_ofBand_13 : decode cX1_ofBand 13 = .ok (.iload_n 2, 1) := dk_28 (dk_at dksX1_ofBand_0 13 rfl rfl)
theorem dX1_ofBand_14 : decode cX1_ofBand 14 = .ok (.iconst 0, 1) := dk_3 (dk_at dksX1_ofBand_0 14 rfl rfl)
theorem dX1_ofBand_15 : decode cX1_ofBand 15 = .ok (.bipush 8, 2) := dk_16 8 (dk_at dksX1_ofBand_0 15 rfl rfl)
theorem dX1_ofBand_17 : decode cX1_ofBand 17 = .ok (.invokestatic 88, 3) := dk_184 0 88 (dk_at dksX1_ofBand_0 17 rfl rfl)
theorem dX1_ofBand_20 : decode cX1_ofBand 20 = .ok (.aload_n 0, 1) := dk_42 (dk_at dksX1_ofBand_0 20 rfl rfl)
theorem dX1_ofBand_21 : decode cX1_ofBand 21 = .ok (.iload_n 1, 1) := dk_27 (dk_at dksX1_ofBand_0 21 rfl rfl)
theorem dX1_ofBand_22 : decode cX1_ofBand 22 = .ok (.iload_n 2, 1) := dk_28 (dk_at dksX1_ofBand_0 22 rfl rfl)
theorem dX1_ofBand_23 : decode cX1_ofBand 23 = .ok (.invokevirtual 393, 3) := dk_182 1 137 (dk_at dksX1_ofBand_1 0 rfl rfl)
theorem dX1_ofBand_26 : decode cX1_ofBand 26 = .ok (.ireturn, 1) := dk_172 (dk_at dksX1_ofBand_1 3 rfl rfl)
abbrev cX1_ofWedding : ByteArray := prog_1_method_57_code
def yX1_ofWedding : MethodName := ⟨RX1, "ofWedding", "(II)I"⟩
def dkwX1_ofWedding_0 : List UInt8 := [42, 27, 182, 0, 234, 87, 28, 3, 16, 12, 184, 0, 88, 42, 27, 28, 182, 1, 144, 172]
abbrev dktX1_ofWedding_0 : List UInt8 := dkwX1_ofWedding_0 ++ []
theorem dksX1_ofWedding_0 : cX1_ofWedding.data.toList.drop 0 = dktX1_ofWedding_0 := by decide +kernel
theorem dX1_ofWedding_0 : decode cX1_ofWedding 0 = .ok (.aload_n 0, 1) := dk_42 (dk_at dksX1_ofWedding_0 0 rfl rfl)
theorem dX1_ofWedding_1 : decode cX1_ofWedding 1 = .ok (.iload_n 1, 1) := dk_27 (dk_at dksX1_ofWedding_0 1 rfl rfl)
theorem dX1_ofWedding_2 : decode cX1_ofWedding 2 = .ok (.invokevirtual 234, 3) := dk_182 0 234 (dk_at dksX1_ofWedding_0 2 rfl rfl)
theorem dX1_ofWedding_5 : decode cX1_ofWedding 5 = .ok (.pop, 1) := dk_87 (dk_at dksX1_ofWedding_0 5 rfl rfl)
theorem dX1_ofWedding_6 : decode cX1_ofWedding 6 = .ok (.iload_n 2, 1) := dk_28 (dk_at dksX1_ofWedding_0 6 rfl rfl)
theorem dX1_ofWedding_7 : decode cX1_ofWedding 7 = .ok (.iconst 0, 1) := dk_3 (dk_at dksX1_ofWedding_0 7 rfl rfl)
theorem dX1_ofWedding_8 : decode cX1_ofWedding 8 = .ok (.bipush 12, 2) := dk_16 12 (dk_at dksX1_ofWedding_0 8 rfl rfl)
theorem dX1_ofWedding_10 : decode cX1_ofWedding 10 = .ok (.invokestatic 88, 3) := dk_184 0 88 (dk_at dksX1_ofWedding_0 10 rfl rfl)
theorem dX1_ofWedding_13 : decode cX1_ofWedding 13 = .ok (.aload_n 0, 1) := dk_42 (dk_at dksX1_ofWedding_0 13 rfl rfl)
theorem dX1_ofWedding_14 : decode cX1_ofWedding 14 = .ok (.iload_n 1, 1) := dk_27 (dk_at dksX1_ofWedding_0 14 rfl rfl)
theorem dX1_ofWedding_15 : decode cX1_ofWedding 15 = .ok (.iload_n 2, 1) := dk_28 (dk_at dksX1_ofWedding_0 15 rfl rfl)
theorem dX1_ofWedding_16 : decode cX1_ofWedding 16 = .ok (.invokevirtual 400, 3) := dk_182 1 144 (dk_at dksX1_ofWedding_0 16 rfl rfl)
theorem dX1_ofWedding_19 : decode cX1_ofWedding 19 = .ok (.ireturn, 1) := dk_172 (dk_at dksX1_ofWedding_0 19 rfl rfl)
abbrev cX1_drive : ByteArray := prog_1_method_58_code
def yX1_drive : MethodName := ⟨RX1, "drive", "(II)I"⟩
def dkwX1_drive_0 : List UInt8 := [27, 16, 6, 184, 0, 76, 28, 16, 6, 184, 0, 76, 42, 180, 0, 38, 27, 28, 182, 0, 129, 172]
abbrev dktX1_drive_0 : List UInt8 := dkwX1_drive_0 ++ []
theorem dksX1_drive_0 : cX1_drive.data.toList.drop 0 = dktX1_drive_0 := by decide +kernel
theorem dX1_drive_0 : decode cX1_drive 0 = .ok (.iload_n 1, 1) := dk_27 (dk_at dksX1_drive_0 0 rfl rfl)
theorem dX1_drive_1 : decode cX1_drive 1 = .ok (.bipush 6, 2) := dk_16 6 (dk_at dksX1_drive_0 1 rfl rfl)
theorem dX1_drive_3 : decode cX1_drive 3 = .ok (.invokestatic 76, 3) := dk_184 0 76 (dk_at dksX1_drive_0 3 rfl rfl)
theorem dX1_drive_6 : decode cX1_drive 6 = .ok (.iload_n 2, 1) := dk_28 (dk_at dksX1_drive_0 6 rfl rfl)
theorem dX1_drive_7 : decode cX1_drive 7 = .ok (.bipush 6, 2) := dk_16 6 (dk_at dksX1_drive_0 7 rfl rfl)
theorem dX1_drive_9 : decode cX1_drive 9 = .ok (.invokestatic 76, 3) := dk_184 0 76 (dk_at dksX1_drive_0 9 rfl rfl)
theorem dX1_drive_12 : decode cX1_drive 12 = .ok (.aload_n 0, 1) := dk_42 (dk_at dksX1_drive_0 12 rfl rfl)
theorem dX1_drive_13 : decode cX1_drive 13 = .ok (.getfield 38, 3) := dk_180 0 38 (dk_at dksX1_drive_0 13 rfl rfl)
theorem dX1_drive_16 : decode cX1_drive 16 = .ok (.iload_n 1, 1) := dk_27 (dk_at dksX1_drive_0 16 rfl rfl)
theorem dX1_drive_17 : decode cX1_drive 17 = .ok (.iload_n 2, 1) := dk_28 (dk_at dksX1_drive_0 17 rfl rfl)
theorem dX1_drive_18 : decode cX1_drive 18 = .ok (.invokevirtual 129, 3) := dk_182 0 129 (dk_at dksX1_drive_0 18 rfl rfl)
theorem dX1_drive_21 : decode cX1_drive 21 = .ok (.ireturn, 1) := dk_172 (dk_at dksX1_drive_0 21 rfl rfl)
abbrev cX1_free : ByteArray := prog_1_method_59_code
def yX1_free : MethodName := ⟨RX1, "free", "(II)Z"⟩
def dkwX1_free_0 : List UInt8 := [42, 27, 182, 0, 100, 87, 42, 28, 182, 0, 234, 87, 42, 27, 28, 182, 0, 197, 172]
abbrev dktX1_free_0 : List UInt8 := dkwX1_free_0 ++ []
theorem dksX1_free_0 : cX1_free.data.toList.drop 0 = dktX1_free_0 := by decide +kernel
theorem dX1_free_0 : decode cX1_free 0 = .ok (.aload_n 0, 1) := dk_42 (dk_at dksX1_free_0 0 rfl rfl)
theorem dX1_free_1 : decode cX1_free 1 = .ok (.iload_n 1, 1) := dk_27 (dk_at dksX1_free_0 1 rfl rfl)
theorem dX1_free_2 : decode cX1_free 2 = .ok (.invokevirtual 100, 3) := dk_182 0 100 (dk_at dksX1_free_0 2 rfl rfl)
theorem dX1_free_5 : decode cX1_free 5 = .ok (.pop, 1) := dk_87 (dk_at dksX1_free_0 5 rfl rfl)
theorem dX1_free_6 : decode cX1_free 6 = .ok (.aload_n 0, 1) := dk_42 (dk_at dksX1_free_0 6 rfl rfl)
theorem dX1_free_7 : decode cX1_free 7 = .ok (.iload_n 2, 1) := dk_28 (dk_at dksX1_free_0 7 rfl rfl)
theorem dX1_free_8 : decode cX1_free 8 = .ok (.invokevirtual 234, 3) := dk_182 0 234 (dk_at dksX1_free_0 8 rfl rfl)
theorem dX1_free_11 : decode cX1_free 11 = .ok (.pop, 1) := dk_87 (dk_at dksX1_free_0 11 rfl rfl)
theorem dX1_free_12 : decode cX1_free 12 = .ok (.aload_n 0, 1) := dk_42 (dk_at dksX1_free_0 12 rfl rfl)
theorem dX1_free_13 : decode cX1_free 13 = .ok (.iload_n 1, 1) := dk_27 (dk_at dksX1_free_0 13 rfl rfl)
theorem dX1_free_14 : decode cX1_free 14 = .ok (.iload_n 2, 1) := dk_28 (dk_at dksX1_free_0 14 rfl rfl)
theorem dX1_free_15 : decode cX1_free 15 = .ok (.invokevirtual 197, 3) := dk_182 0 197 (dk_at dksX1_free_0 15 rfl rfl)
theorem dX1_free_18 : decode cX1_free 18 = .ok (.ireturn, 1) := dk_172 (dk_at dksX1_free_0 18 rfl rfl)
abbrev cX1_filling : ByteArray := prog_1_method_61_code
def yX1_filling : MethodName := ⟨RX1, "filling", "(II)I"⟩
def dkwX1_filling_0 : List UInt8 := [42, 27, 182, 0, 234, 87, 28, 3, 6, 184, 0, 88, 42, 27, 42, 27, 182, 0, 241, 28, 182, 1, 153, 172]
abbrev dktX1_filling_0 : List UInt8 := dkwX1_filling_0 ++ []
theorem dksX1_filling_0 : cX1_filling.data.toList.drop 0 = dktX1_filling_0 := by decide +kernel
theorem dX1_filling_0 : decode cX1_filling 0 = .ok (.aload_n 0, 1) := dk_42 (dk_at dksX1_filling_0 0 rfl rfl)
theorem dX1_filling_1 : decode cX1_filling 1 = .ok (.iload_n 1, 1) := dk_27 (dk_at dksX1_filling_0 1 rfl rfl)
theorem dX1_filling_2 : decode cX1_filling 2 = .ok (.invokevirtual 234, 3) := dk_182 0 234 (dk_at dksX1_filling_0 2 rfl rfl)
theorem dX1_filling_5 : decode cX1_filling 5 = .ok (.pop, 1) := dk_87 (dk_at dksX1_filling_0 5 rfl rfl)
theorem dX1_filling_6 : decode cX1_filling 6 = .ok (.iload_n 2, 1) := dk_28 (dk_at dksX1_filling_0 6 rfl rfl)
theorem dX1_filling_7 : decode cX1_filling 7 = .ok (.iconst 0, 1) := dk_3 (dk_at dksX1_filling_0 7 rfl rfl)
theorem dX1_filling_8 : decode cX1_filling 8 = .ok (.iconst 3, 1) := dk_6 (dk_at dksX1_filling_0 8 rfl rfl)
theorem dX1_filling_9 : decode cX1_filling 9 = .ok (.invokestatic 88, 3) := dk_184 0 88 (dk_at dksX1_filling_0 9 rfl rfl)
theorem dX1_filling_12 : decode cX1_filling 12 = .ok (.aload_n 0, 1) := dk_42 (dk_at dksX1_filling_0 12 rfl rfl)
theorem dX1_filling_13 : decode cX1_filling 13 = .ok (.iload_n 1, 1) := dk_27 (dk_at dksX1_filling_0 13 rfl rfl)
theorem dX1_filling_14 : decode cX1_filling 14 = .ok (.aload_n 0, 1) := dk_42 (dk_at dksX1_filling_0 14 rfl rfl)
theorem dX1_filling_15 : decode cX1_filling 15 = .ok (.iload_n 1, 1) := dk_27 (dk_at dksX1_filling_0 15 rfl rfl)
theorem dX1_filling_16 : decode cX1_filling 16 = .ok (.invokevirtual 241, 3) := dk_182 0 241 (dk_at dksX1_filling_0 16 rfl rfl)
theorem dX1_filling_19 : decode cX1_filling 19 = .ok (.iload_n 2, 1) := dk_28 (dk_at dksX1_filling_0 19 rfl rfl)
theorem dX1_filling_20 : decode cX1_filling 20 = .ok (.invokevirtual 409, 3) := dk_182 1 153 (dk_at dksX1_filling_0 20 rfl rfl)
theorem dX1_filling_23 : decode cX1_filling 23 = .ok (.ireturn, 1) := dk_172 (dk_at dksX1_filling_0 23 rfl rfl)
abbrev cX1_set : ByteArray := prog_1_method_44_code
def yX1_set : MethodName := ⟨RX1, "set", "(IZ)I"⟩
def dkwX1_set_1 : List UInt8 := [184, 0, 62, 42, 27, 28, 182, 1, 91, 172]
abbrev dktX1_set_1 : List UInt8 := dkwX1_set_1 ++ []
def dkwX1_set_0 : List UInt8 := [27, 155, 0, 22, 27, 4, 42, 180, 0, 26, 185, 0, 72, 1, 0, 120, 162, 0, 7, 4, 167, 0, 4, 3]
abbrev dktX1_set_0 : List UInt8 := dkwX1_set_0 ++ dktX1_set_1
theorem dksX1_set_0 : cX1_set.data.toList.drop 0 = dktX1_set_0 := by decide +kernel
theorem dksX1_set_1 : cX1_set.data.toList.drop 24 = dktX1_set_1 := dk_seg dksX1_set_0 24 rfl rfl
theorem dX1_set_0 : decode cX1_set 0 = .ok (.iload_n 1, 1) := dk_27 (dk_at dksX1_set_0 0 rfl rfl)
theorem dX1_set_1 : decode cX1_set 1 = .ok (.ifCond .lt 22, 3) := dk_155 0 22 (dk_at dksX1_set_0 1 rfl rfl)
theorem dX1_set_4 : decode cX1_set 4 = .ok (.iload_n 1, 1) := dk_27 (dk_at dksX1_set_0 4 rfl rfl)
theorem dX1_set_5 : decode cX1_set 5 = .ok (.iconst 1, 1) := dk_4 (dk_at dksX1_set_0 5 rfl rfl)
theorem dX1_set_6 : decode cX1_set 6 = .ok (.aload_n 0, 1) := dk_42 (dk_at dksX1_set_0 6 rfl rfl)
theorem dX1_set_7 : decode cX1_set 7 = .ok (.getfield 26, 3) := dk_180 0 26 (dk_at dksX1_set_0 7 rfl rfl)
theorem dX1_set_10 : decode cX1_set 10 = .ok (.invokeinterface 72 1, 5) := by decide +kernel
theorem dX1_set_15 : decode cX1_set 15 = .ok (.ishl, 1) := dk_120 (dk_at dksX1_set_0 15 rfl rfl)
theorem dX1_set_16 : decode cX1_set 16 = .ok (.if_icmp .ge 7, 3) := dk_162 0 7 (dk_at dksX1_set_0 16 rfl rfl)
theorem dX1_set_19 : decode cX1_set 19 = .ok (.iconst 1, 1) := dk_4 (dk_at dksX1_set_0 19 rfl rfl)
theorem dX1_set_20 : decode cX1_set 20 = .ok (.goto 4, 3) := dk_167 0 4 (dk_at dksX1_set_0 20 rfl rfl)
theorem dX1_set_23 : decode cX1_set 23 = .ok (.iconst 0, 1) := dk_3 (dk_at dksX1_set_0 23 rfl rfl)
theorem dX1_set_24 : decode cX1_set 24 = .ok (.invokestatic 62, 3) := dk_184 0 62 (dk_at dksX1_set_1 0 rfl rfl)
theorem dX1_set_27 : decode cX1_set 27 = .ok (.aload_n 0, 1) := dk_42 (dk_at dksX1_set_1 3 rfl rfl)
theorem dX1_set_28 : decode cX1_set 28 = .ok (.iload_n 1, 1) := dk_27 (dk_at dksX1_set_1 4 rfl rfl)
theorem dX1_set_29 : decode cX1_set 29 = .ok (.iload_n 2, 1) := dk_28 (dk_at dksX1_set_1 5 rfl rfl)
theorem dX1_set_30 : decode cX1_set 30 = .ok (.invokevirtual 347, 3) := dk_182 1 91 (dk_at dksX1_set_1 6 rfl rfl)
theorem dX1_set_33 : decode cX1_set 33 = .ok (.ireturn, 1) := dk_172 (dk_at dksX1_set_1 9 rfl rfl)
abbrev cX1_songs : ByteArray := prog_1_method_45_code
def yX1_songs : MethodName := ⟨RX1, "songs", "(I)Ljava/lang/String;"⟩
def dkwX1_songs_1 : List UInt8 := [187, 1, 97, 89, 183, 1, 99, 78, 44, 182, 0, 7, 192, 0, 11, 45, 182, 1, 100, 45, 182, 1, 104, 176]
abbrev dktX1_songs_1 : List UInt8 := dkwX1_songs_1 ++ []
def dkwX1_songs_0 : List UInt8 := [42, 42, 27, 182, 0, 234, 180, 0, 195, 182, 1, 27, 77, 44, 182, 0, 1, 154, 0, 7, 19, 1, 95, 176]
abbrev dktX1_songs_0 : List UInt8 := dkwX1_songs_0 ++ dktX1_songs_1
theorem dksX1_songs_0 : cX1_songs.data.toList.drop 0 = dktX1_songs_0 := by decide +kernel
theorem dksX1_songs_1 : cX1_songs.data.toList.drop 24 = dktX1_songs_1 := dk_seg dksX1_songs_0 24 rfl rfl
theorem dX1_songs_0 : decode cX1_songs 0 = .ok (.aload_n 0, 1) := dk_42 (dk_at dksX1_songs_0 0 rfl rfl)
theorem dX1_songs_1 : decode cX1_songs 1 = .ok (.aload_n 0, 1) := dk_42 (dk_at dksX1_songs_0 1 rfl rfl)
theorem dX1_songs_2 : decode cX1_songs 2 = .ok (.iload_n 1, 1) := dk_27 (dk_at dksX1_songs_0 2 rfl rfl)
theorem dX1_songs_3 : decode cX1_songs 3 = .ok (.invokevirtual 234, 3) := dk_182 0 234 (dk_at dksX1_songs_0 3 rfl rfl)
theorem dX1_songs_6 : decode cX1_songs 6 = .ok (.getfield 195, 3) := dk_180 0 195 (dk_at dksX1_songs_0 6 rfl rfl)
theorem dX1_songs_9 : decode cX1_songs 9 = .ok (.invokevirtual 283, 3) := dk_182 1 27 (dk_at dksX1_songs_0 9 rfl rfl)
theorem dX1_songs_12 : decode cX1_songs 12 = .ok (.astore_n 2, 1) := dk_77 (dk_at dksX1_songs_0 12 rfl rfl)
theorem dX1_songs_13 : decode cX1_songs 13 = .ok (.aload_n 2, 1) := dk_44 (dk_at dksX1_songs_0 13 rfl rfl)
theorem dX1_songs_14 : decode cX1_songs 14 = .ok (.invokevirtual 1, 3) := dk_182 0 1 (dk_at dksX1_songs_0 14 rfl rfl)
theorem dX1_songs_17 : decode cX1_songs 17 = .ok (.ifCond .ne 7, 3) := dk_154 0 7 (dk_at dksX1_songs_0 17 rfl rfl)
theorem dX1_songs_20 : decode cX1_songs 20 = .ok (.ldc_w 351, 3) := dk_19 1 95 (dk_at dksX1_songs_0 20 rfl rfl)
theorem dX1_songs_23 : decode cX1_songs 23 = .ok (.areturn, 1) := dk_176 (dk_at dksX1_songs_0 23 rfl rfl)
theorem dX1_songs_24 : decode cX1_songs 24 = .ok (.new 353, 3) := dk_187 1 97 (dk_at dksX1_songs_1 0 rfl rfl)
theorem dX1_songs_27 : decode cX1_songs 27 = .ok (.dup, 1) := dk_89 (dk_at dksX1_songs_1 3 rfl rfl)
theorem dX1_songs_28 : decode cX1_songs 28 = .ok (.invokespecial 355, 3) := dk_183 1 99 (dk_at dksX1_songs_1 4 rfl rfl)
theorem dX1_songs_31 : decode cX1_songs 31 = .ok (.astore_n 3, 1) := dk_78 (dk_at dksX1_songs_1 7 rfl rfl)
theorem dX1_songs_32 : decode cX1_songs 32 = .ok (.aload_n 2, 1) := dk_44 (dk_at dksX1_songs_1 8 rfl rfl)
theorem dX1_songs_33 : decode cX1_songs 33 = .ok (.invokevirtual 7, 3) := dk_182 0 7 (dk_at dksX1_songs_1 9 rfl rfl)
theorem dX1_songs_36 : decode cX1_songs 36 = .ok (.checkcast 11, 3) := dk_192 0 11 (dk_at dksX1_songs_1 12 rfl rfl)
theorem dX1_songs_39 : decode cX1_songs 39 = .ok (.aload_n 3, 1) := dk_45 (dk_at dksX1_songs_1 15 rfl rfl)
theorem dX1_songs_40 : decode cX1_songs 40 = .ok (.invokevirtual 356, 3) := dk_182 1 100 (dk_at dksX1_songs_1 16 rfl rfl)
theorem dX1_songs_43 : decode cX1_songs 43 = .ok (.aload_n 3, 1) := dk_45 (dk_at dksX1_songs_1 19 rfl rfl)
theorem dX1_songs_44 : decode cX1_songs 44 = .ok (.invokevirtual 360, 3) := dk_182 1 104 (dk_at dksX1_songs_1 20 rfl rfl)
theorem dX1_songs_47 : decode cX1_songs 47 = .ok (.areturn, 1) := dk_176 (dk_at dksX1_songs_1 23 rfl rfl)
abbrev cX1_desk : ByteArray := prog_1_method_67_code
def yX1_desk : MethodName := ⟨RX1, "desk", "(I)I"⟩
def dkwX1_desk_0 : List UInt8 := [27, 3, 16, 12, 184, 0, 88, 42, 27, 182, 1, 175, 172]
abbrev dktX1_desk_0 : List UInt8 := dkwX1_desk_0 ++ []
theorem dksX1_desk_0 : cX1_desk.data.toList.drop 0 = dktX1_desk_0 := by decide +kernel
theorem dX1_desk_0 : decode cX1_desk 0 = .ok (.iload_n 1, 1) := dk_27 (dk_at dksX1_desk_0 0 rfl rfl)
theorem dX1_desk_1 : decode cX1_desk 1 = .ok (.iconst 0, 1) := dk_3 (dk_at dksX1_desk_0 1 rfl rfl)
theorem dX1_desk_2 : decode cX1_desk 2 = .ok (.bipush 12, 2) := dk_16 12 (dk_at dksX1_desk_0 2 rfl rfl)
theorem dX1_desk_4 : decode cX1_desk 4 = .ok (.invokestatic 88, 3) := dk_184 0 88 (dk_at dksX1_desk_0 4 rfl rfl)
theorem dX1_desk_7 : decode cX1_desk 7 = .ok (.aload_n 0, 1) := dk_42 (dk_at dksX1_desk_0 7 rfl rfl)
theorem dX1_desk_8 : decode cX1_desk 8 = .ok (.iload_n 1, 1) := dk_27 (dk_at dksX1_desk_0 8 rfl rfl)
theorem dX1_desk_9 : decode cX1_desk 9 = .ok (.invokevirtual 431, 3) := dk_182 1 175 (dk_at dksX1_desk_0 9 rfl rfl)
theorem dX1_desk_12 : decode cX1_desk 12 = .ok (.ireturn, 1) := dk_172 (dk_at dksX1_desk_0 12 rfl rfl)
abbrev cX1_tell : ByteArray := prog_1_method_68_code
def yX1_tell : MethodName := ⟨RX1, "tell", "(I)Ljava/lang/String;"⟩
def dkwX1_tell_6 : List UInt8 := [54, 4, 132, 5, 1, 167, 255, 180, 45, 182, 1, 104, 176]
abbrev dktX1_tell_6 : List UInt8 := dkwX1_tell_6 ++ []
def dkwX1_tell_5 : List UInt8 := [21, 4, 153, 0, 9, 19, 1, 194, 167, 0, 6, 19, 1, 196, 182, 1, 184, 21, 5, 182, 1, 178, 87, 3]
abbrev dktX1_tell_5 : List UInt8 := dkwX1_tell_5 ++ dktX1_tell_6
def dkwX1_tell_4 : List UInt8 := [153, 0, 50, 44, 178, 0, 140, 182, 0, 146, 154, 0, 13, 44, 178, 1, 15, 182, 0, 146, 153, 0, 30, 45]
abbrev dktX1_tell_4 : List UInt8 := dkwX1_tell_4 ++ dktX1_tell_5
def dkwX1_tell_3 : List UInt8 := [21, 5, 42, 180, 0, 26, 185, 0, 72, 1, 0, 162, 0, 68, 44, 180, 0, 195, 21, 5, 184, 0, 123]
abbrev dktX1_tell_3 : List UInt8 := dkwX1_tell_3 ++ dktX1_tell_4
def dkwX1_tell_2 : List UInt8 := [19, 1, 189, 182, 1, 184, 44, 180, 0, 225, 182, 1, 191, 182, 1, 184, 87, 4, 54, 4, 3, 54, 5]
abbrev dktX1_tell_2 : List UInt8 := dkwX1_tell_2 ++ dktX1_tell_3
def dkwX1_tell_1 : List UInt8 := [182, 1, 184, 44, 180, 0, 153, 182, 1, 178, 19, 1, 187, 182, 1, 184, 44, 180, 0, 174, 182, 1, 178]
abbrev dktX1_tell_1 : List UInt8 := dkwX1_tell_1 ++ dktX1_tell_2
def dkwX1_tell_0 : List UInt8 := [42, 27, 182, 0, 234, 77, 187, 1, 97, 89, 183, 1, 99, 78, 45, 27, 182, 1, 178, 19, 1, 182]
abbrev dktX1_tell_0 : List UInt8 := dkwX1_tell_0 ++ dktX1_tell_1
theorem dksX1_tell_0 : cX1_tell.data.toList.drop 0 = dktX1_tell_0 := by decide +kernel
theorem dksX1_tell_1 : cX1_tell.data.toList.drop 22 = dktX1_tell_1 := dk_seg dksX1_tell_0 22 rfl rfl
theorem dksX1_tell_2 : cX1_tell.data.toList.drop 45 = dktX1_tell_2 := dk_seg dksX1_tell_1 23 rfl rfl
theorem dksX1_tell_3 : cX1_tell.data.toList.drop 68 = dktX1_tell_3 := dk_seg dksX1_tell_2 23 rfl rfl
theorem dksX1_tell_4 : cX1_tell.data.toList.drop 91 = dktX1_tell_4 := dk_seg dksX1_tell_3 23 rfl rfl
theorem dksX1_tell_5 : cX1_tell.data.toList.drop 115 = dktX1_tell_5 := dk_seg dksX1_tell_4 24 rfl rfl
theorem dksX1_tell_6 : cX1_tell.data.toList.drop 139 = dktX1_tell_6 := dk_seg dksX1_tell_5 24 rfl rfl
theorem dX1_tell_0 : decode cX1_tell 0 = .ok (.aload_n 0, 1) := dk_42 (dk_at dksX1_tell_0 0 rfl rfl)
theorem dX1_tell_1 : decode cX1_tell 1 = .ok (.iload_n 1, 1) := dk_27 (dk_at dksX1_tell_0 1 rfl rfl)
theorem dX1_tell_2 : decode cX1_tell 2 = .ok (.invokevirtual 234, 3) := dk_182 0 234 (dk_at dksX1_tell_0 2 rfl rfl)
theorem dX1_tell_5 : decode cX1_tell 5 = .ok (.astore_n 2, 1) := dk_77 (dk_at dksX1_tell_0 5 rfl rfl)
theorem dX1_tell_6 : decode cX1_tell 6 = .ok (.new 353, 3) := dk_187 1 97 (dk_at dksX1_tell_0 6 rfl rfl)
theorem dX1_tell_9 : decode cX1_tell 9 = .ok (.dup, 1) := dk_89 (dk_at dksX1_tell_0 9 rfl rfl)
theorem dX1_tell_10 : decode cX1_tell 10 = .ok (.invokespecial 355, 3) := dk_183 1 99 (dk_at dksX1_tell_0 10 rfl rfl)
theorem dX1_tell_13 : decode cX1_tell 13 = .ok (.astore_n 3, 1) := dk_78 (dk_at dksX1_tell_0 13 rfl rfl)
theorem dX1_tell_14 : decode cX1_tell 14 = .ok (.aload_n 3, 1) := dk_45 (dk_at dksX1_tell_0 14 rfl rfl)
theorem dX1_tell_15 : decode cX1_tell 15 = .ok (.iload_n 1, 1) := dk_27 (dk_at dksX1_tell_0 15 rfl rfl)
theorem dX1_tell_16 : decode cX1_tell 16 = .ok (.invokevirtual 434, 3) := dk_182 1 178 (dk_at dksX1_tell_0 16 rfl rfl)
theorem dX1_tell_19 : decode cX1_tell 19 = .ok (.ldc_w 438, 3) := dk_19 1 182 (dk_at dksX1_tell_0 19 rfl rfl)
theorem dX1_tell_22 : decode cX1_tell 22 = .ok (.invokevirtual 440, 3) := dk_182 1 184 (dk_at dksX1_tell_1 0 rfl rfl)
theorem dX1_tell_25 : decode cX1_tell 25 = .ok (.aload_n 2, 1) := dk_44 (dk_at dksX1_tell_1 3 rfl rfl)
theorem dX1_tell_26 : decode cX1_tell 26 = .ok (.getfield 153, 3) := dk_180 0 153 (dk_at dksX1_tell_1 4 rfl rfl)
theorem dX1_tell_29 : decode cX1_tell 29 = .ok (.invokevirtual 434, 3) := dk_182 1 178 (dk_at dksX1_tell_1 7 rfl rfl)
theorem dX1_tell_32 : decode cX1_tell 32 = .ok (.ldc_w 443, 3) := dk_19 1 187 (dk_at dksX1_tell_1 10 rfl rfl)
theorem dX1_tell_35 : decode cX1_tell 35 = .ok (.invokevirtual 440, 3) := dk_182 1 184 (dk_at dksX1_tell_1 13 rfl rfl)
theorem dX1_tell_38 : decode cX1_tell 38 = .ok (.aload_n 2, 1) := dk_44 (dk_at dksX1_tell_1 16 rfl rfl)
theorem dX1_tell_39 : decode cX1_tell 39 = .ok (.getfield 174, 3) := dk_180 0 174 (dk_at dksX1_tell_1 17 rfl rfl)
theorem dX1_tell_42 : decode cX1_tell 42 = .ok (.invokevirtual 434, 3) := dk_182 1 178 (dk_at dksX1_tell_1 20 rfl rfl)
theorem dX1_tell_45 : decode cX1_tell 45 = .ok (.ldc_w 445, 3) := dk_19 1 189 (dk_at dksX1_tell_2 0 rfl rfl)
theorem dX1_tell_48 : decode cX1_tell 48 = .ok (.invokevirtual 440, 3) := dk_182 1 184 (dk_at dksX1_tell_2 3 rfl rfl)
theorem dX1_tell_51 : decode cX1_tell 51 = .ok (.aload_n 2, 1) := dk_44 (dk_at dksX1_tell_2 6 rfl rfl)
theorem dX1_tell_52 : decode cX1_tell 52 = .ok (.getfield 225, 3) := dk_180 0 225 (dk_at dksX1_tell_2 7 rfl rfl)
theorem dX1_tell_55 : decode cX1_tell 55 = .ok (.invokevirtual 447, 3) := dk_182 1 191 (dk_at dksX1_tell_2 10 rfl rfl)
theorem dX1_tell_58 : decode cX1_tell 58 = .ok (.invokevirtual 440, 3) := dk_182 1 184 (dk_at dksX1_tell_2 13 rfl rfl)
theorem dX1_tell_61 : decode cX1_tell 61 = .ok (.pop, 1) := dk_87 (dk_at dksX1_tell_2 16 rfl rfl)
theorem dX1_tell_62 : decode cX1_tell 62 = .ok (.iconst 1, 1) := dk_4 (dk_at dksX1_tell_2 17 rfl rfl)
theorem dX1_tell_63 : decode cX1_tell 63 = .ok (.istore 4, 2) := dk_54 4 (dk_at dksX1_tell_2 18 rfl rfl)
theorem dX1_tell_65 : decode cX1_tell 65 = .ok (.iconst 0, 1) := dk_3 (dk_at dksX1_tell_2 20 rfl rfl)
theorem dX1_tell_66 : decode cX1_tell 66 = .ok (.istore 5, 2) := dk_54 5 (dk_at dksX1_tell_2 21 rfl rfl)
theorem dX1_tell_68 : decode cX1_tell 68 = .ok (.iload 5, 2) := dk_21 5 (dk_at dksX1_tell_3 0 rfl rfl)
theorem dX1_tell_70 : decode cX1_tell 70 = .ok (.aload_n 0, 1) := dk_42 (dk_at dksX1_tell_3 2 rfl rfl)
theorem dX1_tell_71 : decode cX1_tell 71 = .ok (.getfield 26, 3) := dk_180 0 26 (dk_at dksX1_tell_3 3 rfl rfl)
theorem dX1_tell_74 : decode cX1_tell 74 = .ok (.invokeinterface 72 1, 5) := by decide +kernel
theorem dX1_tell_79 : decode cX1_tell 79 = .ok (.if_icmp .ge 68, 3) := dk_162 0 68 (dk_at dksX1_tell_3 11 rfl rfl)
theorem dX1_tell_82 : decode cX1_tell 82 = .ok (.aload_n 2, 1) := dk_44 (dk_at dksX1_tell_3 14 rfl rfl)
theorem dX1_tell_83 : decode cX1_tell 83 = .ok (.getfield 195, 3) := dk_180 0 195 (dk_at dksX1_tell_3 15 rfl rfl)
theorem dX1_tell_86 : decode cX1_tell 86 = .ok (.iload 5, 2) := dk_21 5 (dk_at dksX1_tell_3 18 rfl rfl)
theorem dX1_tell_88 : decode cX1_tell 88 = .ok (.invokestatic 123, 3) := dk_184 0 123 (dk_at dksX1_tell_3 20 rfl rfl)
theorem dX1_tell_91 : decode cX1_tell 91 = .ok (.ifCond .eq 50, 3) := dk_153 0 50 (dk_at dksX1_tell_4 0 rfl rfl)
theorem dX1_tell_94 : decode cX1_tell 94 = .ok (.aload_n 2, 1) := dk_44 (dk_at dksX1_tell_4 3 rfl rfl)
theorem dX1_tell_95 : decode cX1_tell 95 = .ok (.getstatic 140, 3) := dk_178 0 140 (dk_at dksX1_tell_4 4 rfl rfl)
theorem dX1_tell_98 : decode cX1_tell 98 = .ok (.invokevirtual 146, 3) := dk_182 0 146 (dk_at dksX1_tell_4 7 rfl rfl)
theorem dX1_tell_101 : decode cX1_tell 101 = .ok (.ifCond .ne 13, 3) := dk_154 0 13 (dk_at dksX1_tell_4 10 rfl rfl)
theorem dX1_tell_104 : decode cX1_tell 104 = .ok (.aload_n 2, 1) := dk_44 (dk_at dksX1_tell_4 13 rfl rfl)
theorem dX1_tell_105 : decode cX1_tell 105 = .ok (.getstatic 271, 3) := dk_178 1 15 (dk_at dksX1_tell_4 14 rfl rfl)
theorem dX1_tell_108 : decode cX1_tell 108 = .ok (.invokevirtual 146, 3) := dk_182 0 146 (dk_at dksX1_tell_4 17 rfl rfl)
theorem dX1_tell_111 : decode cX1_tell 111 = .ok (.ifCond .eq 30, 3) := dk_153 0 30 (dk_at dksX1_tell_4 20 rfl rfl)
theorem dX1_tell_114 : decode cX1_tell 114 = .ok (.aload_n 3, 1) := dk_45 (dk_at dksX1_tell_4 23 rfl rfl)
theorem dX1_tell_115 : decode cX1_tell 115 = .ok (.iload 4, 2) := dk_21 4 (dk_at dksX1_tell_5 0 rfl rfl)
theorem dX1_tell_117 : decode cX1_tell 117 = .ok (.ifCond .eq 9, 3) := dk_153 0 9 (dk_at dksX1_tell_5 2 rfl rfl)
theorem dX1_tell_120 : decode cX1_tell 120 = .ok (.ldc_w 450, 3) := dk_19 1 194 (dk_at dksX1_tell_5 5 rfl rfl)
theorem dX1_tell_123 : decode cX1_tell 123 = .ok (.goto 6, 3) := dk_167 0 6 (dk_at dksX1_tell_5 8 rfl rfl)
theorem dX1_tell_126 : decode cX1_tell 126 = .ok (.ldc_w 452, 3) := dk_19 1 196 (dk_at dksX1_tell_5 11 rfl rfl)
theorem dX1_tell_129 : decode cX1_tell 129 = .ok (.invokevirtual 440, 3) := dk_182 1 184 (dk_at dksX1_tell_5 14 rfl rfl)
theorem dX1_tell_132 : decode cX1_tell 132 = .ok (.iload 5, 2) := dk_21 5 (dk_at dksX1_tell_5 17 rfl rfl)
theorem dX1_tell_134 : decode cX1_tell 134 = .ok (.invokevirtual 434, 3) := dk_182 1 178 (dk_at dksX1_tell_5 19 rfl rfl)
theorem dX1_tell_137 : decode cX1_tell 137 = .ok (.pop, 1) := dk_87 (dk_at dksX1_tell_5 22 rfl rfl)
theorem dX1_tell_138 : decode cX1_tell 138 = .ok (.iconst 0, 1) := dk_3 (dk_at dksX1_tell_5 23 rfl rfl)
theorem dX1_tell_139 : decode cX1_tell 139 = .ok (.istore 4, 2) := dk_54 4 (dk_at dksX1_tell_6 0 rfl rfl)
theorem dX1_tell_141 : decode cX1_tell 141 = .ok (.iinc 5 1, 3) := dk_132 5 1 (dk_at dksX1_tell_6 2 rfl rfl)
theorem dX1_tell_144 : decode cX1_tell 144 = .ok (.goto (-76), 3) := dk_167 255 180 (dk_at dksX1_tell_6 5 rfl rfl)
theorem dX1_tell_147 : decode cX1_tell 147 = .ok (.aload_n 3, 1) := dk_45 (dk_at dksX1_tell_6 8 rfl rfl)
theorem dX1_tell_148 : decode cX1_tell 148 = .ok (.invokevirtual 360, 3) := dk_182 1 104 (dk_at dksX1_tell_6 9 rfl rfl)
theorem dX1_tell_151 : decode cX1_tell 151 = .ok (.areturn, 1) := dk_176 (dk_at dksX1_tell_6 12 rfl rfl)
abbrev cX1_wouldLose : ByteArray := prog_1_method_71_code
def yX1_wouldLose : MethodName := ⟨RX1, "wouldLose", "(II)I"⟩
def dkwX1_wouldLose_2 : List UInt8 := [25, 4, 182, 1, 206, 21, 6, 172]
abbrev dktX1_wouldLose_2 : List UInt8 := dkwX1_wouldLose_2 ++ []
def dkwX1_wouldLose_1 : List UInt8 := [180, 0, 191, 28, 51, 54, 5, 42, 27, 28, 182, 1, 3, 54, 6, 45, 180, 0, 191, 28, 21, 5, 84, 42]
abbrev dktX1_wouldLose_1 : List UInt8 := dkwX1_wouldLose_1 ++ dktX1_wouldLose_2
def dkwX1_wouldLose_0 : List UInt8 := [42, 27, 182, 0, 100, 78, 28, 42, 180, 0, 156, 17, 1, 109, 184, 0, 88, 42, 182, 1, 202, 58, 4, 45]
abbrev dktX1_wouldLose_0 : List UInt8 := dkwX1_wouldLose_0 ++ dktX1_wouldLose_1
theorem dksX1_wouldLose_0 : cX1_wouldLose.data.toList.drop 0 = dktX1_wouldLose_0 := by decide +kernel
theorem dksX1_wouldLose_1 : cX1_wouldLose.data.toList.drop 24 = dktX1_wouldLose_1 := dk_seg dksX1_wouldLose_0 24 rfl rfl
theorem dksX1_wouldLose_2 : cX1_wouldLose.data.toList.drop 48 = dktX1_wouldLose_2 := dk_seg dksX1_wouldLose_1 24 rfl rfl
theorem dX1_wouldLose_0 : decode cX1_wouldLose 0 = .ok (.aload_n 0, 1) := dk_42 (dk_at dksX1_wouldLose_0 0 rfl rfl)
theorem dX1_wouldLose_1 : decode cX1_wouldLose 1 = .ok (.iload_n 1, 1) := dk_27 (dk_at dksX1_wouldLose_0 1 rfl rfl)
theorem dX1_wouldLose_2 : decode cX1_wouldLose 2 = .ok (.invokevirtual 100, 3) := dk_182 0 100 (dk_at dksX1_wouldLose_0 2 rfl rfl)
theorem dX1_wouldLose_5 : decode cX1_wouldLose 5 = .ok (.astore_n 3, 1) := dk_78 (dk_at dksX1_wouldLose_0 5 rfl rfl)
theorem dX1_wouldLose_6 : decode cX1_wouldLose 6 = .ok (.iload_n 2, 1) := dk_28 (dk_at dksX1_wouldLose_0 6 rfl rfl)
theorem dX1_wouldLose_7 : decode cX1_wouldLose 7 = .ok (.aload_n 0, 1) := dk_42 (dk_at dksX1_wouldLose_0 7 rfl rfl)
theorem dX1_wouldLose_8 : decode cX1_wouldLose 8 = .ok (.getfield 156, 3) := dk_180 0 156 (dk_at dksX1_wouldLose_0 8 rfl rfl)
theorem dX1_wouldLose_11 : decode cX1_wouldLose 11 = .ok (.sipush 365, 3) := dk_17 1 109 (dk_at dksX1_wouldLose_0 11 rfl rfl)
theorem dX1_wouldLose_14 : decode cX1_wouldLose 14 = .ok (.invokestatic 88, 3) := dk_184 0 88 (dk_at dksX1_wouldLose_0 14 rfl rfl)
theorem dX1_wouldLose_17 : decode cX1_wouldLose 17 = .ok (.aload_n 0, 1) := dk_42 (dk_at dksX1_wouldLose_0 17 rfl rfl)
theorem dX1_wouldLose_18 : decode cX1_wouldLose 18 = .ok (.invokevirtual 458, 3) := dk_182 1 202 (dk_at dksX1_wouldLose_0 18 rfl rfl)
theorem dX1_wouldLose_21 : decode cX1_wouldLose 21 = .ok (.astore 4, 2) := dk_58 4 (dk_at dksX1_wouldLose_0 21 rfl rfl)
theorem dX1_wouldLose_23 : decode cX1_wouldLose 23 = .ok (.aload_n 3, 1) := dk_45 (dk_at dksX1_wouldLose_0 23 rfl rfl)
theorem dX1_wouldLose_24 : decode cX1_wouldLose 24 = .ok (.getfield 191, 3) := dk_180 0 191 (dk_at dksX1_wouldLose_1 0 rfl rfl)
theorem dX1_wouldLose_27 : decode cX1_wouldLose 27 = .ok (.iload_n 2, 1) := dk_28 (dk_at dksX1_wouldLose_1 3 rfl rfl)
theorem dX1_wouldLose_28 : decode cX1_wouldLose 28 = .ok (.baload, 1) := dk_51 (dk_at dksX1_wouldLose_1 4 rfl rfl)
theorem dX1_wouldLose_29 : decode cX1_wouldLose 29 = .ok (.istore 5, 2) := dk_54 5 (dk_at dksX1_wouldLose_1 5 rfl rfl)
theorem dX1_wouldLose_31 : decode cX1_wouldLose 31 = .ok (.aload_n 0, 1) := dk_42 (dk_at dksX1_wouldLose_1 7 rfl rfl)
theorem dX1_wouldLose_32 : decode cX1_wouldLose 32 = .ok (.iload_n 1, 1) := dk_27 (dk_at dksX1_wouldLose_1 8 rfl rfl)
theorem dX1_wouldLose_33 : decode cX1_wouldLose 33 = .ok (.iload_n 2, 1) := dk_28 (dk_at dksX1_wouldLose_1 9 rfl rfl)
theorem dX1_wouldLose_34 : decode cX1_wouldLose 34 = .ok (.invokevirtual 259, 3) := dk_182 1 3 (dk_at dksX1_wouldLose_1 10 rfl rfl)
theorem dX1_wouldLose_37 : decode cX1_wouldLose 37 = .ok (.istore 6, 2) := dk_54 6 (dk_at dksX1_wouldLose_1 13 rfl rfl)
theorem dX1_wouldLose_39 : decode cX1_wouldLose 39 = .ok (.aload_n 3, 1) := dk_45 (dk_at dksX1_wouldLose_1 15 rfl rfl)
theorem dX1_wouldLose_40 : decode cX1_wouldLose 40 = .ok (.getfield 191, 3) := dk_180 0 191 (dk_at dksX1_wouldLose_1 16 rfl rfl)
theorem dX1_wouldLose_43 : decode cX1_wouldLose 43 = .ok (.iload_n 2, 1) := dk_28 (dk_at dksX1_wouldLose_1 19 rfl rfl)
theorem dX1_wouldLose_44 : decode cX1_wouldLose 44 = .ok (.iload 5, 2) := dk_21 5 (dk_at dksX1_wouldLose_1 20 rfl rfl)
theorem dX1_wouldLose_46 : decode cX1_wouldLose 46 = .ok (.bastore, 1) := dk_84 (dk_at dksX1_wouldLose_1 22 rfl rfl)
theorem dX1_wouldLose_47 : decode cX1_wouldLose 47 = .ok (.aload_n 0, 1) := dk_42 (dk_at dksX1_wouldLose_1 23 rfl rfl)
theorem dX1_wouldLose_48 : decode cX1_wouldLose 48 = .ok (.aload 4, 2) := dk_25 4 (dk_at dksX1_wouldLose_2 0 rfl rfl)
theorem dX1_wouldLose_50 : decode cX1_wouldLose 50 = .ok (.invokevirtual 462, 3) := dk_182 1 206 (dk_at dksX1_wouldLose_2 2 rfl rfl)
theorem dX1_wouldLose_53 : decode cX1_wouldLose 53 = .ok (.iload 6, 2) := dk_21 6 (dk_at dksX1_wouldLose_2 5 rfl rfl)
theorem dX1_wouldLose_55 : decode cX1_wouldLose 55 = .ok (.ireturn, 1) := dk_172 (dk_at dksX1_wouldLose_2 7 rfl rfl)
abbrev cX1_copies : ByteArray := prog_1_method_69_code
def yX1_copies : MethodName := ⟨RX1, "copies", "()Ljava/util/List;"⟩
def dkwX1_copies_2 : List UInt8 := [132, 2, 1, 167, 255, 217, 43, 176]
abbrev dktX1_copies_2 : List UInt8 := dkwX1_copies_2 ++ []
def dkwX1_copies_1 : List UInt8 := [42, 180, 0, 45, 28, 185, 0, 80, 2, 0, 192, 0, 85, 182, 1, 198, 185, 0, 53, 2, 0, 87]
abbrev dktX1_copies_1 : List UInt8 := dkwX1_copies_1 ++ dktX1_copies_2
def dkwX1_copies_0 : List UInt8 := [187, 0, 23, 89, 183, 0, 25, 76, 3, 61, 28, 42, 180, 0, 45, 185, 0, 72, 1, 0, 162, 0, 32, 43]
abbrev dktX1_copies_0 : List UInt8 := dkwX1_copies_0 ++ dktX1_copies_1
theorem dksX1_copies_0 : cX1_copies.data.toList.drop 0 = dktX1_copies_0 := by decide +kernel
theorem dksX1_copies_1 : cX1_copies.data.toList.drop 24 = dktX1_copies_1 := dk_seg dksX1_copies_0 24 rfl rfl
theorem dksX1_copies_2 : cX1_copies.data.toList.drop 46 = dktX1_copies_2 := dk_seg dksX1_copies_1 22 rfl rfl
theorem dX1_copies_0 : decode cX1_copies 0 = .ok (.new 23, 3) := dk_187 0 23 (dk_at dksX1_copies_0 0 rfl rfl)
theorem dX1_copies_3 : decode cX1_copies 3 = .ok (.dup, 1) := dk_89 (dk_at dksX1_copies_0 3 rfl rfl)
theorem dX1_copies_4 : decode cX1_copies 4 = .ok (.invokespecial 25, 3) := dk_183 0 25 (dk_at dksX1_copies_0 4 rfl rfl)
theorem dX1_copies_7 : decode cX1_copies 7 = .ok (.astore_n 1, 1) := dk_76 (dk_at dksX1_copies_0 7 rfl rfl)
theorem dX1_copies_8 : decode cX1_copies 8 = .ok (.iconst 0, 1) := dk_3 (dk_at dksX1_copies_0 8 rfl rfl)
theorem dX1_copies_9 : decode cX1_copies 9 = .ok (.istore_n 2, 1) := dk_61 (dk_at dksX1_copies_0 9 rfl rfl)
theorem dX1_copies_10 : decode cX1_copies 10 = .ok (.iload_n 2, 1) := dk_28 (dk_at dksX1_copies_0 10 rfl rfl)
theorem dX1_copies_11 : decode cX1_copies 11 = .ok (.aload_n 0, 1) := dk_42 (dk_at dksX1_copies_0 11 rfl rfl)
theorem dX1_copies_12 : decode cX1_copies 12 = .ok (.getfield 45, 3) := dk_180 0 45 (dk_at dksX1_copies_0 12 rfl rfl)
theorem dX1_copies_15 : decode cX1_copies 15 = .ok (.invokeinterface 72 1, 5) := by decide +kernel
theorem dX1_copies_20 : decode cX1_copies 20 = .ok (.if_icmp .ge 32, 3) := dk_162 0 32 (dk_at dksX1_copies_0 20 rfl rfl)
theorem dX1_copies_23 : decode cX1_copies 23 = .ok (.aload_n 1, 1) := dk_43 (dk_at dksX1_copies_0 23 rfl rfl)
theorem dX1_copies_24 : decode cX1_copies 24 = .ok (.aload_n 0, 1) := dk_42 (dk_at dksX1_copies_1 0 rfl rfl)
theorem dX1_copies_25 : decode cX1_copies 25 = .ok (.getfield 45, 3) := dk_180 0 45 (dk_at dksX1_copies_1 1 rfl rfl)
theorem dX1_copies_28 : decode cX1_copies 28 = .ok (.iload_n 2, 1) := dk_28 (dk_at dksX1_copies_1 4 rfl rfl)
theorem dX1_copies_29 : decode cX1_copies 29 = .ok (.invokeinterface 80 2, 5) := by decide +kernel
theorem dX1_copies_34 : decode cX1_copies 34 = .ok (.checkcast 85, 3) := dk_192 0 85 (dk_at dksX1_copies_1 10 rfl rfl)
theorem dX1_copies_37 : decode cX1_copies 37 = .ok (.invokevirtual 454, 3) := dk_182 1 198 (dk_at dksX1_copies_1 13 rfl rfl)
theorem dX1_copies_40 : decode cX1_copies 40 = .ok (.invokeinterface 53 2, 5) := by decide +kernel
theorem dX1_copies_45 : decode cX1_copies 45 = .ok (.pop, 1) := dk_87 (dk_at dksX1_copies_1 21 rfl rfl)
theorem dX1_copies_46 : decode cX1_copies 46 = .ok (.iinc 2 1, 3) := dk_132 2 1 (dk_at dksX1_copies_2 0 rfl rfl)
theorem dX1_copies_49 : decode cX1_copies 49 = .ok (.goto (-39), 3) := dk_167 255 217 (dk_at dksX1_copies_2 3 rfl rfl)
theorem dX1_copies_52 : decode cX1_copies 52 = .ok (.aload_n 1, 1) := dk_43 (dk_at dksX1_copies_2 6 rfl rfl)
theorem dX1_copies_53 : decode cX1_copies 53 = .ok (.areturn, 1) := dk_176 (dk_at dksX1_copies_2 7 rfl rfl)
abbrev cX1_restore : ByteArray := prog_1_method_70_code
def yX1_restore : MethodName := ⟨RX1, "restore", "(Ljava/util/List;)V"⟩
def dkwX1_restore_1 : List UInt8 := [192, 0, 85, 185, 0, 113, 3, 0, 87, 132, 2, 1, 167, 255, 222, 177]
abbrev dktX1_restore_1 : List UInt8 := dkwX1_restore_1 ++ []
def dkwX1_restore_0 : List UInt8 := [3, 61, 28, 43, 185, 0, 72, 1, 0, 162, 0, 30, 42, 180, 0, 45, 28, 43, 28, 185, 0, 80, 2, 0]
abbrev dktX1_restore_0 : List UInt8 := dkwX1_restore_0 ++ dktX1_restore_1
theorem dksX1_restore_0 : cX1_restore.data.toList.drop 0 = dktX1_restore_0 := by decide +kernel
theorem dksX1_restore_1 : cX1_restore.data.toList.drop 24 = dktX1_restore_1 := dk_seg dksX1_restore_0 24 rfl rfl
theorem dX1_restore_0 : decode cX1_restore 0 = .ok (.iconst 0, 1) := dk_3 (dk_at dksX1_restore_0 0 rfl rfl)
theorem dX1_restore_1 : decode cX1_restore 1 = .ok (.istore_n 2, 1) := dk_61 (dk_at dksX1_restore_0 1 rfl rfl)
theorem dX1_restore_2 : decode cX1_restore 2 = .ok (.iload_n 2, 1) := dk_28 (dk_at dksX1_restore_0 2 rfl rfl)
theorem dX1_restore_3 : decode cX1_restore 3 = .ok (.aload_n 1, 1) := dk_43 (dk_at dksX1_restore_0 3 rfl rfl)
theorem dX1_restore_4 : decode cX1_restore 4 = .ok (.invokeinterface 72 1, 5) := by decide +kernel
theorem dX1_restore_9 : decode cX1_restore 9 = .ok (.if_icmp .ge 30, 3) := dk_162 0 30 (dk_at dksX1_restore_0 9 rfl rfl)
theorem dX1_restore_12 : decode cX1_restore 12 = .ok (.aload_n 0, 1) := dk_42 (dk_at dksX1_restore_0 12 rfl rfl)
theorem dX1_restore_13 : decode cX1_restore 13 = .ok (.getfield 45, 3) := dk_180 0 45 (dk_at dksX1_restore_0 13 rfl rfl)
theorem dX1_restore_16 : decode cX1_restore 16 = .ok (.iload_n 2, 1) := dk_28 (dk_at dksX1_restore_0 16 rfl rfl)
theorem dX1_restore_17 : decode cX1_restore 17 = .ok (.aload_n 1, 1) := dk_43 (dk_at dksX1_restore_0 17 rfl rfl)
theorem dX1_restore_18 : decode cX1_restore 18 = .ok (.iload_n 2, 1) := dk_28 (dk_at dksX1_restore_0 18 rfl rfl)
theorem dX1_restore_19 : decode cX1_restore 19 = .ok (.invokeinterface 80 2, 5) := by decide +kernel
theorem dX1_restore_24 : decode cX1_restore 24 = .ok (.checkcast 85, 3) := dk_192 0 85 (dk_at dksX1_restore_1 0 rfl rfl)
theorem dX1_restore_27 : decode cX1_restore 27 = .ok (.invokeinterface 113 3, 5) := by decide +kernel
theorem dX1_restore_32 : decode cX1_restore 32 = .ok (.pop, 1) := dk_87 (dk_at dksX1_restore_1 8 rfl rfl)
theorem dX1_restore_33 : decode cX1_restore 33 = .ok (.iinc 2 1, 3) := dk_132 2 1 (dk_at dksX1_restore_1 9 rfl rfl)
theorem dX1_restore_36 : decode cX1_restore 36 = .ok (.goto (-34), 3) := dk_167 255 222 (dk_at dksX1_restore_1 12 rfl rfl)
theorem dX1_restore_39 : decode cX1_restore 39 = .ok (.return_, 1) := dk_177 (dk_at dksX1_restore_1 15 rfl rfl)
abbrev cX1_plan : ByteArray := prog_1_method_74_code
def yX1_plan : MethodName := ⟨RX1, "plan", "(IZ)I"⟩
def dkwX1_plan_6 : List UInt8 := [54, 6, 132, 7, 1, 167, 255, 207, 28, 153, 0, 8, 21, 6, 167, 0, 5, 21, 4, 172]
abbrev dktX1_plan_6 : List UInt8 := dkwX1_plan_6 ++ []
def dkwX1_plan_5 : List UInt8 := [153, 0, 22, 4, 45, 21, 7, 185, 0, 80, 2, 0, 192, 1, 55, 182, 1, 71, 120, 167, 0, 4, 3, 128]
abbrev dktX1_plan_5 : List UInt8 := dkwX1_plan_5 ++ dktX1_plan_6
def dkwX1_plan_4 : List UInt8 := [54, 7, 21, 7, 45, 185, 0, 72, 1, 0, 162, 0, 44, 21, 6, 21, 5, 21, 7, 184, 0, 123]
abbrev dktX1_plan_4 : List UInt8 := dkwX1_plan_4 ++ dktX1_plan_5
def dkwX1_plan_3 : List UInt8 := [21, 5, 54, 5, 21, 4, 21, 8, 184, 0, 177, 54, 4, 132, 6, 1, 167, 255, 194, 3, 54, 6, 3]
abbrev dktX1_plan_3 : List UInt8 := dkwX1_plan_3 ++ dktX1_plan_4
def dkwX1_plan_2 : List UInt8 := [182, 1, 213, 54, 8, 42, 25, 7, 182, 1, 206, 21, 8, 21, 4, 164, 0, 8, 21, 6, 167, 0, 5]
abbrev dktX1_plan_2 : List UInt8 := dkwX1_plan_2 ++ dktX1_plan_3
def dkwX1_plan_1 : List UInt8 := [21, 6, 4, 45, 185, 0, 72, 1, 0, 120, 162, 0, 55, 42, 182, 1, 202, 58, 7, 42, 45, 21, 6]
abbrev dktX1_plan_1 : List UInt8 := dkwX1_plan_1 ++ dktX1_plan_2
def dkwX1_plan_0 : List UInt8 := [27, 3, 17, 1, 109, 184, 0, 88, 42, 27, 182, 1, 210, 78, 3, 54, 4, 3, 54, 5, 4, 54, 6]
abbrev dktX1_plan_0 : List UInt8 := dkwX1_plan_0 ++ dktX1_plan_1
theorem dksX1_plan_0 : cX1_plan.data.toList.drop 0 = dktX1_plan_0 := by decide +kernel
theorem dksX1_plan_1 : cX1_plan.data.toList.drop 23 = dktX1_plan_1 := dk_seg dksX1_plan_0 23 rfl rfl
theorem dksX1_plan_2 : cX1_plan.data.toList.drop 46 = dktX1_plan_2 := dk_seg dksX1_plan_1 23 rfl rfl
theorem dksX1_plan_3 : cX1_plan.data.toList.drop 69 = dktX1_plan_3 := dk_seg dksX1_plan_2 23 rfl rfl
theorem dksX1_plan_4 : cX1_plan.data.toList.drop 92 = dktX1_plan_4 := dk_seg dksX1_plan_3 23 rfl rfl
theorem dksX1_plan_5 : cX1_plan.data.toList.drop 114 = dktX1_plan_5 := dk_seg dksX1_plan_4 22 rfl rfl
theorem dksX1_plan_6 : cX1_plan.data.toList.drop 138 = dktX1_plan_6 := dk_seg dksX1_plan_5 24 rfl rfl
theorem dX1_plan_0 : decode cX1_plan 0 = .ok (.iload_n 1, 1) := dk_27 (dk_at dksX1_plan_0 0 rfl rfl)
theorem dX1_plan_1 : decode cX1_plan 1 = .ok (.iconst 0, 1) := dk_3 (dk_at dksX1_plan_0 1 rfl rfl)
theorem dX1_plan_2 : decode cX1_plan 2 = .ok (.sipush 365, 3) := dk_17 1 109 (dk_at dksX1_plan_0 2 rfl rfl)
theorem dX1_plan_5 : decode cX1_plan 5 = .ok (.invokestatic 88, 3) := dk_184 0 88 (dk_at dksX1_plan_0 5 rfl rfl)
theorem dX1_plan_8 : decode cX1_plan 8 = .ok (.aload_n 0, 1) := dk_42 (dk_at dksX1_plan_0 8 rfl rfl)
theorem dX1_plan_9 : decode cX1_plan 9 = .ok (.iload_n 1, 1) := dk_27 (dk_at dksX1_plan_0 9 rfl rfl)
theorem dX1_plan_10 : decode cX1_plan 10 = .ok (.invokevirtual 466, 3) := dk_182 1 210 (dk_at dksX1_plan_0 10 rfl rfl)
theorem dX1_plan_13 : decode cX1_plan 13 = .ok (.astore_n 3, 1) := dk_78 (dk_at dksX1_plan_0 13 rfl rfl)
theorem dX1_plan_14 : decode cX1_plan 14 = .ok (.iconst 0, 1) := dk_3 (dk_at dksX1_plan_0 14 rfl rfl)
theorem dX1_plan_15 : decode cX1_plan 15 = .ok (.istore 4, 2) := dk_54 4 (dk_at dksX1_plan_0 15 rfl rfl)
theorem dX1_plan_17 : decode cX1_plan 17 = .ok (.iconst 0, 1) := dk_3 (dk_at dksX1_plan_0 17 rfl rfl)
theorem dX1_plan_18 : decode cX1_plan 18 = .ok (.istore 5, 2) := dk_54 5 (dk_at dksX1_plan_0 18 rfl rfl)
theorem dX1_plan_20 : decode cX1_plan 20 = .ok (.iconst 1, 1) := dk_4 (dk_at dksX1_plan_0 20 rfl rfl)
theorem dX1_plan_21 : decode cX1_plan 21 = .ok (.istore 6, 2) := dk_54 6 (dk_at dksX1_plan_0 21 rfl rfl)
theorem dX1_plan_23 : decode cX1_plan 23 = .ok (.iload 6, 2) := dk_21 6 (dk_at dksX1_plan_1 0 rfl rfl)
theorem dX1_plan_25 : decode cX1_plan 25 = .ok (.iconst 1, 1) := dk_4 (dk_at dksX1_plan_1 2 rfl rfl)
theorem dX1_plan_26 : decode cX1_plan 26 = .ok (.aload_n 3, 1) := dk_45 (dk_at dksX1_plan_1 3 rfl rfl)
theorem dX1_plan_27 : decode cX1_plan 27 = .ok (.invokeinterface 72 1, 5) := by decide +kernel
theorem dX1_plan_32 : decode cX1_plan 32 = .ok (.ishl, 1) := dk_120 (dk_at dksX1_plan_1 9 rfl rfl)
theorem dX1_plan_33 : decode cX1_plan 33 = .ok (.if_icmp .ge 55, 3) := dk_162 0 55 (dk_at dksX1_plan_1 10 rfl rfl)
theorem dX1_plan_36 : decode cX1_plan 36 = .ok (.aload_n 0, 1) := dk_42 (dk_at dksX1_plan_1 13 rfl rfl)
theorem dX1_plan_37 : decode cX1_plan 37 = .ok (.invokevirtual 458, 3) := dk_182 1 202 (dk_at dksX1_plan_1 14 rfl rfl)
theorem dX1_plan_40 : decode cX1_plan 40 = .ok (.astore 7, 2) := dk_58 7 (dk_at dksX1_plan_1 17 rfl rfl)
theorem dX1_plan_42 : decode cX1_plan 42 = .ok (.aload_n 0, 1) := dk_42 (dk_at dksX1_plan_1 19 rfl rfl)
theorem dX1_plan_43 : decode cX1_plan 43 = .ok (.aload_n 3, 1) := dk_45 (dk_at dksX1_plan_1 20 rfl rfl)
theorem dX1_plan_44 : decode cX1_plan 44 = .ok (.iload 6, 2) := dk_21 6 (dk_at dksX1_plan_1 21 rfl rfl)
theorem dX1_plan_46 : decode cX1_plan 46 = .ok (.invokevirtual 469, 3) := dk_182 1 213 (dk_at dksX1_plan_2 0 rfl rfl)
theorem dX1_plan_49 : decode cX1_plan 49 = .ok (.istore 8, 2) := dk_54 8 (dk_at dksX1_plan_2 3 rfl rfl)
theorem dX1_plan_51 : decode cX1_plan 51 = .ok (.aload_n 0, 1) := dk_42 (dk_at dksX1_plan_2 5 rfl rfl)
theorem dX1_plan_52 : decode cX1_plan 52 = .ok (.aload 7, 2) := dk_25 7 (dk_at dksX1_plan_2 6 rfl rfl)
theorem dX1_plan_54 : decode cX1_plan 54 = .ok (.invokevirtual 462, 3) := dk_182 1 206 (dk_at dksX1_plan_2 8 rfl rfl)
theorem dX1_plan_57 : decode cX1_plan 57 = .ok (.iload 8, 2) := dk_21 8 (dk_at dksX1_plan_2 11 rfl rfl)
theorem dX1_plan_59 : decode cX1_plan 59 = .ok (.iload 4, 2) := dk_21 4 (dk_at dksX1_plan_2 13 rfl rfl)
theorem dX1_plan_61 : decode cX1_plan 61 = .ok (.if_icmp .le 8, 3) := dk_164 0 8 (dk_at dksX1_plan_2 15 rfl rfl)
theorem dX1_plan_64 : decode cX1_plan 64 = .ok (.iload 6, 2) := dk_21 6 (dk_at dksX1_plan_2 18 rfl rfl)
theorem dX1_plan_66 : decode cX1_plan 66 = .ok (.goto 5, 3) := dk_167 0 5 (dk_at dksX1_plan_2 20 rfl rfl)
theorem dX1_plan_69 : decode cX1_plan 69 = .ok (.iload 5, 2) := dk_21 5 (dk_at dksX1_plan_3 0 rfl rfl)
theorem dX1_plan_71 : decode cX1_plan 71 = .ok (.istore 5, 2) := dk_54 5 (dk_at dksX1_plan_3 2 rfl rfl)
theorem dX1_plan_73 : decode cX1_plan 73 = .ok (.iload 4, 2) := dk_21 4 (dk_at dksX1_plan_3 4 rfl rfl)
theorem dX1_plan_75 : decode cX1_plan 75 = .ok (.iload 8, 2) := dk_21 8 (dk_at dksX1_plan_3 6 rfl rfl)
theorem dX1_plan_77 : decode cX1_plan 77 = .ok (.invokestatic 177, 3) := dk_184 0 177 (dk_at dksX1_plan_3 8 rfl rfl)
theorem dX1_plan_80 : decode cX1_plan 80 = .ok (.istore 4, 2) := dk_54 4 (dk_at dksX1_plan_3 11 rfl rfl)
theorem dX1_plan_82 : decode cX1_plan 82 = .ok (.iinc 6 1, 3) := dk_132 6 1 (dk_at dksX1_plan_3 13 rfl rfl)
theorem dX1_plan_85 : decode cX1_plan 85 = .ok (.goto (-62), 3) := dk_167 255 194 (dk_at dksX1_plan_3 16 rfl rfl)
theorem dX1_plan_88 : decode cX1_plan 88 = .ok (.iconst 0, 1) := dk_3 (dk_at dksX1_plan_3 19 rfl rfl)
theorem dX1_plan_89 : decode cX1_plan 89 = .ok (.istore 6, 2) := dk_54 6 (dk_at dksX1_plan_3 20 rfl rfl)
theorem dX1_plan_91 : decode cX1_plan 91 = .ok (.iconst 0, 1) := dk_3 (dk_at dksX1_plan_3 22 rfl rfl)
theorem dX1_plan_92 : decode cX1_plan 92 = .ok (.istore 7, 2) := dk_54 7 (dk_at dksX1_plan_4 0 rfl rfl)
theorem dX1_plan_94 : decode cX1_plan 94 = .ok (.iload 7, 2) := dk_21 7 (dk_at dksX1_plan_4 2 rfl rfl)
theorem dX1_plan_96 : decode cX1_plan 96 = .ok (.aload_n 3, 1) := dk_45 (dk_at dksX1_plan_4 4 rfl rfl)
theorem dX1_plan_97 : decode cX1_plan 97 = .ok (.invokeinterface 72 1, 5) := by decide +kernel
theorem dX1_plan_102 : decode cX1_plan 102 = .ok (.if_icmp .ge 44, 3) := dk_162 0 44 (dk_at dksX1_plan_4 10 rfl rfl)
theorem dX1_plan_105 : decode cX1_plan 105 = .ok (.iload 6, 2) := dk_21 6 (dk_at dksX1_plan_4 13 rfl rfl)
theorem dX1_plan_107 : decode cX1_plan 107 = .ok (.iload 5, 2) := dk_21 5 (dk_at dksX1_plan_4 15 rfl rfl)
theorem dX1_plan_109 : decode cX1_plan 109 = .ok (.iload 7, 2) := dk_21 7 (dk_at dksX1_plan_4 17 rfl rfl)
theorem dX1_plan_111 : decode cX1_plan 111 = .ok (.invokestatic 123, 3) := dk_184 0 123 (dk_at dksX1_plan_4 19 rfl rfl)
theorem dX1_plan_114 : decode cX1_plan 114 = .ok (.ifCond .eq 22, 3) := dk_153 0 22 (dk_at dksX1_plan_5 0 rfl rfl)
theorem dX1_plan_117 : decode cX1_plan 117 = .ok (.iconst 1, 1) := dk_4 (dk_at dksX1_plan_5 3 rfl rfl)
theorem dX1_plan_118 : decode cX1_plan 118 = .ok (.aload_n 3, 1) := dk_45 (dk_at dksX1_plan_5 4 rfl rfl)
theorem dX1_plan_119 : decode cX1_plan 119 = .ok (.iload 7, 2) := dk_21 7 (dk_at dksX1_plan_5 5 rfl rfl)
theorem dX1_plan_121 : decode cX1_plan 121 = .ok (.invokeinterface 80 2, 5) := by decide +kernel
theorem dX1_plan_126 : decode cX1_plan 126 = .ok (.checkcast 311, 3) := dk_192 1 55 (dk_at dksX1_plan_5 12 rfl rfl)
theorem dX1_plan_129 : decode cX1_plan 129 = .ok (.invokevirtual 327, 3) := dk_182 1 71 (dk_at dksX1_plan_5 15 rfl rfl)
theorem dX1_plan_132 : decode cX1_plan 132 = .ok (.ishl, 1) := dk_120 (dk_at dksX1_plan_5 18 rfl rfl)
theorem dX1_plan_133 : decode cX1_plan 133 = .ok (.goto 4, 3) := dk_167 0 4 (dk_at dksX1_plan_5 19 rfl rfl)
theorem dX1_plan_136 : decode cX1_plan 136 = .ok (.iconst 0, 1) := dk_3 (dk_at dksX1_plan_5 22 rfl rfl)
theorem dX1_plan_137 : decode cX1_plan 137 = .ok (.ior, 1) := dk_128 (dk_at dksX1_plan_5 23 rfl rfl)
theorem dX1_plan_138 : decode cX1_plan 138 = .ok (.istore 6, 2) := dk_54 6 (dk_at dksX1_plan_6 0 rfl rfl)
theorem dX1_plan_140 : decode cX1_plan 140 = .ok (.iinc 7 1, 3) := dk_132 7 1 (dk_at dksX1_plan_6 2 rfl rfl)
theorem dX1_plan_143 : decode cX1_plan 143 = .ok (.goto (-49), 3) := dk_167 255 207 (dk_at dksX1_plan_6 5 rfl rfl)
theorem dX1_plan_146 : decode cX1_plan 146 = .ok (.iload_n 2, 1) := dk_28 (dk_at dksX1_plan_6 8 rfl rfl)
theorem dX1_plan_147 : decode cX1_plan 147 = .ok (.ifCond .eq 8, 3) := dk_153 0 8 (dk_at dksX1_plan_6 9 rfl rfl)
theorem dX1_plan_150 : decode cX1_plan 150 = .ok (.iload 6, 2) := dk_21 6 (dk_at dksX1_plan_6 12 rfl rfl)
theorem dX1_plan_152 : decode cX1_plan 152 = .ok (.goto 5, 3) := dk_167 0 5 (dk_at dksX1_plan_6 14 rfl rfl)
theorem dX1_plan_155 : decode cX1_plan 155 = .ok (.iload 4, 2) := dk_21 4 (dk_at dksX1_plan_6 17 rfl rfl)
theorem dX1_plan_157 : decode cX1_plan 157 = .ok (.ireturn, 1) := dk_172 (dk_at dksX1_plan_6 19 rfl rfl)
abbrev cX1_firsts : ByteArray := prog_1_method_72_code
def yX1_firsts : MethodName := ⟨RX1, "firsts", "(I)Ljava/util/List;"⟩
def dkwX1_firsts_3 : List UInt8 := [185, 0, 53, 2, 0, 87, 132, 3, 1, 167, 255, 191, 44, 176]
abbrev dktX1_firsts_3 : List UInt8 := dkwX1_firsts_3 ++ []
def dkwX1_firsts_2 : List UInt8 := [180, 0, 153, 27, 160, 0, 22, 42, 29, 182, 0, 238, 154, 0, 14, 44, 29, 184, 1, 54]
abbrev dktX1_firsts_2 : List UInt8 := dkwX1_firsts_2 ++ dktX1_firsts_3
def dkwX1_firsts_1 : List UInt8 := [185, 0, 72, 1, 0, 6, 162, 0, 48, 42, 180, 0, 45, 29, 185, 0, 80, 2, 0, 192, 0, 85]
abbrev dktX1_firsts_1 : List UInt8 := dkwX1_firsts_1 ++ dktX1_firsts_2
def dkwX1_firsts_0 : List UInt8 := [187, 0, 23, 89, 183, 0, 25, 77, 3, 62, 29, 42, 180, 0, 45, 185, 0, 72, 1, 0, 162, 0, 58, 44]
abbrev dktX1_firsts_0 : List UInt8 := dkwX1_firsts_0 ++ dktX1_firsts_1
theorem dksX1_firsts_0 : cX1_firsts.data.toList.drop 0 = dktX1_firsts_0 := by decide +kernel
theorem dksX1_firsts_1 : cX1_firsts.data.toList.drop 24 = dktX1_firsts_1 := dk_seg dksX1_firsts_0 24 rfl rfl
theorem dksX1_firsts_2 : cX1_firsts.data.toList.drop 46 = dktX1_firsts_2 := dk_seg dksX1_firsts_1 22 rfl rfl
theorem dksX1_firsts_3 : cX1_firsts.data.toList.drop 66 = dktX1_firsts_3 := dk_seg dksX1_firsts_2 20 rfl rfl
theorem dX1_firsts_0 : decode cX1_firsts 0 = .ok (.new 23, 3) := dk_187 0 23 (dk_at dksX1_firsts_0 0 rfl rfl)
theorem dX1_firsts_3 : decode cX1_firsts 3 = .ok (.dup, 1) := dk_89 (dk_at dksX1_firsts_0 3 rfl rfl)
theorem dX1_firsts_4 : decode cX1_firsts 4 = .ok (.invokespecial 25, 3) := dk_183 0 25 (dk_at dksX1_firsts_0 4 rfl rfl)
theorem dX1_firsts_7 : decode cX1_firsts 7 = .ok (.astore_n 2, 1) := dk_77 (dk_at dksX1_firsts_0 7 rfl rfl)
theorem dX1_firsts_8 : decode cX1_firsts 8 = .ok (.iconst 0, 1) := dk_3 (dk_at dksX1_firsts_0 8 rfl rfl)
theorem dX1_firsts_9 : decode cX1_firsts 9 = .ok (.istore_n 3, 1) := dk_62 (dk_at dksX1_firsts_0 9 rfl rfl)
theorem dX1_firsts_10 : decode cX1_firsts 10 = .ok (.iload_n 3, 1) := dk_29 (dk_at dksX1_firsts_0 10 rfl rfl)
theorem dX1_firsts_11 : decode cX1_firsts 11 = .ok (.aload_n 0, 1) := dk_42 (dk_at dksX1_firsts_0 11 rfl rfl)
theorem dX1_firsts_12 : decode cX1_firsts 12 = .ok (.getfield 45, 3) := dk_180 0 45 (dk_at dksX1_firsts_0 12 rfl rfl)
theorem dX1_firsts_15 : decode cX1_firsts 15 = .ok (.invokeinterface 72 1, 5) := by decide +kernel
theorem dX1_firsts_20 : decode cX1_firsts 20 = .ok (.if_icmp .ge 58, 3) := dk_162 0 58 (dk_at dksX1_firsts_0 20 rfl rfl)
theorem dX1_firsts_23 : decode cX1_firsts 23 = .ok (.aload_n 2, 1) := dk_44 (dk_at dksX1_firsts_0 23 rfl rfl)
theorem dX1_firsts_24 : decode cX1_firsts 24 = .ok (.invokeinterface 72 1, 5) := by decide +kernel
theorem dX1_firsts_29 : decode cX1_firsts 29 = .ok (.iconst 3, 1) := dk_6 (dk_at dksX1_firsts_1 5 rfl rfl)
theorem dX1_firsts_30 : decode cX1_firsts 30 = .ok (.if_icmp .ge 48, 3) := dk_162 0 48 (dk_at dksX1_firsts_1 6 rfl rfl)
theorem dX1_firsts_33 : decode cX1_firsts 33 = .ok (.aload_n 0, 1) := dk_42 (dk_at dksX1_firsts_1 9 rfl rfl)
theorem dX1_firsts_34 : decode cX1_firsts 34 = .ok (.getfield 45, 3) := dk_180 0 45 (dk_at dksX1_firsts_1 10 rfl rfl)
theorem dX1_firsts_37 : decode cX1_firsts 37 = .ok (.iload_n 3, 1) := dk_29 (dk_at dksX1_firsts_1 13 rfl rfl)
theorem dX1_firsts_38 : decode cX1_firsts 38 = .ok (.invokeinterface 80 2, 5) := by decide +kernel
theorem dX1_firsts_43 : decode cX1_firsts 43 = .ok (.checkcast 85, 3) := dk_192 0 85 (dk_at dksX1_firsts_1 19 rfl rfl)
theorem dX1_firsts_46 : decode cX1_firsts 46 = .ok (.getfield 153, 3) := dk_180 0 153 (dk_at dksX1_firsts_2 0 rfl rfl)
theorem dX1_firsts_49 : decode cX1_firsts 49 = .ok (.iload_n 1, 1) := dk_27 (dk_at dksX1_firsts_2 3 rfl rfl)
theorem dX1_firsts_50 : decode cX1_firsts 50 = .ok (.if_icmp .ne 22, 3) := dk_160 0 22 (dk_at dksX1_firsts_2 4 rfl rfl)
theorem dX1_firsts_53 : decode cX1_firsts 53 = .ok (.aload_n 0, 1) := dk_42 (dk_at dksX1_firsts_2 7 rfl rfl)
theorem dX1_firsts_54 : decode cX1_firsts 54 = .ok (.iload_n 3, 1) := dk_29 (dk_at dksX1_firsts_2 8 rfl rfl)
theorem dX1_firsts_55 : decode cX1_firsts 55 = .ok (.invokevirtual 238, 3) := dk_182 0 238 (dk_at dksX1_firsts_2 9 rfl rfl)
theorem dX1_firsts_58 : decode cX1_firsts 58 = .ok (.ifCond .ne 14, 3) := dk_154 0 14 (dk_at dksX1_firsts_2 12 rfl rfl)
theorem dX1_firsts_61 : decode cX1_firsts 61 = .ok (.aload_n 2, 1) := dk_44 (dk_at dksX1_firsts_2 15 rfl rfl)
theorem dX1_firsts_62 : decode cX1_firsts 62 = .ok (.iload_n 3, 1) := dk_29 (dk_at dksX1_firsts_2 16 rfl rfl)
theorem dX1_firsts_63 : decode cX1_firsts 63 = .ok (.invokestatic 310, 3) := dk_184 1 54 (dk_at dksX1_firsts_2 17 rfl rfl)
theorem dX1_firsts_66 : decode cX1_firsts 66 = .ok (.invokeinterface 53 2, 5) := by decide +kernel
theorem dX1_firsts_71 : decode cX1_firsts 71 = .ok (.pop, 1) := dk_87 (dk_at dksX1_firsts_3 5 rfl rfl)
theorem dX1_firsts_72 : decode cX1_firsts 72 = .ok (.iinc 3 1, 3) := dk_132 3 1 (dk_at dksX1_firsts_3 6 rfl rfl)
theorem dX1_firsts_75 : decode cX1_firsts 75 = .ok (.goto (-65), 3) := dk_167 255 191 (dk_at dksX1_firsts_3 9 rfl rfl)
theorem dX1_firsts_78 : decode cX1_firsts 78 = .ok (.aload_n 2, 1) := dk_44 (dk_at dksX1_firsts_3 12 rfl rfl)
theorem dX1_firsts_79 : decode cX1_firsts 79 = .ok (.areturn, 1) := dk_176 (dk_at dksX1_firsts_3 13 rfl rfl)
abbrev cX1_prices : ByteArray := prog_1_method_73_code
def yX1_prices : MethodName := ⟨RX1, "prices", "(Ljava/util/List;I)I"⟩
def dkwX1_prices_4 : List UInt8 := [182, 1, 71, 185, 0, 80, 2, 0, 192, 0, 85, 180, 0, 231, 96, 62, 132, 4, 1, 167, 255, 150, 29, 172]
abbrev dktX1_prices_4 : List UInt8 := dkwX1_prices_4 ++ []
def dkwX1_prices_3 : List UInt8 := [182, 1, 71, 25, 5, 182, 0, 245, 29, 42, 180, 0, 45, 43, 21, 4, 185, 0, 80, 2, 0, 192, 1, 55]
abbrev dktX1_prices_3 : List UInt8 := dkwX1_prices_3 ++ dktX1_prices_4
def dkwX1_prices_2 : List UInt8 := [25, 5, 180, 0, 208, 2, 160, 0, 5, 2, 172, 42, 43, 21, 4, 185, 0, 80, 2, 0, 192, 1, 55]
abbrev dktX1_prices_2 : List UInt8 := dkwX1_prices_2 ++ dktX1_prices_3
def dkwX1_prices_1 : List UInt8 := [153, 0, 86, 42, 43, 21, 4, 185, 0, 80, 2, 0, 192, 1, 55, 182, 1, 71, 182, 0, 241, 58, 5]
abbrev dktX1_prices_1 : List UInt8 := dkwX1_prices_1 ++ dktX1_prices_2
def dkwX1_prices_0 : List UInt8 := [3, 62, 3, 54, 4, 21, 4, 43, 185, 0, 72, 1, 0, 162, 0, 101, 28, 21, 4, 184, 0, 123]
abbrev dktX1_prices_0 : List UInt8 := dkwX1_prices_0 ++ dktX1_prices_1
theorem dksX1_prices_0 : cX1_prices.data.toList.drop 0 = dktX1_prices_0 := by decide +kernel
theorem dksX1_prices_1 : cX1_prices.data.toList.drop 22 = dktX1_prices_1 := dk_seg dksX1_prices_0 22 rfl rfl
theorem dksX1_prices_2 : cX1_prices.data.toList.drop 45 = dktX1_prices_2 := dk_seg dksX1_prices_1 23 rfl rfl
theorem dksX1_prices_3 : cX1_prices.data.toList.drop 68 = dktX1_prices_3 := dk_seg dksX1_prices_2 23 rfl rfl
theorem dksX1_prices_4 : cX1_prices.data.toList.drop 92 = dktX1_prices_4 := dk_seg dksX1_prices_3 24 rfl rfl
theorem dX1_prices_0 : decode cX1_prices 0 = .ok (.iconst 0, 1) := dk_3 (dk_at dksX1_prices_0 0 rfl rfl)
theorem dX1_prices_1 : decode cX1_prices 1 = .ok (.istore_n 3, 1) := dk_62 (dk_at dksX1_prices_0 1 rfl rfl)
theorem dX1_prices_2 : decode cX1_prices 2 = .ok (.iconst 0, 1) := dk_3 (dk_at dksX1_prices_0 2 rfl rfl)
theorem dX1_prices_3 : decode cX1_prices 3 = .ok (.istore 4, 2) := dk_54 4 (dk_at dksX1_prices_0 3 rfl rfl)
theorem dX1_prices_5 : decode cX1_prices 5 = .ok (.iload 4, 2) := dk_21 4 (dk_at dksX1_prices_0 5 rfl rfl)
theorem dX1_prices_7 : decode cX1_prices 7 = .ok (.aload_n 1, 1) := dk_43 (dk_at dksX1_prices_0 7 rfl rfl)
theorem dX1_prices_8 : decode cX1_prices 8 = .ok (.invokeinterface 72 1, 5) := by decide +kernel
theorem dX1_prices_13 : decode cX1_prices 13 = .ok (.if_icmp .ge 101, 3) := dk_162 0 101 (dk_at dksX1_prices_0 13 rfl rfl)
theorem dX1_prices_16 : decode cX1_prices 16 = .ok (.iload_n 2, 1) := dk_28 (dk_at dksX1_prices_0 16 rfl rfl)
theorem dX1_prices_17 : decode cX1_prices 17 = .ok (.iload 4, 2) := dk_21 4 (dk_at dksX1_prices_0 17 rfl rfl)
theorem dX1_prices_19 : decode cX1_prices 19 = .ok (.invokestatic 123, 3) := dk_184 0 123 (dk_at dksX1_prices_0 19 rfl rfl)
theorem dX1_prices_22 : decode cX1_prices 22 = .ok (.ifCond .eq 86, 3) := dk_153 0 86 (dk_at dksX1_prices_1 0 rfl rfl)
theorem dX1_prices_25 : decode cX1_prices 25 = .ok (.aload_n 0, 1) := dk_42 (dk_at dksX1_prices_1 3 rfl rfl)
theorem dX1_prices_26 : decode cX1_prices 26 = .ok (.aload_n 1, 1) := dk_43 (dk_at dksX1_prices_1 4 rfl rfl)
theorem dX1_prices_27 : decode cX1_prices 27 = .ok (.iload 4, 2) := dk_21 4 (dk_at dksX1_prices_1 5 rfl rfl)
theorem dX1_prices_29 : decode cX1_prices 29 = .ok (.invokeinterface 80 2, 5) := by decide +kernel
theorem dX1_prices_34 : decode cX1_prices 34 = .ok (.checkcast 311, 3) := dk_192 1 55 (dk_at dksX1_prices_1 12 rfl rfl)
theorem dX1_prices_37 : decode cX1_prices 37 = .ok (.invokevirtual 327, 3) := dk_182 1 71 (dk_at dksX1_prices_1 15 rfl rfl)
theorem dX1_prices_40 : decode cX1_prices 40 = .ok (.invokevirtual 241, 3) := dk_182 0 241 (dk_at dksX1_prices_1 18 rfl rfl)
theorem dX1_prices_43 : decode cX1_prices 43 = .ok (.astore 5, 2) := dk_58 5 (dk_at dksX1_prices_1 21 rfl rfl)
theorem dX1_prices_45 : decode cX1_prices 45 = .ok (.aload 5, 2) := dk_25 5 (dk_at dksX1_prices_2 0 rfl rfl)
theorem dX1_prices_47 : decode cX1_prices 47 = .ok (.getfield 208, 3) := dk_180 0 208 (dk_at dksX1_prices_2 2 rfl rfl)
theorem dX1_prices_50 : decode cX1_prices 50 = .ok (.iconst (-1), 1) := dk_2 (dk_at dksX1_prices_2 5 rfl rfl)
theorem dX1_prices_51 : decode cX1_prices 51 = .ok (.if_icmp .ne 5, 3) := dk_160 0 5 (dk_at dksX1_prices_2 6 rfl rfl)
theorem dX1_prices_54 : decode cX1_prices 54 = .ok (.iconst (-1), 1) := dk_2 (dk_at dksX1_prices_2 9 rfl rfl)
theorem dX1_prices_55 : decode cX1_prices 55 = .ok (.ireturn, 1) := dk_172 (dk_at dksX1_prices_2 10 rfl rfl)
theorem dX1_prices_56 : decode cX1_prices 56 = .ok (.aload_n 0, 1) := dk_42 (dk_at dksX1_prices_2 11 rfl rfl)
theorem dX1_prices_57 : decode cX1_prices 57 = .ok (.aload_n 1, 1) := dk_43 (dk_at dksX1_prices_2 12 rfl rfl)
theorem dX1_prices_58 : decode cX1_prices 58 = .ok (.iload 4, 2) := dk_21 4 (dk_at dksX1_prices_2 13 rfl rfl)
theorem dX1_prices_60 : decode cX1_prices 60 = .ok (.invokeinterface 80 2, 5) := by decide +kernel
theorem dX1_prices_65 : decode cX1_prices 65 = .ok (.checkcast 311, 3) := dk_192 1 55 (dk_at dksX1_prices_2 20 rfl rfl)
theorem dX1_prices_68 : decode cX1_prices 68 = .ok (.invokevirtual 327, 3) := dk_182 1 71 (dk_at dksX1_prices_3 0 rfl rfl)
theorem dX1_prices_71 : decode cX1_prices 71 = .ok (.aload 5, 2) := dk_25 5 (dk_at dksX1_prices_3 3 rfl rfl)
theorem dX1_prices_73 : decode cX1_prices 73 = .ok (.invokevirtual 245, 3) := dk_182 0 245 (dk_at dksX1_prices_3 5 rfl rfl)
theorem dX1_prices_76 : decode cX1_prices 76 = .ok (.iload_n 3, 1) := dk_29 (dk_at dksX1_prices_3 8 rfl rfl)
theorem dX1_prices_77 : decode cX1_prices 77 = .ok (.aload_n 0, 1) := dk_42 (dk_at dksX1_prices_3 9 rfl rfl)
theorem dX1_prices_78 : decode cX1_prices 78 = .ok (.getfield 45, 3) := dk_180 0 45 (dk_at dksX1_prices_3 10 rfl rfl)
theorem dX1_prices_81 : decode cX1_prices 81 = .ok (.aload_n 1, 1) := dk_43 (dk_at dksX1_prices_3 13 rfl rfl)
theorem dX1_prices_82 : decode cX1_prices 82 = .ok (.iload 4, 2) := dk_21 4 (dk_at dksX1_prices_3 14 rfl rfl)
theorem dX1_prices_84 : decode cX1_prices 84 = .ok (.invokeinterface 80 2, 5) := by decide +kernel
theorem dX1_prices_89 : decode cX1_prices 89 = .ok (.checkcast 311, 3) := dk_192 1 55 (dk_at dksX1_prices_3 21 rfl rfl)
theorem dX1_prices_92 : decode cX1_prices 92 = .ok (.invokevirtual 327, 3) := dk_182 1 71 (dk_at dksX1_prices_4 0 rfl rfl)
theorem dX1_prices_95 : decode cX1_prices 95 = .ok (.invokeinterface 80 2, 5) := by decide +kernel
theorem dX1_prices_100 : decode cX1_prices 100 = .ok (.checkcast 85, 3) := dk_192 0 85 (dk_at dksX1_prices_4 8 rfl rfl)
theorem dX1_prices_103 : decode cX1_prices 103 = .ok (.getfield 231, 3) := dk_180 0 231 (dk_at dksX1_prices_4 11 rfl rfl)
theorem dX1_prices_106 : decode cX1_prices 106 = .ok (.iadd, 1) := dk_96 (dk_at dksX1_prices_4 14 rfl rfl)
theorem dX1_prices_107 : decode cX1_prices 107 = .ok (.istore_n 3, 1) := dk_62 (dk_at dksX1_prices_4 15 rfl rfl)
theorem dX1_prices_108 : decode cX1_prices 108 = .ok (.iinc 4 1, 3) := dk_132 4 1 (dk_at dksX1_prices_4 16 rfl rfl)
theorem dX1_prices_111 : decode cX1_prices 111 = .ok (.goto (-106), 3) := dk_167 255 150 (dk_at dksX1_prices_4 19 rfl rfl)
theorem dX1_prices_114 : decode cX1_prices 114 = .ok (.iload_n 3, 1) := dk_29 (dk_at dksX1_prices_4 22 rfl rfl)
theorem dX1_prices_115 : decode cX1_prices 115 = .ok (.ireturn, 1) := dk_172 (dk_at dksX1_prices_4 23 rfl rfl)
abbrev cX1_wouldCancel : ByteArray := prog_1_method_75_code
def yX1_wouldCancel : MethodName := ⟨RX1, "wouldCancel", "(I)I"⟩
def dkwX1_wouldCancel_3 : List UInt8 := [132, 4, 1, 167, 255, 213, 44, 180, 0, 249, 42, 44, 182, 0, 255, 184, 0, 177, 29, 100, 172]
abbrev dktX1_wouldCancel_3 : List UInt8 := dkwX1_wouldCancel_3 ++ []
def dkwX1_wouldCancel_2 : List UInt8 := [180, 0, 195, 21, 4, 184, 0, 123, 153, 0, 13, 42, 21, 4, 44, 182, 1, 24, 167, 0, 4, 3, 100, 62]
abbrev dktX1_wouldCancel_2 : List UInt8 := dkwX1_wouldCancel_2 ++ dktX1_wouldCancel_3
def dkwX1_wouldCancel_1 : List UInt8 := [182, 1, 18, 96, 62, 3, 54, 4, 21, 4, 42, 180, 0, 26, 185, 0, 72, 1, 0, 162, 0, 35, 29, 44]
abbrev dktX1_wouldCancel_1 : List UInt8 := dkwX1_wouldCancel_1 ++ dktX1_wouldCancel_2
def dkwX1_wouldCancel_0 : List UInt8 := [42, 27, 182, 0, 234, 77, 44, 178, 0, 140, 182, 0, 146, 184, 0, 96, 44, 180, 0, 231, 42, 44]
abbrev dktX1_wouldCancel_0 : List UInt8 := dkwX1_wouldCancel_0 ++ dktX1_wouldCancel_1
theorem dksX1_wouldCancel_0 : cX1_wouldCancel.data.toList.drop 0 = dktX1_wouldCancel_0 := by decide +kernel
theorem dksX1_wouldCancel_1 : cX1_wouldCancel.data.toList.drop 22 = dktX1_wouldCancel_1 := dk_seg dksX1_wouldCancel_0 22 rfl rfl
theorem dksX1_wouldCancel_2 : cX1_wouldCancel.data.toList.drop 46 = dktX1_wouldCancel_2 := dk_seg dksX1_wouldCancel_1 24 rfl rfl
theorem dksX1_wouldCancel_3 : cX1_wouldCancel.data.toList.drop 70 = dktX1_wouldCancel_3 := dk_seg dksX1_wouldCancel_2 24 rfl rfl
theorem dX1_wouldCancel_0 : decode cX1_wouldCancel 0 = .ok (.aload_n 0, 1) := dk_42 (dk_at dksX1_wouldCancel_0 0 rfl rfl)
theorem dX1_wouldCancel_1 : decode cX1_wouldCancel 1 = .ok (.iload_n 1, 1) := dk_27 (dk_at dksX1_wouldCancel_0 1 rfl rfl)
theorem dX1_wouldCancel_2 : decode cX1_wouldCancel 2 = .ok (.invokevirtual 234, 3) := dk_182 0 234 (dk_at dksX1_wouldCancel_0 2 rfl rfl)
theorem dX1_wouldCancel_5 : decode cX1_wouldCancel 5 = .ok (.astore_n 2, 1) := dk_77 (dk_at dksX1_wouldCancel_0 5 rfl rfl)
theorem dX1_wouldCancel_6 : decode cX1_wouldCancel 6 = .ok (.aload_n 2, 1) := dk_44 (dk_at dksX1_wouldCancel_0 6 rfl rfl)
theorem dX1_wouldCancel_7 : decode cX1_wouldCancel 7 = .ok (.getstatic 140, 3) := dk_178 0 140 (dk_at dksX1_wouldCancel_0 7 rfl rfl)
theorem dX1_wouldCancel_10 : decode cX1_wouldCancel 10 = .ok (.invokevirtual 146, 3) := dk_182 0 146 (dk_at dksX1_wouldCancel_0 10 rfl rfl)
theorem dX1_wouldCancel_13 : decode cX1_wouldCancel 13 = .ok (.invokestatic 96, 3) := dk_184 0 96 (dk_at dksX1_wouldCancel_0 13 rfl rfl)
theorem dX1_wouldCancel_16 : decode cX1_wouldCancel 16 = .ok (.aload_n 2, 1) := dk_44 (dk_at dksX1_wouldCancel_0 16 rfl rfl)
theorem dX1_wouldCancel_17 : decode cX1_wouldCancel 17 = .ok (.getfield 231, 3) := dk_180 0 231 (dk_at dksX1_wouldCancel_0 17 rfl rfl)
theorem dX1_wouldCancel_20 : decode cX1_wouldCancel 20 = .ok (.aload_n 0, 1) := dk_42 (dk_at dksX1_wouldCancel_0 20 rfl rfl)
theorem dX1_wouldCancel_21 : decode cX1_wouldCancel 21 = .ok (.aload_n 2, 1) := dk_44 (dk_at dksX1_wouldCancel_0 21 rfl rfl)
theorem dX1_wouldCancel_22 : decode cX1_wouldCancel 22 = .ok (.invokevirtual 274, 3) := dk_182 1 18 (dk_at dksX1_wouldCancel_1 0 rfl rfl)
theorem dX1_wouldCancel_25 : decode cX1_wouldCancel 25 = .ok (.iadd, 1) := dk_96 (dk_at dksX1_wouldCancel_1 3 rfl rfl)
theorem dX1_wouldCancel_26 : decode cX1_wouldCancel 26 = .ok (.istore_n 3, 1) := dk_62 (dk_at dksX1_wouldCancel_1 4 rfl rfl)
theorem dX1_wouldCancel_27 : decode cX1_wouldCancel 27 = .ok (.iconst 0, 1) := dk_3 (dk_at dksX1_wouldCancel_1 5 rfl rfl)
theorem dX1_wouldCancel_28 : decode cX1_wouldCancel 28 = .ok (.istore 4, 2) := dk_54 4 (dk_at dksX1_wouldCancel_1 6 rfl rfl)
theorem dX1_wouldCancel_30 : decode cX1_wouldCancel 30 = .ok (.iload 4, 2) := dk_21 4 (dk_at dksX1_wouldCancel_1 8 rfl rfl)
theorem dX1_wouldCancel_32 : decode cX1_wouldCancel 32 = .ok (.aload_n 0, 1) := dk_42 (dk_at dksX1_wouldCancel_1 10 rfl rfl)
theorem dX1_wouldCancel_33 : decode cX1_wouldCancel 33 = .ok (.getfield 26, 3) := dk_180 0 26 (dk_at dksX1_wouldCancel_1 11 rfl rfl)
theorem dX1_wouldCancel_36 : decode cX1_wouldCancel 36 = .ok (.invokeinterface 72 1, 5) := by decide +kernel
theorem dX1_wouldCancel_41 : decode cX1_wouldCancel 41 = .ok (.if_icmp .ge 35, 3) := dk_162 0 35 (dk_at dksX1_wouldCancel_1 19 rfl rfl)
theorem dX1_wouldCancel_44 : decode cX1_wouldCancel 44 = .ok (.iload_n 3, 1) := dk_29 (dk_at dksX1_wouldCancel_1 22 rfl rfl)
theorem dX1_wouldCancel_45 : decode cX1_wouldCancel 45 = .ok (.aload_n 2, 1) := dk_44 (dk_at dksX1_wouldCancel_1 23 rfl rfl)
theorem dX1_wouldCancel_46 : decode cX1_wouldCancel 46 = .ok (.getfield 195, 3) := dk_180 0 195 (dk_at dksX1_wouldCancel_2 0 rfl rfl)
theorem dX1_wouldCancel_49 : decode cX1_wouldCancel 49 = .ok (.iload 4, 2) := dk_21 4 (dk_at dksX1_wouldCancel_2 3 rfl rfl)
theorem dX1_wouldCancel_51 : decode cX1_wouldCancel 51 = .ok (.invokestatic 123, 3) := dk_184 0 123 (dk_at dksX1_wouldCancel_2 5 rfl rfl)
theorem dX1_wouldCancel_54 : decode cX1_wouldCancel 54 = .ok (.ifCond .eq 13, 3) := dk_153 0 13 (dk_at dksX1_wouldCancel_2 8 rfl rfl)
theorem dX1_wouldCancel_57 : decode cX1_wouldCancel 57 = .ok (.aload_n 0, 1) := dk_42 (dk_at dksX1_wouldCancel_2 11 rfl rfl)
theorem dX1_wouldCancel_58 : decode cX1_wouldCancel 58 = .ok (.iload 4, 2) := dk_21 4 (dk_at dksX1_wouldCancel_2 12 rfl rfl)
theorem dX1_wouldCancel_60 : decode cX1_wouldCancel 60 = .ok (.aload_n 2, 1) := dk_44 (dk_at dksX1_wouldCancel_2 14 rfl rfl)
theorem dX1_wouldCancel_61 : decode cX1_wouldCancel 61 = .ok (.invokevirtual 280, 3) := dk_182 1 24 (dk_at dksX1_wouldCancel_2 15 rfl rfl)
theorem dX1_wouldCancel_64 : decode cX1_wouldCancel 64 = .ok (.goto 4, 3) := dk_167 0 4 (dk_at dksX1_wouldCancel_2 18 rfl rfl)
theorem dX1_wouldCancel_67 : decode cX1_wouldCancel 67 = .ok (.iconst 0, 1) := dk_3 (dk_at dksX1_wouldCancel_2 21 rfl rfl)
theorem dX1_wouldCancel_68 : decode cX1_wouldCancel 68 = .ok (.isub, 1) := dk_100 (dk_at dksX1_wouldCancel_2 22 rfl rfl)
theorem dX1_wouldCancel_69 : decode cX1_wouldCancel 69 = .ok (.istore_n 3, 1) := dk_62 (dk_at dksX1_wouldCancel_2 23 rfl rfl)
theorem dX1_wouldCancel_70 : decode cX1_wouldCancel 70 = .ok (.iinc 4 1, 3) := dk_132 4 1 (dk_at dksX1_wouldCancel_3 0 rfl rfl)
theorem dX1_wouldCancel_73 : decode cX1_wouldCancel 73 = .ok (.goto (-43), 3) := dk_167 255 213 (dk_at dksX1_wouldCancel_3 3 rfl rfl)
theorem dX1_wouldCancel_76 : decode cX1_wouldCancel 76 = .ok (.aload_n 2, 1) := dk_44 (dk_at dksX1_wouldCancel_3 6 rfl rfl)
theorem dX1_wouldCancel_77 : decode cX1_wouldCancel 77 = .ok (.getfield 249, 3) := dk_180 0 249 (dk_at dksX1_wouldCancel_3 7 rfl rfl)
theorem dX1_wouldCancel_80 : decode cX1_wouldCancel 80 = .ok (.aload_n 0, 1) := dk_42 (dk_at dksX1_wouldCancel_3 10 rfl rfl)
theorem dX1_wouldCancel_81 : decode cX1_wouldCancel 81 = .ok (.aload_n 2, 1) := dk_44 (dk_at dksX1_wouldCancel_3 11 rfl rfl)
theorem dX1_wouldCancel_82 : decode cX1_wouldCancel 82 = .ok (.invokevirtual 255, 3) := dk_182 0 255 (dk_at dksX1_wouldCancel_3 12 rfl rfl)
theorem dX1_wouldCancel_85 : decode cX1_wouldCancel 85 = .ok (.invokestatic 177, 3) := dk_184 0 177 (dk_at dksX1_wouldCancel_3 15 rfl rfl)
theorem dX1_wouldCancel_88 : decode cX1_wouldCancel 88 = .ok (.iload_n 3, 1) := dk_29 (dk_at dksX1_wouldCancel_3 18 rfl rfl)
theorem dX1_wouldCancel_89 : decode cX1_wouldCancel 89 = .ok (.isub, 1) := dk_100 (dk_at dksX1_wouldCancel_3 19 rfl rfl)
theorem dX1_wouldCancel_90 : decode cX1_wouldCancel 90 = .ok (.ireturn, 1) := dk_172 (dk_at dksX1_wouldCancel_3 20 rfl rfl)
abbrev cX1_key : ByteArray := prog_1_method_76_code
def yX1_key : MethodName := ⟨RX1, "key", "(I)I"⟩
def dkwX1_key_3 : List UInt8 := [180, 0, 208, 2, 160, 0, 6, 21, 4, 172, 132, 4, 1, 167, 255, 206, 2, 172]
abbrev dktX1_key_3 : List UInt8 := dkwX1_key_3 ++ []
def dkwX1_key_2 : List UInt8 := [153, 0, 38, 187, 0, 200, 89, 42, 27, 28, 4, 21, 4, 120, 2, 130, 126, 3, 4, 183, 0, 205]
abbrev dktX1_key_2 : List UInt8 := dkwX1_key_2 ++ dktX1_key_3
def dkwX1_key_1 : List UInt8 := [4, 167, 0, 4, 3, 62, 3, 54, 4, 21, 4, 42, 180, 0, 26, 185, 0, 72, 1, 0, 162, 0, 42, 29]
abbrev dktX1_key_1 : List UInt8 := dkwX1_key_1 ++ dktX1_key_2
def dkwX1_key_0 : List UInt8 := [42, 27, 182, 0, 234, 87, 42, 27, 182, 0, 202, 61, 42, 27, 182, 0, 241, 180, 0, 208, 2, 159, 0, 7]
abbrev dktX1_key_0 : List UInt8 := dkwX1_key_0 ++ dktX1_key_1
theorem dksX1_key_0 : cX1_key.data.toList.drop 0 = dktX1_key_0 := by decide +kernel
theorem dksX1_key_1 : cX1_key.data.toList.drop 24 = dktX1_key_1 := dk_seg dksX1_key_0 24 rfl rfl
theorem dksX1_key_2 : cX1_key.data.toList.drop 48 = dktX1_key_2 := dk_seg dksX1_key_1 24 rfl rfl
theorem dksX1_key_3 : cX1_key.data.toList.drop 70 = dktX1_key_3 := dk_seg dksX1_key_2 22 rfl rfl
theorem dX1_key_0 : decode cX1_key 0 = .ok (.aload_n 0, 1) := dk_42 (dk_at dksX1_key_0 0 rfl rfl)
theorem dX1_key_1 : decode cX1_key 1 = .ok (.iload_n 1, 1) := dk_27 (dk_at dksX1_key_0 1 rfl rfl)
theorem dX1_key_2 : decode cX1_key 2 = .ok (.invokevirtual 234, 3) := dk_182 0 234 (dk_at dksX1_key_0 2 rfl rfl)
theorem dX1_key_5 : decode cX1_key 5 = .ok (.pop, 1) := dk_87 (dk_at dksX1_key_0 5 rfl rfl)
theorem dX1_key_6 : decode cX1_key 6 = .ok (.aload_n 0, 1) := dk_42 (dk_at dksX1_key_0 6 rfl rfl)
theorem dX1_key_7 : decode cX1_key 7 = .ok (.iload_n 1, 1) := dk_27 (dk_at dksX1_key_0 7 rfl rfl)
theorem dX1_key_8 : decode cX1_key 8 = .ok (.invokevirtual 202, 3) := dk_182 0 202 (dk_at dksX1_key_0 8 rfl rfl)
theorem dX1_key_11 : decode cX1_key 11 = .ok (.istore_n 2, 1) := dk_61 (dk_at dksX1_key_0 11 rfl rfl)
theorem dX1_key_12 : decode cX1_key 12 = .ok (.aload_n 0, 1) := dk_42 (dk_at dksX1_key_0 12 rfl rfl)
theorem dX1_key_13 : decode cX1_key 13 = .ok (.iload_n 1, 1) := dk_27 (dk_at dksX1_key_0 13 rfl rfl)
theorem dX1_key_14 : decode cX1_key 14 = .ok (.invokevirtual 241, 3) := dk_182 0 241 (dk_at dksX1_key_0 14 rfl rfl)
theorem dX1_key_17 : decode cX1_key 17 = .ok (.getfield 208, 3) := dk_180 0 208 (dk_at dksX1_key_0 17 rfl rfl)
theorem dX1_key_20 : decode cX1_key 20 = .ok (.iconst (-1), 1) := dk_2 (dk_at dksX1_key_0 20 rfl rfl)
theorem dX1_key_21 : decode cX1_key 21 = .ok (.if_icmp .eq 7, 3) := dk_159 0 7 (dk_at dksX1_key_0 21 rfl rfl)
theorem dX1_key_24 : decode cX1_key 24 = .ok (.iconst 1, 1) := dk_4 (dk_at dksX1_key_1 0 rfl rfl)
theorem dX1_key_25 : decode cX1_key 25 = .ok (.goto 4, 3) := dk_167 0 4 (dk_at dksX1_key_1 1 rfl rfl)
theorem dX1_key_28 : decode cX1_key 28 = .ok (.iconst 0, 1) := dk_3 (dk_at dksX1_key_1 4 rfl rfl)
theorem dX1_key_29 : decode cX1_key 29 = .ok (.istore_n 3, 1) := dk_62 (dk_at dksX1_key_1 5 rfl rfl)
theorem dX1_key_30 : decode cX1_key 30 = .ok (.iconst 0, 1) := dk_3 (dk_at dksX1_key_1 6 rfl rfl)
theorem dX1_key_31 : decode cX1_key 31 = .ok (.istore 4, 2) := dk_54 4 (dk_at dksX1_key_1 7 rfl rfl)
theorem dX1_key_33 : decode cX1_key 33 = .ok (.iload 4, 2) := dk_21 4 (dk_at dksX1_key_1 9 rfl rfl)
theorem dX1_key_35 : decode cX1_key 35 = .ok (.aload_n 0, 1) := dk_42 (dk_at dksX1_key_1 11 rfl rfl)
theorem dX1_key_36 : decode cX1_key 36 = .ok (.getfield 26, 3) := dk_180 0 26 (dk_at dksX1_key_1 12 rfl rfl)
theorem dX1_key_39 : decode cX1_key 39 = .ok (.invokeinterface 72 1, 5) := by decide +kernel
theorem dX1_key_44 : decode cX1_key 44 = .ok (.if_icmp .ge 42, 3) := dk_162 0 42 (dk_at dksX1_key_1 20 rfl rfl)
theorem dX1_key_47 : decode cX1_key 47 = .ok (.iload_n 3, 1) := dk_29 (dk_at dksX1_key_1 23 rfl rfl)
theorem dX1_key_48 : decode cX1_key 48 = .ok (.ifCond .eq 38, 3) := dk_153 0 38 (dk_at dksX1_key_2 0 rfl rfl)
theorem dX1_key_51 : decode cX1_key 51 = .ok (.new 200, 3) := dk_187 0 200 (dk_at dksX1_key_2 3 rfl rfl)
theorem dX1_key_54 : decode cX1_key 54 = .ok (.dup, 1) := dk_89 (dk_at dksX1_key_2 6 rfl rfl)
theorem dX1_key_55 : decode cX1_key 55 = .ok (.aload_n 0, 1) := dk_42 (dk_at dksX1_key_2 7 rfl rfl)
theorem dX1_key_56 : decode cX1_key 56 = .ok (.iload_n 1, 1) := dk_27 (dk_at dksX1_key_2 8 rfl rfl)
theorem dX1_key_57 : decode cX1_key 57 = .ok (.iload_n 2, 1) := dk_28 (dk_at dksX1_key_2 9 rfl rfl)
theorem dX1_key_58 : decode cX1_key 58 = .ok (.iconst 1, 1) := dk_4 (dk_at dksX1_key_2 10 rfl rfl)
theorem dX1_key_59 : decode cX1_key 59 = .ok (.iload 4, 2) := dk_21 4 (dk_at dksX1_key_2 11 rfl rfl)
theorem dX1_key_61 : decode cX1_key 61 = .ok (.ishl, 1) := dk_120 (dk_at dksX1_key_2 13 rfl rfl)
theorem dX1_key_62 : decode cX1_key 62 = .ok (.iconst (-1), 1) := dk_2 (dk_at dksX1_key_2 14 rfl rfl)
theorem dX1_key_63 : decode cX1_key 63 = .ok (.ixor, 1) := dk_130 (dk_at dksX1_key_2 15 rfl rfl)
theorem dX1_key_64 : decode cX1_key 64 = .ok (.iand, 1) := dk_126 (dk_at dksX1_key_2 16 rfl rfl)
theorem dX1_key_65 : decode cX1_key 65 = .ok (.iconst 0, 1) := dk_3 (dk_at dksX1_key_2 17 rfl rfl)
theorem dX1_key_66 : decode cX1_key 66 = .ok (.iconst 1, 1) := dk_4 (dk_at dksX1_key_2 18 rfl rfl)
theorem dX1_key_67 : decode cX1_key 67 = .ok (.invokespecial 205, 3) := dk_183 0 205 (dk_at dksX1_key_2 19 rfl rfl)
theorem dX1_key_70 : decode cX1_key 70 = .ok (.getfield 208, 3) := dk_180 0 208 (dk_at dksX1_key_3 0 rfl rfl)
theorem dX1_key_73 : decode cX1_key 73 = .ok (.iconst (-1), 1) := dk_2 (dk_at dksX1_key_3 3 rfl rfl)
theorem dX1_key_74 : decode cX1_key 74 = .ok (.if_icmp .ne 6, 3) := dk_160 0 6 (dk_at dksX1_key_3 4 rfl rfl)
theorem dX1_key_77 : decode cX1_key 77 = .ok (.iload 4, 2) := dk_21 4 (dk_at dksX1_key_3 7 rfl rfl)
theorem dX1_key_79 : decode cX1_key 79 = .ok (.ireturn, 1) := dk_172 (dk_at dksX1_key_3 9 rfl rfl)
theorem dX1_key_80 : decode cX1_key 80 = .ok (.iinc 4 1, 3) := dk_132 4 1 (dk_at dksX1_key_3 10 rfl rfl)
theorem dX1_key_83 : decode cX1_key 83 = .ok (.goto (-50), 3) := dk_167 255 206 (dk_at dksX1_key_3 13 rfl rfl)
theorem dX1_key_86 : decode cX1_key 86 = .ok (.iconst (-1), 1) := dk_2 (dk_at dksX1_key_3 16 rfl rfl)
theorem dX1_key_87 : decode cX1_key 87 = .ok (.ireturn, 1) := dk_172 (dk_at dksX1_key_3 17 rfl rfl)
theorem q100 : (Jvm.Cond.initialized "FirstdanceAgency") ∈ lw_all := lw_g (lw_at lw_m1 1 rfl) rfl
theorem q142 : (Jvm.Cond.instantiable "FirstdanceAgency" (6 : Nat)) ∈ lw_all := lw_g (lw_at lw_m1 43 rfl) rfl
theorem q144 : (Jvm.Cond.instanceMethod ({ cls := "FirstdanceAgency", name := "<init>", desc := "()V" } : Jvm.MethodName)) ∈ lw_all := lw_g (lw_at lw_m1 45 rfl) rfl
theorem q145 : (Jvm.Cond.code ({ cls := "FirstdanceAgency", name := "<init>", desc := "()V" } : Jvm.MethodName) prog_1_method_4_code (2 : Nat) (Option.none : Option Jvm.ClassFile.FieldType)) ∈ lw_all := lw_g (lw_at lw_m1 46 rfl) rfl
theorem q146 : (Jvm.Cond.methodLink "FirstdanceAgency" (17 : Nat) ({ cls := "java/lang/Object", name := "<init>", desc := "()V" } : Jvm.MethodName)) ∈ lw_all := lw_g (lw_at lw_m1 47 rfl) rfl
theorem q149 : (Jvm.Cond.classLink "FirstdanceAgency" (23 : Nat) "java/util/ArrayList") ∈ lw_all := lw_g (lw_at lw_m1 50 rfl) rfl
theorem q151 : (Jvm.Cond.methodLink "FirstdanceAgency" (25 : Nat) ({ cls := "java/util/ArrayList", name := "<init>", desc := "()V" } : Jvm.MethodName)) ∈ lw_all := lw_g (lw_at lw_m1 52 rfl) rfl
theorem q178 : (Jvm.Cond.classLink "FirstdanceAgency" (35 : Nat) "FirstdanceAgency$Roads") ∈ lw_all := lw_g (lw_at lw_m1 79 rfl) rfl
theorem q180 : (Jvm.Cond.methodLink "FirstdanceAgency" (37 : Nat) ({ cls := "FirstdanceAgency$Roads", name := "<init>", desc := "()V" } : Jvm.MethodName)) ∈ lw_all := lw_g (lw_at lw_m1 81 rfl) rfl
theorem q200 : (Jvm.Cond.classLink "FirstdanceAgency" (48 : Nat) "FirstdanceAgency$Song") ∈ lw_all := lw_g (lw_at lw_m1 101 rfl) rfl
theorem q202 : (Jvm.Cond.methodLink "FirstdanceAgency" (50 : Nat) ({ cls := "FirstdanceAgency$Song", name := "<init>", desc := "(IIII)V" } : Jvm.MethodName)) ∈ lw_all := lw_g (lw_at lw_m1 103 rfl) rfl
theorem q207 : (Jvm.Cond.fieldLinkNest "FirstdanceAgency" (374 : Nat) "FirstdanceAgency$Song" "key" "I" "FirstdanceAgency") ∈ lw_tbl := lw_at lw_m1 108 rfl
theorem q209 : (Jvm.Cond.fieldLinkNest "FirstdanceAgency" (307 : Nat) "FirstdanceAgency$Song" "energy" "I" "FirstdanceAgency") ∈ lw_tbl := lw_at lw_m1 110 rfl
theorem q211 : (Jvm.Cond.fieldLinkNest "FirstdanceAgency" (117 : Nat) "FirstdanceAgency$Song" "minutes" "I" "FirstdanceAgency") ∈ lw_tbl := lw_at lw_m1 112 rfl
theorem q213 : (Jvm.Cond.fieldLinkNest "FirstdanceAgency" (110 : Nat) "FirstdanceAgency$Song" "played" "I" "FirstdanceAgency") ∈ lw_tbl := lw_at lw_m1 114 rfl
theorem q223 : (Jvm.Cond.interfaceEntry "FirstdanceAgency" (53 : Nat)) ∈ lw_tbl := lw_at lw_m1 124 rfl
theorem q224 : (Jvm.Cond.methodLink "FirstdanceAgency" (53 : Nat) ({ cls := "java/util/List", name := "add", desc := "(Ljava/lang/Object;)Z" } : Jvm.MethodName)) ∈ lw_all := lw_g (lw_at lw_m1 125 rfl) rfl
theorem q261 : (Jvm.Cond.selects "FirstdanceAgency" ({ cls := "java/lang/Object", name := "getClass", desc := "()Ljava/lang/Class;" } : Jvm.MethodName) ({ cls := "java/lang/Object", name := "getClass", desc := "()Ljava/lang/Class;" } : Jvm.MethodName)) ∈ lw_all := lw_g (lw_at lw_m1 162 rfl) rfl
theorem q301 : (Jvm.Cond.fieldLink "FirstdanceAgency" (26 : Nat) "FirstdanceAgency" "players" "Ljava/util/List;") ∈ lw_all := lw_g (lw_at lw_m1 202 rfl) rfl
theorem q302 : (Jvm.Cond.fieldLink "FirstdanceAgency" (32 : Nat) "FirstdanceAgency" "songs" "Ljava/util/List;") ∈ lw_all := lw_g (lw_at lw_m1 203 rfl) rfl
theorem q303 : (Jvm.Cond.fieldLink "FirstdanceAgency" (38 : Nat) "FirstdanceAgency" "roads" "LFirstdanceAgency$Roads;") ∈ lw_all := lw_g (lw_at lw_m1 204 rfl) rfl
theorem q305 : (Jvm.Cond.fieldLink "FirstdanceAgency" (42 : Nat) "FirstdanceAgency" "bands" "Ljava/util/List;") ∈ lw_all := lw_g (lw_at lw_m1 206 rfl) rfl
theorem q307 : (Jvm.Cond.fieldLink "FirstdanceAgency" (45 : Nat) "FirstdanceAgency" "weddings" "Ljava/util/List;") ∈ lw_all := lw_g (lw_at lw_m1 208 rfl) rfl
theorem q308 : (Jvm.Cond.fieldLink "FirstdanceAgency" (156 : Nat) "FirstdanceAgency" "today" "I") ∈ lw_all := lw_g (lw_at lw_m1 209 rfl) rfl
theorem q309 : (Jvm.Cond.laysFinal "FirstdanceAgency" "FirstdanceAgency" "players" "Ljava/util/List;") ∈ lw_all := lw_g (lw_at lw_m1 210 rfl) rfl
theorem q310 : (Jvm.Cond.soleField "FirstdanceAgency" "players") ∈ lw_all := lw_g (lw_at lw_m1 211 rfl) rfl
theorem q311 : (Jvm.Cond.laysFinal "FirstdanceAgency" "FirstdanceAgency" "songs" "Ljava/util/List;") ∈ lw_all := lw_g (lw_at lw_m1 212 rfl) rfl
theorem q312 : (Jvm.Cond.soleField "FirstdanceAgency" "songs") ∈ lw_all := lw_g (lw_at lw_m1 213 rfl) rfl
theorem q313 : (Jvm.Cond.laysFinal "FirstdanceAgency" "FirstdanceAgency" "roads" "LFirstdanceAgency$Roads;") ∈ lw_all := lw_g (lw_at lw_m1 214 rfl) rfl
theorem q314 : (Jvm.Cond.soleField "FirstdanceAgency" "roads") ∈ lw_all := lw_g (lw_at lw_m1 215 rfl) rfl
theorem q315 : (Jvm.Cond.laysFinal "FirstdanceAgency" "FirstdanceAgency" "bands" "Ljava/util/List;") ∈ lw_all := lw_g (lw_at lw_m1 216 rfl) rfl
theorem q316 : (Jvm.Cond.soleField "FirstdanceAgency" "bands") ∈ lw_all := lw_g (lw_at lw_m1 217 rfl) rfl
theorem q317 : (Jvm.Cond.laysFinal "FirstdanceAgency" "FirstdanceAgency" "weddings" "Ljava/util/List;") ∈ lw_all := lw_g (lw_at lw_m1 218 rfl) rfl
theorem q318 : (Jvm.Cond.soleField "FirstdanceAgency" "weddings") ∈ lw_all := lw_g (lw_at lw_m1 219 rfl) rfl
theorem q319 : (Jvm.Cond.lays "FirstdanceAgency" "FirstdanceAgency" "today" "I") ∈ lw_all := lw_g (lw_at lw_m1 220 rfl) rfl
theorem q320 : (Jvm.Cond.soleField "FirstdanceAgency" "today") ∈ lw_all := lw_g (lw_at lw_m1 221 rfl) rfl
theorem q321 : (Jvm.Cond.superclass "FirstdanceAgency" "java/lang/Object") ∈ lw_all := lw_g (lw_at lw_m1 222 rfl) rfl
theorem q323 : (Jvm.Cond.instanceMethod ({ cls := "FirstdanceAgency", name := "isSound", desc := "()Z" } : Jvm.MethodName)) ∈ lw_all := lw_g (lw_at lw_m1 224 rfl) rfl
theorem q324 : (Jvm.Cond.selects "FirstdanceAgency" ({ cls := "FirstdanceAgency", name := "isSound", desc := "()Z" } : Jvm.MethodName) ({ cls := "FirstdanceAgency", name := "isSound", desc := "()Z" } : Jvm.MethodName)) ∈ lw_all := lw_g (lw_at lw_m1 225 rfl) rfl
theorem q325 : (Jvm.Cond.code ({ cls := "FirstdanceAgency", name := "isSound", desc := "()Z" } : Jvm.MethodName) prog_1_method_79_code (1 : Nat) (Option.some Jvm.ClassFile.FieldType.boolean)) ∈ lw_all := lw_g (lw_at lw_m1 226 rfl) rfl
theorem q326 : (Jvm.Cond.methodLink "FirstdanceAgency" (476 : Nat) ({ cls := "FirstdanceAgency", name := "isSoundNow", desc := "()Z" } : Jvm.MethodName)) ∈ lw_all := lw_g (lw_at lw_m1 227 rfl) rfl
theorem q327 : (Jvm.Cond.privateMethod ({ cls := "FirstdanceAgency", name := "isSoundNow", desc := "()Z" } : Jvm.MethodName)) ∈ lw_tbl := lw_at lw_m1 228 rfl
theorem q328 : (Jvm.Cond.instanceMethod ({ cls := "FirstdanceAgency", name := "isSoundNow", desc := "()Z" } : Jvm.MethodName)) ∈ lw_all := lw_g (lw_at lw_m1 229 rfl) rfl
theorem q329 : (Jvm.Cond.code ({ cls := "FirstdanceAgency", name := "isSoundNow", desc := "()Z" } : Jvm.MethodName) prog_1_method_78_code (4 : Nat) (Option.some Jvm.ClassFile.FieldType.boolean)) ∈ lw_all := lw_g (lw_at lw_m1 230 rfl) rfl
theorem q330 : (Jvm.Cond.interfaceEntry "FirstdanceAgency" (72 : Nat)) ∈ lw_tbl := lw_at lw_m1 231 rfl
theorem q331 : (Jvm.Cond.methodLink "FirstdanceAgency" (72 : Nat) ({ cls := "java/util/List", name := "size", desc := "()I" } : Jvm.MethodName)) ∈ lw_all := lw_g (lw_at lw_m1 232 rfl) rfl
theorem q339 : (Jvm.Cond.methodLink "FirstdanceAgency" (371 : Nat) ({ cls := "FirstdanceAgency", name := "playerNow", desc := "(II)I" } : Jvm.MethodName)) ∈ lw_all := lw_g (lw_at lw_m2 0 rfl) rfl
theorem q340 : (Jvm.Cond.privateMethod ({ cls := "FirstdanceAgency", name := "playerNow", desc := "(II)I" } : Jvm.MethodName)) ∈ lw_tbl := lw_at lw_m2 1 rfl
theorem q341 : (Jvm.Cond.instanceMethod ({ cls := "FirstdanceAgency", name := "playerNow", desc := "(II)I" } : Jvm.MethodName)) ∈ lw_all := lw_g (lw_at lw_m2 2 rfl) rfl
theorem q342 : (Jvm.Cond.code ({ cls := "FirstdanceAgency", name := "playerNow", desc := "(II)I" } : Jvm.MethodName) prog_1_method_48_code (4 : Nat) (Option.some Jvm.ClassFile.FieldType.int)) ∈ lw_all := lw_g (lw_at lw_m2 3 rfl) rfl
theorem q343 : (Jvm.Cond.interfaceEntry "FirstdanceAgency" (80 : Nat)) ∈ lw_tbl := lw_at lw_m2 4 rfl
theorem q344 : (Jvm.Cond.methodLink "FirstdanceAgency" (80 : Nat) ({ cls := "java/util/List", name := "get", desc := "(I)Ljava/lang/Object;" } : Jvm.MethodName)) ∈ lw_all := lw_g (lw_at lw_m2 5 rfl) rfl
theorem q362 : (Jvm.Cond.classLink "FirstdanceAgency" (83 : Nat) "FirstdanceAgency$Player") ∈ lw_all := lw_g (lw_at lw_m2 23 rfl) rfl
theorem q363 : (Jvm.Cond.fieldLink "FirstdanceAgency" (140 : Nat) "FirstdanceAgency$State" "FIXED" "LFirstdanceAgency$State;") ∈ lw_all := lw_g (lw_at lw_m2 24 rfl) rfl
theorem q365 : (Jvm.Cond.methodLink "FirstdanceAgency" (367 : Nat) ({ cls := "FirstdanceAgency", name := "weddingsOf", desc := "(ILFirstdanceAgency$State;Z)I" } : Jvm.MethodName)) ∈ lw_all := lw_g (lw_at lw_m2 26 rfl) rfl
theorem q366 : (Jvm.Cond.privateMethod ({ cls := "FirstdanceAgency", name := "weddingsOf", desc := "(ILFirstdanceAgency$State;Z)I" } : Jvm.MethodName)) ∈ lw_tbl := lw_at lw_m2 27 rfl
theorem q367 : (Jvm.Cond.instanceMethod ({ cls := "FirstdanceAgency", name := "weddingsOf", desc := "(ILFirstdanceAgency$State;Z)I" } : Jvm.MethodName)) ∈ lw_all := lw_g (lw_at lw_m2 28 rfl) rfl
theorem q368 : (Jvm.Cond.code ({ cls := "FirstdanceAgency", name := "weddingsOf", desc := "(ILFirstdanceAgency$State;Z)I" } : Jvm.MethodName) prog_1_method_47_code (7 : Nat) (Option.some Jvm.ClassFile.FieldType.int)) ∈ lw_all := lw_g (lw_at lw_m2 29 rfl) rfl
theorem q369 : (Jvm.Cond.classLink "FirstdanceAgency" (85 : Nat) "FirstdanceAgency$Wedding") ∈ lw_all := lw_g (lw_at lw_m2 30 rfl) rfl
theorem q370 : (Jvm.Cond.methodLink "FirstdanceAgency" (146 : Nat) ({ cls := "FirstdanceAgency$Wedding", name := "is", desc := "(LFirstdanceAgency$State;)Z" } : Jvm.MethodName)) ∈ lw_all := lw_g (lw_at lw_m2 31 rfl) rfl
theorem q374 : (Jvm.Cond.methodLink "FirstdanceAgency" (123 : Nat) ({ cls := "FirstdanceAgency", name := "has", desc := "(II)Z" } : Jvm.MethodName)) ∈ lw_all := lw_g (lw_at lw_m2 35 rfl) rfl
theorem q375 : (Jvm.Cond.static ({ cls := "FirstdanceAgency", name := "has", desc := "(II)Z" } : Jvm.MethodName)) ∈ lw_all := lw_g (lw_at lw_m2 36 rfl) rfl
theorem q376 : (Jvm.Cond.code ({ cls := "FirstdanceAgency", name := "has", desc := "(II)Z" } : Jvm.MethodName) prog_1_method_1_code (2 : Nat) (Option.some Jvm.ClassFile.FieldType.boolean)) ∈ lw_all := lw_g (lw_at lw_m2 37 rfl) rfl
theorem q377 : (Jvm.Cond.fieldLink "FirstdanceAgency" (271 : Nat) "FirstdanceAgency$State" "PLAYED" "LFirstdanceAgency$State;") ∈ lw_all := lw_g (lw_at lw_m2 38 rfl) rfl
theorem q379 : (Jvm.Cond.methodLink "FirstdanceAgency" (107 : Nat) ({ cls := "FirstdanceAgency", name := "size", desc := "(I)I" } : Jvm.MethodName)) ∈ lw_all := lw_g (lw_at lw_m2 40 rfl) rfl
theorem q380 : (Jvm.Cond.static ({ cls := "FirstdanceAgency", name := "size", desc := "(I)I" } : Jvm.MethodName)) ∈ lw_all := lw_g (lw_at lw_m2 41 rfl) rfl
theorem q381 : (Jvm.Cond.code ({ cls := "FirstdanceAgency", name := "size", desc := "(I)I" } : Jvm.MethodName) prog_1_method_2_code (3 : Nat) (Option.some Jvm.ClassFile.FieldType.int)) ∈ lw_all := lw_g (lw_at lw_m2 42 rfl) rfl
theorem q382 : (Jvm.Cond.methodLink "FirstdanceAgency" (377 : Nat) ({ cls := "FirstdanceAgency", name := "share", desc := "(I)I" } : Jvm.MethodName)) ∈ lw_all := lw_g (lw_at lw_m2 43 rfl) rfl
theorem q383 : (Jvm.Cond.privateMethod ({ cls := "FirstdanceAgency", name := "share", desc := "(I)I" } : Jvm.MethodName)) ∈ lw_tbl := lw_at lw_m2 44 rfl
theorem q384 : (Jvm.Cond.instanceMethod ({ cls := "FirstdanceAgency", name := "share", desc := "(I)I" } : Jvm.MethodName)) ∈ lw_all := lw_g (lw_at lw_m2 45 rfl) rfl
theorem q385 : (Jvm.Cond.code ({ cls := "FirstdanceAgency", name := "share", desc := "(I)I" } : Jvm.MethodName) prog_1_method_46_code (4 : Nat) (Option.some Jvm.ClassFile.FieldType.int)) ∈ lw_all := lw_g (lw_at lw_m2 46 rfl) rfl
theorem q386 : (Jvm.Cond.methodLink "FirstdanceAgency" (473 : Nat) ({ cls := "FirstdanceAgency", name := "areFixedSound", desc := "()Z" } : Jvm.MethodName)) ∈ lw_all := lw_g (lw_at lw_m2 47 rfl) rfl
theorem q387 : (Jvm.Cond.privateMethod ({ cls := "FirstdanceAgency", name := "areFixedSound", desc := "()Z" } : Jvm.MethodName)) ∈ lw_tbl := lw_at lw_m2 48 rfl
theorem q388 : (Jvm.Cond.instanceMethod ({ cls := "FirstdanceAgency", name := "areFixedSound", desc := "()Z" } : Jvm.MethodName)) ∈ lw_all := lw_g (lw_at lw_m2 49 rfl) rfl
theorem q389 : (Jvm.Cond.code ({ cls := "FirstdanceAgency", name := "areFixedSound", desc := "()Z" } : Jvm.MethodName) prog_1_method_77_code (5 : Nat) (Option.some Jvm.ClassFile.FieldType.boolean)) ∈ lw_all := lw_g (lw_at lw_m2 50 rfl) rfl
theorem q390 : (Jvm.Cond.classLink "FirstdanceAgency" (133 : Nat) "FirstdanceAgency$Shape") ∈ lw_all := lw_g (lw_at lw_m2 51 rfl) rfl
theorem q391 : (Jvm.Cond.methodLink "FirstdanceAgency" (137 : Nat) ({ cls := "FirstdanceAgency$Shape", name := "many", desc := "()I" } : Jvm.MethodName)) ∈ lw_all := lw_g (lw_at lw_m2 52 rfl) rfl
theorem q395 : (Jvm.Cond.methodLink "FirstdanceAgency" (431 : Nat) ({ cls := "FirstdanceAgency", name := "deskNow", desc := "(I)I" } : Jvm.MethodName)) ∈ lw_all := lw_g (lw_at lw_m2 56 rfl) rfl
theorem q396 : (Jvm.Cond.privateMethod ({ cls := "FirstdanceAgency", name := "deskNow", desc := "(I)I" } : Jvm.MethodName)) ∈ lw_tbl := lw_at lw_m2 57 rfl
theorem q397 : (Jvm.Cond.instanceMethod ({ cls := "FirstdanceAgency", name := "deskNow", desc := "(I)I" } : Jvm.MethodName)) ∈ lw_all := lw_g (lw_at lw_m2 58 rfl) rfl
theorem q398 : (Jvm.Cond.code ({ cls := "FirstdanceAgency", name := "deskNow", desc := "(I)I" } : Jvm.MethodName) prog_1_method_66_code (2 : Nat) (Option.some Jvm.ClassFile.FieldType.int)) ∈ lw_all := lw_g (lw_at lw_m2 59 rfl) rfl
theorem q399 : (Jvm.Cond.fieldLink "FirstdanceAgency" (222 : Nat) "FirstdanceAgency$State" "ASKED" "LFirstdanceAgency$State;") ∈ lw_all := lw_g (lw_at lw_m2 60 rfl) rfl
theorem q401 : (Jvm.Cond.methodLink "FirstdanceAgency" (419 : Nat) ({ cls := "FirstdanceAgency", name := "inState", desc := "(LFirstdanceAgency$State;)I" } : Jvm.MethodName)) ∈ lw_all := lw_g (lw_at lw_m2 62 rfl) rfl
theorem q402 : (Jvm.Cond.privateMethod ({ cls := "FirstdanceAgency", name := "inState", desc := "(LFirstdanceAgency$State;)I" } : Jvm.MethodName)) ∈ lw_tbl := lw_at lw_m2 63 rfl
theorem q403 : (Jvm.Cond.instanceMethod ({ cls := "FirstdanceAgency", name := "inState", desc := "(LFirstdanceAgency$State;)I" } : Jvm.MethodName)) ∈ lw_all := lw_g (lw_at lw_m2 64 rfl) rfl
theorem q404 : (Jvm.Cond.code ({ cls := "FirstdanceAgency", name := "inState", desc := "(LFirstdanceAgency$State;)I" } : Jvm.MethodName) prog_1_method_62_code (4 : Nat) (Option.some Jvm.ClassFile.FieldType.int)) ∈ lw_all := lw_g (lw_at lw_m2 65 rfl) rfl
theorem q405 : (Jvm.Cond.fieldLink "FirstdanceAgency" (252 : Nat) "FirstdanceAgency$State" "LOST" "LFirstdanceAgency$State;") ∈ lw_all := lw_g (lw_at lw_m2 66 rfl) rfl
theorem q407 : (Jvm.Cond.methodLink "FirstdanceAgency" (423 : Nat) ({ cls := "FirstdanceAgency", name := "paid", desc := "()I" } : Jvm.MethodName)) ∈ lw_all := lw_g (lw_at lw_m2 68 rfl) rfl
theorem q408 : (Jvm.Cond.privateMethod ({ cls := "FirstdanceAgency", name := "paid", desc := "()I" } : Jvm.MethodName)) ∈ lw_tbl := lw_at lw_m2 69 rfl
theorem q409 : (Jvm.Cond.instanceMethod ({ cls := "FirstdanceAgency", name := "paid", desc := "()I" } : Jvm.MethodName)) ∈ lw_all := lw_g (lw_at lw_m2 70 rfl) rfl
theorem q410 : (Jvm.Cond.code ({ cls := "FirstdanceAgency", name := "paid", desc := "()I" } : Jvm.MethodName) prog_1_method_63_code (3 : Nat) (Option.some Jvm.ClassFile.FieldType.int)) ∈ lw_all := lw_g (lw_at lw_m2 71 rfl) rfl
theorem q411 : (Jvm.Cond.methodLink "FirstdanceAgency" (425 : Nat) ({ cls := "FirstdanceAgency", name := "ofAll", desc := "(I)I" } : Jvm.MethodName)) ∈ lw_all := lw_g (lw_at lw_m2 72 rfl) rfl
theorem q412 : (Jvm.Cond.privateMethod ({ cls := "FirstdanceAgency", name := "ofAll", desc := "(I)I" } : Jvm.MethodName)) ∈ lw_tbl := lw_at lw_m2 73 rfl
theorem q413 : (Jvm.Cond.instanceMethod ({ cls := "FirstdanceAgency", name := "ofAll", desc := "(I)I" } : Jvm.MethodName)) ∈ lw_all := lw_g (lw_at lw_m2 74 rfl) rfl
theorem q414 : (Jvm.Cond.code ({ cls := "FirstdanceAgency", name := "ofAll", desc := "(I)I" } : Jvm.MethodName) prog_1_method_64_code (6 : Nat) (Option.some Jvm.ClassFile.FieldType.int)) ∈ lw_all := lw_g (lw_at lw_m2 75 rfl) rfl
theorem q415 : (Jvm.Cond.methodLink "FirstdanceAgency" (413 : Nat) ({ cls := "FirstdanceAgency$Player", name := "daysOff", desc := "()I" } : Jvm.MethodName)) ∈ lw_all := lw_g (lw_at lw_m2 76 rfl) rfl
theorem q419 : (Jvm.Cond.methodLink "FirstdanceAgency" (428 : Nat) ({ cls := "FirstdanceAgency", name := "spread", desc := "()I" } : Jvm.MethodName)) ∈ lw_all := lw_g (lw_at lw_m2 80 rfl) rfl
theorem q420 : (Jvm.Cond.privateMethod ({ cls := "FirstdanceAgency", name := "spread", desc := "()I" } : Jvm.MethodName)) ∈ lw_tbl := lw_at lw_m2 81 rfl
theorem q421 : (Jvm.Cond.instanceMethod ({ cls := "FirstdanceAgency", name := "spread", desc := "()I" } : Jvm.MethodName)) ∈ lw_all := lw_g (lw_at lw_m2 82 rfl) rfl
theorem q422 : (Jvm.Cond.code ({ cls := "FirstdanceAgency", name := "spread", desc := "()I" } : Jvm.MethodName) prog_1_method_65_code (5 : Nat) (Option.some Jvm.ClassFile.FieldType.int)) ∈ lw_all := lw_g (lw_at lw_m2 83 rfl) rfl
theorem q423 : (Jvm.Cond.methodLink "FirstdanceAgency" (177 : Nat) ({ cls := "java/lang/Math", name := "max", desc := "(II)I" } : Jvm.MethodName)) ∈ lw_all := lw_g (lw_at lw_m2 84 rfl) rfl
theorem q424 : (Jvm.Cond.methodLink "FirstdanceAgency" (416 : Nat) ({ cls := "java/lang/Math", name := "min", desc := "(II)I" } : Jvm.MethodName)) ∈ lw_all := lw_g (lw_at lw_m2 85 rfl) rfl
theorem q426 : (Jvm.Cond.instanceMethod ({ cls := "FirstdanceAgency", name := "digest", desc := "()J" } : Jvm.MethodName)) ∈ lw_all := lw_g (lw_at lw_m2 87 rfl) rfl
theorem q427 : (Jvm.Cond.selects "FirstdanceAgency" ({ cls := "FirstdanceAgency", name := "digest", desc := "()J" } : Jvm.MethodName) ({ cls := "FirstdanceAgency", name := "digest", desc := "()J" } : Jvm.MethodName)) ∈ lw_all := lw_g (lw_at lw_m2 88 rfl) rfl
theorem q428 : (Jvm.Cond.code ({ cls := "FirstdanceAgency", name := "digest", desc := "()J" } : Jvm.MethodName) prog_1_method_82_code (3 : Nat) (Option.some Jvm.ClassFile.FieldType.long)) ∈ lw_all := lw_g (lw_at lw_m2 89 rfl) rfl
theorem q429 : (Jvm.Cond.classLink "FirstdanceAgency" (480 : Nat) "FirstdanceAgency$Sum") ∈ lw_all := lw_g (lw_at lw_m2 90 rfl) rfl
theorem q431 : (Jvm.Cond.methodLinkNest "FirstdanceAgency" (484 : Nat) ({ cls := "FirstdanceAgency$Sum", name := "<init>", desc := "()V" } : Jvm.MethodName) "FirstdanceAgency") ∈ lw_tbl := lw_at lw_m2 92 rfl
theorem q437 : (Jvm.Cond.fieldLinkNest "FirstdanceAgency" (493 : Nat) "FirstdanceAgency$Sum" "total" "J" "FirstdanceAgency") ∈ lw_tbl := lw_at lw_m2 98 rfl
theorem q441 : (Jvm.Cond.methodLink "FirstdanceAgency" (479 : Nat) ({ cls := "FirstdanceAgency$Sum", name := "add", desc := "(J)V" } : Jvm.MethodName)) ∈ lw_all := lw_g (lw_at lw_m2 102 rfl) rfl
theorem q446 : (Jvm.Cond.methodLink "FirstdanceAgency" (485 : Nat) ({ cls := "FirstdanceAgency", name := "sumRest", desc := "(LFirstdanceAgency$Sum;)V" } : Jvm.MethodName)) ∈ lw_all := lw_g (lw_at lw_m2 107 rfl) rfl
theorem q447 : (Jvm.Cond.privateMethod ({ cls := "FirstdanceAgency", name := "sumRest", desc := "(LFirstdanceAgency$Sum;)V" } : Jvm.MethodName)) ∈ lw_tbl := lw_at lw_m2 108 rfl
theorem q448 : (Jvm.Cond.instanceMethod ({ cls := "FirstdanceAgency", name := "sumRest", desc := "(LFirstdanceAgency$Sum;)V" } : Jvm.MethodName)) ∈ lw_all := lw_g (lw_at lw_m2 109 rfl) rfl
theorem q449 : (Jvm.Cond.code ({ cls := "FirstdanceAgency", name := "sumRest", desc := "(LFirstdanceAgency$Sum;)V" } : Jvm.MethodName) prog_1_method_80_code (4 : Nat) (Option.none : Option Jvm.ClassFile.FieldType)) ∈ lw_all := lw_g (lw_at lw_m2 110 rfl) rfl
theorem q450 : (Jvm.Cond.methodLink "FirstdanceAgency" (383 : Nat) ({ cls := "FirstdanceAgency", name := "songNow", desc := "(II)I" } : Jvm.MethodName)) ∈ lw_all := lw_g (lw_at lw_m2 111 rfl) rfl
theorem q451 : (Jvm.Cond.privateMethod ({ cls := "FirstdanceAgency", name := "songNow", desc := "(II)I" } : Jvm.MethodName)) ∈ lw_tbl := lw_at lw_m2 112 rfl
theorem q452 : (Jvm.Cond.instanceMethod ({ cls := "FirstdanceAgency", name := "songNow", desc := "(II)I" } : Jvm.MethodName)) ∈ lw_all := lw_g (lw_at lw_m2 113 rfl) rfl
theorem q453 : (Jvm.Cond.code ({ cls := "FirstdanceAgency", name := "songNow", desc := "(II)I" } : Jvm.MethodName) prog_1_method_51_code (4 : Nat) (Option.some Jvm.ClassFile.FieldType.int)) ∈ lw_all := lw_g (lw_at lw_m2 114 rfl) rfl
theorem q454 : (Jvm.Cond.methodLink "FirstdanceAgency" (380 : Nat) ({ cls := "FirstdanceAgency", name := "knowers", desc := "(I)I" } : Jvm.MethodName)) ∈ lw_all := lw_g (lw_at lw_m2 115 rfl) rfl
theorem q455 : (Jvm.Cond.privateMethod ({ cls := "FirstdanceAgency", name := "knowers", desc := "(I)I" } : Jvm.MethodName)) ∈ lw_tbl := lw_at lw_m2 116 rfl
theorem q456 : (Jvm.Cond.instanceMethod ({ cls := "FirstdanceAgency", name := "knowers", desc := "(I)I" } : Jvm.MethodName)) ∈ lw_all := lw_g (lw_at lw_m2 117 rfl) rfl
theorem q457 : (Jvm.Cond.code ({ cls := "FirstdanceAgency", name := "knowers", desc := "(I)I" } : Jvm.MethodName) prog_1_method_50_code (4 : Nat) (Option.some Jvm.ClassFile.FieldType.int)) ∈ lw_all := lw_g (lw_at lw_m2 118 rfl) rfl
theorem q458 : (Jvm.Cond.methodLink "FirstdanceAgency" (393 : Nat) ({ cls := "FirstdanceAgency", name := "bandNow", desc := "(II)I" } : Jvm.MethodName)) ∈ lw_all := lw_g (lw_at lw_m2 119 rfl) rfl
theorem q459 : (Jvm.Cond.privateMethod ({ cls := "FirstdanceAgency", name := "bandNow", desc := "(II)I" } : Jvm.MethodName)) ∈ lw_tbl := lw_at lw_m2 120 rfl
theorem q460 : (Jvm.Cond.instanceMethod ({ cls := "FirstdanceAgency", name := "bandNow", desc := "(II)I" } : Jvm.MethodName)) ∈ lw_all := lw_g (lw_at lw_m2 121 rfl) rfl
theorem q461 : (Jvm.Cond.code ({ cls := "FirstdanceAgency", name := "bandNow", desc := "(II)I" } : Jvm.MethodName) prog_1_method_54_code (4 : Nat) (Option.some Jvm.ClassFile.FieldType.int)) ∈ lw_all := lw_g (lw_at lw_m2 122 rfl) rfl
theorem q462 : (Jvm.Cond.methodLink "FirstdanceAgency" (386 : Nat) ({ cls := "FirstdanceAgency", name := "weddingsOfBand", desc := "(IZ)I" } : Jvm.MethodName)) ∈ lw_all := lw_g (lw_at lw_m2 123 rfl) rfl
theorem q463 : (Jvm.Cond.privateMethod ({ cls := "FirstdanceAgency", name := "weddingsOfBand", desc := "(IZ)I" } : Jvm.MethodName)) ∈ lw_tbl := lw_at lw_m2 124 rfl
theorem q464 : (Jvm.Cond.instanceMethod ({ cls := "FirstdanceAgency", name := "weddingsOfBand", desc := "(IZ)I" } : Jvm.MethodName)) ∈ lw_all := lw_g (lw_at lw_m2 125 rfl) rfl
theorem q465 : (Jvm.Cond.code ({ cls := "FirstdanceAgency", name := "weddingsOfBand", desc := "(IZ)I" } : Jvm.MethodName) prog_1_method_53_code (5 : Nat) (Option.some Jvm.ClassFile.FieldType.int)) ∈ lw_all := lw_g (lw_at lw_m2 126 rfl) rfl
theorem q466 : (Jvm.Cond.methodLink "FirstdanceAgency" (489 : Nat) ({ cls := "FirstdanceAgency", name := "sumWedding", desc := "(LFirstdanceAgency$Sum;I)V" } : Jvm.MethodName)) ∈ lw_all := lw_g (lw_at lw_m2 127 rfl) rfl
theorem q467 : (Jvm.Cond.privateMethod ({ cls := "FirstdanceAgency", name := "sumWedding", desc := "(LFirstdanceAgency$Sum;I)V" } : Jvm.MethodName)) ∈ lw_tbl := lw_at lw_m2 128 rfl
theorem q468 : (Jvm.Cond.instanceMethod ({ cls := "FirstdanceAgency", name := "sumWedding", desc := "(LFirstdanceAgency$Sum;I)V" } : Jvm.MethodName)) ∈ lw_all := lw_g (lw_at lw_m2 129 rfl) rfl
theorem q469 : (Jvm.Cond.code ({ cls := "FirstdanceAgency", name := "sumWedding", desc := "(LFirstdanceAgency$Sum;I)V" } : Jvm.MethodName) prog_1_method_81_code (5 : Nat) (Option.none : Option Jvm.ClassFile.FieldType)) ∈ lw_all := lw_g (lw_at lw_m2 130 rfl) rfl
theorem q470 : (Jvm.Cond.methodLink "FirstdanceAgency" (400 : Nat) ({ cls := "FirstdanceAgency", name := "weddingNow", desc := "(II)I" } : Jvm.MethodName)) ∈ lw_all := lw_g (lw_at lw_m2 131 rfl) rfl
theorem q471 : (Jvm.Cond.privateMethod ({ cls := "FirstdanceAgency", name := "weddingNow", desc := "(II)I" } : Jvm.MethodName)) ∈ lw_tbl := lw_at lw_m2 132 rfl
theorem q472 : (Jvm.Cond.instanceMethod ({ cls := "FirstdanceAgency", name := "weddingNow", desc := "(II)I" } : Jvm.MethodName)) ∈ lw_all := lw_g (lw_at lw_m2 133 rfl) rfl
theorem q473 : (Jvm.Cond.code ({ cls := "FirstdanceAgency", name := "weddingNow", desc := "(II)I" } : Jvm.MethodName) prog_1_method_56_code (5 : Nat) (Option.some Jvm.ClassFile.FieldType.int)) ∈ lw_all := lw_g (lw_at lw_m2 134 rfl) rfl
theorem q474 : (Jvm.Cond.methodLink "FirstdanceAgency" (397 : Nat) ({ cls := "FirstdanceAgency$State", name := "ordinal", desc := "()I" } : Jvm.MethodName)) ∈ lw_all := lw_g (lw_at lw_m2 135 rfl) rfl
theorem q480 : (Jvm.Cond.methodLink "FirstdanceAgency" (238 : Nat) ({ cls := "FirstdanceAgency", name := "place", desc := "(I)I" } : Jvm.MethodName)) ∈ lw_all := lw_g (lw_at lw_m2 141 rfl) rfl
theorem q481 : (Jvm.Cond.privateMethod ({ cls := "FirstdanceAgency", name := "place", desc := "(I)I" } : Jvm.MethodName)) ∈ lw_tbl := lw_at lw_m2 142 rfl
theorem q482 : (Jvm.Cond.instanceMethod ({ cls := "FirstdanceAgency", name := "place", desc := "(I)I" } : Jvm.MethodName)) ∈ lw_all := lw_g (lw_at lw_m2 143 rfl) rfl
theorem q483 : (Jvm.Cond.code ({ cls := "FirstdanceAgency", name := "place", desc := "(I)I" } : Jvm.MethodName) prog_1_method_28_code (5 : Nat) (Option.some Jvm.ClassFile.FieldType.int)) ∈ lw_all := lw_g (lw_at lw_m2 144 rfl) rfl
theorem q484 : (Jvm.Cond.methodLink "FirstdanceAgency" (219 : Nat) ({ cls := "FirstdanceAgency$Wedding", name := "isQueued", desc := "(II)Z" } : Jvm.MethodName)) ∈ lw_all := lw_g (lw_at lw_m2 145 rfl) rfl
theorem q490 : (Jvm.Cond.methodLink "FirstdanceAgency" (265 : Nat) ({ cls := "FirstdanceAgency$Wedding", name := "quarters", desc := "()I" } : Jvm.MethodName)) ∈ lw_all := lw_g (lw_at lw_m2 151 rfl) rfl
theorem q499 : (Jvm.Cond.methodLink "FirstdanceAgency" (241 : Nat) ({ cls := "FirstdanceAgency", name := "fillings", desc := "(I)LFirstdanceAgency$Fillings;" } : Jvm.MethodName)) ∈ lw_all := lw_g (lw_at lw_m2 160 rfl) rfl
theorem q500 : (Jvm.Cond.privateMethod ({ cls := "FirstdanceAgency", name := "fillings", desc := "(I)LFirstdanceAgency$Fillings;" } : Jvm.MethodName)) ∈ lw_tbl := lw_at lw_m2 161 rfl
theorem q501 : (Jvm.Cond.instanceMethod ({ cls := "FirstdanceAgency", name := "fillings", desc := "(I)LFirstdanceAgency$Fillings;" } : Jvm.MethodName)) ∈ lw_all := lw_g (lw_at lw_m2 162 rfl) rfl
theorem q502 : (Jvm.Cond.code ({ cls := "FirstdanceAgency", name := "fillings", desc := "(I)LFirstdanceAgency$Fillings;" } : Jvm.MethodName) prog_1_method_26_code (2 : Nat) (Option.some (Jvm.ClassFile.FieldType.object "FirstdanceAgency$Fillings"))) ∈ lw_all := lw_g (lw_at lw_m2 163 rfl) rfl
theorem q503 : (Jvm.Cond.classLink "FirstdanceAgency" (200 : Nat) "FirstdanceAgency$Fillings") ∈ lw_all := lw_g (lw_at lw_m2 164 rfl) rfl
theorem q505 : (Jvm.Cond.methodLink "FirstdanceAgency" (202 : Nat) ({ cls := "FirstdanceAgency", name := "freeFor", desc := "(I)I" } : Jvm.MethodName)) ∈ lw_all := lw_g (lw_at lw_m2 166 rfl) rfl
theorem q506 : (Jvm.Cond.privateMethod ({ cls := "FirstdanceAgency", name := "freeFor", desc := "(I)I" } : Jvm.MethodName)) ∈ lw_tbl := lw_at lw_m2 167 rfl
theorem q507 : (Jvm.Cond.instanceMethod ({ cls := "FirstdanceAgency", name := "freeFor", desc := "(I)I" } : Jvm.MethodName)) ∈ lw_all := lw_g (lw_at lw_m2 168 rfl) rfl
theorem q508 : (Jvm.Cond.code ({ cls := "FirstdanceAgency", name := "freeFor", desc := "(I)I" } : Jvm.MethodName) prog_1_method_23_code (4 : Nat) (Option.some Jvm.ClassFile.FieldType.int)) ∈ lw_all := lw_g (lw_at lw_m2 169 rfl) rfl
theorem q509 : (Jvm.Cond.methodLink "FirstdanceAgency" (197 : Nat) ({ cls := "FirstdanceAgency", name := "isFree", desc := "(II)Z" } : Jvm.MethodName)) ∈ lw_all := lw_g (lw_at lw_m2 170 rfl) rfl
theorem q510 : (Jvm.Cond.privateMethod ({ cls := "FirstdanceAgency", name := "isFree", desc := "(II)Z" } : Jvm.MethodName)) ∈ lw_tbl := lw_at lw_m2 171 rfl
theorem q511 : (Jvm.Cond.instanceMethod ({ cls := "FirstdanceAgency", name := "isFree", desc := "(II)Z" } : Jvm.MethodName)) ∈ lw_all := lw_g (lw_at lw_m2 172 rfl) rfl
theorem q512 : (Jvm.Cond.code ({ cls := "FirstdanceAgency", name := "isFree", desc := "(II)Z" } : Jvm.MethodName) prog_1_method_22_code (8 : Nat) (Option.some Jvm.ClassFile.FieldType.boolean)) ∈ lw_all := lw_g (lw_at lw_m2 173 rfl) rfl
theorem q513 : (Jvm.Cond.methodLink "FirstdanceAgency" (129 : Nat) ({ cls := "FirstdanceAgency$Roads", name := "drive", desc := "(II)I" } : Jvm.MethodName)) ∈ lw_all := lw_g (lw_at lw_m2 174 rfl) rfl
theorem q514 : (Jvm.Cond.methodLink "FirstdanceAgency" (185 : Nat) ({ cls := "FirstdanceAgency", name := "canBeAtBoth", desc := "(II)Z" } : Jvm.MethodName)) ∈ lw_all := lw_g (lw_at lw_m2 175 rfl) rfl
theorem q515 : (Jvm.Cond.privateMethod ({ cls := "FirstdanceAgency", name := "canBeAtBoth", desc := "(II)Z" } : Jvm.MethodName)) ∈ lw_tbl := lw_at lw_m2 176 rfl
theorem q516 : (Jvm.Cond.instanceMethod ({ cls := "FirstdanceAgency", name := "canBeAtBoth", desc := "(II)Z" } : Jvm.MethodName)) ∈ lw_all := lw_g (lw_at lw_m2 177 rfl) rfl
theorem q517 : (Jvm.Cond.code ({ cls := "FirstdanceAgency", name := "canBeAtBoth", desc := "(II)Z" } : Jvm.MethodName) prog_1_method_21_code (6 : Nat) (Option.some Jvm.ClassFile.FieldType.boolean)) ∈ lw_all := lw_g (lw_at lw_m2 178 rfl) rfl
theorem q518 : (Jvm.Cond.methodLink "FirstdanceAgency" (188 : Nat) ({ cls := "FirstdanceAgency$Wedding", name := "end", desc := "()I" } : Jvm.MethodName)) ∈ lw_all := lw_g (lw_at lw_m2 179 rfl) rfl
theorem q519 : (Jvm.Cond.methodLink "FirstdanceAgency" (205 : Nat) ({ cls := "FirstdanceAgency$Fillings", name := "<init>", desc := "(LFirstdanceAgency;IIIZ)V" } : Jvm.MethodName)) ∈ lw_all := lw_g (lw_at lw_m2 180 rfl) rfl
theorem q530 : (Jvm.Cond.privateMethod ({ cls := "FirstdanceAgency", name := "cost", desc := "(ILFirstdanceAgency$Wedding;)I" } : Jvm.MethodName)) ∈ lw_tbl := lw_at lw_m2 191 rfl
theorem q531 : (Jvm.Cond.instanceMethod ({ cls := "FirstdanceAgency", name := "cost", desc := "(ILFirstdanceAgency$Wedding;)I" } : Jvm.MethodName)) ∈ lw_all := lw_g (lw_at lw_m2 192 rfl) rfl
theorem q532 : (Jvm.Cond.code ({ cls := "FirstdanceAgency", name := "cost", desc := "(ILFirstdanceAgency$Wedding;)I" } : Jvm.MethodName) prog_1_method_20_code (4 : Nat) (Option.some Jvm.ClassFile.FieldType.int)) ∈ lw_all := lw_g (lw_at lw_m2 193 rfl) rfl
theorem q556 : (Jvm.Cond.privateMethod ({ cls := "FirstdanceAgency", name := "playable", desc := "(I)I" } : Jvm.MethodName)) ∈ lw_tbl := lw_at lw_m2 217 rfl
theorem q557 : (Jvm.Cond.instanceMethod ({ cls := "FirstdanceAgency", name := "playable", desc := "(I)I" } : Jvm.MethodName)) ∈ lw_all := lw_g (lw_at lw_m2 218 rfl) rfl
theorem q558 : (Jvm.Cond.code ({ cls := "FirstdanceAgency", name := "playable", desc := "(I)I" } : Jvm.MethodName) prog_1_method_25_code (6 : Nat) (Option.some Jvm.ClassFile.FieldType.int)) ∈ lw_all := lw_g (lw_at lw_m2 219 rfl) rfl
theorem q560 : (Jvm.Cond.privateMethod ({ cls := "FirstdanceAgency", name := "arePeaceful", desc := "(I)Z" } : Jvm.MethodName)) ∈ lw_tbl := lw_at lw_m2 221 rfl
theorem q561 : (Jvm.Cond.instanceMethod ({ cls := "FirstdanceAgency", name := "arePeaceful", desc := "(I)Z" } : Jvm.MethodName)) ∈ lw_all := lw_g (lw_at lw_m2 222 rfl) rfl
theorem q562 : (Jvm.Cond.code ({ cls := "FirstdanceAgency", name := "arePeaceful", desc := "(I)Z" } : Jvm.MethodName) prog_1_method_24_code (3 : Nat) (Option.some Jvm.ClassFile.FieldType.boolean)) ∈ lw_all := lw_g (lw_at lw_m2 223 rfl) rfl
theorem q575 : (Jvm.Cond.fieldLinkNest "FirstdanceAgency" (211 : Nat) "FirstdanceAgency$Fillings" "shape" "LFirstdanceAgency$Shape;" "FirstdanceAgency") ∈ lw_tbl := lw_at lw_m2 236 rfl
theorem q580 : (Jvm.Cond.fieldLinkNest "FirstdanceAgency" (215 : Nat) "FirstdanceAgency$Fillings" "canBe" "Z" "FirstdanceAgency") ∈ lw_tbl := lw_at lw_m3 1 rfl
theorem q582 : (Jvm.Cond.fieldLinkNest "FirstdanceAgency" (403 : Nat) "FirstdanceAgency$Fillings" "many" "I" "FirstdanceAgency") ∈ lw_tbl := lw_at lw_m3 3 rfl
theorem q584 : (Jvm.Cond.fieldLinkNest "FirstdanceAgency" (208 : Nat) "FirstdanceAgency$Fillings" "best" "I" "FirstdanceAgency") ∈ lw_tbl := lw_at lw_m3 5 rfl
theorem q605 : (Jvm.Cond.methodLink "FirstdanceAgency" (409 : Nat) ({ cls := "FirstdanceAgency", name := "fillingNow", desc := "(ILFirstdanceAgency$Fillings;I)I" } : Jvm.MethodName)) ∈ lw_all := lw_g (lw_at lw_m3 26 rfl) rfl
theorem q606 : (Jvm.Cond.privateMethod ({ cls := "FirstdanceAgency", name := "fillingNow", desc := "(ILFirstdanceAgency$Fillings;I)I" } : Jvm.MethodName)) ∈ lw_tbl := lw_at lw_m3 27 rfl
theorem q607 : (Jvm.Cond.instanceMethod ({ cls := "FirstdanceAgency", name := "fillingNow", desc := "(ILFirstdanceAgency$Fillings;I)I" } : Jvm.MethodName)) ∈ lw_all := lw_g (lw_at lw_m3 28 rfl) rfl
theorem q608 : (Jvm.Cond.code ({ cls := "FirstdanceAgency", name := "fillingNow", desc := "(ILFirstdanceAgency$Fillings;I)I" } : Jvm.MethodName) prog_1_method_60_code (4 : Nat) (Option.some Jvm.ClassFile.FieldType.int)) ∈ lw_all := lw_g (lw_at lw_m3 29 rfl) rfl
theorem q609 : (Jvm.Cond.methodLink "FirstdanceAgency" (228 : Nat) ({ cls := "FirstdanceAgency$Fillings", name := "cost", desc := "()I" } : Jvm.MethodName)) ∈ lw_all := lw_g (lw_at lw_m3 30 rfl) rfl
theorem q613 : (Jvm.Cond.methodLink "FirstdanceAgency" (405 : Nat) ({ cls := "FirstdanceAgency", name := "why", desc := "(ILFirstdanceAgency$Fillings;)I" } : Jvm.MethodName)) ∈ lw_all := lw_g (lw_at lw_m3 34 rfl) rfl
theorem q614 : (Jvm.Cond.privateMethod ({ cls := "FirstdanceAgency", name := "why", desc := "(ILFirstdanceAgency$Fillings;)I" } : Jvm.MethodName)) ∈ lw_tbl := lw_at lw_m3 35 rfl
theorem q615 : (Jvm.Cond.instanceMethod ({ cls := "FirstdanceAgency", name := "why", desc := "(ILFirstdanceAgency$Fillings;)I" } : Jvm.MethodName)) ∈ lw_all := lw_g (lw_at lw_m3 36 rfl) rfl
theorem q616 : (Jvm.Cond.code ({ cls := "FirstdanceAgency", name := "why", desc := "(ILFirstdanceAgency$Fillings;)I" } : Jvm.MethodName) prog_1_method_27_code (4 : Nat) (Option.some Jvm.ClassFile.FieldType.int)) ∈ lw_all := lw_g (lw_at lw_m3 37 rfl) rfl
theorem q617 : (Jvm.Cond.methodLink "FirstdanceAgency" (347 : Nat) ({ cls := "FirstdanceAgency", name := "setNow", desc := "(IZ)I" } : Jvm.MethodName)) ∈ lw_all := lw_g (lw_at lw_m3 38 rfl) rfl
theorem q618 : (Jvm.Cond.privateMethod ({ cls := "FirstdanceAgency", name := "setNow", desc := "(IZ)I" } : Jvm.MethodName)) ∈ lw_tbl := lw_at lw_m3 39 rfl
theorem q619 : (Jvm.Cond.instanceMethod ({ cls := "FirstdanceAgency", name := "setNow", desc := "(IZ)I" } : Jvm.MethodName)) ∈ lw_all := lw_g (lw_at lw_m3 40 rfl) rfl
theorem q620 : (Jvm.Cond.code ({ cls := "FirstdanceAgency", name := "setNow", desc := "(IZ)I" } : Jvm.MethodName) prog_1_method_43_code (4 : Nat) (Option.some Jvm.ClassFile.FieldType.int)) ∈ lw_all := lw_g (lw_at lw_m3 41 rfl) rfl
theorem q621 : (Jvm.Cond.methodLink "FirstdanceAgency" (283 : Nat) ({ cls := "FirstdanceAgency", name := "bestSet", desc := "(I)Ljava/util/Optional;" } : Jvm.MethodName)) ∈ lw_all := lw_g (lw_at lw_m3 42 rfl) rfl
theorem q622 : (Jvm.Cond.privateMethod ({ cls := "FirstdanceAgency", name := "bestSet", desc := "(I)Ljava/util/Optional;" } : Jvm.MethodName)) ∈ lw_tbl := lw_at lw_m3 43 rfl
theorem q623 : (Jvm.Cond.instanceMethod ({ cls := "FirstdanceAgency", name := "bestSet", desc := "(I)Ljava/util/Optional;" } : Jvm.MethodName)) ∈ lw_all := lw_g (lw_at lw_m3 44 rfl) rfl
theorem q624 : (Jvm.Cond.code ({ cls := "FirstdanceAgency", name := "bestSet", desc := "(I)Ljava/util/Optional;" } : Jvm.MethodName) prog_1_method_42_code (9 : Nat) (Option.some (Jvm.ClassFile.FieldType.object "java/util/Optional"))) ∈ lw_all := lw_g (lw_at lw_m3 45 rfl) rfl
theorem q625 : (Jvm.Cond.methodLink "FirstdanceAgency" (316 : Nat) ({ cls := "FirstdanceAgency", name := "playable", desc := "(I)I" } : Jvm.MethodName)) ∈ lw_all := lw_g (lw_at lw_m3 46 rfl) rfl
theorem q626 : (Jvm.Cond.methodLink "FirstdanceAgency" (319 : Nat) ({ cls := "FirstdanceAgency", name := "sorted", desc := "(I)Ljava/util/List;" } : Jvm.MethodName)) ∈ lw_all := lw_g (lw_at lw_m3 47 rfl) rfl
theorem q627 : (Jvm.Cond.privateMethod ({ cls := "FirstdanceAgency", name := "sorted", desc := "(I)Ljava/util/List;" } : Jvm.MethodName)) ∈ lw_tbl := lw_at lw_m3 48 rfl
theorem q628 : (Jvm.Cond.instanceMethod ({ cls := "FirstdanceAgency", name := "sorted", desc := "(I)Ljava/util/List;" } : Jvm.MethodName)) ∈ lw_all := lw_g (lw_at lw_m3 49 rfl) rfl
theorem q629 : (Jvm.Cond.code ({ cls := "FirstdanceAgency", name := "sorted", desc := "(I)Ljava/util/List;" } : Jvm.MethodName) prog_1_method_41_code (5 : Nat) (Option.some (Jvm.ClassFile.FieldType.object "java/util/List"))) ∈ lw_all := lw_g (lw_at lw_m3 50 rfl) rfl
theorem q630 : (Jvm.Cond.methodLink "FirstdanceAgency" (310 : Nat) ({ cls := "java/lang/Integer", name := "valueOf", desc := "(I)Ljava/lang/Integer;" } : Jvm.MethodName)) ∈ lw_all := lw_g (lw_at lw_m3 51 rfl) rfl
theorem q650 : (Jvm.Cond.methodLink "FirstdanceAgency" (323 : Nat) ({ cls := "java/util/Optional", name := "empty", desc := "()Ljava/util/Optional;" } : Jvm.MethodName)) ∈ lw_all := lw_g (lw_at lw_m3 71 rfl) rfl
theorem q655 : (Jvm.Cond.classLink "FirstdanceAgency" (311 : Nat) "java/lang/Integer") ∈ lw_all := lw_g (lw_at lw_m3 76 rfl) rfl
theorem q656 : (Jvm.Cond.methodLink "FirstdanceAgency" (327 : Nat) ({ cls := "java/lang/Integer", name := "intValue", desc := "()I" } : Jvm.MethodName)) ∈ lw_all := lw_g (lw_at lw_m3 77 rfl) rfl
theorem q660 : (Jvm.Cond.methodLink "FirstdanceAgency" (330 : Nat) ({ cls := "FirstdanceAgency$Song", name := "fits", desc := "(LFirstdanceAgency$Song;)Z" } : Jvm.MethodName)) ∈ lw_all := lw_g (lw_at lw_m3 81 rfl) rfl
theorem q668 : (Jvm.Cond.classLink "FirstdanceAgency" (2 : Nat) "java/util/Optional") ∈ lw_all := lw_g (lw_at lw_m3 89 rfl) rfl
theorem q669 : (Jvm.Cond.methodLink "FirstdanceAgency" (334 : Nat) ({ cls := "FirstdanceAgency", name := "better", desc := "(Ljava/util/Optional;Ljava/util/Optional;)Ljava/util/Optional;" } : Jvm.MethodName)) ∈ lw_all := lw_g (lw_at lw_m3 90 rfl) rfl
theorem q670 : (Jvm.Cond.static ({ cls := "FirstdanceAgency", name := "better", desc := "(Ljava/util/Optional;Ljava/util/Optional;)Ljava/util/Optional;" } : Jvm.MethodName)) ∈ lw_all := lw_g (lw_at lw_m3 91 rfl) rfl
theorem q671 : (Jvm.Cond.code ({ cls := "FirstdanceAgency", name := "better", desc := "(Ljava/util/Optional;Ljava/util/Optional;)Ljava/util/Optional;" } : Jvm.MethodName) prog_1_method_3_code (2 : Nat) (Option.some (Jvm.ClassFile.FieldType.object "java/util/Optional"))) ∈ lw_all := lw_g (lw_at lw_m3 92 rfl) rfl
theorem q672 : (Jvm.Cond.methodLink "FirstdanceAgency" (1 : Nat) ({ cls := "java/util/Optional", name := "isPresent", desc := "()Z" } : Jvm.MethodName)) ∈ lw_all := lw_g (lw_at lw_m3 93 rfl) rfl
theorem q676 : (Jvm.Cond.methodLink "FirstdanceAgency" (7 : Nat) ({ cls := "java/util/Optional", name := "get", desc := "()Ljava/lang/Object;" } : Jvm.MethodName)) ∈ lw_all := lw_g (lw_at lw_m3 97 rfl) rfl
theorem q680 : (Jvm.Cond.classLink "FirstdanceAgency" (11 : Nat) "FirstdanceAgency$SongRow") ∈ lw_all := lw_g (lw_at lw_m3 101 rfl) rfl
theorem q681 : (Jvm.Cond.methodLink "FirstdanceAgency" (13 : Nat) ({ cls := "FirstdanceAgency$SongRow", name := "isAhead", desc := "(LFirstdanceAgency$SongRow;)Z" } : Jvm.MethodName)) ∈ lw_all := lw_g (lw_at lw_m3 102 rfl) rfl
theorem q690 : (Jvm.Cond.methodLink "FirstdanceAgency" (339 : Nat) ({ cls := "FirstdanceAgency$SongRow", name := "<init>", desc := "(ILjava/util/Optional;I)V" } : Jvm.MethodName)) ∈ lw_all := lw_g (lw_at lw_m3 111 rfl) rfl
theorem q695 : (Jvm.Cond.fieldLinkNest "FirstdanceAgency" (287 : Nat) "FirstdanceAgency$SongRow" "first" "I" "FirstdanceAgency") ∈ lw_tbl := lw_at lw_m3 116 rfl
theorem q697 : (Jvm.Cond.fieldLinkNest "FirstdanceAgency" (294 : Nat) "FirstdanceAgency$SongRow" "rest" "Ljava/util/Optional;" "FirstdanceAgency") ∈ lw_tbl := lw_at lw_m3 118 rfl
theorem q699 : (Jvm.Cond.fieldLinkNest "FirstdanceAgency" (338 : Nat) "FirstdanceAgency$SongRow" "minutes" "I" "FirstdanceAgency") ∈ lw_tbl := lw_at lw_m3 120 rfl
theorem q707 : (Jvm.Cond.methodLink "FirstdanceAgency" (342 : Nat) ({ cls := "java/util/Optional", name := "of", desc := "(Ljava/lang/Object;)Ljava/util/Optional;" } : Jvm.MethodName)) ∈ lw_all := lw_g (lw_at lw_m3 128 rfl) rfl
theorem q723 : (Jvm.Cond.interfaceEntry "FirstdanceAgency" (113 : Nat)) ∈ lw_tbl := lw_at lw_m3 144 rfl
theorem q724 : (Jvm.Cond.methodLink "FirstdanceAgency" (113 : Nat) ({ cls := "java/util/List", name := "set", desc := "(ILjava/lang/Object;)Ljava/lang/Object;" } : Jvm.MethodName)) ∈ lw_all := lw_g (lw_at lw_m3 145 rfl) rfl
theorem q732 : (Jvm.Cond.methodLink "FirstdanceAgency" (346 : Nat) ({ cls := "FirstdanceAgency$SongRow", name := "many", desc := "()I" } : Jvm.MethodName)) ∈ lw_all := lw_g (lw_at lw_m3 153 rfl) rfl
theorem q833 : (Jvm.Cond.instanceMethod ({ cls := "FirstdanceAgency", name := "player", desc := "(IIII)I" } : Jvm.MethodName)) ∈ lw_all := lw_g (lw_at lw_m4 14 rfl) rfl
theorem q834 : (Jvm.Cond.selects "FirstdanceAgency" ({ cls := "FirstdanceAgency", name := "player", desc := "(IIII)I" } : Jvm.MethodName) ({ cls := "FirstdanceAgency", name := "player", desc := "(IIII)I" } : Jvm.MethodName)) ∈ lw_all := lw_g (lw_at lw_m4 15 rfl) rfl
theorem q835 : (Jvm.Cond.code ({ cls := "FirstdanceAgency", name := "player", desc := "(IIII)I" } : Jvm.MethodName) prog_1_method_12_code (5 : Nat) (Option.some Jvm.ClassFile.FieldType.int)) ∈ lw_all := lw_g (lw_at lw_m4 16 rfl) rfl
theorem q836 : (Jvm.Cond.methodLink "FirstdanceAgency" (76 : Nat) ({ cls := "FirstdanceAgency", name := "checkPlace", desc := "(II)V" } : Jvm.MethodName)) ∈ lw_all := lw_g (lw_at lw_m4 17 rfl) rfl
theorem q837 : (Jvm.Cond.static ({ cls := "FirstdanceAgency", name := "checkPlace", desc := "(II)V" } : Jvm.MethodName)) ∈ lw_all := lw_g (lw_at lw_m4 18 rfl) rfl
theorem q838 : (Jvm.Cond.code ({ cls := "FirstdanceAgency", name := "checkPlace", desc := "(II)V" } : Jvm.MethodName) prog_1_method_8_code (2 : Nat) (Option.none : Option Jvm.ClassFile.FieldType)) ∈ lw_all := lw_g (lw_at lw_m4 19 rfl) rfl
theorem q839 : (Jvm.Cond.classLink "FirstdanceAgency" (69 : Nat) "java/lang/IndexOutOfBoundsException") ∈ lw_all := lw_g (lw_at lw_m4 20 rfl) rfl
theorem q848 : (Jvm.Cond.methodLink "FirstdanceAgency" (71 : Nat) ({ cls := "java/lang/IndexOutOfBoundsException", name := "<init>", desc := "()V" } : Jvm.MethodName)) ∈ lw_all := lw_g (lw_at lw_m4 29 rfl) rfl
theorem q860 : (Jvm.Cond.methodLink "FirstdanceAgency" (88 : Nat) ({ cls := "FirstdanceAgency", name := "mustBeIn", desc := "(III)V" } : Jvm.MethodName)) ∈ lw_all := lw_g (lw_at lw_m4 41 rfl) rfl
theorem q861 : (Jvm.Cond.static ({ cls := "FirstdanceAgency", name := "mustBeIn", desc := "(III)V" } : Jvm.MethodName)) ∈ lw_all := lw_g (lw_at lw_m4 42 rfl) rfl
theorem q862 : (Jvm.Cond.code ({ cls := "FirstdanceAgency", name := "mustBeIn", desc := "(III)V" } : Jvm.MethodName) prog_1_method_6_code (3 : Nat) (Option.none : Option Jvm.ClassFile.FieldType)) ∈ lw_all := lw_g (lw_at lw_m4 43 rfl) rfl
theorem q863 : (Jvm.Cond.methodLink "FirstdanceAgency" (62 : Nat) ({ cls := "FirstdanceAgency", name := "must", desc := "(Z)V" } : Jvm.MethodName)) ∈ lw_all := lw_g (lw_at lw_m4 44 rfl) rfl
theorem q864 : (Jvm.Cond.static ({ cls := "FirstdanceAgency", name := "must", desc := "(Z)V" } : Jvm.MethodName)) ∈ lw_all := lw_g (lw_at lw_m4 45 rfl) rfl
theorem q865 : (Jvm.Cond.code ({ cls := "FirstdanceAgency", name := "must", desc := "(Z)V" } : Jvm.MethodName) prog_1_method_5_code (1 : Nat) (Option.none : Option Jvm.ClassFile.FieldType)) ∈ lw_all := lw_g (lw_at lw_m4 46 rfl) rfl
theorem q866 : (Jvm.Cond.classLink "FirstdanceAgency" (59 : Nat) "java/lang/IllegalArgumentException") ∈ lw_all := lw_g (lw_at lw_m4 47 rfl) rfl
theorem q875 : (Jvm.Cond.methodLink "FirstdanceAgency" (61 : Nat) ({ cls := "java/lang/IllegalArgumentException", name := "<init>", desc := "()V" } : Jvm.MethodName)) ∈ lw_all := lw_g (lw_at lw_m4 56 rfl) rfl
theorem q881 : (Jvm.Cond.methodLink "FirstdanceAgency" (92 : Nat) ({ cls := "FirstdanceAgency", name := "mustBeSongs", desc := "(I)V" } : Jvm.MethodName)) ∈ lw_all := lw_g (lw_at lw_m4 62 rfl) rfl
theorem q882 : (Jvm.Cond.static ({ cls := "FirstdanceAgency", name := "mustBeSongs", desc := "(I)V" } : Jvm.MethodName)) ∈ lw_all := lw_g (lw_at lw_m4 63 rfl) rfl
theorem q883 : (Jvm.Cond.code ({ cls := "FirstdanceAgency", name := "mustBeSongs", desc := "(I)V" } : Jvm.MethodName) prog_1_method_11_code (1 : Nat) (Option.none : Option Jvm.ClassFile.FieldType)) ∈ lw_all := lw_g (lw_at lw_m4 64 rfl) rfl
theorem q884 : (Jvm.Cond.constant "FirstdanceAgency" (87 : Nat) (65535 : Int32)) ∈ lw_all := lw_g (lw_at lw_m4 65 rfl) rfl
theorem q885 : (Jvm.Cond.methodLink "FirstdanceAgency" (96 : Nat) ({ cls := "FirstdanceAgency", name := "checkState", desc := "(Z)V" } : Jvm.MethodName)) ∈ lw_all := lw_g (lw_at lw_m4 66 rfl) rfl
theorem q886 : (Jvm.Cond.static ({ cls := "FirstdanceAgency", name := "checkState", desc := "(Z)V" } : Jvm.MethodName)) ∈ lw_all := lw_g (lw_at lw_m4 67 rfl) rfl
theorem q887 : (Jvm.Cond.code ({ cls := "FirstdanceAgency", name := "checkState", desc := "(Z)V" } : Jvm.MethodName) prog_1_method_7_code (1 : Nat) (Option.none : Option Jvm.ClassFile.FieldType)) ∈ lw_all := lw_g (lw_at lw_m4 68 rfl) rfl
theorem q888 : (Jvm.Cond.classLink "FirstdanceAgency" (66 : Nat) "java/lang/IllegalStateException") ∈ lw_all := lw_g (lw_at lw_m4 69 rfl) rfl
theorem q897 : (Jvm.Cond.methodLink "FirstdanceAgency" (68 : Nat) ({ cls := "java/lang/IllegalStateException", name := "<init>", desc := "()V" } : Jvm.MethodName)) ∈ lw_all := lw_g (lw_at lw_m4 78 rfl) rfl
theorem q904 : (Jvm.Cond.methodLink "FirstdanceAgency" (99 : Nat) ({ cls := "FirstdanceAgency$Player", name := "<init>", desc := "(IIII)V" } : Jvm.MethodName)) ∈ lw_all := lw_g (lw_at lw_m4 85 rfl) rfl
theorem q910 : (Jvm.Cond.fieldLinkNest "FirstdanceAgency" (364 : Nat) "FirstdanceAgency$Player" "instruments" "I" "FirstdanceAgency") ∈ lw_tbl := lw_at lw_m4 91 rfl
theorem q912 : (Jvm.Cond.fieldLinkNest "FirstdanceAgency" (171 : Nat) "FirstdanceAgency$Player" "home" "I" "FirstdanceAgency") ∈ lw_tbl := lw_at lw_m4 93 rfl
theorem q914 : (Jvm.Cond.fieldLinkNest "FirstdanceAgency" (165 : Nat) "FirstdanceAgency$Player" "fee" "I" "FirstdanceAgency") ∈ lw_tbl := lw_at lw_m4 95 rfl
theorem q916 : (Jvm.Cond.fieldLinkNest "FirstdanceAgency" (104 : Nat) "FirstdanceAgency$Player" "songs" "I" "FirstdanceAgency") ∈ lw_tbl := lw_at lw_m4 97 rfl
theorem q917 : (Jvm.Cond.fieldLinkNest "FirstdanceAgency" (120 : Nat) "FirstdanceAgency$Player" "feuds" "I" "FirstdanceAgency") ∈ lw_tbl := lw_at lw_m4 98 rfl
theorem q918 : (Jvm.Cond.fieldLinkNest "FirstdanceAgency" (277 : Nat) "FirstdanceAgency$Player" "earned" "I" "FirstdanceAgency") ∈ lw_tbl := lw_at lw_m4 99 rfl
theorem q920 : (Jvm.Cond.fieldLinkNest "FirstdanceAgency" (191 : Nat) "FirstdanceAgency$Player" "off" "[Z" "FirstdanceAgency") ∈ lw_tbl := lw_at lw_m4 101 rfl
theorem q941 : (Jvm.Cond.instanceMethod ({ cls := "FirstdanceAgency", name := "learn", desc := "(II)I" } : Jvm.MethodName)) ∈ lw_all := lw_g (lw_at lw_m4 122 rfl) rfl
theorem q942 : (Jvm.Cond.selects "FirstdanceAgency" ({ cls := "FirstdanceAgency", name := "learn", desc := "(II)I" } : Jvm.MethodName) ({ cls := "FirstdanceAgency", name := "learn", desc := "(II)I" } : Jvm.MethodName)) ∈ lw_all := lw_g (lw_at lw_m4 123 rfl) rfl
theorem q943 : (Jvm.Cond.code ({ cls := "FirstdanceAgency", name := "learn", desc := "(II)I" } : Jvm.MethodName) prog_1_method_13_code (4 : Nat) (Option.some Jvm.ClassFile.FieldType.int)) ∈ lw_all := lw_g (lw_at lw_m4 124 rfl) rfl
theorem q944 : (Jvm.Cond.methodLink "FirstdanceAgency" (100 : Nat) ({ cls := "FirstdanceAgency", name := "playerAt", desc := "(I)LFirstdanceAgency$Player;" } : Jvm.MethodName)) ∈ lw_all := lw_g (lw_at lw_m4 125 rfl) rfl
theorem q945 : (Jvm.Cond.privateMethod ({ cls := "FirstdanceAgency", name := "playerAt", desc := "(I)LFirstdanceAgency$Player;" } : Jvm.MethodName)) ∈ lw_tbl := lw_at lw_m4 126 rfl
theorem q946 : (Jvm.Cond.instanceMethod ({ cls := "FirstdanceAgency", name := "playerAt", desc := "(I)LFirstdanceAgency$Player;" } : Jvm.MethodName)) ∈ lw_all := lw_g (lw_at lw_m4 127 rfl) rfl
theorem q947 : (Jvm.Cond.code ({ cls := "FirstdanceAgency", name := "playerAt", desc := "(I)LFirstdanceAgency$Player;" } : Jvm.MethodName) prog_1_method_9_code (2 : Nat) (Option.some (Jvm.ClassFile.FieldType.object "FirstdanceAgency$Player"))) ∈ lw_all := lw_g (lw_at lw_m4 128 rfl) rfl
theorem q952 : (Jvm.Cond.instanceMethod ({ cls := "FirstdanceAgency", name := "song", desc := "(IIII)I" } : Jvm.MethodName)) ∈ lw_all := lw_g (lw_at lw_m4 133 rfl) rfl
theorem q953 : (Jvm.Cond.selects "FirstdanceAgency" ({ cls := "FirstdanceAgency", name := "song", desc := "(IIII)I" } : Jvm.MethodName) ({ cls := "FirstdanceAgency", name := "song", desc := "(IIII)I" } : Jvm.MethodName)) ∈ lw_all := lw_g (lw_at lw_m4 134 rfl) rfl
theorem q954 : (Jvm.Cond.code ({ cls := "FirstdanceAgency", name := "song", desc := "(IIII)I" } : Jvm.MethodName) prog_1_method_14_code (6 : Nat) (Option.some Jvm.ClassFile.FieldType.int)) ∈ lw_all := lw_g (lw_at lw_m4 135 rfl) rfl
theorem q959 : (Jvm.Cond.instanceMethod ({ cls := "FirstdanceAgency", name := "feud", desc := "(IIZ)Z" } : Jvm.MethodName)) ∈ lw_all := lw_g (lw_at lw_m4 140 rfl) rfl
theorem q960 : (Jvm.Cond.selects "FirstdanceAgency" ({ cls := "FirstdanceAgency", name := "feud", desc := "(IIZ)Z" } : Jvm.MethodName) ({ cls := "FirstdanceAgency", name := "feud", desc := "(IIZ)Z" } : Jvm.MethodName)) ∈ lw_all := lw_g (lw_at lw_m4 141 rfl) rfl
theorem q961 : (Jvm.Cond.code ({ cls := "FirstdanceAgency", name := "feud", desc := "(IIZ)Z" } : Jvm.MethodName) prog_1_method_15_code (7 : Nat) (Option.some Jvm.ClassFile.FieldType.boolean)) ∈ lw_all := lw_g (lw_at lw_m4 142 rfl) rfl
theorem q966 : (Jvm.Cond.instanceMethod ({ cls := "FirstdanceAgency", name := "road", desc := "(III)I" } : Jvm.MethodName)) ∈ lw_all := lw_g (lw_at lw_m4 147 rfl) rfl
theorem q967 : (Jvm.Cond.selects "FirstdanceAgency" ({ cls := "FirstdanceAgency", name := "road", desc := "(III)I" } : Jvm.MethodName) ({ cls := "FirstdanceAgency", name := "road", desc := "(III)I" } : Jvm.MethodName)) ∈ lw_all := lw_g (lw_at lw_m4 148 rfl) rfl
theorem q968 : (Jvm.Cond.code ({ cls := "FirstdanceAgency", name := "road", desc := "(III)I" } : Jvm.MethodName) prog_1_method_16_code (4 : Nat) (Option.some Jvm.ClassFile.FieldType.int)) ∈ lw_all := lw_g (lw_at lw_m4 149 rfl) rfl
theorem q969 : (Jvm.Cond.methodLink "FirstdanceAgency" (127 : Nat) ({ cls := "FirstdanceAgency$Roads", name := "set", desc := "(III)V" } : Jvm.MethodName)) ∈ lw_all := lw_g (lw_at lw_m4 150 rfl) rfl
theorem q977 : (Jvm.Cond.instanceMethod ({ cls := "FirstdanceAgency", name := "band", desc := "(I)I" } : Jvm.MethodName)) ∈ lw_all := lw_g (lw_at lw_m4 158 rfl) rfl
theorem q978 : (Jvm.Cond.selects "FirstdanceAgency" ({ cls := "FirstdanceAgency", name := "band", desc := "(I)I" } : Jvm.MethodName) ({ cls := "FirstdanceAgency", name := "band", desc := "(I)I" } : Jvm.MethodName)) ∈ lw_all := lw_g (lw_at lw_m4 159 rfl) rfl
theorem q979 : (Jvm.Cond.code ({ cls := "FirstdanceAgency", name := "band", desc := "(I)I" } : Jvm.MethodName) prog_1_method_17_code (3 : Nat) (Option.some Jvm.ClassFile.FieldType.int)) ∈ lw_all := lw_g (lw_at lw_m4 160 rfl) rfl
theorem q980 : (Jvm.Cond.methodLink "FirstdanceAgency" (135 : Nat) ({ cls := "FirstdanceAgency$Shape", name := "<init>", desc := "(I)V" } : Jvm.MethodName)) ∈ lw_all := lw_g (lw_at lw_m4 161 rfl) rfl
theorem q985 : (Jvm.Cond.fieldLinkNest "FirstdanceAgency" (389 : Nat) "FirstdanceAgency$Shape" "needs" "[I" "FirstdanceAgency") ∈ lw_tbl := lw_at lw_m4 166 rfl
theorem q996 : (Jvm.Cond.instanceMethod ({ cls := "FirstdanceAgency", name := "ask", desc := "(IIIIII)I" } : Jvm.MethodName)) ∈ lw_all := lw_g (lw_at lw_m4 177 rfl) rfl
theorem q997 : (Jvm.Cond.selects "FirstdanceAgency" ({ cls := "FirstdanceAgency", name := "ask", desc := "(IIIIII)I" } : Jvm.MethodName) ({ cls := "FirstdanceAgency", name := "ask", desc := "(IIIIII)I" } : Jvm.MethodName)) ∈ lw_all := lw_g (lw_at lw_m4 178 rfl) rfl
theorem q998 : (Jvm.Cond.code ({ cls := "FirstdanceAgency", name := "ask", desc := "(IIIIII)I" } : Jvm.MethodName) prog_1_method_19_code (7 : Nat) (Option.some Jvm.ClassFile.FieldType.int)) ∈ lw_all := lw_g (lw_at lw_m4 179 rfl) rfl
theorem q999 : (Jvm.Cond.methodLink "FirstdanceAgency" (159 : Nat) ({ cls := "FirstdanceAgency", name := "isFixed", desc := "(II)Z" } : Jvm.MethodName)) ∈ lw_all := lw_g (lw_at lw_m4 180 rfl) rfl
theorem q1000 : (Jvm.Cond.privateMethod ({ cls := "FirstdanceAgency", name := "isFixed", desc := "(II)Z" } : Jvm.MethodName)) ∈ lw_tbl := lw_at lw_m4 181 rfl
theorem q1001 : (Jvm.Cond.instanceMethod ({ cls := "FirstdanceAgency", name := "isFixed", desc := "(II)Z" } : Jvm.MethodName)) ∈ lw_all := lw_g (lw_at lw_m4 182 rfl) rfl
theorem q1002 : (Jvm.Cond.code ({ cls := "FirstdanceAgency", name := "isFixed", desc := "(II)Z" } : Jvm.MethodName) prog_1_method_18_code (5 : Nat) (Option.some Jvm.ClassFile.FieldType.boolean)) ∈ lw_all := lw_g (lw_at lw_m4 183 rfl) rfl
theorem q1004 : (Jvm.Cond.methodLink "FirstdanceAgency" (162 : Nat) ({ cls := "FirstdanceAgency$Wedding", name := "<init>", desc := "(IIIIIII)V" } : Jvm.MethodName)) ∈ lw_all := lw_g (lw_at lw_m4 185 rfl) rfl
theorem q1010 : (Jvm.Cond.fieldLinkNest "FirstdanceAgency" (150 : Nat) "FirstdanceAgency$Wedding" "band" "I" "FirstdanceAgency") ∈ lw_tbl := lw_at lw_m4 191 rfl
theorem q1012 : (Jvm.Cond.fieldLinkNest "FirstdanceAgency" (153 : Nat) "FirstdanceAgency$Wedding" "day" "I" "FirstdanceAgency") ∈ lw_tbl := lw_at lw_m4 193 rfl
theorem q1014 : (Jvm.Cond.fieldLinkNest "FirstdanceAgency" (174 : Nat) "FirstdanceAgency$Wedding" "town" "I" "FirstdanceAgency") ∈ lw_tbl := lw_at lw_m4 195 rfl
theorem q1016 : (Jvm.Cond.fieldLinkNest "FirstdanceAgency" (182 : Nat) "FirstdanceAgency$Wedding" "start" "I" "FirstdanceAgency") ∈ lw_tbl := lw_at lw_m4 197 rfl
theorem q1018 : (Jvm.Cond.fieldLinkNest "FirstdanceAgency" (168 : Nat) "FirstdanceAgency$Wedding" "length" "I" "FirstdanceAgency") ∈ lw_tbl := lw_at lw_m4 199 rfl
theorem q1021 : (Jvm.Cond.fieldLinkNest "FirstdanceAgency" (396 : Nat) "FirstdanceAgency$Wedding" "songs" "I" "FirstdanceAgency") ∈ lw_tbl := lw_at lw_m4 202 rfl
theorem q1023 : (Jvm.Cond.fieldLinkNest "FirstdanceAgency" (302 : Nat) "FirstdanceAgency$Wedding" "told" "I" "FirstdanceAgency") ∈ lw_tbl := lw_at lw_m4 204 rfl
theorem q1025 : (Jvm.Cond.fieldLinkNest "FirstdanceAgency" (225 : Nat) "FirstdanceAgency$Wedding" "state" "LFirstdanceAgency$State;" "FirstdanceAgency") ∈ lw_tbl := lw_at lw_m4 206 rfl
theorem q1027 : (Jvm.Cond.fieldLinkNest "FirstdanceAgency" (195 : Nat) "FirstdanceAgency$Wedding" "players" "I" "FirstdanceAgency") ∈ lw_tbl := lw_at lw_m4 208 rfl
theorem q1029 : (Jvm.Cond.fieldLinkNest "FirstdanceAgency" (231 : Nat) "FirstdanceAgency$Wedding" "price" "I" "FirstdanceAgency") ∈ lw_tbl := lw_at lw_m4 210 rfl
theorem q1031 : (Jvm.Cond.fieldLinkNest "FirstdanceAgency" (249 : Nat) "FirstdanceAgency$Wedding" "paid" "I" "FirstdanceAgency") ∈ lw_tbl := lw_at lw_m4 212 rfl
theorem q1033 : (Jvm.Cond.fieldLinkNest "FirstdanceAgency" (262 : Nat) "FirstdanceAgency$Wedding" "late" "I" "FirstdanceAgency") ∈ lw_tbl := lw_at lw_m4 214 rfl
theorem q1063 : (Jvm.Cond.instanceMethod ({ cls := "FirstdanceAgency", name := "fix", desc := "(I)I" } : Jvm.MethodName)) ∈ lw_all := lw_g (lw_at lw_m5 4 rfl) rfl
theorem q1064 : (Jvm.Cond.selects "FirstdanceAgency" ({ cls := "FirstdanceAgency", name := "fix", desc := "(I)I" } : Jvm.MethodName) ({ cls := "FirstdanceAgency", name := "fix", desc := "(I)I" } : Jvm.MethodName)) ∈ lw_all := lw_g (lw_at lw_m5 5 rfl) rfl
theorem q1065 : (Jvm.Cond.code ({ cls := "FirstdanceAgency", name := "fix", desc := "(I)I" } : Jvm.MethodName) prog_1_method_30_code (6 : Nat) (Option.some Jvm.ClassFile.FieldType.int)) ∈ lw_all := lw_g (lw_at lw_m5 6 rfl) rfl
theorem q1066 : (Jvm.Cond.methodLink "FirstdanceAgency" (234 : Nat) ({ cls := "FirstdanceAgency", name := "weddingAt", desc := "(I)LFirstdanceAgency$Wedding;" } : Jvm.MethodName)) ∈ lw_all := lw_g (lw_at lw_m5 7 rfl) rfl
theorem q1067 : (Jvm.Cond.privateMethod ({ cls := "FirstdanceAgency", name := "weddingAt", desc := "(I)LFirstdanceAgency$Wedding;" } : Jvm.MethodName)) ∈ lw_tbl := lw_at lw_m5 8 rfl
theorem q1068 : (Jvm.Cond.instanceMethod ({ cls := "FirstdanceAgency", name := "weddingAt", desc := "(I)LFirstdanceAgency$Wedding;" } : Jvm.MethodName)) ∈ lw_all := lw_g (lw_at lw_m5 9 rfl) rfl
theorem q1069 : (Jvm.Cond.code ({ cls := "FirstdanceAgency", name := "weddingAt", desc := "(I)LFirstdanceAgency$Wedding;" } : Jvm.MethodName) prog_1_method_10_code (2 : Nat) (Option.some (Jvm.ClassFile.FieldType.object "FirstdanceAgency$Wedding"))) ∈ lw_all := lw_g (lw_at lw_m5 10 rfl) rfl
theorem q1070 : (Jvm.Cond.methodLink "FirstdanceAgency" (245 : Nat) ({ cls := "FirstdanceAgency", name := "take", desc := "(ILFirstdanceAgency$Fillings;)V" } : Jvm.MethodName)) ∈ lw_all := lw_g (lw_at lw_m5 11 rfl) rfl
theorem q1071 : (Jvm.Cond.privateMethod ({ cls := "FirstdanceAgency", name := "take", desc := "(ILFirstdanceAgency$Fillings;)V" } : Jvm.MethodName)) ∈ lw_tbl := lw_at lw_m5 12 rfl
theorem q1072 : (Jvm.Cond.instanceMethod ({ cls := "FirstdanceAgency", name := "take", desc := "(ILFirstdanceAgency$Fillings;)V" } : Jvm.MethodName)) ∈ lw_all := lw_g (lw_at lw_m5 13 rfl) rfl
theorem q1073 : (Jvm.Cond.code ({ cls := "FirstdanceAgency", name := "take", desc := "(ILFirstdanceAgency$Fillings;)V" } : Jvm.MethodName) prog_1_method_29_code (4 : Nat) (Option.none : Option Jvm.ClassFile.FieldType)) ∈ lw_all := lw_g (lw_at lw_m5 14 rfl) rfl
theorem q1078 : (Jvm.Cond.instanceMethod ({ cls := "FirstdanceAgency", name := "cancel", desc := "(I)I" } : Jvm.MethodName)) ∈ lw_all := lw_g (lw_at lw_m5 19 rfl) rfl
theorem q1079 : (Jvm.Cond.selects "FirstdanceAgency" ({ cls := "FirstdanceAgency", name := "cancel", desc := "(I)I" } : Jvm.MethodName) ({ cls := "FirstdanceAgency", name := "cancel", desc := "(I)I" } : Jvm.MethodName)) ∈ lw_all := lw_g (lw_at lw_m5 20 rfl) rfl
theorem q1080 : (Jvm.Cond.code ({ cls := "FirstdanceAgency", name := "cancel", desc := "(I)I" } : Jvm.MethodName) prog_1_method_32_code (4 : Nat) (Option.some Jvm.ClassFile.FieldType.int)) ∈ lw_all := lw_g (lw_at lw_m5 21 rfl) rfl
theorem q1081 : (Jvm.Cond.methodLink "FirstdanceAgency" (255 : Nat) ({ cls := "FirstdanceAgency", name := "owed", desc := "(LFirstdanceAgency$Wedding;)I" } : Jvm.MethodName)) ∈ lw_all := lw_g (lw_at lw_m5 22 rfl) rfl
theorem q1082 : (Jvm.Cond.privateMethod ({ cls := "FirstdanceAgency", name := "owed", desc := "(LFirstdanceAgency$Wedding;)I" } : Jvm.MethodName)) ∈ lw_tbl := lw_at lw_m5 23 rfl
theorem q1083 : (Jvm.Cond.instanceMethod ({ cls := "FirstdanceAgency", name := "owed", desc := "(LFirstdanceAgency$Wedding;)I" } : Jvm.MethodName)) ∈ lw_all := lw_g (lw_at lw_m5 24 rfl) rfl
theorem q1084 : (Jvm.Cond.code ({ cls := "FirstdanceAgency", name := "owed", desc := "(LFirstdanceAgency$Wedding;)I" } : Jvm.MethodName) prog_1_method_31_code (4 : Nat) (Option.some Jvm.ClassFile.FieldType.int)) ∈ lw_all := lw_g (lw_at lw_m5 25 rfl) rfl
theorem q1089 : (Jvm.Cond.instanceMethod ({ cls := "FirstdanceAgency", name := "ill", desc := "(II)I" } : Jvm.MethodName)) ∈ lw_all := lw_g (lw_at lw_m5 30 rfl) rfl
theorem q1090 : (Jvm.Cond.selects "FirstdanceAgency" ({ cls := "FirstdanceAgency", name := "ill", desc := "(II)I" } : Jvm.MethodName) ({ cls := "FirstdanceAgency", name := "ill", desc := "(II)I" } : Jvm.MethodName)) ∈ lw_all := lw_g (lw_at lw_m5 31 rfl) rfl
theorem q1091 : (Jvm.Cond.code ({ cls := "FirstdanceAgency", name := "ill", desc := "(II)I" } : Jvm.MethodName) prog_1_method_34_code (3 : Nat) (Option.some Jvm.ClassFile.FieldType.int)) ∈ lw_all := lw_g (lw_at lw_m5 32 rfl) rfl
theorem q1092 : (Jvm.Cond.methodLink "FirstdanceAgency" (259 : Nat) ({ cls := "FirstdanceAgency", name := "fall", desc := "(II)I" } : Jvm.MethodName)) ∈ lw_all := lw_g (lw_at lw_m5 33 rfl) rfl
theorem q1093 : (Jvm.Cond.privateMethod ({ cls := "FirstdanceAgency", name := "fall", desc := "(II)I" } : Jvm.MethodName)) ∈ lw_tbl := lw_at lw_m5 34 rfl
theorem q1094 : (Jvm.Cond.instanceMethod ({ cls := "FirstdanceAgency", name := "fall", desc := "(II)I" } : Jvm.MethodName)) ∈ lw_all := lw_g (lw_at lw_m5 35 rfl) rfl
theorem q1095 : (Jvm.Cond.code ({ cls := "FirstdanceAgency", name := "fall", desc := "(II)I" } : Jvm.MethodName) prog_1_method_33_code (7 : Nat) (Option.some Jvm.ClassFile.FieldType.int)) ∈ lw_all := lw_g (lw_at lw_m5 36 rfl) rfl
theorem q1100 : (Jvm.Cond.instanceMethod ({ cls := "FirstdanceAgency", name := "late", desc := "(II)I" } : Jvm.MethodName)) ∈ lw_all := lw_g (lw_at lw_m5 41 rfl) rfl
theorem q1101 : (Jvm.Cond.selects "FirstdanceAgency" ({ cls := "FirstdanceAgency", name := "late", desc := "(II)I" } : Jvm.MethodName) ({ cls := "FirstdanceAgency", name := "late", desc := "(II)I" } : Jvm.MethodName)) ∈ lw_all := lw_g (lw_at lw_m5 42 rfl) rfl
theorem q1102 : (Jvm.Cond.code ({ cls := "FirstdanceAgency", name := "late", desc := "(II)I" } : Jvm.MethodName) prog_1_method_35_code (4 : Nat) (Option.some Jvm.ClassFile.FieldType.int)) ∈ lw_all := lw_g (lw_at lw_m5 43 rfl) rfl
theorem q1107 : (Jvm.Cond.instanceMethod ({ cls := "FirstdanceAgency", name := "pass", desc := "(I)I" } : Jvm.MethodName)) ∈ lw_all := lw_g (lw_at lw_m5 48 rfl) rfl
theorem q1108 : (Jvm.Cond.selects "FirstdanceAgency" ({ cls := "FirstdanceAgency", name := "pass", desc := "(I)I" } : Jvm.MethodName) ({ cls := "FirstdanceAgency", name := "pass", desc := "(I)I" } : Jvm.MethodName)) ∈ lw_all := lw_g (lw_at lw_m5 49 rfl) rfl
theorem q1109 : (Jvm.Cond.code ({ cls := "FirstdanceAgency", name := "pass", desc := "(I)I" } : Jvm.MethodName) prog_1_method_40_code (3 : Nat) (Option.some Jvm.ClassFile.FieldType.int)) ∈ lw_all := lw_g (lw_at lw_m5 50 rfl) rfl
theorem q1110 : (Jvm.Cond.methodLink "FirstdanceAgency" (305 : Nat) ({ cls := "FirstdanceAgency", name := "end", desc := "()V" } : Jvm.MethodName)) ∈ lw_all := lw_g (lw_at lw_m5 51 rfl) rfl
theorem q1111 : (Jvm.Cond.privateMethod ({ cls := "FirstdanceAgency", name := "end", desc := "()V" } : Jvm.MethodName)) ∈ lw_tbl := lw_at lw_m5 52 rfl
theorem q1112 : (Jvm.Cond.instanceMethod ({ cls := "FirstdanceAgency", name := "end", desc := "()V" } : Jvm.MethodName)) ∈ lw_all := lw_g (lw_at lw_m5 53 rfl) rfl
theorem q1113 : (Jvm.Cond.code ({ cls := "FirstdanceAgency", name := "end", desc := "()V" } : Jvm.MethodName) prog_1_method_39_code (4 : Nat) (Option.none : Option Jvm.ClassFile.FieldType)) ∈ lw_all := lw_g (lw_at lw_m5 54 rfl) rfl
theorem q1114 : (Jvm.Cond.methodLink "FirstdanceAgency" (298 : Nat) ({ cls := "FirstdanceAgency", name := "play", desc := "(LFirstdanceAgency$Wedding;)V" } : Jvm.MethodName)) ∈ lw_all := lw_g (lw_at lw_m5 55 rfl) rfl
theorem q1115 : (Jvm.Cond.privateMethod ({ cls := "FirstdanceAgency", name := "play", desc := "(LFirstdanceAgency$Wedding;)V" } : Jvm.MethodName)) ∈ lw_tbl := lw_at lw_m5 56 rfl
theorem q1116 : (Jvm.Cond.instanceMethod ({ cls := "FirstdanceAgency", name := "play", desc := "(LFirstdanceAgency$Wedding;)V" } : Jvm.MethodName)) ∈ lw_all := lw_g (lw_at lw_m5 57 rfl) rfl
theorem q1117 : (Jvm.Cond.code ({ cls := "FirstdanceAgency", name := "play", desc := "(LFirstdanceAgency$Wedding;)V" } : Jvm.MethodName) prog_1_method_38_code (4 : Nat) (Option.none : Option Jvm.ClassFile.FieldType)) ∈ lw_all := lw_g (lw_at lw_m5 58 rfl) rfl
theorem q1118 : (Jvm.Cond.methodLink "FirstdanceAgency" (274 : Nat) ({ cls := "FirstdanceAgency", name := "extra", desc := "(LFirstdanceAgency$Wedding;)I" } : Jvm.MethodName)) ∈ lw_all := lw_g (lw_at lw_m5 59 rfl) rfl
theorem q1119 : (Jvm.Cond.privateMethod ({ cls := "FirstdanceAgency", name := "extra", desc := "(LFirstdanceAgency$Wedding;)I" } : Jvm.MethodName)) ∈ lw_tbl := lw_at lw_m5 60 rfl
theorem q1120 : (Jvm.Cond.instanceMethod ({ cls := "FirstdanceAgency", name := "extra", desc := "(LFirstdanceAgency$Wedding;)I" } : Jvm.MethodName)) ∈ lw_all := lw_g (lw_at lw_m5 61 rfl) rfl
theorem q1121 : (Jvm.Cond.code ({ cls := "FirstdanceAgency", name := "extra", desc := "(LFirstdanceAgency$Wedding;)I" } : Jvm.MethodName) prog_1_method_36_code (4 : Nat) (Option.some Jvm.ClassFile.FieldType.int)) ∈ lw_all := lw_g (lw_at lw_m5 62 rfl) rfl
theorem q1122 : (Jvm.Cond.methodLink "FirstdanceAgency" (280 : Nat) ({ cls := "FirstdanceAgency", name := "earns", desc := "(ILFirstdanceAgency$Wedding;)I" } : Jvm.MethodName)) ∈ lw_all := lw_g (lw_at lw_m5 63 rfl) rfl
theorem q1123 : (Jvm.Cond.privateMethod ({ cls := "FirstdanceAgency", name := "earns", desc := "(ILFirstdanceAgency$Wedding;)I" } : Jvm.MethodName)) ∈ lw_tbl := lw_at lw_m5 64 rfl
theorem q1124 : (Jvm.Cond.instanceMethod ({ cls := "FirstdanceAgency", name := "earns", desc := "(ILFirstdanceAgency$Wedding;)I" } : Jvm.MethodName)) ∈ lw_all := lw_g (lw_at lw_m5 65 rfl) rfl
theorem q1125 : (Jvm.Cond.code ({ cls := "FirstdanceAgency", name := "earns", desc := "(ILFirstdanceAgency$Wedding;)I" } : Jvm.MethodName) prog_1_method_37_code (3 : Nat) (Option.some Jvm.ClassFile.FieldType.int)) ∈ lw_all := lw_g (lw_at lw_m5 66 rfl) rfl
theorem q1126 : (Jvm.Cond.methodLink "FirstdanceAgency" (268 : Nat) ({ cls := "FirstdanceAgency", name := "cost", desc := "(ILFirstdanceAgency$Wedding;)I" } : Jvm.MethodName)) ∈ lw_all := lw_g (lw_at lw_m5 67 rfl) rfl
theorem q1127 : (Jvm.Cond.methodLink "FirstdanceAgency" (290 : Nat) ({ cls := "FirstdanceAgency$Song", name := "again", desc := "()LFirstdanceAgency$Song;" } : Jvm.MethodName)) ∈ lw_all := lw_g (lw_at lw_m5 68 rfl) rfl
theorem q1137 : (Jvm.Cond.instanceMethod ({ cls := "FirstdanceAgency", name := "ofPlayer", desc := "(II)I" } : Jvm.MethodName)) ∈ lw_all := lw_g (lw_at lw_m5 78 rfl) rfl
theorem q1138 : (Jvm.Cond.selects "FirstdanceAgency" ({ cls := "FirstdanceAgency", name := "ofPlayer", desc := "(II)I" } : Jvm.MethodName) ({ cls := "FirstdanceAgency", name := "ofPlayer", desc := "(II)I" } : Jvm.MethodName)) ∈ lw_all := lw_g (lw_at lw_m5 79 rfl) rfl
theorem q1139 : (Jvm.Cond.code ({ cls := "FirstdanceAgency", name := "ofPlayer", desc := "(II)I" } : Jvm.MethodName) prog_1_method_49_code (3 : Nat) (Option.some Jvm.ClassFile.FieldType.int)) ∈ lw_all := lw_g (lw_at lw_m5 80 rfl) rfl
theorem q1144 : (Jvm.Cond.instanceMethod ({ cls := "FirstdanceAgency", name := "ofSong", desc := "(II)I" } : Jvm.MethodName)) ∈ lw_all := lw_g (lw_at lw_m5 85 rfl) rfl
theorem q1145 : (Jvm.Cond.selects "FirstdanceAgency" ({ cls := "FirstdanceAgency", name := "ofSong", desc := "(II)I" } : Jvm.MethodName) ({ cls := "FirstdanceAgency", name := "ofSong", desc := "(II)I" } : Jvm.MethodName)) ∈ lw_all := lw_g (lw_at lw_m5 86 rfl) rfl
theorem q1146 : (Jvm.Cond.code ({ cls := "FirstdanceAgency", name := "ofSong", desc := "(II)I" } : Jvm.MethodName) prog_1_method_52_code (3 : Nat) (Option.some Jvm.ClassFile.FieldType.int)) ∈ lw_all := lw_g (lw_at lw_m5 87 rfl) rfl
theorem q1151 : (Jvm.Cond.instanceMethod ({ cls := "FirstdanceAgency", name := "ofBand", desc := "(II)I" } : Jvm.MethodName)) ∈ lw_all := lw_g (lw_at lw_m5 92 rfl) rfl
theorem q1152 : (Jvm.Cond.selects "FirstdanceAgency" ({ cls := "FirstdanceAgency", name := "ofBand", desc := "(II)I" } : Jvm.MethodName) ({ cls := "FirstdanceAgency", name := "ofBand", desc := "(II)I" } : Jvm.MethodName)) ∈ lw_all := lw_g (lw_at lw_m5 93 rfl) rfl
theorem q1153 : (Jvm.Cond.code ({ cls := "FirstdanceAgency", name := "ofBand", desc := "(II)I" } : Jvm.MethodName) prog_1_method_55_code (3 : Nat) (Option.some Jvm.ClassFile.FieldType.int)) ∈ lw_all := lw_g (lw_at lw_m5 94 rfl) rfl
theorem q1158 : (Jvm.Cond.instanceMethod ({ cls := "FirstdanceAgency", name := "ofWedding", desc := "(II)I" } : Jvm.MethodName)) ∈ lw_all := lw_g (lw_at lw_m5 99 rfl) rfl
theorem q1159 : (Jvm.Cond.selects "FirstdanceAgency" ({ cls := "FirstdanceAgency", name := "ofWedding", desc := "(II)I" } : Jvm.MethodName) ({ cls := "FirstdanceAgency", name := "ofWedding", desc := "(II)I" } : Jvm.MethodName)) ∈ lw_all := lw_g (lw_at lw_m5 100 rfl) rfl
theorem q1160 : (Jvm.Cond.code ({ cls := "FirstdanceAgency", name := "ofWedding", desc := "(II)I" } : Jvm.MethodName) prog_1_method_57_code (3 : Nat) (Option.some Jvm.ClassFile.FieldType.int)) ∈ lw_all := lw_g (lw_at lw_m5 101 rfl) rfl
theorem q1165 : (Jvm.Cond.instanceMethod ({ cls := "FirstdanceAgency", name := "drive", desc := "(II)I" } : Jvm.MethodName)) ∈ lw_all := lw_g (lw_at lw_m5 106 rfl) rfl
theorem q1166 : (Jvm.Cond.selects "FirstdanceAgency" ({ cls := "FirstdanceAgency", name := "drive", desc := "(II)I" } : Jvm.MethodName) ({ cls := "FirstdanceAgency", name := "drive", desc := "(II)I" } : Jvm.MethodName)) ∈ lw_all := lw_g (lw_at lw_m5 107 rfl) rfl
theorem q1167 : (Jvm.Cond.code ({ cls := "FirstdanceAgency", name := "drive", desc := "(II)I" } : Jvm.MethodName) prog_1_method_58_code (3 : Nat) (Option.some Jvm.ClassFile.FieldType.int)) ∈ lw_all := lw_g (lw_at lw_m5 108 rfl) rfl
theorem q1172 : (Jvm.Cond.instanceMethod ({ cls := "FirstdanceAgency", name := "free", desc := "(II)Z" } : Jvm.MethodName)) ∈ lw_all := lw_g (lw_at lw_m5 113 rfl) rfl
theorem q1173 : (Jvm.Cond.selects "FirstdanceAgency" ({ cls := "FirstdanceAgency", name := "free", desc := "(II)Z" } : Jvm.MethodName) ({ cls := "FirstdanceAgency", name := "free", desc := "(II)Z" } : Jvm.MethodName)) ∈ lw_all := lw_g (lw_at lw_m5 114 rfl) rfl
theorem q1174 : (Jvm.Cond.code ({ cls := "FirstdanceAgency", name := "free", desc := "(II)Z" } : Jvm.MethodName) prog_1_method_59_code (3 : Nat) (Option.some Jvm.ClassFile.FieldType.boolean)) ∈ lw_all := lw_g (lw_at lw_m5 115 rfl) rfl
theorem q1179 : (Jvm.Cond.instanceMethod ({ cls := "FirstdanceAgency", name := "filling", desc := "(II)I" } : Jvm.MethodName)) ∈ lw_all := lw_g (lw_at lw_m5 120 rfl) rfl
theorem q1180 : (Jvm.Cond.selects "FirstdanceAgency" ({ cls := "FirstdanceAgency", name := "filling", desc := "(II)I" } : Jvm.MethodName) ({ cls := "FirstdanceAgency", name := "filling", desc := "(II)I" } : Jvm.MethodName)) ∈ lw_all := lw_g (lw_at lw_m5 121 rfl) rfl
theorem q1181 : (Jvm.Cond.code ({ cls := "FirstdanceAgency", name := "filling", desc := "(II)I" } : Jvm.MethodName) prog_1_method_61_code (3 : Nat) (Option.some Jvm.ClassFile.FieldType.int)) ∈ lw_all := lw_g (lw_at lw_m5 122 rfl) rfl
theorem q1186 : (Jvm.Cond.instanceMethod ({ cls := "FirstdanceAgency", name := "set", desc := "(IZ)I" } : Jvm.MethodName)) ∈ lw_all := lw_g (lw_at lw_m5 127 rfl) rfl
theorem q1187 : (Jvm.Cond.selects "FirstdanceAgency" ({ cls := "FirstdanceAgency", name := "set", desc := "(IZ)I" } : Jvm.MethodName) ({ cls := "FirstdanceAgency", name := "set", desc := "(IZ)I" } : Jvm.MethodName)) ∈ lw_all := lw_g (lw_at lw_m5 128 rfl) rfl
theorem q1188 : (Jvm.Cond.code ({ cls := "FirstdanceAgency", name := "set", desc := "(IZ)I" } : Jvm.MethodName) prog_1_method_44_code (3 : Nat) (Option.some Jvm.ClassFile.FieldType.int)) ∈ lw_all := lw_g (lw_at lw_m5 129 rfl) rfl
theorem q1193 : (Jvm.Cond.instanceMethod ({ cls := "FirstdanceAgency", name := "songs", desc := "(I)Ljava/lang/String;" } : Jvm.MethodName)) ∈ lw_all := lw_g (lw_at lw_m5 134 rfl) rfl
theorem q1194 : (Jvm.Cond.selects "FirstdanceAgency" ({ cls := "FirstdanceAgency", name := "songs", desc := "(I)Ljava/lang/String;" } : Jvm.MethodName) ({ cls := "FirstdanceAgency", name := "songs", desc := "(I)Ljava/lang/String;" } : Jvm.MethodName)) ∈ lw_all := lw_g (lw_at lw_m5 135 rfl) rfl
theorem q1195 : (Jvm.Cond.code ({ cls := "FirstdanceAgency", name := "songs", desc := "(I)Ljava/lang/String;" } : Jvm.MethodName) prog_1_method_45_code (4 : Nat) (Option.some (Jvm.ClassFile.FieldType.object "java/lang/String"))) ∈ lw_all := lw_g (lw_at lw_m5 136 rfl) rfl
theorem q1196 : (Jvm.Cond.stringRef "FirstdanceAgency" (351 : Nat) "-") ∈ lw_tbl := lw_at lw_m5 137 rfl
theorem q1197 : (Jvm.Cond.classLink "FirstdanceAgency" (353 : Nat) "java/lang/StringBuilder") ∈ lw_all := lw_g (lw_at lw_m5 138 rfl) rfl
theorem q1199 : (Jvm.Cond.methodLink "FirstdanceAgency" (355 : Nat) ({ cls := "java/lang/StringBuilder", name := "<init>", desc := "()V" } : Jvm.MethodName)) ∈ lw_all := lw_g (lw_at lw_m5 140 rfl) rfl
theorem q1228 : (Jvm.Cond.methodLink "FirstdanceAgency" (356 : Nat) ({ cls := "FirstdanceAgency$SongRow", name := "tell", desc := "(Ljava/lang/StringBuilder;)V" } : Jvm.MethodName)) ∈ lw_all := lw_g (lw_at lw_m5 169 rfl) rfl
theorem q1345 : (Jvm.Cond.methodLink "FirstdanceAgency" (360 : Nat) ({ cls := "java/lang/StringBuilder", name := "toString", desc := "()Ljava/lang/String;" } : Jvm.MethodName)) ∈ lw_all := lw_g (lw_at lw_m6 46 rfl) rfl
theorem q1452 : (Jvm.Cond.instanceMethod ({ cls := "FirstdanceAgency", name := "desk", desc := "(I)I" } : Jvm.MethodName)) ∈ lw_all := lw_g (lw_at lw_m6 153 rfl) rfl
theorem q1453 : (Jvm.Cond.selects "FirstdanceAgency" ({ cls := "FirstdanceAgency", name := "desk", desc := "(I)I" } : Jvm.MethodName) ({ cls := "FirstdanceAgency", name := "desk", desc := "(I)I" } : Jvm.MethodName)) ∈ lw_all := lw_g (lw_at lw_m6 154 rfl) rfl
theorem q1454 : (Jvm.Cond.code ({ cls := "FirstdanceAgency", name := "desk", desc := "(I)I" } : Jvm.MethodName) prog_1_method_67_code (2 : Nat) (Option.some Jvm.ClassFile.FieldType.int)) ∈ lw_all := lw_g (lw_at lw_m6 155 rfl) rfl
theorem q1459 : (Jvm.Cond.instanceMethod ({ cls := "FirstdanceAgency", name := "tell", desc := "(I)Ljava/lang/String;" } : Jvm.MethodName)) ∈ lw_all := lw_g (lw_at lw_m6 160 rfl) rfl
theorem q1460 : (Jvm.Cond.selects "FirstdanceAgency" ({ cls := "FirstdanceAgency", name := "tell", desc := "(I)Ljava/lang/String;" } : Jvm.MethodName) ({ cls := "FirstdanceAgency", name := "tell", desc := "(I)Ljava/lang/String;" } : Jvm.MethodName)) ∈ lw_all := lw_g (lw_at lw_m6 161 rfl) rfl
theorem q1461 : (Jvm.Cond.code ({ cls := "FirstdanceAgency", name := "tell", desc := "(I)Ljava/lang/String;" } : Jvm.MethodName) prog_1_method_68_code (6 : Nat) (Option.some (Jvm.ClassFile.FieldType.object "java/lang/String"))) ∈ lw_all := lw_g (lw_at lw_m6 162 rfl) rfl
theorem q1462 : (Jvm.Cond.methodLink "FirstdanceAgency" (434 : Nat) ({ cls := "java/lang/StringBuilder", name := "append", desc := "(I)Ljava/lang/StringBuilder;" } : Jvm.MethodName)) ∈ lw_all := lw_g (lw_at lw_m6 163 rfl) rfl
theorem q1463 : (Jvm.Cond.stringRef "FirstdanceAgency" (438 : Nat) " on day ") ∈ lw_tbl := lw_at lw_m6 164 rfl
theorem q1464 : (Jvm.Cond.methodLink "FirstdanceAgency" (440 : Nat) ({ cls := "java/lang/StringBuilder", name := "append", desc := "(Ljava/lang/String;)Ljava/lang/StringBuilder;" } : Jvm.MethodName)) ∈ lw_all := lw_g (lw_at lw_m6 165 rfl) rfl
theorem q1465 : (Jvm.Cond.stringRef "FirstdanceAgency" (443 : Nat) " in ") ∈ lw_tbl := lw_at lw_m6 166 rfl
theorem q1466 : (Jvm.Cond.stringRef "FirstdanceAgency" (445 : Nat) ", ") ∈ lw_tbl := lw_at lw_m6 167 rfl
theorem q1467 : (Jvm.Cond.methodLink "FirstdanceAgency" (447 : Nat) ({ cls := "FirstdanceAgency$State", name := "word", desc := "()Ljava/lang/String;" } : Jvm.MethodName)) ∈ lw_all := lw_g (lw_at lw_m6 168 rfl) rfl
theorem q1476 : (Jvm.Cond.stringRef "FirstdanceAgency" (450 : Nat) ": ") ∈ lw_tbl := lw_at lw_m6 177 rfl
theorem q1477 : (Jvm.Cond.stringRef "FirstdanceAgency" (452 : Nat) ",") ∈ lw_tbl := lw_at lw_m6 178 rfl
theorem q1482 : (Jvm.Cond.instanceMethod ({ cls := "FirstdanceAgency", name := "wouldLose", desc := "(II)I" } : Jvm.MethodName)) ∈ lw_all := lw_g (lw_at lw_m6 183 rfl) rfl
theorem q1483 : (Jvm.Cond.selects "FirstdanceAgency" ({ cls := "FirstdanceAgency", name := "wouldLose", desc := "(II)I" } : Jvm.MethodName) ({ cls := "FirstdanceAgency", name := "wouldLose", desc := "(II)I" } : Jvm.MethodName)) ∈ lw_all := lw_g (lw_at lw_m6 184 rfl) rfl
theorem q1484 : (Jvm.Cond.code ({ cls := "FirstdanceAgency", name := "wouldLose", desc := "(II)I" } : Jvm.MethodName) prog_1_method_71_code (7 : Nat) (Option.some Jvm.ClassFile.FieldType.int)) ∈ lw_all := lw_g (lw_at lw_m6 185 rfl) rfl
theorem q1485 : (Jvm.Cond.methodLink "FirstdanceAgency" (458 : Nat) ({ cls := "FirstdanceAgency", name := "copies", desc := "()Ljava/util/List;" } : Jvm.MethodName)) ∈ lw_all := lw_g (lw_at lw_m6 186 rfl) rfl
theorem q1486 : (Jvm.Cond.privateMethod ({ cls := "FirstdanceAgency", name := "copies", desc := "()Ljava/util/List;" } : Jvm.MethodName)) ∈ lw_tbl := lw_at lw_m6 187 rfl
theorem q1487 : (Jvm.Cond.instanceMethod ({ cls := "FirstdanceAgency", name := "copies", desc := "()Ljava/util/List;" } : Jvm.MethodName)) ∈ lw_all := lw_g (lw_at lw_m6 188 rfl) rfl
theorem q1488 : (Jvm.Cond.code ({ cls := "FirstdanceAgency", name := "copies", desc := "()Ljava/util/List;" } : Jvm.MethodName) prog_1_method_69_code (3 : Nat) (Option.some (Jvm.ClassFile.FieldType.object "java/util/List"))) ∈ lw_all := lw_g (lw_at lw_m6 189 rfl) rfl
theorem q1489 : (Jvm.Cond.methodLink "FirstdanceAgency" (454 : Nat) ({ cls := "FirstdanceAgency$Wedding", name := "copy", desc := "()LFirstdanceAgency$Wedding;" } : Jvm.MethodName)) ∈ lw_all := lw_g (lw_at lw_m6 190 rfl) rfl
theorem q1495 : (Jvm.Cond.methodLink "FirstdanceAgency" (462 : Nat) ({ cls := "FirstdanceAgency", name := "restore", desc := "(Ljava/util/List;)V" } : Jvm.MethodName)) ∈ lw_all := lw_g (lw_at lw_m6 196 rfl) rfl
theorem q1496 : (Jvm.Cond.privateMethod ({ cls := "FirstdanceAgency", name := "restore", desc := "(Ljava/util/List;)V" } : Jvm.MethodName)) ∈ lw_tbl := lw_at lw_m6 197 rfl
theorem q1497 : (Jvm.Cond.instanceMethod ({ cls := "FirstdanceAgency", name := "restore", desc := "(Ljava/util/List;)V" } : Jvm.MethodName)) ∈ lw_all := lw_g (lw_at lw_m6 198 rfl) rfl
theorem q1498 : (Jvm.Cond.code ({ cls := "FirstdanceAgency", name := "restore", desc := "(Ljava/util/List;)V" } : Jvm.MethodName) prog_1_method_70_code (3 : Nat) (Option.none : Option Jvm.ClassFile.FieldType)) ∈ lw_all := lw_g (lw_at lw_m6 199 rfl) rfl
theorem q1503 : (Jvm.Cond.instanceMethod ({ cls := "FirstdanceAgency", name := "plan", desc := "(IZ)I" } : Jvm.MethodName)) ∈ lw_all := lw_g (lw_at lw_m6 204 rfl) rfl
theorem q1504 : (Jvm.Cond.selects "FirstdanceAgency" ({ cls := "FirstdanceAgency", name := "plan", desc := "(IZ)I" } : Jvm.MethodName) ({ cls := "FirstdanceAgency", name := "plan", desc := "(IZ)I" } : Jvm.MethodName)) ∈ lw_all := lw_g (lw_at lw_m6 205 rfl) rfl
theorem q1505 : (Jvm.Cond.code ({ cls := "FirstdanceAgency", name := "plan", desc := "(IZ)I" } : Jvm.MethodName) prog_1_method_74_code (9 : Nat) (Option.some Jvm.ClassFile.FieldType.int)) ∈ lw_all := lw_g (lw_at lw_m6 206 rfl) rfl
theorem q1506 : (Jvm.Cond.methodLink "FirstdanceAgency" (466 : Nat) ({ cls := "FirstdanceAgency", name := "firsts", desc := "(I)Ljava/util/List;" } : Jvm.MethodName)) ∈ lw_all := lw_g (lw_at lw_m6 207 rfl) rfl
theorem q1507 : (Jvm.Cond.privateMethod ({ cls := "FirstdanceAgency", name := "firsts", desc := "(I)Ljava/util/List;" } : Jvm.MethodName)) ∈ lw_tbl := lw_at lw_m6 208 rfl
theorem q1508 : (Jvm.Cond.instanceMethod ({ cls := "FirstdanceAgency", name := "firsts", desc := "(I)Ljava/util/List;" } : Jvm.MethodName)) ∈ lw_all := lw_g (lw_at lw_m6 209 rfl) rfl
theorem q1509 : (Jvm.Cond.code ({ cls := "FirstdanceAgency", name := "firsts", desc := "(I)Ljava/util/List;" } : Jvm.MethodName) prog_1_method_72_code (4 : Nat) (Option.some (Jvm.ClassFile.FieldType.object "java/util/List"))) ∈ lw_all := lw_g (lw_at lw_m6 210 rfl) rfl
theorem q1510 : (Jvm.Cond.methodLink "FirstdanceAgency" (469 : Nat) ({ cls := "FirstdanceAgency", name := "prices", desc := "(Ljava/util/List;I)I" } : Jvm.MethodName)) ∈ lw_all := lw_g (lw_at lw_m6 211 rfl) rfl
theorem q1511 : (Jvm.Cond.privateMethod ({ cls := "FirstdanceAgency", name := "prices", desc := "(Ljava/util/List;I)I" } : Jvm.MethodName)) ∈ lw_tbl := lw_at lw_m6 212 rfl
theorem q1512 : (Jvm.Cond.instanceMethod ({ cls := "FirstdanceAgency", name := "prices", desc := "(Ljava/util/List;I)I" } : Jvm.MethodName)) ∈ lw_all := lw_g (lw_at lw_m6 213 rfl) rfl
theorem q1513 : (Jvm.Cond.code ({ cls := "FirstdanceAgency", name := "prices", desc := "(Ljava/util/List;I)I" } : Jvm.MethodName) prog_1_method_73_code (6 : Nat) (Option.some Jvm.ClassFile.FieldType.int)) ∈ lw_all := lw_g (lw_at lw_m6 214 rfl) rfl
theorem q1518 : (Jvm.Cond.instanceMethod ({ cls := "FirstdanceAgency", name := "wouldCancel", desc := "(I)I" } : Jvm.MethodName)) ∈ lw_all := lw_g (lw_at lw_m6 219 rfl) rfl
theorem q1519 : (Jvm.Cond.selects "FirstdanceAgency" ({ cls := "FirstdanceAgency", name := "wouldCancel", desc := "(I)I" } : Jvm.MethodName) ({ cls := "FirstdanceAgency", name := "wouldCancel", desc := "(I)I" } : Jvm.MethodName)) ∈ lw_all := lw_g (lw_at lw_m6 220 rfl) rfl
theorem q1520 : (Jvm.Cond.code ({ cls := "FirstdanceAgency", name := "wouldCancel", desc := "(I)I" } : Jvm.MethodName) prog_1_method_75_code (5 : Nat) (Option.some Jvm.ClassFile.FieldType.int)) ∈ lw_all := lw_g (lw_at lw_m6 221 rfl) rfl
theorem q1525 : (Jvm.Cond.instanceMethod ({ cls := "FirstdanceAgency", name := "key", desc := "(I)I" } : Jvm.MethodName)) ∈ lw_all := lw_g (lw_at lw_m6 226 rfl) rfl
theorem q1526 : (Jvm.Cond.selects "FirstdanceAgency" ({ cls := "FirstdanceAgency", name := "key", desc := "(I)I" } : Jvm.MethodName) ({ cls := "FirstdanceAgency", name := "key", desc := "(I)I" } : Jvm.MethodName)) ∈ lw_all := lw_g (lw_at lw_m6 227 rfl) rfl
theorem q1527 : (Jvm.Cond.code ({ cls := "FirstdanceAgency", name := "key", desc := "(I)I" } : Jvm.MethodName) prog_1_method_76_code (5 : Nat) (Option.some Jvm.ClassFile.FieldType.int)) ∈ lw_all := lw_g (lw_at lw_m6 228 rfl) rfl
theorem q2086 : (Jvm.Cond.castable "FirstdanceAgency" "java/lang/Object") ∈ lw_tbl := lw_at lw_m9 67 rfl
theorem in_X1 : ∀ w ∈ wsX10, w ∈ lw_all := lw_in wsX10 [309, 311, 313, 315, 317, 319] (by decide +kernel) (by decide +kernel)

/-! FirstdanceAgency$Wedding -/
set_option maxRecDepth 100000
def RX10 : String := "FirstdanceAgency$Wedding"
def TX10 : u_T := fun k => match k with
  | 0 => ("FirstdanceAgency$Wedding", "band", "I", true)
  | 1 => ("FirstdanceAgency$Wedding", "day", "I", true)
  | 2 => ("FirstdanceAgency$Wedding", "town", "I", true)
  | 3 => ("FirstdanceAgency$Wedding", "start", "I", true)
  | 4 => ("FirstdanceAgency$Wedding", "length", "I", true)
  | 5 => ("FirstdanceAgency$Wedding", "songs", "I", true)
  | 6 => ("FirstdanceAgency$Wedding", "told", "I", true)
  | 7 => ("FirstdanceAgency$Wedding", "state", "LFirstdanceAgency$State;", false)
  | 8 => ("FirstdanceAgency$Wedding", "players", "I", false)
  | 9 => ("FirstdanceAgency$Wedding", "price", "I", false)
  | 10 => ("FirstdanceAgency$Wedding", "paid", "I", false)
  | _ => ("FirstdanceAgency$Wedding", "late", "I", false)
def tyX10 : Nat → FieldType := fun k => match k with
  | 0 => .int
  | 1 => .int
  | 2 => .int
  | 3 => .int
  | 4 => .int
  | 5 => .int
  | 6 => .int
  | 7 => .object "FirstdanceAgency$State"
  | 8 => .int
  | 9 => .int
  | 10 => .int
  | _ => .int
abbrev wsX100 : List Cond := u_ws RX10 TX10 12
theorem nmX10 : ∀ a, a < 12 → ∀ b, b < 12 → a ≠ b → (TX10 a).2.1 ≠ (TX10 b).2.1 := by decide +kernel
theorem tyX10_ok : ∀ k, k < 12 → parseFieldDescriptor (TX10 k).2.2.1 = some (tyX10 k) := by decide +kernel
abbrev cX10_is : ByteArray := prog_10_method_3_code
def yX10_is : MethodName := ⟨RX10, "is", "(LFirstdanceAgency$State;)Z"⟩
def dkwX10_is_0 : List UInt8 := [42, 180, 0, 15, 43, 166, 0, 7, 4, 167, 0, 4, 3, 172]
abbrev dktX10_is_0 : List UInt8 := dkwX10_is_0 ++ []
theorem dksX10_is_0 : cX10_is.data.toList.drop 0 = dktX10_is_0 := by decide +kernel
theorem dX10_is_0 : decode cX10_is 0 = .ok (.aload_n 0, 1) := dk_42 (dk_at dksX10_is_0 0 rfl rfl)
theorem dX10_is_1 : decode cX10_is 1 = .ok (.getfield 15, 3) := dk_180 0 15 (dk_at dksX10_is_0 1 rfl rfl)
theorem dX10_is_4 : decode cX10_is 4 = .ok (.aload_n 1, 1) := dk_43 (dk_at dksX10_is_0 4 rfl rfl)
theorem dX10_is_5 : decode cX10_is 5 = .ok (.if_acmp .ne 7, 3) := dk_166 0 7 (dk_at dksX10_is_0 5 rfl rfl)
theorem dX10_is_8 : decode cX10_is 8 = .ok (.iconst 1, 1) := dk_4 (dk_at dksX10_is_0 8 rfl rfl)
theorem dX10_is_9 : decode cX10_is 9 = .ok (.goto 4, 3) := dk_167 0 4 (dk_at dksX10_is_0 9 rfl rfl)
theorem dX10_is_12 : decode cX10_is 12 = .ok (.iconst 0, 1) := dk_3 (dk_at dksX10_is_0 12 rfl rfl)
theorem dX10_is_13 : decode cX10_is 13 = .ok (.ireturn, 1) := dk_172 (dk_at dksX10_is_0 13 rfl rfl)
abbrev cX10_isQueued : ByteArray := prog_10_method_6_code
def yX10_isQueued : MethodName := ⟨RX10, "isQueued", "(II)Z"⟩
def dkwX10_isQueued_1 : List UInt8 := [160, 0, 7, 4, 167, 0, 4, 3, 172]
abbrev dktX10_isQueued_1 : List UInt8 := dkwX10_isQueued_1 ++ []
def dkwX10_isQueued_0 : List UInt8 := [42, 178, 0, 9, 182, 0, 67, 153, 0, 23, 42, 180, 0, 20, 27, 160, 0, 15, 42, 180, 0, 24, 28]
abbrev dktX10_isQueued_0 : List UInt8 := dkwX10_isQueued_0 ++ dktX10_isQueued_1
theorem dksX10_isQueued_0 : cX10_isQueued.data.toList.drop 0 = dktX10_isQueued_0 := by decide +kernel
theorem dksX10_isQueued_1 : cX10_isQueued.data.toList.drop 23 = dktX10_isQueued_1 := dk_seg dksX10_isQueued_0 23 rfl rfl
theorem dX10_isQueued_0 : decode cX10_isQueued 0 = .ok (.aload_n 0, 1) := dk_42 (dk_at dksX10_isQueued_0 0 rfl rfl)
theorem dX10_isQueued_1 : decode cX10_isQueued 1 = .ok (.getstatic 9, 3) := dk_178 0 9 (dk_at dksX10_isQueued_0 1 rfl rfl)
theorem dX10_isQueued_4 : decode cX10_isQueued 4 = .ok (.invokevirtual 67, 3) := dk_182 0 67 (dk_at dksX10_isQueued_0 4 rfl rfl)
theorem dX10_isQueued_7 : decode cX10_isQueued 7 = .ok (.ifCond .eq 23, 3) := dk_153 0 23 (dk_at dksX10_isQueued_0 7 rfl rfl)
theorem dX10_isQueued_10 : decode cX10_isQueued 10 = .ok (.aload_n 0, 1) := dk_42 (dk_at dksX10_isQueued_0 10 rfl rfl)
theorem dX10_isQueued_11 : decode cX10_isQueued 11 = .ok (.getfield 20, 3) := dk_180 0 20 (dk_at dksX10_isQueued_0 11 rfl rfl)
theorem dX10_isQueued_14 : decode cX10_isQueued 14 = .ok (.iload_n 1, 1) := dk_27 (dk_at dksX10_isQueued_0 14 rfl rfl)
theorem dX10_isQueued_15 : decode cX10_isQueued 15 = .ok (.if_icmp .ne 15, 3) := dk_160 0 15 (dk_at dksX10_isQueued_0 15 rfl rfl)
theorem dX10_isQueued_18 : decode cX10_isQueued 18 = .ok (.aload_n 0, 1) := dk_42 (dk_at dksX10_isQueued_0 18 rfl rfl)
theorem dX10_isQueued_19 : decode cX10_isQueued 19 = .ok (.getfield 24, 3) := dk_180 0 24 (dk_at dksX10_isQueued_0 19 rfl rfl)
theorem dX10_isQueued_22 : decode cX10_isQueued 22 = .ok (.iload_n 2, 1) := dk_28 (dk_at dksX10_isQueued_0 22 rfl rfl)
theorem dX10_isQueued_23 : decode cX10_isQueued 23 = .ok (.if_icmp .ne 7, 3) := dk_160 0 7 (dk_at dksX10_isQueued_1 0 rfl rfl)
theorem dX10_isQueued_26 : decode cX10_isQueued 26 = .ok (.iconst 1, 1) := dk_4 (dk_at dksX10_isQueued_1 3 rfl rfl)
theorem dX10_isQueued_27 : decode cX10_isQueued 27 = .ok (.goto 4, 3) := dk_167 0 4 (dk_at dksX10_isQueued_1 4 rfl rfl)
theorem dX10_isQueued_30 : decode cX10_isQueued 30 = .ok (.iconst 0, 1) := dk_3 (dk_at dksX10_isQueued_1 7 rfl rfl)
theorem dX10_isQueued_31 : decode cX10_isQueued 31 = .ok (.ireturn, 1) := dk_172 (dk_at dksX10_isQueued_1 8 rfl rfl)
abbrev cX10_quarters : ByteArray := prog_10_method_5_code
def yX10_quarters : MethodName := ⟨RX10, "quarters", "()I"⟩
def dkwX10_quarters_1 : List UInt8 := [108, 172]
abbrev dktX10_quarters_1 : List UInt8 := dkwX10_quarters_1 ++ []
def dkwX10_quarters_0 : List UInt8 := [42, 180, 0, 54, 16, 60, 16, 24, 42, 182, 0, 57, 100, 104, 184, 0, 61, 60, 27, 16, 14, 96, 16, 15]
abbrev dktX10_quarters_0 : List UInt8 := dkwX10_quarters_0 ++ dktX10_quarters_1
theorem dksX10_quarters_0 : cX10_quarters.data.toList.drop 0 = dktX10_quarters_0 := by decide +kernel
theorem dksX10_quarters_1 : cX10_quarters.data.toList.drop 24 = dktX10_quarters_1 := dk_seg dksX10_quarters_0 24 rfl rfl
theorem dX10_quarters_0 : decode cX10_quarters 0 = .ok (.aload_n 0, 1) := dk_42 (dk_at dksX10_quarters_0 0 rfl rfl)
theorem dX10_quarters_1 : decode cX10_quarters 1 = .ok (.getfield 54, 3) := dk_180 0 54 (dk_at dksX10_quarters_0 1 rfl rfl)
theorem dX10_quarters_4 : decode cX10_quarters 4 = .ok (.bipush 60, 2) := dk_16 60 (dk_at dksX10_quarters_0 4 rfl rfl)
theorem dX10_quarters_6 : decode cX10_quarters 6 = .ok (.bipush 24, 2) := dk_16 24 (dk_at dksX10_quarters_0 6 rfl rfl)
theorem dX10_quarters_8 : decode cX10_quarters 8 = .ok (.aload_n 0, 1) := dk_42 (dk_at dksX10_quarters_0 8 rfl rfl)
theorem dX10_quarters_9 : decode cX10_quarters 9 = .ok (.invokevirtual 57, 3) := dk_182 0 57 (dk_at dksX10_quarters_0 9 rfl rfl)
theorem dX10_quarters_12 : decode cX10_quarters 12 = .ok (.isub, 1) := dk_100 (dk_at dksX10_quarters_0 12 rfl rfl)
theorem dX10_quarters_13 : decode cX10_quarters 13 = .ok (.imul, 1) := dk_104 (dk_at dksX10_quarters_0 13 rfl rfl)
theorem dX10_quarters_14 : decode cX10_quarters 14 = .ok (.invokestatic 61, 3) := dk_184 0 61 (dk_at dksX10_quarters_0 14 rfl rfl)
theorem dX10_quarters_17 : decode cX10_quarters 17 = .ok (.istore_n 1, 1) := dk_60 (dk_at dksX10_quarters_0 17 rfl rfl)
theorem dX10_quarters_18 : decode cX10_quarters 18 = .ok (.iload_n 1, 1) := dk_27 (dk_at dksX10_quarters_0 18 rfl rfl)
theorem dX10_quarters_19 : decode cX10_quarters 19 = .ok (.bipush 14, 2) := dk_16 14 (dk_at dksX10_quarters_0 19 rfl rfl)
theorem dX10_quarters_21 : decode cX10_quarters 21 = .ok (.iadd, 1) := dk_96 (dk_at dksX10_quarters_0 21 rfl rfl)
theorem dX10_quarters_22 : decode cX10_quarters 22 = .ok (.bipush 15, 2) := dk_16 15 (dk_at dksX10_quarters_0 22 rfl rfl)
theorem dX10_quarters_24 : decode cX10_quarters 24 = .ok (.idiv, 1) := dk_108 (dk_at dksX10_quarters_1 0 rfl rfl)
theorem dX10_quarters_25 : decode cX10_quarters 25 = .ok (.ireturn, 1) := dk_172 (dk_at dksX10_quarters_1 1 rfl rfl)
abbrev cX10_end : ByteArray := prog_10_method_4_code
def yX10_end : MethodName := ⟨RX10, "end", "()I"⟩
def dkwX10_end_0 : List UInt8 := [42, 180, 0, 30, 42, 180, 0, 33, 96, 172]
abbrev dktX10_end_0 : List UInt8 := dkwX10_end_0 ++ []
theorem dksX10_end_0 : cX10_end.data.toList.drop 0 = dktX10_end_0 := by decide +kernel
theorem dX10_end_0 : decode cX10_end 0 = .ok (.aload_n 0, 1) := dk_42 (dk_at dksX10_end_0 0 rfl rfl)
theorem dX10_end_1 : decode cX10_end 1 = .ok (.getfield 30, 3) := dk_180 0 30 (dk_at dksX10_end_0 1 rfl rfl)
theorem dX10_end_4 : decode cX10_end 4 = .ok (.aload_n 0, 1) := dk_42 (dk_at dksX10_end_0 4 rfl rfl)
theorem dX10_end_5 : decode cX10_end 5 = .ok (.getfield 33, 3) := dk_180 0 33 (dk_at dksX10_end_0 5 rfl rfl)
theorem dX10_end_8 : decode cX10_end 8 = .ok (.iadd, 1) := dk_96 (dk_at dksX10_end_0 8 rfl rfl)
theorem dX10_end_9 : decode cX10_end 9 = .ok (.ireturn, 1) := dk_172 (dk_at dksX10_end_0 9 rfl rfl)
abbrev cX10_init : ByteArray := prog_10_method_1_code
def yX10_init : MethodName := ⟨RX10, "<init>", "(IIIIIII)V"⟩
def dkwX10_init_2 : List UInt8 := [181, 0, 39, 177]
abbrev dktX10_init_2 : List UInt8 := dkwX10_init_2 ++ []
def dkwX10_init_1 : List UInt8 := [181, 0, 27, 42, 21, 4, 181, 0, 30, 42, 21, 5, 181, 0, 33, 42, 21, 6, 181, 0, 36, 42, 21, 7]
abbrev dktX10_init_1 : List UInt8 := dkwX10_init_1 ++ dktX10_init_2
def dkwX10_init_0 : List UInt8 := [42, 183, 0, 3, 42, 178, 0, 9, 181, 0, 15, 42, 27, 181, 0, 20, 42, 28, 181, 0, 24, 42, 29]
abbrev dktX10_init_0 : List UInt8 := dkwX10_init_0 ++ dktX10_init_1
theorem dksX10_init_0 : cX10_init.data.toList.drop 0 = dktX10_init_0 := by decide +kernel
theorem dksX10_init_1 : cX10_init.data.toList.drop 23 = dktX10_init_1 := dk_seg dksX10_init_0 23 rfl rfl
theorem dksX10_init_2 : cX10_init.data.toList.drop 47 = dktX10_init_2 := dk_seg dksX10_init_1 24 rfl rfl
theorem dX10_init_0 : decode cX10_init 0 = .ok (.aload_n 0, 1) := dk_42 (dk_at dksX10_init_0 0 rfl rfl)
theorem dX10_init_1 : decode cX10_init 1 = .ok (.invokespecial 3, 3) := dk_183 0 3 (dk_at dksX10_init_0 1 rfl rfl)
theorem dX10_init_4 : decode cX10_init 4 = .ok (.aload_n 0, 1) := dk_42 (dk_at dksX10_init_0 4 rfl rfl)
theorem dX10_init_5 : decode cX10_init 5 = .ok (.getstatic 9, 3) := dk_178 0 9 (dk_at dksX10_init_0 5 rfl rfl)
theorem dX10_init_8 : decode cX10_init 8 = .ok (.putfield 15, 3) := dk_181 0 15 (dk_at dksX10_init_0 8 rfl rfl)
theorem dX10_init_11 : decode cX10_init 11 = .ok (.aload_n 0, 1) := dk_42 (dk_at dksX10_init_0 11 rfl rfl)
theorem dX10_init_12 : decode cX10_init 12 = .ok (.iload_n 1, 1) := dk_27 (dk_at dksX10_init_0 12 rfl rfl)
theorem dX10_init_13 : decode cX10_init 13 = .ok (.putfield 20, 3) := dk_181 0 20 (dk_at dksX10_init_0 13 rfl rfl)
theorem dX10_init_16 : decode cX10_init 16 = .ok (.aload_n 0, 1) := dk_42 (dk_at dksX10_init_0 16 rfl rfl)
theorem dX10_init_17 : decode cX10_init 17 = .ok (.iload_n 2, 1) := dk_28 (dk_at dksX10_init_0 17 rfl rfl)
theorem dX10_init_18 : decode cX10_init 18 = .ok (.putfield 24, 3) := dk_181 0 24 (dk_at dksX10_init_0 18 rfl rfl)
theorem dX10_init_21 : decode cX10_init 21 = .ok (.aload_n 0, 1) := dk_42 (dk_at dksX10_init_0 21 rfl rfl)
theorem dX10_init_22 : decode cX10_init 22 = .ok (.iload_n 3, 1) := dk_29 (dk_at dksX10_init_0 22 rfl rfl)
theorem dX10_init_23 : decode cX10_init 23 = .ok (.putfield 27, 3) := dk_181 0 27 (dk_at dksX10_init_1 0 rfl rfl)
theorem dX10_init_26 : decode cX10_init 26 = .ok (.aload_n 0, 1) := dk_42 (dk_at dksX10_init_1 3 rfl rfl)
theorem dX10_init_27 : decode cX10_init 27 = .ok (.iload 4, 2) := dk_21 4 (dk_at dksX10_init_1 4 rfl rfl)
theorem dX10_init_29 : decode cX10_init 29 = .ok (.putfield 30, 3) := dk_181 0 30 (dk_at dksX10_init_1 6 rfl rfl)
theorem dX10_init_32 : decode cX10_init 32 = .ok (.aload_n 0, 1) := dk_42 (dk_at dksX10_init_1 9 rfl rfl)
theorem dX10_init_33 : decode cX10_init 33 = .ok (.iload 5, 2) := dk_21 5 (dk_at dksX10_init_1 10 rfl rfl)
theorem dX10_init_35 : decode cX10_init 35 = .ok (.putfield 33, 3) := dk_181 0 33 (dk_at dksX10_init_1 12 rfl rfl)
theorem dX10_init_38 : decode cX10_init 38 = .ok (.aload_n 0, 1) := dk_42 (dk_at dksX10_init_1 15 rfl rfl)
theorem dX10_init_39 : decode cX10_init 39 = .ok (.iload 6, 2) := dk_21 6 (dk_at dksX10_init_1 16 rfl rfl)
theorem dX10_init_41 : decode cX10_init 41 = .ok (.putfield 36, 3) := dk_181 0 36 (dk_at dksX10_init_1 18 rfl rfl)
theorem dX10_init_44 : decode cX10_init 44 = .ok (.aload_n 0, 1) := dk_42 (dk_at dksX10_init_1 21 rfl rfl)
theorem dX10_init_45 : decode cX10_init 45 = .ok (.iload 7, 2) := dk_21 7 (dk_at dksX10_init_1 22 rfl rfl)
theorem dX10_init_47 : decode cX10_init 47 = .ok (.putfield 39, 3) := dk_181 0 39 (dk_at dksX10_init_2 0 rfl rfl)
theorem dX10_init_50 : decode cX10_init 50 = .ok (.return_, 1) := dk_177 (dk_at dksX10_init_2 3 rfl rfl)
abbrev cX10_copy : ByteArray := prog_10_method_2_code
def yX10_copy : MethodName := ⟨RX10, "copy", "()LFirstdanceAgency$Wedding;"⟩
def dkwX10_copy_3 : List UInt8 := [180, 0, 54, 181, 0, 54, 43, 176]
abbrev dktX10_copy_3 : List UInt8 := dkwX10_copy_3 ++ []
def dkwX10_copy_2 : List UInt8 := [180, 0, 45, 181, 0, 45, 43, 42, 180, 0, 48, 181, 0, 48, 43, 42, 180, 0, 51, 181, 0, 51, 43, 42]
abbrev dktX10_copy_2 : List UInt8 := dkwX10_copy_2 ++ dktX10_copy_3
def dkwX10_copy_1 : List UInt8 := [42, 180, 0, 36, 42, 180, 0, 39, 183, 0, 42, 76, 43, 42, 180, 0, 15, 181, 0, 15, 43, 42]
abbrev dktX10_copy_1 : List UInt8 := dkwX10_copy_1 ++ dktX10_copy_2
def dkwX10_copy_0 : List UInt8 := [187, 0, 16, 89, 42, 180, 0, 20, 42, 180, 0, 24, 42, 180, 0, 27, 42, 180, 0, 30, 42, 180, 0, 33]
abbrev dktX10_copy_0 : List UInt8 := dkwX10_copy_0 ++ dktX10_copy_1
theorem dksX10_copy_0 : cX10_copy.data.toList.drop 0 = dktX10_copy_0 := by decide +kernel
theorem dksX10_copy_1 : cX10_copy.data.toList.drop 24 = dktX10_copy_1 := dk_seg dksX10_copy_0 24 rfl rfl
theorem dksX10_copy_2 : cX10_copy.data.toList.drop 46 = dktX10_copy_2 := dk_seg dksX10_copy_1 22 rfl rfl
theorem dksX10_copy_3 : cX10_copy.data.toList.drop 70 = dktX10_copy_3 := dk_seg dksX10_copy_2 24 rfl rfl
theorem dX10_copy_0 : decode cX10_copy 0 = .ok (.new 16, 3) := dk_187 0 16 (dk_at dksX10_copy_0 0 rfl rfl)
theorem dX10_copy_3 : decode cX10_copy 3 = .ok (.dup, 1) := dk_89 (dk_at dksX10_copy_0 3 rfl rfl)
theorem dX10_copy_4 : decode cX10_copy 4 = .ok (.aload_n 0, 1) := dk_42 (dk_at dksX10_copy_0 4 rfl rfl)
theorem dX10_copy_5 : decode cX10_copy 5 = .ok (.getfield 20, 3) := dk_180 0 20 (dk_at dksX10_copy_0 5 rfl rfl)
theorem dX10_copy_8 : decode cX10_copy 8 = .ok (.aload_n 0, 1) := dk_42 (dk_at dksX10_copy_0 8 rfl rfl)
theorem dX10_copy_9 : decode cX10_copy 9 = .ok (.getfield 24, 3) := dk_180 0 24 (dk_at dksX10_copy_0 9 rfl rfl)
theorem dX10_copy_12 : decode cX10_copy 12 = .ok (.aload_n 0, 1) := dk_42 (dk_at dksX10_copy_0 12 rfl rfl)
theorem dX10_copy_13 : decode cX10_copy 13 = .ok (.getfield 27, 3) := dk_180 0 27 (dk_at dksX10_copy_0 13 rfl rfl)
theorem dX10_copy_16 : decode cX10_copy 16 = .ok (.aload_n 0, 1) := dk_42 (dk_at dksX10_copy_0 16 rfl rfl)
theorem dX10_copy_17 : decode cX10_copy 17 = .ok (.getfield 30, 3) := dk_180 0 30 (dk_at dksX10_copy_0 17 rfl rfl)
theorem dX10_copy_20 : decode cX10_copy 20 = .ok (.aload_n 0, 1) := dk_42 (dk_at dksX10_copy_0 20 rfl rfl)
theorem dX10_copy_21 : decode cX10_copy 21 = .ok (.getfield 33, 3) := dk_180 0 33 (dk_at dksX10_copy_0 21 rfl rfl)
theorem dX10_copy_24 : decode cX10_copy 24 = .ok (.aload_n 0, 1) := dk_42 (dk_at dksX10_copy_1 0 rfl rfl)
theorem dX10_copy_25 : decode cX10_copy 25 = .ok (.getfield 36, 3) := dk_180 0 36 (dk_at dksX10_copy_1 1 rfl rfl)
theorem dX10_copy_28 : decode cX10_copy 28 = .ok (.aload_n 0, 1) := dk_42 (dk_at dksX10_copy_1 4 rfl rfl)
theorem dX10_copy_29 : decode cX10_copy 29 = .ok (.getfield 39, 3) := dk_180 0 39 (dk_at dksX10_copy_1 5 rfl rfl)
theorem dX10_copy_32 : decode cX10_copy 32 = .ok (.invokespecial 42, 3) := dk_183 0 42 (dk_at dksX10_copy_1 8 rfl rfl)
theorem dX10_copy_35 : decode cX10_copy 35 = .ok (.astore_n 1, 1) := dk_76 (dk_at dksX10_copy_1 11 rfl rfl)
theorem dX10_copy_36 : decode cX10_copy 36 = .ok (.aload_n 1, 1) := dk_43 (dk_at dksX10_copy_1 12 rfl rfl)
theorem dX10_copy_37 : decode cX10_copy 37 = .ok (.aload_n 0, 1) := dk_42 (dk_at dksX10_copy_1 13 rfl rfl)
theorem dX10_copy_38 : decode cX10_copy 38 = .ok (.getfield 15, 3) := dk_180 0 15 (dk_at dksX10_copy_1 14 rfl rfl)
theorem dX10_copy_41 : decode cX10_copy 41 = .ok (.putfield 15, 3) := dk_181 0 15 (dk_at dksX10_copy_1 17 rfl rfl)
theorem dX10_copy_44 : decode cX10_copy 44 = .ok (.aload_n 1, 1) := dk_43 (dk_at dksX10_copy_1 20 rfl rfl)
theorem dX10_copy_45 : decode cX10_copy 45 = .ok (.aload_n 0, 1) := dk_42 (dk_at dksX10_copy_1 21 rfl rfl)
theorem dX10_copy_46 : decode cX10_copy 46 = .ok (.getfield 45, 3) := dk_180 0 45 (dk_at dksX10_copy_2 0 rfl rfl)
theorem dX10_copy_49 : decode cX10_copy 49 = .ok (.putfield 45, 3) := dk_181 0 45 (dk_at dksX10_copy_2 3 rfl rfl)
theorem dX10_copy_52 : decode cX10_copy 52 = .ok (.aload_n 1, 1) := dk_43 (dk_at dksX10_copy_2 6 rfl rfl)
theorem dX10_copy_53 : decode cX10_copy 53 = .ok (.aload_n 0, 1) := dk_42 (dk_at dksX10_copy_2 7 rfl rfl)
theorem dX10_copy_54 : decode cX10_copy 54 = .ok (.getfield 48, 3) := dk_180 0 48 (dk_at dksX10_copy_2 8 rfl rfl)
theorem dX10_copy_57 : decode cX10_copy 57 = .ok (.putfield 48, 3) := dk_181 0 48 (dk_at dksX10_copy_2 11 rfl rfl)
theorem dX10_copy_60 : decode cX10_copy 60 = .ok (.aload_n 1, 1) := dk_43 (dk_at dksX10_copy_2 14 rfl rfl)
theorem dX10_copy_61 : decode cX10_copy 61 = .ok (.aload_n 0, 1) := dk_42 (dk_at dksX10_copy_2 15 rfl rfl)
theorem dX10_copy_62 : decode cX10_copy 62 = .ok (.getfield 51, 3) := dk_180 0 51 (dk_at dksX10_copy_2 16 rfl rfl)
theorem dX10_copy_65 : decode cX10_copy 65 = .ok (.putfield 51, 3) := dk_181 0 51 (dk_at dksX10_copy_2 19 rfl rfl)
theorem dX10_copy_68 : decode cX10_copy 68 = .ok (.aload_n 1, 1) := dk_43 (dk_at dksX10_copy_2 22 rfl rfl)
theorem dX10_copy_69 : decode cX10_copy 69 = .ok (.aload_n 0, 1) := dk_42 (dk_at dksX10_copy_2 23 rfl rfl)
theorem dX10_copy_70 : decode cX10_copy 70 = .ok (.getfield 54, 3) := dk_180 0 54 (dk_at dksX10_copy_3 0 rfl rfl)
theorem dX10_copy_73 : decode cX10_copy 73 = .ok (.putfield 54, 3) := dk_181 0 54 (dk_at dksX10_copy_3 3 rfl rfl)
theorem dX10_copy_76 : decode cX10_copy 76 = .ok (.aload_n 1, 1) := dk_43 (dk_at dksX10_copy_3 6 rfl rfl)
theorem dX10_copy_77 : decode cX10_copy 77 = .ok (.areturn, 1) := dk_176 (dk_at dksX10_copy_3 7 rfl rfl)
theorem q130 : (Jvm.Cond.initialized "FirstdanceAgency$Wedding") ∈ lw_all := lw_g (lw_at lw_m1 31 rfl) rfl
theorem q270 : (Jvm.Cond.selects "FirstdanceAgency$Wedding" ({ cls := "java/lang/Object", name := "getClass", desc := "()Ljava/lang/Class;" } : Jvm.MethodName) ({ cls := "java/lang/Object", name := "getClass", desc := "()Ljava/lang/Class;" } : Jvm.MethodName)) ∈ lw_all := lw_g (lw_at lw_m1 171 rfl) rfl
theorem q371 : (Jvm.Cond.instanceMethod ({ cls := "FirstdanceAgency$Wedding", name := "is", desc := "(LFirstdanceAgency$State;)Z" } : Jvm.MethodName)) ∈ lw_all := lw_g (lw_at lw_m2 32 rfl) rfl
theorem q372 : (Jvm.Cond.selects "FirstdanceAgency$Wedding" ({ cls := "FirstdanceAgency$Wedding", name := "is", desc := "(LFirstdanceAgency$State;)Z" } : Jvm.MethodName) ({ cls := "FirstdanceAgency$Wedding", name := "is", desc := "(LFirstdanceAgency$State;)Z" } : Jvm.MethodName)) ∈ lw_all := lw_g (lw_at lw_m2 33 rfl) rfl
theorem q373 : (Jvm.Cond.code ({ cls := "FirstdanceAgency$Wedding", name := "is", desc := "(LFirstdanceAgency$State;)Z" } : Jvm.MethodName) prog_10_method_3_code (2 : Nat) (Option.some Jvm.ClassFile.FieldType.boolean)) ∈ lw_all := lw_g (lw_at lw_m2 34 rfl) rfl
theorem q485 : (Jvm.Cond.instanceMethod ({ cls := "FirstdanceAgency$Wedding", name := "isQueued", desc := "(II)Z" } : Jvm.MethodName)) ∈ lw_all := lw_g (lw_at lw_m2 146 rfl) rfl
theorem q486 : (Jvm.Cond.selects "FirstdanceAgency$Wedding" ({ cls := "FirstdanceAgency$Wedding", name := "isQueued", desc := "(II)Z" } : Jvm.MethodName) ({ cls := "FirstdanceAgency$Wedding", name := "isQueued", desc := "(II)Z" } : Jvm.MethodName)) ∈ lw_all := lw_g (lw_at lw_m2 147 rfl) rfl
theorem q487 : (Jvm.Cond.code ({ cls := "FirstdanceAgency$Wedding", name := "isQueued", desc := "(II)Z" } : Jvm.MethodName) prog_10_method_6_code (3 : Nat) (Option.some Jvm.ClassFile.FieldType.boolean)) ∈ lw_all := lw_g (lw_at lw_m2 148 rfl) rfl
theorem q488 : (Jvm.Cond.fieldLink "FirstdanceAgency$Wedding" (9 : Nat) "FirstdanceAgency$State" "ASKED" "LFirstdanceAgency$State;") ∈ lw_all := lw_g (lw_at lw_m2 149 rfl) rfl
theorem q489 : (Jvm.Cond.methodLink "FirstdanceAgency$Wedding" (67 : Nat) ({ cls := "FirstdanceAgency$Wedding", name := "is", desc := "(LFirstdanceAgency$State;)Z" } : Jvm.MethodName)) ∈ lw_all := lw_g (lw_at lw_m2 150 rfl) rfl
theorem q491 : (Jvm.Cond.instanceMethod ({ cls := "FirstdanceAgency$Wedding", name := "quarters", desc := "()I" } : Jvm.MethodName)) ∈ lw_all := lw_g (lw_at lw_m2 152 rfl) rfl
theorem q492 : (Jvm.Cond.selects "FirstdanceAgency$Wedding" ({ cls := "FirstdanceAgency$Wedding", name := "quarters", desc := "()I" } : Jvm.MethodName) ({ cls := "FirstdanceAgency$Wedding", name := "quarters", desc := "()I" } : Jvm.MethodName)) ∈ lw_all := lw_g (lw_at lw_m2 153 rfl) rfl
theorem q493 : (Jvm.Cond.code ({ cls := "FirstdanceAgency$Wedding", name := "quarters", desc := "()I" } : Jvm.MethodName) prog_10_method_5_code (2 : Nat) (Option.some Jvm.ClassFile.FieldType.int)) ∈ lw_all := lw_g (lw_at lw_m2 154 rfl) rfl
theorem q494 : (Jvm.Cond.methodLink "FirstdanceAgency$Wedding" (57 : Nat) ({ cls := "FirstdanceAgency$Wedding", name := "end", desc := "()I" } : Jvm.MethodName)) ∈ lw_all := lw_g (lw_at lw_m2 155 rfl) rfl
theorem q495 : (Jvm.Cond.instanceMethod ({ cls := "FirstdanceAgency$Wedding", name := "end", desc := "()I" } : Jvm.MethodName)) ∈ lw_all := lw_g (lw_at lw_m2 156 rfl) rfl
theorem q496 : (Jvm.Cond.selects "FirstdanceAgency$Wedding" ({ cls := "FirstdanceAgency$Wedding", name := "end", desc := "()I" } : Jvm.MethodName) ({ cls := "FirstdanceAgency$Wedding", name := "end", desc := "()I" } : Jvm.MethodName)) ∈ lw_all := lw_g (lw_at lw_m2 157 rfl) rfl
theorem q497 : (Jvm.Cond.code ({ cls := "FirstdanceAgency$Wedding", name := "end", desc := "()I" } : Jvm.MethodName) prog_10_method_4_code (1 : Nat) (Option.some Jvm.ClassFile.FieldType.int)) ∈ lw_all := lw_g (lw_at lw_m2 158 rfl) rfl
theorem q498 : (Jvm.Cond.methodLink "FirstdanceAgency$Wedding" (61 : Nat) ({ cls := "java/lang/Math", name := "min", desc := "(II)I" } : Jvm.MethodName)) ∈ lw_all := lw_g (lw_at lw_m2 159 rfl) rfl
theorem q1003 : (Jvm.Cond.instantiable "FirstdanceAgency$Wedding" (12 : Nat)) ∈ lw_all := lw_g (lw_at lw_m4 184 rfl) rfl
theorem q1005 : (Jvm.Cond.instanceMethod ({ cls := "FirstdanceAgency$Wedding", name := "<init>", desc := "(IIIIIII)V" } : Jvm.MethodName)) ∈ lw_all := lw_g (lw_at lw_m4 186 rfl) rfl
theorem q1006 : (Jvm.Cond.code ({ cls := "FirstdanceAgency$Wedding", name := "<init>", desc := "(IIIIIII)V" } : Jvm.MethodName) prog_10_method_1_code (8 : Nat) (Option.none : Option Jvm.ClassFile.FieldType)) ∈ lw_all := lw_g (lw_at lw_m4 187 rfl) rfl
theorem q1007 : (Jvm.Cond.methodLink "FirstdanceAgency$Wedding" (3 : Nat) ({ cls := "java/lang/Object", name := "<init>", desc := "()V" } : Jvm.MethodName)) ∈ lw_all := lw_g (lw_at lw_m4 188 rfl) rfl
theorem q1008 : (Jvm.Cond.fieldLink "FirstdanceAgency$Wedding" (20 : Nat) "FirstdanceAgency$Wedding" "band" "I") ∈ lw_all := lw_g (lw_at lw_m4 189 rfl) rfl
theorem q1011 : (Jvm.Cond.fieldLink "FirstdanceAgency$Wedding" (24 : Nat) "FirstdanceAgency$Wedding" "day" "I") ∈ lw_all := lw_g (lw_at lw_m4 192 rfl) rfl
theorem q1013 : (Jvm.Cond.fieldLink "FirstdanceAgency$Wedding" (27 : Nat) "FirstdanceAgency$Wedding" "town" "I") ∈ lw_all := lw_g (lw_at lw_m4 194 rfl) rfl
theorem q1015 : (Jvm.Cond.fieldLink "FirstdanceAgency$Wedding" (30 : Nat) "FirstdanceAgency$Wedding" "start" "I") ∈ lw_all := lw_g (lw_at lw_m4 196 rfl) rfl
theorem q1017 : (Jvm.Cond.fieldLink "FirstdanceAgency$Wedding" (33 : Nat) "FirstdanceAgency$Wedding" "length" "I") ∈ lw_all := lw_g (lw_at lw_m4 198 rfl) rfl
theorem q1019 : (Jvm.Cond.fieldLink "FirstdanceAgency$Wedding" (36 : Nat) "FirstdanceAgency$Wedding" "songs" "I") ∈ lw_all := lw_g (lw_at lw_m4 200 rfl) rfl
theorem q1022 : (Jvm.Cond.fieldLink "FirstdanceAgency$Wedding" (39 : Nat) "FirstdanceAgency$Wedding" "told" "I") ∈ lw_all := lw_g (lw_at lw_m4 203 rfl) rfl
theorem q1024 : (Jvm.Cond.fieldLink "FirstdanceAgency$Wedding" (15 : Nat) "FirstdanceAgency$Wedding" "state" "LFirstdanceAgency$State;") ∈ lw_all := lw_g (lw_at lw_m4 205 rfl) rfl
theorem q1026 : (Jvm.Cond.fieldLink "FirstdanceAgency$Wedding" (45 : Nat) "FirstdanceAgency$Wedding" "players" "I") ∈ lw_all := lw_g (lw_at lw_m4 207 rfl) rfl
theorem q1028 : (Jvm.Cond.fieldLink "FirstdanceAgency$Wedding" (48 : Nat) "FirstdanceAgency$Wedding" "price" "I") ∈ lw_all := lw_g (lw_at lw_m4 209 rfl) rfl
theorem q1030 : (Jvm.Cond.fieldLink "FirstdanceAgency$Wedding" (51 : Nat) "FirstdanceAgency$Wedding" "paid" "I") ∈ lw_all := lw_g (lw_at lw_m4 211 rfl) rfl
theorem q1032 : (Jvm.Cond.fieldLink "FirstdanceAgency$Wedding" (54 : Nat) "FirstdanceAgency$Wedding" "late" "I") ∈ lw_all := lw_g (lw_at lw_m4 213 rfl) rfl
theorem q1034 : (Jvm.Cond.laysFinal "FirstdanceAgency$Wedding" "FirstdanceAgency$Wedding" "band" "I") ∈ lw_all := lw_g (lw_at lw_m4 215 rfl) rfl
theorem q1035 : (Jvm.Cond.soleField "FirstdanceAgency$Wedding" "band") ∈ lw_all := lw_g (lw_at lw_m4 216 rfl) rfl
theorem q1036 : (Jvm.Cond.laysFinal "FirstdanceAgency$Wedding" "FirstdanceAgency$Wedding" "day" "I") ∈ lw_all := lw_g (lw_at lw_m4 217 rfl) rfl
theorem q1037 : (Jvm.Cond.soleField "FirstdanceAgency$Wedding" "day") ∈ lw_all := lw_g (lw_at lw_m4 218 rfl) rfl
theorem q1038 : (Jvm.Cond.laysFinal "FirstdanceAgency$Wedding" "FirstdanceAgency$Wedding" "town" "I") ∈ lw_all := lw_g (lw_at lw_m4 219 rfl) rfl
theorem q1039 : (Jvm.Cond.soleField "FirstdanceAgency$Wedding" "town") ∈ lw_all := lw_g (lw_at lw_m4 220 rfl) rfl
theorem q1040 : (Jvm.Cond.laysFinal "FirstdanceAgency$Wedding" "FirstdanceAgency$Wedding" "start" "I") ∈ lw_all := lw_g (lw_at lw_m4 221 rfl) rfl
theorem q1041 : (Jvm.Cond.soleField "FirstdanceAgency$Wedding" "start") ∈ lw_all := lw_g (lw_at lw_m4 222 rfl) rfl
theorem q1042 : (Jvm.Cond.laysFinal "FirstdanceAgency$Wedding" "FirstdanceAgency$Wedding" "length" "I") ∈ lw_all := lw_g (lw_at lw_m4 223 rfl) rfl
theorem q1043 : (Jvm.Cond.soleField "FirstdanceAgency$Wedding" "length") ∈ lw_all := lw_g (lw_at lw_m4 224 rfl) rfl
theorem q1044 : (Jvm.Cond.laysFinal "FirstdanceAgency$Wedding" "FirstdanceAgency$Wedding" "songs" "I") ∈ lw_all := lw_g (lw_at lw_m4 225 rfl) rfl
theorem q1045 : (Jvm.Cond.soleField "FirstdanceAgency$Wedding" "songs") ∈ lw_all := lw_g (lw_at lw_m4 226 rfl) rfl
theorem q1046 : (Jvm.Cond.laysFinal "FirstdanceAgency$Wedding" "FirstdanceAgency$Wedding" "told" "I") ∈ lw_all := lw_g (lw_at lw_m4 227 rfl) rfl
theorem q1047 : (Jvm.Cond.soleField "FirstdanceAgency$Wedding" "told") ∈ lw_all := lw_g (lw_at lw_m4 228 rfl) rfl
theorem q1048 : (Jvm.Cond.lays "FirstdanceAgency$Wedding" "FirstdanceAgency$Wedding" "state" "LFirstdanceAgency$State;") ∈ lw_all := lw_g (lw_at lw_m4 229 rfl) rfl
theorem q1049 : (Jvm.Cond.soleField "FirstdanceAgency$Wedding" "state") ∈ lw_all := lw_g (lw_at lw_m4 230 rfl) rfl
theorem q1050 : (Jvm.Cond.lays "FirstdanceAgency$Wedding" "FirstdanceAgency$Wedding" "players" "I") ∈ lw_all := lw_g (lw_at lw_m4 231 rfl) rfl
theorem q1051 : (Jvm.Cond.soleField "FirstdanceAgency$Wedding" "players") ∈ lw_all := lw_g (lw_at lw_m4 232 rfl) rfl
theorem q1052 : (Jvm.Cond.lays "FirstdanceAgency$Wedding" "FirstdanceAgency$Wedding" "price" "I") ∈ lw_all := lw_g (lw_at lw_m4 233 rfl) rfl
theorem q1053 : (Jvm.Cond.soleField "FirstdanceAgency$Wedding" "price") ∈ lw_all := lw_g (lw_at lw_m4 234 rfl) rfl
theorem q1054 : (Jvm.Cond.lays "FirstdanceAgency$Wedding" "FirstdanceAgency$Wedding" "paid" "I") ∈ lw_all := lw_g (lw_at lw_m4 235 rfl) rfl
theorem q1055 : (Jvm.Cond.soleField "FirstdanceAgency$Wedding" "paid") ∈ lw_all := lw_g (lw_at lw_m4 236 rfl) rfl
theorem q1056 : (Jvm.Cond.lays "FirstdanceAgency$Wedding" "FirstdanceAgency$Wedding" "late" "I") ∈ lw_all := lw_g (lw_at lw_m4 237 rfl) rfl
theorem q1057 : (Jvm.Cond.soleField "FirstdanceAgency$Wedding" "late") ∈ lw_all := lw_g (lw_at lw_m4 238 rfl) rfl
theorem q1058 : (Jvm.Cond.superclass "FirstdanceAgency$Wedding" "java/lang/Object") ∈ lw_all := lw_g (lw_at lw_m4 239 rfl) rfl
theorem q1490 : (Jvm.Cond.instanceMethod ({ cls := "FirstdanceAgency$Wedding", name := "copy", desc := "()LFirstdanceAgency$Wedding;" } : Jvm.MethodName)) ∈ lw_all := lw_g (lw_at lw_m6 191 rfl) rfl
theorem q1491 : (Jvm.Cond.selects "FirstdanceAgency$Wedding" ({ cls := "FirstdanceAgency$Wedding", name := "copy", desc := "()LFirstdanceAgency$Wedding;" } : Jvm.MethodName) ({ cls := "FirstdanceAgency$Wedding", name := "copy", desc := "()LFirstdanceAgency$Wedding;" } : Jvm.MethodName)) ∈ lw_all := lw_g (lw_at lw_m6 192 rfl) rfl
theorem q1492 : (Jvm.Cond.code ({ cls := "FirstdanceAgency$Wedding", name := "copy", desc := "()LFirstdanceAgency$Wedding;" } : Jvm.MethodName) prog_10_method_2_code (2 : Nat) (Option.some (Jvm.ClassFile.FieldType.object "FirstdanceAgency$Wedding"))) ∈ lw_all := lw_g (lw_at lw_m6 193 rfl) rfl
theorem q1493 : (Jvm.Cond.classLink "FirstdanceAgency$Wedding" (16 : Nat) "FirstdanceAgency$Wedding") ∈ lw_all := lw_g (lw_at lw_m6 194 rfl) rfl
theorem q1494 : (Jvm.Cond.methodLink "FirstdanceAgency$Wedding" (42 : Nat) ({ cls := "FirstdanceAgency$Wedding", name := "<init>", desc := "(IIIIIII)V" } : Jvm.MethodName)) ∈ lw_all := lw_g (lw_at lw_m6 195 rfl) rfl
theorem q2101 : (Jvm.Cond.castable "FirstdanceAgency$Wedding" "java/lang/Object") ∈ lw_tbl := lw_at lw_m9 82 rfl
theorem in_X10 : ∀ w ∈ wsX100, w ∈ lw_all := lw_in wsX100 [1034, 1036, 1038, 1040, 1042, 1044, 1046, 1048, 1050, 1052, 1054, 1056] (by decide +kernel) (by decide +kernel)

/-! FirstdanceAgency$Fillings -/
set_option maxRecDepth 100000
def RX12 : String := "FirstdanceAgency$Fillings"
def TX12 : u_T := fun k => match k with
  | 0 => ("FirstdanceAgency$Fillings", "its", "LFirstdanceAgency$Wedding;", true)
  | 1 => ("FirstdanceAgency$Fillings", "shape", "LFirstdanceAgency$Shape;", true)
  | 2 => ("FirstdanceAgency$Fillings", "withFeuds", "Z", true)
  | 3 => ("FirstdanceAgency$Fillings", "had", "I", true)
  | 4 => ("FirstdanceAgency$Fillings", "costs", "[I", true)
  | 5 => ("FirstdanceAgency$Fillings", "canBe", "Z", false)
  | 6 => ("FirstdanceAgency$Fillings", "many", "I", false)
  | 7 => ("FirstdanceAgency$Fillings", "best", "I", false)
  | _ => ("FirstdanceAgency$Fillings", "this$0", "LFirstdanceAgency;", true)
def tyX12 : Nat → FieldType := fun k => match k with
  | 0 => .object "FirstdanceAgency$Wedding"
  | 1 => .object "FirstdanceAgency$Shape"
  | 2 => .boolean
  | 3 => .int
  | 4 => .array .int
  | 5 => .boolean
  | 6 => .int
  | 7 => .int
  | _ => .object "FirstdanceAgency"
abbrev wsX120 : List Cond := u_ws RX12 TX12 9
theorem nmX12 : ∀ a, a < 9 → ∀ b, b < 9 → a ≠ b → (TX12 a).2.1 ≠ (TX12 b).2.1 := by decide +kernel
theorem tyX12_ok : ∀ k, k < 9 → parseFieldDescriptor (TX12 k).2.2.1 = some (tyX12 k) := by decide +kernel
abbrev cX12_init : ByteArray := prog_2_method_1_code
def yX12_init : MethodName := ⟨RX12, "<init>", "(LFirstdanceAgency;IIIZ)V"⟩
def dkwX12_init_5 : List UInt8 := [167, 255, 226, 42, 3, 3, 29, 42, 180, 0, 54, 182, 0, 69, 182, 0, 72, 177]
abbrev dktX12_init_5 : List UInt8 := dkwX12_init_5 ++ []
def dkwX12_init_4 : List UInt8 := [190, 162, 0, 26, 42, 180, 0, 25, 21, 6, 43, 21, 6, 42, 180, 0, 42, 182, 0, 65, 79, 132, 6, 1]
abbrev dktX12_init_4 : List UInt8 := dkwX12_init_4 ++ dktX12_init_5
def dkwX12_init_3 : List UInt8 := [181, 0, 54, 42, 21, 4, 181, 0, 58, 42, 21, 5, 181, 0, 61, 3, 54, 6, 21, 6, 42, 180, 0, 25]
abbrev dktX12_init_3 : List UInt8 := dkwX12_init_3 ++ dktX12_init_4
def dkwX12_init_2 : List UInt8 := [181, 0, 42, 42, 43, 180, 0, 46, 42, 180, 0, 42, 180, 0, 49, 185, 0, 36, 2, 0, 192, 0, 52]
abbrev dktX12_init_2 : List UInt8 := dkwX12_init_2 ++ dktX12_init_3
def dkwX12_init_1 : List UInt8 := [181, 0, 25, 42, 2, 181, 0, 29, 42, 43, 180, 0, 33, 28, 185, 0, 36, 2, 0, 192, 0, 40]
abbrev dktX12_init_1 : List UInt8 := dkwX12_init_1 ++ dktX12_init_2
def dkwX12_init_0 : List UInt8 := [42, 43, 181, 0, 3, 42, 183, 0, 9, 42, 42, 180, 0, 3, 180, 0, 15, 185, 0, 19, 1, 0, 188, 10]
abbrev dktX12_init_0 : List UInt8 := dkwX12_init_0 ++ dktX12_init_1
theorem dksX12_init_0 : cX12_init.data.toList.drop 0 = dktX12_init_0 := by decide +kernel
theorem dksX12_init_1 : cX12_init.data.toList.drop 24 = dktX12_init_1 := dk_seg dksX12_init_0 24 rfl rfl
theorem dksX12_init_2 : cX12_init.data.toList.drop 46 = dktX12_init_2 := dk_seg dksX12_init_1 22 rfl rfl
theorem dksX12_init_3 : cX12_init.data.toList.drop 69 = dktX12_init_3 := dk_seg dksX12_init_2 23 rfl rfl
theorem dksX12_init_4 : cX12_init.data.toList.drop 93 = dktX12_init_4 := dk_seg dksX12_init_3 24 rfl rfl
theorem dksX12_init_5 : cX12_init.data.toList.drop 117 = dktX12_init_5 := dk_seg dksX12_init_4 24 rfl rfl
theorem dX12_init_0 : decode cX12_init 0 = .ok (.aload_n 0, 1) := dk_42 (dk_at dksX12_init_0 0 rfl rfl)
theorem dX12_init_1 : decode cX12_init 1 = .ok (.aload_n 1, 1) := dk_43 (dk_at dksX12_init_0 1 rfl rfl)
theorem dX12_init_2 : decode cX12_init 2 = .ok (.putfield 3, 3) := dk_181 0 3 (dk_at dksX12_init_0 2 rfl rfl)
theorem dX12_init_5 : decode cX12_init 5 = .ok (.aload_n 0, 1) := dk_42 (dk_at dksX12_init_0 5 rfl rfl)
theorem dX12_init_6 : decode cX12_init 6 = .ok (.invokespecial 9, 3) := dk_183 0 9 (dk_at dksX12_init_0 6 rfl rfl)
theorem dX12_init_9 : decode cX12_init 9 = .ok (.aload_n 0, 1) := dk_42 (dk_at dksX12_init_0 9 rfl rfl)
theorem dX12_init_10 : decode cX12_init 10 = .ok (.aload_n 0, 1) := dk_42 (dk_at dksX12_init_0 10 rfl rfl)
theorem dX12_init_11 : decode cX12_init 11 = .ok (.getfield 3, 3) := dk_180 0 3 (dk_at dksX12_init_0 11 rfl rfl)
theorem dX12_init_14 : decode cX12_init 14 = .ok (.getfield 15, 3) := dk_180 0 15 (dk_at dksX12_init_0 14 rfl rfl)
theorem dX12_init_17 : decode cX12_init 17 = .ok (.invokeinterface 19 1, 5) := by decide +kernel
theorem dX12_init_22 : decode cX12_init 22 = .ok (.newarray .int, 2) := dk_188_10 (dk_at dksX12_init_0 22 rfl rfl)
theorem dX12_init_24 : decode cX12_init 24 = .ok (.putfield 25, 3) := dk_181 0 25 (dk_at dksX12_init_1 0 rfl rfl)
theorem dX12_init_27 : decode cX12_init 27 = .ok (.aload_n 0, 1) := dk_42 (dk_at dksX12_init_1 3 rfl rfl)
theorem dX12_init_28 : decode cX12_init 28 = .ok (.iconst (-1), 1) := dk_2 (dk_at dksX12_init_1 4 rfl rfl)
theorem dX12_init_29 : decode cX12_init 29 = .ok (.putfield 29, 3) := dk_181 0 29 (dk_at dksX12_init_1 5 rfl rfl)
theorem dX12_init_32 : decode cX12_init 32 = .ok (.aload_n 0, 1) := dk_42 (dk_at dksX12_init_1 8 rfl rfl)
theorem dX12_init_33 : decode cX12_init 33 = .ok (.aload_n 1, 1) := dk_43 (dk_at dksX12_init_1 9 rfl rfl)
theorem dX12_init_34 : decode cX12_init 34 = .ok (.getfield 33, 3) := dk_180 0 33 (dk_at dksX12_init_1 10 rfl rfl)
theorem dX12_init_37 : decode cX12_init 37 = .ok (.iload_n 2, 1) := dk_28 (dk_at dksX12_init_1 13 rfl rfl)
theorem dX12_init_38 : decode cX12_init 38 = .ok (.invokeinterface 36 2, 5) := by decide +kernel
theorem dX12_init_43 : decode cX12_init 43 = .ok (.checkcast 40, 3) := dk_192 0 40 (dk_at dksX12_init_1 19 rfl rfl)
theorem dX12_init_46 : decode cX12_init 46 = .ok (.putfield 42, 3) := dk_181 0 42 (dk_at dksX12_init_2 0 rfl rfl)
theorem dX12_init_49 : decode cX12_init 49 = .ok (.aload_n 0, 1) := dk_42 (dk_at dksX12_init_2 3 rfl rfl)
theorem dX12_init_50 : decode cX12_init 50 = .ok (.aload_n 1, 1) := dk_43 (dk_at dksX12_init_2 4 rfl rfl)
theorem dX12_init_51 : decode cX12_init 51 = .ok (.getfield 46, 3) := dk_180 0 46 (dk_at dksX12_init_2 5 rfl rfl)
theorem dX12_init_54 : decode cX12_init 54 = .ok (.aload_n 0, 1) := dk_42 (dk_at dksX12_init_2 8 rfl rfl)
theorem dX12_init_55 : decode cX12_init 55 = .ok (.getfield 42, 3) := dk_180 0 42 (dk_at dksX12_init_2 9 rfl rfl)
theorem dX12_init_58 : decode cX12_init 58 = .ok (.getfield 49, 3) := dk_180 0 49 (dk_at dksX12_init_2 12 rfl rfl)
theorem dX12_init_61 : decode cX12_init 61 = .ok (.invokeinterface 36 2, 5) := by decide +kernel
theorem dX12_init_66 : decode cX12_init 66 = .ok (.checkcast 52, 3) := dk_192 0 52 (dk_at dksX12_init_2 20 rfl rfl)
theorem dX12_init_69 : decode cX12_init 69 = .ok (.putfield 54, 3) := dk_181 0 54 (dk_at dksX12_init_3 0 rfl rfl)
theorem dX12_init_72 : decode cX12_init 72 = .ok (.aload_n 0, 1) := dk_42 (dk_at dksX12_init_3 3 rfl rfl)
theorem dX12_init_73 : decode cX12_init 73 = .ok (.iload 4, 2) := dk_21 4 (dk_at dksX12_init_3 4 rfl rfl)
theorem dX12_init_75 : decode cX12_init 75 = .ok (.putfield 58, 3) := dk_181 0 58 (dk_at dksX12_init_3 6 rfl rfl)
theorem dX12_init_78 : decode cX12_init 78 = .ok (.aload_n 0, 1) := dk_42 (dk_at dksX12_init_3 9 rfl rfl)
theorem dX12_init_79 : decode cX12_init 79 = .ok (.iload 5, 2) := dk_21 5 (dk_at dksX12_init_3 10 rfl rfl)
theorem dX12_init_81 : decode cX12_init 81 = .ok (.putfield 61, 3) := dk_181 0 61 (dk_at dksX12_init_3 12 rfl rfl)
theorem dX12_init_84 : decode cX12_init 84 = .ok (.iconst 0, 1) := dk_3 (dk_at dksX12_init_3 15 rfl rfl)
theorem dX12_init_85 : decode cX12_init 85 = .ok (.istore 6, 2) := dk_54 6 (dk_at dksX12_init_3 16 rfl rfl)
theorem dX12_init_87 : decode cX12_init 87 = .ok (.iload 6, 2) := dk_21 6 (dk_at dksX12_init_3 18 rfl rfl)
theorem dX12_init_89 : decode cX12_init 89 = .ok (.aload_n 0, 1) := dk_42 (dk_at dksX12_init_3 20 rfl rfl)
theorem dX12_init_90 : decode cX12_init 90 = .ok (.getfield 25, 3) := dk_180 0 25 (dk_at dksX12_init_3 21 rfl rfl)
theorem dX12_init_93 : decode cX12_init 93 = .ok (.arraylength, 1) := dk_190 (dk_at dksX12_init_4 0 rfl rfl)
theorem dX12_init_94 : decode cX12_init 94 = .ok (.if_icmp .ge 26, 3) := dk_162 0 26 (dk_at dksX12_init_4 1 rfl rfl)
theorem dX12_init_97 : decode cX12_init 97 = .ok (.aload_n 0, 1) := dk_42 (dk_at dksX12_init_4 4 rfl rfl)
theorem dX12_init_98 : decode cX12_init 98 = .ok (.getfield 25, 3) := dk_180 0 25 (dk_at dksX12_init_4 5 rfl rfl)
theorem dX12_init_101 : decode cX12_init 101 = .ok (.iload 6, 2) := dk_21 6 (dk_at dksX12_init_4 8 rfl rfl)
theorem dX12_init_103 : decode cX12_init 103 = .ok (.aload_n 1, 1) := dk_43 (dk_at dksX12_init_4 10 rfl rfl)
theorem dX12_init_104 : decode cX12_init 104 = .ok (.iload 6, 2) := dk_21 6 (dk_at dksX12_init_4 11 rfl rfl)
theorem dX12_init_106 : decode cX12_init 106 = .ok (.aload_n 0, 1) := dk_42 (dk_at dksX12_init_4 13 rfl rfl)
theorem dX12_init_107 : decode cX12_init 107 = .ok (.getfield 42, 3) := dk_180 0 42 (dk_at dksX12_init_4 14 rfl rfl)
theorem dX12_init_110 : decode cX12_init 110 = .ok (.invokevirtual 65, 3) := dk_182 0 65 (dk_at dksX12_init_4 17 rfl rfl)
theorem dX12_init_113 : decode cX12_init 113 = .ok (.iastore, 1) := dk_79 (dk_at dksX12_init_4 20 rfl rfl)
theorem dX12_init_114 : decode cX12_init 114 = .ok (.iinc 6 1, 3) := dk_132 6 1 (dk_at dksX12_init_4 21 rfl rfl)
theorem dX12_init_117 : decode cX12_init 117 = .ok (.goto (-30), 3) := dk_167 255 226 (dk_at dksX12_init_5 0 rfl rfl)
theorem dX12_init_120 : decode cX12_init 120 = .ok (.aload_n 0, 1) := dk_42 (dk_at dksX12_init_5 3 rfl rfl)
theorem dX12_init_121 : decode cX12_init 121 = .ok (.iconst 0, 1) := dk_3 (dk_at dksX12_init_5 4 rfl rfl)
theorem dX12_init_122 : decode cX12_init 122 = .ok (.iconst 0, 1) := dk_3 (dk_at dksX12_init_5 5 rfl rfl)
theorem dX12_init_123 : decode cX12_init 123 = .ok (.iload_n 3, 1) := dk_29 (dk_at dksX12_init_5 6 rfl rfl)
theorem dX12_init_124 : decode cX12_init 124 = .ok (.aload_n 0, 1) := dk_42 (dk_at dksX12_init_5 7 rfl rfl)
theorem dX12_init_125 : decode cX12_init 125 = .ok (.getfield 54, 3) := dk_180 0 54 (dk_at dksX12_init_5 8 rfl rfl)
theorem dX12_init_128 : decode cX12_init 128 = .ok (.invokevirtual 69, 3) := dk_182 0 69 (dk_at dksX12_init_5 11 rfl rfl)
theorem dX12_init_131 : decode cX12_init 131 = .ok (.invokevirtual 72, 3) := dk_182 0 72 (dk_at dksX12_init_5 14 rfl rfl)
theorem dX12_init_134 : decode cX12_init 134 = .ok (.return_, 1) := dk_177 (dk_at dksX12_init_5 17 rfl rfl)
abbrev cX12_choose : ByteArray := prog_2_method_2_code
def yX12_choose : MethodName := ⟨RX12, "choose", "(IIII)V"⟩
def dkwX12_choose_2 : List UInt8 := [21, 5, 120, 128, 29, 21, 4, 4, 100, 182, 0, 72, 132, 5, 1, 167, 255, 208, 177]
abbrev dktX12_choose_2 : List UInt8 := dkwX12_choose_2 ++ []
def dkwX12_choose_1 : List UInt8 := [185, 0, 19, 1, 0, 162, 0, 37, 29, 21, 5, 184, 0, 80, 153, 0, 22, 42, 21, 5, 4, 96, 28, 4]
abbrev dktX12_choose_1 : List UInt8 := dkwX12_choose_1 ++ dktX12_choose_2
def dkwX12_choose_0 : List UInt8 := [21, 4, 154, 0, 9, 42, 28, 182, 0, 76, 177, 27, 54, 5, 21, 5, 42, 180, 0, 3, 180, 0, 15]
abbrev dktX12_choose_0 : List UInt8 := dkwX12_choose_0 ++ dktX12_choose_1
theorem dksX12_choose_0 : cX12_choose.data.toList.drop 0 = dktX12_choose_0 := by decide +kernel
theorem dksX12_choose_1 : cX12_choose.data.toList.drop 23 = dktX12_choose_1 := dk_seg dksX12_choose_0 23 rfl rfl
theorem dksX12_choose_2 : cX12_choose.data.toList.drop 47 = dktX12_choose_2 := dk_seg dksX12_choose_1 24 rfl rfl
theorem dX12_choose_0 : decode cX12_choose 0 = .ok (.iload 4, 2) := dk_21 4 (dk_at dksX12_choose_0 0 rfl rfl)
theorem dX12_choose_2 : decode cX12_choose 2 = .ok (.ifCond .ne 9, 3) := dk_154 0 9 (dk_at dksX12_choose_0 2 rfl rfl)
theorem dX12_choose_5 : decode cX12_choose 5 = .ok (.aload_n 0, 1) := dk_42 (dk_at dksX12_choose_0 5 rfl rfl)
theorem dX12_choose_6 : decode cX12_choose 6 = .ok (.iload_n 2, 1) := dk_28 (dk_at dksX12_choose_0 6 rfl rfl)
theorem dX12_choose_7 : decode cX12_choose 7 = .ok (.invokevirtual 76, 3) := dk_182 0 76 (dk_at dksX12_choose_0 7 rfl rfl)
theorem dX12_choose_10 : decode cX12_choose 10 = .ok (.return_, 1) := dk_177 (dk_at dksX12_choose_0 10 rfl rfl)
theorem dX12_choose_11 : decode cX12_choose 11 = .ok (.iload_n 1, 1) := dk_27 (dk_at dksX12_choose_0 11 rfl rfl)
theorem dX12_choose_12 : decode cX12_choose 12 = .ok (.istore 5, 2) := dk_54 5 (dk_at dksX12_choose_0 12 rfl rfl)
theorem dX12_choose_14 : decode cX12_choose 14 = .ok (.iload 5, 2) := dk_21 5 (dk_at dksX12_choose_0 14 rfl rfl)
theorem dX12_choose_16 : decode cX12_choose 16 = .ok (.aload_n 0, 1) := dk_42 (dk_at dksX12_choose_0 16 rfl rfl)
theorem dX12_choose_17 : decode cX12_choose 17 = .ok (.getfield 3, 3) := dk_180 0 3 (dk_at dksX12_choose_0 17 rfl rfl)
theorem dX12_choose_20 : decode cX12_choose 20 = .ok (.getfield 15, 3) := dk_180 0 15 (dk_at dksX12_choose_0 20 rfl rfl)
theorem dX12_choose_23 : decode cX12_choose 23 = .ok (.invokeinterface 19 1, 5) := by decide +kernel
theorem dX12_choose_28 : decode cX12_choose 28 = .ok (.if_icmp .ge 37, 3) := dk_162 0 37 (dk_at dksX12_choose_1 5 rfl rfl)
theorem dX12_choose_31 : decode cX12_choose 31 = .ok (.iload_n 3, 1) := dk_29 (dk_at dksX12_choose_1 8 rfl rfl)
theorem dX12_choose_32 : decode cX12_choose 32 = .ok (.iload 5, 2) := dk_21 5 (dk_at dksX12_choose_1 9 rfl rfl)
theorem dX12_choose_34 : decode cX12_choose 34 = .ok (.invokestatic 80, 3) := dk_184 0 80 (dk_at dksX12_choose_1 11 rfl rfl)
theorem dX12_choose_37 : decode cX12_choose 37 = .ok (.ifCond .eq 22, 3) := dk_153 0 22 (dk_at dksX12_choose_1 14 rfl rfl)
theorem dX12_choose_40 : decode cX12_choose 40 = .ok (.aload_n 0, 1) := dk_42 (dk_at dksX12_choose_1 17 rfl rfl)
theorem dX12_choose_41 : decode cX12_choose 41 = .ok (.iload 5, 2) := dk_21 5 (dk_at dksX12_choose_1 18 rfl rfl)
theorem dX12_choose_43 : decode cX12_choose 43 = .ok (.iconst 1, 1) := dk_4 (dk_at dksX12_choose_1 20 rfl rfl)
theorem dX12_choose_44 : decode cX12_choose 44 = .ok (.iadd, 1) := dk_96 (dk_at dksX12_choose_1 21 rfl rfl)
theorem dX12_choose_45 : decode cX12_choose 45 = .ok (.iload_n 2, 1) := dk_28 (dk_at dksX12_choose_1 22 rfl rfl)
theorem dX12_choose_46 : decode cX12_choose 46 = .ok (.iconst 1, 1) := dk_4 (dk_at dksX12_choose_1 23 rfl rfl)
theorem dX12_choose_47 : decode cX12_choose 47 = .ok (.iload 5, 2) := dk_21 5 (dk_at dksX12_choose_2 0 rfl rfl)
theorem dX12_choose_49 : decode cX12_choose 49 = .ok (.ishl, 1) := dk_120 (dk_at dksX12_choose_2 2 rfl rfl)
theorem dX12_choose_50 : decode cX12_choose 50 = .ok (.ior, 1) := dk_128 (dk_at dksX12_choose_2 3 rfl rfl)
theorem dX12_choose_51 : decode cX12_choose 51 = .ok (.iload_n 3, 1) := dk_29 (dk_at dksX12_choose_2 4 rfl rfl)
theorem dX12_choose_52 : decode cX12_choose 52 = .ok (.iload 4, 2) := dk_21 4 (dk_at dksX12_choose_2 5 rfl rfl)
theorem dX12_choose_54 : decode cX12_choose 54 = .ok (.iconst 1, 1) := dk_4 (dk_at dksX12_choose_2 7 rfl rfl)
theorem dX12_choose_55 : decode cX12_choose 55 = .ok (.isub, 1) := dk_100 (dk_at dksX12_choose_2 8 rfl rfl)
theorem dX12_choose_56 : decode cX12_choose 56 = .ok (.invokevirtual 72, 3) := dk_182 0 72 (dk_at dksX12_choose_2 9 rfl rfl)
theorem dX12_choose_59 : decode cX12_choose 59 = .ok (.iinc 5 1, 3) := dk_132 5 1 (dk_at dksX12_choose_2 12 rfl rfl)
theorem dX12_choose_62 : decode cX12_choose 62 = .ok (.goto (-48), 3) := dk_167 255 208 (dk_at dksX12_choose_2 15 rfl rfl)
theorem dX12_choose_65 : decode cX12_choose 65 = .ok (.return_, 1) := dk_177 (dk_at dksX12_choose_2 18 rfl rfl)
abbrev cX12_look : ByteArray := prog_2_method_3_code
def yX12_look : MethodName := ⟨RX12, "look", "(I)V"⟩
def dkwX12_look_4 : List UInt8 := [42, 180, 0, 29, 182, 0, 103, 153, 0, 7, 27, 167, 0, 7, 42, 180, 0, 29, 181, 0, 29, 177]
abbrev dktX12_look_4 : List UInt8 := dkwX12_look_4 ++ []
def dkwX12_look_3 : List UInt8 := [153, 0, 45, 42, 89, 180, 0, 101, 4, 96, 181, 0, 101, 42, 42, 180, 0, 29, 2, 159, 0, 15, 42, 27]
abbrev dktX12_look_3 : List UInt8 := dkwX12_look_3 ++ dktX12_look_4
def dkwX12_look_2 : List UInt8 := [167, 0, 4, 3, 61, 28, 153, 0, 63, 42, 180, 0, 61, 153, 0, 14, 42, 180, 0, 3, 27, 182, 0, 97]
abbrev dktX12_look_2 : List UInt8 := dkwX12_look_2 ++ dktX12_look_3
def dkwX12_look_1 : List UInt8 := [42, 180, 0, 42, 180, 0, 90, 42, 180, 0, 3, 27, 182, 0, 93, 2, 130, 126, 154, 0, 7, 4]
abbrev dktX12_look_1 : List UInt8 := dkwX12_look_1 ++ dktX12_look_2
def dkwX12_look_0 : List UInt8 := [42, 180, 0, 54, 42, 180, 0, 3, 180, 0, 15, 27, 182, 0, 84, 154, 0, 4, 177, 42, 4, 181, 0, 88]
abbrev dktX12_look_0 : List UInt8 := dkwX12_look_0 ++ dktX12_look_1
theorem dksX12_look_0 : cX12_look.data.toList.drop 0 = dktX12_look_0 := by decide +kernel
theorem dksX12_look_1 : cX12_look.data.toList.drop 24 = dktX12_look_1 := dk_seg dksX12_look_0 24 rfl rfl
theorem dksX12_look_2 : cX12_look.data.toList.drop 46 = dktX12_look_2 := dk_seg dksX12_look_1 22 rfl rfl
theorem dksX12_look_3 : cX12_look.data.toList.drop 70 = dktX12_look_3 := dk_seg dksX12_look_2 24 rfl rfl
theorem dksX12_look_4 : cX12_look.data.toList.drop 94 = dktX12_look_4 := dk_seg dksX12_look_3 24 rfl rfl
theorem dX12_look_0 : decode cX12_look 0 = .ok (.aload_n 0, 1) := dk_42 (dk_at dksX12_look_0 0 rfl rfl)
theorem dX12_look_1 : decode cX12_look 1 = .ok (.getfield 54, 3) := dk_180 0 54 (dk_at dksX12_look_0 1 rfl rfl)
theorem dX12_look_4 : decode cX12_look 4 = .ok (.aload_n 0, 1) := dk_42 (dk_at dksX12_look_0 4 rfl rfl)
theorem dX12_look_5 : decode cX12_look 5 = .ok (.getfield 3, 3) := dk_180 0 3 (dk_at dksX12_look_0 5 rfl rfl)
theorem dX12_look_8 : decode cX12_look 8 = .ok (.getfield 15, 3) := dk_180 0 15 (dk_at dksX12_look_0 8 rfl rfl)
theorem dX12_look_11 : decode cX12_look 11 = .ok (.iload_n 1, 1) := dk_27 (dk_at dksX12_look_0 11 rfl rfl)
theorem dX12_look_12 : decode cX12_look 12 = .ok (.invokevirtual 84, 3) := dk_182 0 84 (dk_at dksX12_look_0 12 rfl rfl)
theorem dX12_look_15 : decode cX12_look 15 = .ok (.ifCond .ne 4, 3) := dk_154 0 4 (dk_at dksX12_look_0 15 rfl rfl)
theorem dX12_look_18 : decode cX12_look 18 = .ok (.return_, 1) := dk_177 (dk_at dksX12_look_0 18 rfl rfl)
theorem dX12_look_19 : decode cX12_look 19 = .ok (.aload_n 0, 1) := dk_42 (dk_at dksX12_look_0 19 rfl rfl)
theorem dX12_look_20 : decode cX12_look 20 = .ok (.iconst 1, 1) := dk_4 (dk_at dksX12_look_0 20 rfl rfl)
theorem dX12_look_21 : decode cX12_look 21 = .ok (.putfield 88, 3) := dk_181 0 88 (dk_at dksX12_look_0 21 rfl rfl)
theorem dX12_look_24 : decode cX12_look 24 = .ok (.aload_n 0, 1) := dk_42 (dk_at dksX12_look_1 0 rfl rfl)
theorem dX12_look_25 : decode cX12_look 25 = .ok (.getfield 42, 3) := dk_180 0 42 (dk_at dksX12_look_1 1 rfl rfl)
theorem dX12_look_28 : decode cX12_look 28 = .ok (.getfield 90, 3) := dk_180 0 90 (dk_at dksX12_look_1 4 rfl rfl)
theorem dX12_look_31 : decode cX12_look 31 = .ok (.aload_n 0, 1) := dk_42 (dk_at dksX12_look_1 7 rfl rfl)
theorem dX12_look_32 : decode cX12_look 32 = .ok (.getfield 3, 3) := dk_180 0 3 (dk_at dksX12_look_1 8 rfl rfl)
theorem dX12_look_35 : decode cX12_look 35 = .ok (.iload_n 1, 1) := dk_27 (dk_at dksX12_look_1 11 rfl rfl)
theorem dX12_look_36 : decode cX12_look 36 = .ok (.invokevirtual 93, 3) := dk_182 0 93 (dk_at dksX12_look_1 12 rfl rfl)
theorem dX12_look_39 : decode cX12_look 39 = .ok (.iconst (-1), 1) := dk_2 (dk_at dksX12_look_1 15 rfl rfl)
theorem dX12_look_40 : decode cX12_look 40 = .ok (.ixor, 1) := dk_130 (dk_at dksX12_look_1 16 rfl rfl)
theorem dX12_look_41 : decode cX12_look 41 = .ok (.iand, 1) := dk_126 (dk_at dksX12_look_1 17 rfl rfl)
theorem dX12_look_42 : decode cX12_look 42 = .ok (.ifCond .ne 7, 3) := dk_154 0 7 (dk_at dksX12_look_1 18 rfl rfl)
theorem dX12_look_45 : decode cX12_look 45 = .ok (.iconst 1, 1) := dk_4 (dk_at dksX12_look_1 21 rfl rfl)
theorem dX12_look_46 : decode cX12_look 46 = .ok (.goto 4, 3) := dk_167 0 4 (dk_at dksX12_look_2 0 rfl rfl)
theorem dX12_look_49 : decode cX12_look 49 = .ok (.iconst 0, 1) := dk_3 (dk_at dksX12_look_2 3 rfl rfl)
theorem dX12_look_50 : decode cX12_look 50 = .ok (.istore_n 2, 1) := dk_61 (dk_at dksX12_look_2 4 rfl rfl)
theorem dX12_look_51 : decode cX12_look 51 = .ok (.iload_n 2, 1) := dk_28 (dk_at dksX12_look_2 5 rfl rfl)
theorem dX12_look_52 : decode cX12_look 52 = .ok (.ifCond .eq 63, 3) := dk_153 0 63 (dk_at dksX12_look_2 6 rfl rfl)
theorem dX12_look_55 : decode cX12_look 55 = .ok (.aload_n 0, 1) := dk_42 (dk_at dksX12_look_2 9 rfl rfl)
theorem dX12_look_56 : decode cX12_look 56 = .ok (.getfield 61, 3) := dk_180 0 61 (dk_at dksX12_look_2 10 rfl rfl)
theorem dX12_look_59 : decode cX12_look 59 = .ok (.ifCond .eq 14, 3) := dk_153 0 14 (dk_at dksX12_look_2 13 rfl rfl)
theorem dX12_look_62 : decode cX12_look 62 = .ok (.aload_n 0, 1) := dk_42 (dk_at dksX12_look_2 16 rfl rfl)
theorem dX12_look_63 : decode cX12_look 63 = .ok (.getfield 3, 3) := dk_180 0 3 (dk_at dksX12_look_2 17 rfl rfl)
theorem dX12_look_66 : decode cX12_look 66 = .ok (.iload_n 1, 1) := dk_27 (dk_at dksX12_look_2 20 rfl rfl)
theorem dX12_look_67 : decode cX12_look 67 = .ok (.invokevirtual 97, 3) := dk_182 0 97 (dk_at dksX12_look_2 21 rfl rfl)
theorem dX12_look_70 : decode cX12_look 70 = .ok (.ifCond .eq 45, 3) := dk_153 0 45 (dk_at dksX12_look_3 0 rfl rfl)
theorem dX12_look_73 : decode cX12_look 73 = .ok (.aload_n 0, 1) := dk_42 (dk_at dksX12_look_3 3 rfl rfl)
theorem dX12_look_74 : decode cX12_look 74 = .ok (.dup, 1) := dk_89 (dk_at dksX12_look_3 4 rfl rfl)
theorem dX12_look_75 : decode cX12_look 75 = .ok (.getfield 101, 3) := dk_180 0 101 (dk_at dksX12_look_3 5 rfl rfl)
theorem dX12_look_78 : decode cX12_look 78 = .ok (.iconst 1, 1) := dk_4 (dk_at dksX12_look_3 8 rfl rfl)
theorem dX12_look_79 : decode cX12_look 79 = .ok (.iadd, 1) := dk_96 (dk_at dksX12_look_3 9 rfl rfl)
theorem dX12_look_80 : decode cX12_look 80 = .ok (.putfield 101, 3) := dk_181 0 101 (dk_at dksX12_look_3 10 rfl rfl)
theorem dX12_look_83 : decode cX12_look 83 = .ok (.aload_n 0, 1) := dk_42 (dk_at dksX12_look_3 13 rfl rfl)
theorem dX12_look_84 : decode cX12_look 84 = .ok (.aload_n 0, 1) := dk_42 (dk_at dksX12_look_3 14 rfl rfl)
theorem dX12_look_85 : decode cX12_look 85 = .ok (.getfield 29, 3) := dk_180 0 29 (dk_at dksX12_look_3 15 rfl rfl)
theorem dX12_look_88 : decode cX12_look 88 = .ok (.iconst (-1), 1) := dk_2 (dk_at dksX12_look_3 18 rfl rfl)
theorem dX12_look_89 : decode cX12_look 89 = .ok (.if_icmp .eq 15, 3) := dk_159 0 15 (dk_at dksX12_look_3 19 rfl rfl)
theorem dX12_look_92 : decode cX12_look 92 = .ok (.aload_n 0, 1) := dk_42 (dk_at dksX12_look_3 22 rfl rfl)
theorem dX12_look_93 : decode cX12_look 93 = .ok (.iload_n 1, 1) := dk_27 (dk_at dksX12_look_3 23 rfl rfl)
theorem dX12_look_94 : decode cX12_look 94 = .ok (.aload_n 0, 1) := dk_42 (dk_at dksX12_look_4 0 rfl rfl)
theorem dX12_look_95 : decode cX12_look 95 = .ok (.getfield 29, 3) := dk_180 0 29 (dk_at dksX12_look_4 1 rfl rfl)
theorem dX12_look_98 : decode cX12_look 98 = .ok (.invokevirtual 103, 3) := dk_182 0 103 (dk_at dksX12_look_4 4 rfl rfl)
theorem dX12_look_101 : decode cX12_look 101 = .ok (.ifCond .eq 7, 3) := dk_153 0 7 (dk_at dksX12_look_4 7 rfl rfl)
theorem dX12_look_104 : decode cX12_look 104 = .ok (.iload_n 1, 1) := dk_27 (dk_at dksX12_look_4 10 rfl rfl)
theorem dX12_look_105 : decode cX12_look 105 = .ok (.goto 7, 3) := dk_167 0 7 (dk_at dksX12_look_4 11 rfl rfl)
theorem dX12_look_108 : decode cX12_look 108 = .ok (.aload_n 0, 1) := dk_42 (dk_at dksX12_look_4 14 rfl rfl)
theorem dX12_look_109 : decode cX12_look 109 = .ok (.getfield 29, 3) := dk_180 0 29 (dk_at dksX12_look_4 15 rfl rfl)
theorem dX12_look_112 : decode cX12_look 112 = .ok (.putfield 29, 3) := dk_181 0 29 (dk_at dksX12_look_4 18 rfl rfl)
theorem dX12_look_115 : decode cX12_look 115 = .ok (.return_, 1) := dk_177 (dk_at dksX12_look_4 21 rfl rfl)
abbrev cX12_isAhead : ByteArray := prog_2_method_4_code
def yX12_isAhead : MethodName := ⟨RX12, "isAhead", "(II)Z"⟩
def dkwX12_isAhead_2 : List UInt8 := [21, 4, 154, 0, 12, 27, 28, 162, 0, 7, 4, 167, 0, 4, 3, 172]
abbrev dktX12_isAhead_2 : List UInt8 := dkwX12_isAhead_2 ++ []
def dkwX12_isAhead_1 : List UInt8 := [182, 0, 108, 42, 27, 182, 0, 108, 100, 54, 4, 29, 157, 0, 22, 29, 154, 0, 22, 21, 4, 157, 0, 13]
abbrev dktX12_isAhead_1 : List UInt8 := dkwX12_isAhead_1 ++ dktX12_isAhead_2
def dkwX12_isAhead_0 : List UInt8 := [27, 42, 180, 0, 58, 126, 184, 0, 106, 28, 42, 180, 0, 58, 126, 184, 0, 106, 100, 62, 42, 28]
abbrev dktX12_isAhead_0 : List UInt8 := dkwX12_isAhead_0 ++ dktX12_isAhead_1
theorem dksX12_isAhead_0 : cX12_isAhead.data.toList.drop 0 = dktX12_isAhead_0 := by decide +kernel
theorem dksX12_isAhead_1 : cX12_isAhead.data.toList.drop 22 = dktX12_isAhead_1 := dk_seg dksX12_isAhead_0 22 rfl rfl
theorem dksX12_isAhead_2 : cX12_isAhead.data.toList.drop 46 = dktX12_isAhead_2 := dk_seg dksX12_isAhead_1 24 rfl rfl
theorem dX12_isAhead_0 : decode cX12_isAhead 0 = .ok (.iload_n 1, 1) := dk_27 (dk_at dksX12_isAhead_0 0 rfl rfl)
theorem dX12_isAhead_1 : decode cX12_isAhead 1 = .ok (.aload_n 0, 1) := dk_42 (dk_at dksX12_isAhead_0 1 rfl rfl)
theorem dX12_isAhead_2 : decode cX12_isAhead 2 = .ok (.getfield 58, 3) := dk_180 0 58 (dk_at dksX12_isAhead_0 2 rfl rfl)
theorem dX12_isAhead_5 : decode cX12_isAhead 5 = .ok (.iand, 1) := dk_126 (dk_at dksX12_isAhead_0 5 rfl rfl)
theorem dX12_isAhead_6 : decode cX12_isAhead 6 = .ok (.invokestatic 106, 3) := dk_184 0 106 (dk_at dksX12_isAhead_0 6 rfl rfl)
theorem dX12_isAhead_9 : decode cX12_isAhead 9 = .ok (.iload_n 2, 1) := dk_28 (dk_at dksX12_isAhead_0 9 rfl rfl)
theorem dX12_isAhead_10 : decode cX12_isAhead 10 = .ok (.aload_n 0, 1) := dk_42 (dk_at dksX12_isAhead_0 10 rfl rfl)
theorem dX12_isAhead_11 : decode cX12_isAhead 11 = .ok (.getfield 58, 3) := dk_180 0 58 (dk_at dksX12_isAhead_0 11 rfl rfl)
theorem dX12_isAhead_14 : decode cX12_isAhead 14 = .ok (.iand, 1) := dk_126 (dk_at dksX12_isAhead_0 14 rfl rfl)
theorem dX12_isAhead_15 : decode cX12_isAhead 15 = .ok (.invokestatic 106, 3) := dk_184 0 106 (dk_at dksX12_isAhead_0 15 rfl rfl)
theorem dX12_isAhead_18 : decode cX12_isAhead 18 = .ok (.isub, 1) := dk_100 (dk_at dksX12_isAhead_0 18 rfl rfl)
theorem dX12_isAhead_19 : decode cX12_isAhead 19 = .ok (.istore_n 3, 1) := dk_62 (dk_at dksX12_isAhead_0 19 rfl rfl)
theorem dX12_isAhead_20 : decode cX12_isAhead 20 = .ok (.aload_n 0, 1) := dk_42 (dk_at dksX12_isAhead_0 20 rfl rfl)
theorem dX12_isAhead_21 : decode cX12_isAhead 21 = .ok (.iload_n 2, 1) := dk_28 (dk_at dksX12_isAhead_0 21 rfl rfl)
theorem dX12_isAhead_22 : decode cX12_isAhead 22 = .ok (.invokevirtual 108, 3) := dk_182 0 108 (dk_at dksX12_isAhead_1 0 rfl rfl)
theorem dX12_isAhead_25 : decode cX12_isAhead 25 = .ok (.aload_n 0, 1) := dk_42 (dk_at dksX12_isAhead_1 3 rfl rfl)
theorem dX12_isAhead_26 : decode cX12_isAhead 26 = .ok (.iload_n 1, 1) := dk_27 (dk_at dksX12_isAhead_1 4 rfl rfl)
theorem dX12_isAhead_27 : decode cX12_isAhead 27 = .ok (.invokevirtual 108, 3) := dk_182 0 108 (dk_at dksX12_isAhead_1 5 rfl rfl)
theorem dX12_isAhead_30 : decode cX12_isAhead 30 = .ok (.isub, 1) := dk_100 (dk_at dksX12_isAhead_1 8 rfl rfl)
theorem dX12_isAhead_31 : decode cX12_isAhead 31 = .ok (.istore 4, 2) := dk_54 4 (dk_at dksX12_isAhead_1 9 rfl rfl)
theorem dX12_isAhead_33 : decode cX12_isAhead 33 = .ok (.iload_n 3, 1) := dk_29 (dk_at dksX12_isAhead_1 11 rfl rfl)
theorem dX12_isAhead_34 : decode cX12_isAhead 34 = .ok (.ifCond .gt 22, 3) := dk_157 0 22 (dk_at dksX12_isAhead_1 12 rfl rfl)
theorem dX12_isAhead_37 : decode cX12_isAhead 37 = .ok (.iload_n 3, 1) := dk_29 (dk_at dksX12_isAhead_1 15 rfl rfl)
theorem dX12_isAhead_38 : decode cX12_isAhead 38 = .ok (.ifCond .ne 22, 3) := dk_154 0 22 (dk_at dksX12_isAhead_1 16 rfl rfl)
theorem dX12_isAhead_41 : decode cX12_isAhead 41 = .ok (.iload 4, 2) := dk_21 4 (dk_at dksX12_isAhead_1 19 rfl rfl)
theorem dX12_isAhead_43 : decode cX12_isAhead 43 = .ok (.ifCond .gt 13, 3) := dk_157 0 13 (dk_at dksX12_isAhead_1 21 rfl rfl)
theorem dX12_isAhead_46 : decode cX12_isAhead 46 = .ok (.iload 4, 2) := dk_21 4 (dk_at dksX12_isAhead_2 0 rfl rfl)
theorem dX12_isAhead_48 : decode cX12_isAhead 48 = .ok (.ifCond .ne 12, 3) := dk_154 0 12 (dk_at dksX12_isAhead_2 2 rfl rfl)
theorem dX12_isAhead_51 : decode cX12_isAhead 51 = .ok (.iload_n 1, 1) := dk_27 (dk_at dksX12_isAhead_2 5 rfl rfl)
theorem dX12_isAhead_52 : decode cX12_isAhead 52 = .ok (.iload_n 2, 1) := dk_28 (dk_at dksX12_isAhead_2 6 rfl rfl)
theorem dX12_isAhead_53 : decode cX12_isAhead 53 = .ok (.if_icmp .ge 7, 3) := dk_162 0 7 (dk_at dksX12_isAhead_2 7 rfl rfl)
theorem dX12_isAhead_56 : decode cX12_isAhead 56 = .ok (.iconst 1, 1) := dk_4 (dk_at dksX12_isAhead_2 10 rfl rfl)
theorem dX12_isAhead_57 : decode cX12_isAhead 57 = .ok (.goto 4, 3) := dk_167 0 4 (dk_at dksX12_isAhead_2 11 rfl rfl)
theorem dX12_isAhead_60 : decode cX12_isAhead 60 = .ok (.iconst 0, 1) := dk_3 (dk_at dksX12_isAhead_2 14 rfl rfl)
theorem dX12_isAhead_61 : decode cX12_isAhead 61 = .ok (.ireturn, 1) := dk_172 (dk_at dksX12_isAhead_2 15 rfl rfl)
abbrev cX12_costOf : ByteArray := prog_2_method_5_code
def yX12_costOf : MethodName := ⟨RX12, "costOf", "(I)I"⟩
def dkwX12_costOf_1 : List UInt8 := [180, 0, 25, 29, 46, 167, 0, 4, 3, 96, 61, 132, 3, 1, 167, 255, 223, 28, 172]
abbrev dktX12_costOf_1 : List UInt8 := dkwX12_costOf_1 ++ []
def dkwX12_costOf_0 : List UInt8 := [3, 61, 3, 62, 29, 42, 180, 0, 25, 190, 162, 0, 30, 28, 27, 29, 184, 0, 80, 153, 0, 12, 42]
abbrev dktX12_costOf_0 : List UInt8 := dkwX12_costOf_0 ++ dktX12_costOf_1
theorem dksX12_costOf_0 : cX12_costOf.data.toList.drop 0 = dktX12_costOf_0 := by decide +kernel
theorem dksX12_costOf_1 : cX12_costOf.data.toList.drop 23 = dktX12_costOf_1 := dk_seg dksX12_costOf_0 23 rfl rfl
theorem dX12_costOf_0 : decode cX12_costOf 0 = .ok (.iconst 0, 1) := dk_3 (dk_at dksX12_costOf_0 0 rfl rfl)
theorem dX12_costOf_1 : decode cX12_costOf 1 = .ok (.istore_n 2, 1) := dk_61 (dk_at dksX12_costOf_0 1 rfl rfl)
theorem dX12_costOf_2 : decode cX12_costOf 2 = .ok (.iconst 0, 1) := dk_3 (dk_at dksX12_costOf_0 2 rfl rfl)
theorem dX12_costOf_3 : decode cX12_costOf 3 = .ok (.istore_n 3, 1) := dk_62 (dk_at dksX12_costOf_0 3 rfl rfl)
theorem dX12_costOf_4 : decode cX12_costOf 4 = .ok (.iload_n 3, 1) := dk_29 (dk_at dksX12_costOf_0 4 rfl rfl)
theorem dX12_costOf_5 : decode cX12_costOf 5 = .ok (.aload_n 0, 1) := dk_42 (dk_at dksX12_costOf_0 5 rfl rfl)
theorem dX12_costOf_6 : decode cX12_costOf 6 = .ok (.getfield 25, 3) := dk_180 0 25 (dk_at dksX12_costOf_0 6 rfl rfl)
theorem dX12_costOf_9 : decode cX12_costOf 9 = .ok (.arraylength, 1) := dk_190 (dk_at dksX12_costOf_0 9 rfl rfl)
theorem dX12_costOf_10 : decode cX12_costOf 10 = .ok (.if_icmp .ge 30, 3) := dk_162 0 30 (dk_at dksX12_costOf_0 10 rfl rfl)
theorem dX12_costOf_13 : decode cX12_costOf 13 = .ok (.iload_n 2, 1) := dk_28 (dk_at dksX12_costOf_0 13 rfl rfl)
theorem dX12_costOf_14 : decode cX12_costOf 14 = .ok (.iload_n 1, 1) := dk_27 (dk_at dksX12_costOf_0 14 rfl rfl)
theorem dX12_costOf_15 : decode cX12_costOf 15 = .ok (.iload_n 3, 1) := dk_29 (dk_at dksX12_costOf_0 15 rfl rfl)
theorem dX12_costOf_16 : decode cX12_costOf 16 = .ok (.invokestatic 80, 3) := dk_184 0 80 (dk_at dksX12_costOf_0 16 rfl rfl)
theorem dX12_costOf_19 : decode cX12_costOf 19 = .ok (.ifCond .eq 12, 3) := dk_153 0 12 (dk_at dksX12_costOf_0 19 rfl rfl)
theorem dX12_costOf_22 : decode cX12_costOf 22 = .ok (.aload_n 0, 1) := dk_42 (dk_at dksX12_costOf_0 22 rfl rfl)
theorem dX12_costOf_23 : decode cX12_costOf 23 = .ok (.getfield 25, 3) := dk_180 0 25 (dk_at dksX12_costOf_1 0 rfl rfl)
theorem dX12_costOf_26 : decode cX12_costOf 26 = .ok (.iload_n 3, 1) := dk_29 (dk_at dksX12_costOf_1 3 rfl rfl)
theorem dX12_costOf_27 : decode cX12_costOf 27 = .ok (.iaload, 1) := dk_46 (dk_at dksX12_costOf_1 4 rfl rfl)
theorem dX12_costOf_28 : decode cX12_costOf 28 = .ok (.goto 4, 3) := dk_167 0 4 (dk_at dksX12_costOf_1 5 rfl rfl)
theorem dX12_costOf_31 : decode cX12_costOf 31 = .ok (.iconst 0, 1) := dk_3 (dk_at dksX12_costOf_1 8 rfl rfl)
theorem dX12_costOf_32 : decode cX12_costOf 32 = .ok (.iadd, 1) := dk_96 (dk_at dksX12_costOf_1 9 rfl rfl)
theorem dX12_costOf_33 : decode cX12_costOf 33 = .ok (.istore_n 2, 1) := dk_61 (dk_at dksX12_costOf_1 10 rfl rfl)
theorem dX12_costOf_34 : decode cX12_costOf 34 = .ok (.iinc 3 1, 3) := dk_132 3 1 (dk_at dksX12_costOf_1 11 rfl rfl)
theorem dX12_costOf_37 : decode cX12_costOf 37 = .ok (.goto (-33), 3) := dk_167 255 223 (dk_at dksX12_costOf_1 14 rfl rfl)
theorem dX12_costOf_40 : decode cX12_costOf 40 = .ok (.iload_n 2, 1) := dk_28 (dk_at dksX12_costOf_1 17 rfl rfl)
theorem dX12_costOf_41 : decode cX12_costOf 41 = .ok (.ireturn, 1) := dk_172 (dk_at dksX12_costOf_1 18 rfl rfl)
abbrev cX12_cost : ByteArray := prog_2_method_6_code
def yX12_cost : MethodName := ⟨RX12, "cost", "()I"⟩
def dkwX12_cost_0 : List UInt8 := [42, 180, 0, 29, 2, 160, 0, 7, 2, 167, 0, 11, 42, 42, 180, 0, 29, 182, 0, 108, 172]
abbrev dktX12_cost_0 : List UInt8 := dkwX12_cost_0 ++ []
theorem dksX12_cost_0 : cX12_cost.data.toList.drop 0 = dktX12_cost_0 := by decide +kernel
theorem dX12_cost_0 : decode cX12_cost 0 = .ok (.aload_n 0, 1) := dk_42 (dk_at dksX12_cost_0 0 rfl rfl)
theorem dX12_cost_1 : decode cX12_cost 1 = .ok (.getfield 29, 3) := dk_180 0 29 (dk_at dksX12_cost_0 1 rfl rfl)
theorem dX12_cost_4 : decode cX12_cost 4 = .ok (.iconst (-1), 1) := dk_2 (dk_at dksX12_cost_0 4 rfl rfl)
theorem dX12_cost_5 : decode cX12_cost 5 = .ok (.if_icmp .ne 7, 3) := dk_160 0 7 (dk_at dksX12_cost_0 5 rfl rfl)
theorem dX12_cost_8 : decode cX12_cost 8 = .ok (.iconst (-1), 1) := dk_2 (dk_at dksX12_cost_0 8 rfl rfl)
theorem dX12_cost_9 : decode cX12_cost 9 = .ok (.goto 11, 3) := dk_167 0 11 (dk_at dksX12_cost_0 9 rfl rfl)
theorem dX12_cost_12 : decode cX12_cost 12 = .ok (.aload_n 0, 1) := dk_42 (dk_at dksX12_cost_0 12 rfl rfl)
theorem dX12_cost_13 : decode cX12_cost 13 = .ok (.aload_n 0, 1) := dk_42 (dk_at dksX12_cost_0 13 rfl rfl)
theorem dX12_cost_14 : decode cX12_cost 14 = .ok (.getfield 29, 3) := dk_180 0 29 (dk_at dksX12_cost_0 14 rfl rfl)
theorem dX12_cost_17 : decode cX12_cost 17 = .ok (.invokevirtual 108, 3) := dk_182 0 108 (dk_at dksX12_cost_0 17 rfl rfl)
theorem dX12_cost_20 : decode cX12_cost 20 = .ok (.ireturn, 1) := dk_172 (dk_at dksX12_cost_0 20 rfl rfl)
theorem q132 : (Jvm.Cond.initialized "FirstdanceAgency$Fillings") ∈ lw_all := lw_g (lw_at lw_m1 33 rfl) rfl
theorem q262 : (Jvm.Cond.selects "FirstdanceAgency$Fillings" ({ cls := "java/lang/Object", name := "getClass", desc := "()Ljava/lang/Class;" } : Jvm.MethodName) ({ cls := "java/lang/Object", name := "getClass", desc := "()Ljava/lang/Class;" } : Jvm.MethodName)) ∈ lw_all := lw_g (lw_at lw_m1 163 rfl) rfl
theorem q300 : (Jvm.Cond.fieldLinkNest "FirstdanceAgency$Fillings" (15 : Nat) "FirstdanceAgency" "players" "Ljava/util/List;" "FirstdanceAgency") ∈ lw_tbl := lw_at lw_m1 201 rfl
theorem q304 : (Jvm.Cond.fieldLinkNest "FirstdanceAgency$Fillings" (46 : Nat) "FirstdanceAgency" "bands" "Ljava/util/List;" "FirstdanceAgency") ∈ lw_tbl := lw_at lw_m1 205 rfl
theorem q306 : (Jvm.Cond.fieldLinkNest "FirstdanceAgency$Fillings" (33 : Nat) "FirstdanceAgency" "weddings" "Ljava/util/List;" "FirstdanceAgency") ∈ lw_tbl := lw_at lw_m1 207 rfl
theorem q504 : (Jvm.Cond.instantiable "FirstdanceAgency$Fillings" (9 : Nat)) ∈ lw_all := lw_g (lw_at lw_m2 165 rfl) rfl
theorem q520 : (Jvm.Cond.instanceMethod ({ cls := "FirstdanceAgency$Fillings", name := "<init>", desc := "(LFirstdanceAgency;IIIZ)V" } : Jvm.MethodName)) ∈ lw_all := lw_g (lw_at lw_m2 181 rfl) rfl
theorem q521 : (Jvm.Cond.code ({ cls := "FirstdanceAgency$Fillings", name := "<init>", desc := "(LFirstdanceAgency;IIIZ)V" } : Jvm.MethodName) prog_2_method_1_code (7 : Nat) (Option.none : Option Jvm.ClassFile.FieldType)) ∈ lw_all := lw_g (lw_at lw_m2 182 rfl) rfl
theorem q522 : (Jvm.Cond.methodLink "FirstdanceAgency$Fillings" (9 : Nat) ({ cls := "java/lang/Object", name := "<init>", desc := "()V" } : Jvm.MethodName)) ∈ lw_all := lw_g (lw_at lw_m2 183 rfl) rfl
theorem q523 : (Jvm.Cond.interfaceEntry "FirstdanceAgency$Fillings" (19 : Nat)) ∈ lw_tbl := lw_at lw_m2 184 rfl
theorem q524 : (Jvm.Cond.methodLink "FirstdanceAgency$Fillings" (19 : Nat) ({ cls := "java/util/List", name := "size", desc := "()I" } : Jvm.MethodName)) ∈ lw_all := lw_g (lw_at lw_m2 185 rfl) rfl
theorem q525 : (Jvm.Cond.interfaceEntry "FirstdanceAgency$Fillings" (36 : Nat)) ∈ lw_tbl := lw_at lw_m2 186 rfl
theorem q526 : (Jvm.Cond.methodLink "FirstdanceAgency$Fillings" (36 : Nat) ({ cls := "java/util/List", name := "get", desc := "(I)Ljava/lang/Object;" } : Jvm.MethodName)) ∈ lw_all := lw_g (lw_at lw_m2 187 rfl) rfl
theorem q527 : (Jvm.Cond.classLink "FirstdanceAgency$Fillings" (40 : Nat) "FirstdanceAgency$Wedding") ∈ lw_all := lw_g (lw_at lw_m2 188 rfl) rfl
theorem q528 : (Jvm.Cond.classLink "FirstdanceAgency$Fillings" (52 : Nat) "FirstdanceAgency$Shape") ∈ lw_all := lw_g (lw_at lw_m2 189 rfl) rfl
theorem q529 : (Jvm.Cond.methodLinkNest "FirstdanceAgency$Fillings" (65 : Nat) ({ cls := "FirstdanceAgency", name := "cost", desc := "(ILFirstdanceAgency$Wedding;)I" } : Jvm.MethodName) "FirstdanceAgency") ∈ lw_tbl := lw_at lw_m2 190 rfl
theorem q533 : (Jvm.Cond.methodLink "FirstdanceAgency$Fillings" (69 : Nat) ({ cls := "FirstdanceAgency$Shape", name := "many", desc := "()I" } : Jvm.MethodName)) ∈ lw_all := lw_g (lw_at lw_m2 194 rfl) rfl
theorem q534 : (Jvm.Cond.methodLink "FirstdanceAgency$Fillings" (72 : Nat) ({ cls := "FirstdanceAgency$Fillings", name := "choose", desc := "(IIII)V" } : Jvm.MethodName)) ∈ lw_all := lw_g (lw_at lw_m2 195 rfl) rfl
theorem q535 : (Jvm.Cond.privateMethod ({ cls := "FirstdanceAgency$Fillings", name := "choose", desc := "(IIII)V" } : Jvm.MethodName)) ∈ lw_tbl := lw_at lw_m2 196 rfl
theorem q536 : (Jvm.Cond.instanceMethod ({ cls := "FirstdanceAgency$Fillings", name := "choose", desc := "(IIII)V" } : Jvm.MethodName)) ∈ lw_all := lw_g (lw_at lw_m2 197 rfl) rfl
theorem q537 : (Jvm.Cond.code ({ cls := "FirstdanceAgency$Fillings", name := "choose", desc := "(IIII)V" } : Jvm.MethodName) prog_2_method_2_code (6 : Nat) (Option.none : Option Jvm.ClassFile.FieldType)) ∈ lw_all := lw_g (lw_at lw_m2 198 rfl) rfl
theorem q538 : (Jvm.Cond.methodLink "FirstdanceAgency$Fillings" (76 : Nat) ({ cls := "FirstdanceAgency$Fillings", name := "look", desc := "(I)V" } : Jvm.MethodName)) ∈ lw_all := lw_g (lw_at lw_m2 199 rfl) rfl
theorem q539 : (Jvm.Cond.privateMethod ({ cls := "FirstdanceAgency$Fillings", name := "look", desc := "(I)V" } : Jvm.MethodName)) ∈ lw_tbl := lw_at lw_m2 200 rfl
theorem q540 : (Jvm.Cond.instanceMethod ({ cls := "FirstdanceAgency$Fillings", name := "look", desc := "(I)V" } : Jvm.MethodName)) ∈ lw_all := lw_g (lw_at lw_m2 201 rfl) rfl
theorem q541 : (Jvm.Cond.code ({ cls := "FirstdanceAgency$Fillings", name := "look", desc := "(I)V" } : Jvm.MethodName) prog_2_method_3_code (3 : Nat) (Option.none : Option Jvm.ClassFile.FieldType)) ∈ lw_all := lw_g (lw_at lw_m2 202 rfl) rfl
theorem q542 : (Jvm.Cond.methodLink "FirstdanceAgency$Fillings" (84 : Nat) ({ cls := "FirstdanceAgency$Shape", name := "canBe", desc := "(Ljava/util/List;I)Z" } : Jvm.MethodName)) ∈ lw_all := lw_g (lw_at lw_m2 203 rfl) rfl
theorem q555 : (Jvm.Cond.methodLinkNest "FirstdanceAgency$Fillings" (93 : Nat) ({ cls := "FirstdanceAgency", name := "playable", desc := "(I)I" } : Jvm.MethodName) "FirstdanceAgency") ∈ lw_tbl := lw_at lw_m2 216 rfl
theorem q559 : (Jvm.Cond.methodLinkNest "FirstdanceAgency$Fillings" (97 : Nat) ({ cls := "FirstdanceAgency", name := "arePeaceful", desc := "(I)Z" } : Jvm.MethodName) "FirstdanceAgency") ∈ lw_tbl := lw_at lw_m2 220 rfl
theorem q563 : (Jvm.Cond.methodLink "FirstdanceAgency$Fillings" (103 : Nat) ({ cls := "FirstdanceAgency$Fillings", name := "isAhead", desc := "(II)Z" } : Jvm.MethodName)) ∈ lw_all := lw_g (lw_at lw_m2 224 rfl) rfl
theorem q564 : (Jvm.Cond.privateMethod ({ cls := "FirstdanceAgency$Fillings", name := "isAhead", desc := "(II)Z" } : Jvm.MethodName)) ∈ lw_tbl := lw_at lw_m2 225 rfl
theorem q565 : (Jvm.Cond.instanceMethod ({ cls := "FirstdanceAgency$Fillings", name := "isAhead", desc := "(II)Z" } : Jvm.MethodName)) ∈ lw_all := lw_g (lw_at lw_m2 226 rfl) rfl
theorem q566 : (Jvm.Cond.code ({ cls := "FirstdanceAgency$Fillings", name := "isAhead", desc := "(II)Z" } : Jvm.MethodName) prog_2_method_4_code (5 : Nat) (Option.some Jvm.ClassFile.FieldType.boolean)) ∈ lw_all := lw_g (lw_at lw_m2 227 rfl) rfl
theorem q567 : (Jvm.Cond.methodLinkNest "FirstdanceAgency$Fillings" (106 : Nat) ({ cls := "FirstdanceAgency", name := "size", desc := "(I)I" } : Jvm.MethodName) "FirstdanceAgency") ∈ lw_tbl := lw_at lw_m2 228 rfl
theorem q568 : (Jvm.Cond.methodLink "FirstdanceAgency$Fillings" (108 : Nat) ({ cls := "FirstdanceAgency$Fillings", name := "costOf", desc := "(I)I" } : Jvm.MethodName)) ∈ lw_all := lw_g (lw_at lw_m2 229 rfl) rfl
theorem q569 : (Jvm.Cond.privateMethod ({ cls := "FirstdanceAgency$Fillings", name := "costOf", desc := "(I)I" } : Jvm.MethodName)) ∈ lw_tbl := lw_at lw_m2 230 rfl
theorem q570 : (Jvm.Cond.instanceMethod ({ cls := "FirstdanceAgency$Fillings", name := "costOf", desc := "(I)I" } : Jvm.MethodName)) ∈ lw_all := lw_g (lw_at lw_m2 231 rfl) rfl
theorem q571 : (Jvm.Cond.code ({ cls := "FirstdanceAgency$Fillings", name := "costOf", desc := "(I)I" } : Jvm.MethodName) prog_2_method_5_code (4 : Nat) (Option.some Jvm.ClassFile.FieldType.int)) ∈ lw_all := lw_g (lw_at lw_m2 232 rfl) rfl
theorem q572 : (Jvm.Cond.methodLinkNest "FirstdanceAgency$Fillings" (80 : Nat) ({ cls := "FirstdanceAgency", name := "has", desc := "(II)Z" } : Jvm.MethodName) "FirstdanceAgency") ∈ lw_tbl := lw_at lw_m2 233 rfl
theorem q573 : (Jvm.Cond.fieldLink "FirstdanceAgency$Fillings" (42 : Nat) "FirstdanceAgency$Fillings" "its" "LFirstdanceAgency$Wedding;") ∈ lw_all := lw_g (lw_at lw_m2 234 rfl) rfl
theorem q574 : (Jvm.Cond.fieldLink "FirstdanceAgency$Fillings" (54 : Nat) "FirstdanceAgency$Fillings" "shape" "LFirstdanceAgency$Shape;") ∈ lw_all := lw_g (lw_at lw_m2 235 rfl) rfl
theorem q576 : (Jvm.Cond.fieldLink "FirstdanceAgency$Fillings" (61 : Nat) "FirstdanceAgency$Fillings" "withFeuds" "Z") ∈ lw_all := lw_g (lw_at lw_m2 237 rfl) rfl
theorem q577 : (Jvm.Cond.fieldLink "FirstdanceAgency$Fillings" (58 : Nat) "FirstdanceAgency$Fillings" "had" "I") ∈ lw_all := lw_g (lw_at lw_m2 238 rfl) rfl
theorem q578 : (Jvm.Cond.fieldLink "FirstdanceAgency$Fillings" (25 : Nat) "FirstdanceAgency$Fillings" "costs" "[I") ∈ lw_all := lw_g (lw_at lw_m2 239 rfl) rfl
theorem q579 : (Jvm.Cond.fieldLink "FirstdanceAgency$Fillings" (88 : Nat) "FirstdanceAgency$Fillings" "canBe" "Z") ∈ lw_all := lw_g (lw_at lw_m3 0 rfl) rfl
theorem q581 : (Jvm.Cond.fieldLink "FirstdanceAgency$Fillings" (101 : Nat) "FirstdanceAgency$Fillings" "many" "I") ∈ lw_all := lw_g (lw_at lw_m3 2 rfl) rfl
theorem q583 : (Jvm.Cond.fieldLink "FirstdanceAgency$Fillings" (29 : Nat) "FirstdanceAgency$Fillings" "best" "I") ∈ lw_all := lw_g (lw_at lw_m3 4 rfl) rfl
theorem q585 : (Jvm.Cond.fieldLink "FirstdanceAgency$Fillings" (3 : Nat) "FirstdanceAgency$Fillings" "this$0" "LFirstdanceAgency;") ∈ lw_all := lw_g (lw_at lw_m3 6 rfl) rfl
theorem q586 : (Jvm.Cond.laysFinal "FirstdanceAgency$Fillings" "FirstdanceAgency$Fillings" "its" "LFirstdanceAgency$Wedding;") ∈ lw_all := lw_g (lw_at lw_m3 7 rfl) rfl
theorem q587 : (Jvm.Cond.soleField "FirstdanceAgency$Fillings" "its") ∈ lw_all := lw_g (lw_at lw_m3 8 rfl) rfl
theorem q588 : (Jvm.Cond.laysFinal "FirstdanceAgency$Fillings" "FirstdanceAgency$Fillings" "shape" "LFirstdanceAgency$Shape;") ∈ lw_all := lw_g (lw_at lw_m3 9 rfl) rfl
theorem q589 : (Jvm.Cond.soleField "FirstdanceAgency$Fillings" "shape") ∈ lw_all := lw_g (lw_at lw_m3 10 rfl) rfl
theorem q590 : (Jvm.Cond.laysFinal "FirstdanceAgency$Fillings" "FirstdanceAgency$Fillings" "withFeuds" "Z") ∈ lw_all := lw_g (lw_at lw_m3 11 rfl) rfl
theorem q591 : (Jvm.Cond.soleField "FirstdanceAgency$Fillings" "withFeuds") ∈ lw_all := lw_g (lw_at lw_m3 12 rfl) rfl
theorem q592 : (Jvm.Cond.laysFinal "FirstdanceAgency$Fillings" "FirstdanceAgency$Fillings" "had" "I") ∈ lw_all := lw_g (lw_at lw_m3 13 rfl) rfl
theorem q593 : (Jvm.Cond.soleField "FirstdanceAgency$Fillings" "had") ∈ lw_all := lw_g (lw_at lw_m3 14 rfl) rfl
theorem q594 : (Jvm.Cond.laysFinal "FirstdanceAgency$Fillings" "FirstdanceAgency$Fillings" "costs" "[I") ∈ lw_all := lw_g (lw_at lw_m3 15 rfl) rfl
theorem q595 : (Jvm.Cond.soleField "FirstdanceAgency$Fillings" "costs") ∈ lw_all := lw_g (lw_at lw_m3 16 rfl) rfl
theorem q596 : (Jvm.Cond.lays "FirstdanceAgency$Fillings" "FirstdanceAgency$Fillings" "canBe" "Z") ∈ lw_all := lw_g (lw_at lw_m3 17 rfl) rfl
theorem q597 : (Jvm.Cond.soleField "FirstdanceAgency$Fillings" "canBe") ∈ lw_all := lw_g (lw_at lw_m3 18 rfl) rfl
theorem q598 : (Jvm.Cond.lays "FirstdanceAgency$Fillings" "FirstdanceAgency$Fillings" "many" "I") ∈ lw_all := lw_g (lw_at lw_m3 19 rfl) rfl
theorem q599 : (Jvm.Cond.soleField "FirstdanceAgency$Fillings" "many") ∈ lw_all := lw_g (lw_at lw_m3 20 rfl) rfl
theorem q600 : (Jvm.Cond.lays "FirstdanceAgency$Fillings" "FirstdanceAgency$Fillings" "best" "I") ∈ lw_all := lw_g (lw_at lw_m3 21 rfl) rfl
theorem q601 : (Jvm.Cond.soleField "FirstdanceAgency$Fillings" "best") ∈ lw_all := lw_g (lw_at lw_m3 22 rfl) rfl
theorem q602 : (Jvm.Cond.laysFinal "FirstdanceAgency$Fillings" "FirstdanceAgency$Fillings" "this$0" "LFirstdanceAgency;") ∈ lw_all := lw_g (lw_at lw_m3 23 rfl) rfl
theorem q603 : (Jvm.Cond.soleField "FirstdanceAgency$Fillings" "this$0") ∈ lw_all := lw_g (lw_at lw_m3 24 rfl) rfl
theorem q604 : (Jvm.Cond.superclass "FirstdanceAgency$Fillings" "java/lang/Object") ∈ lw_all := lw_g (lw_at lw_m3 25 rfl) rfl
theorem q610 : (Jvm.Cond.instanceMethod ({ cls := "FirstdanceAgency$Fillings", name := "cost", desc := "()I" } : Jvm.MethodName)) ∈ lw_all := lw_g (lw_at lw_m3 31 rfl) rfl
theorem q611 : (Jvm.Cond.selects "FirstdanceAgency$Fillings" ({ cls := "FirstdanceAgency$Fillings", name := "cost", desc := "()I" } : Jvm.MethodName) ({ cls := "FirstdanceAgency$Fillings", name := "cost", desc := "()I" } : Jvm.MethodName)) ∈ lw_all := lw_g (lw_at lw_m3 32 rfl) rfl
theorem q612 : (Jvm.Cond.code ({ cls := "FirstdanceAgency$Fillings", name := "cost", desc := "()I" } : Jvm.MethodName) prog_2_method_6_code (1 : Nat) (Option.some Jvm.ClassFile.FieldType.int)) ∈ lw_all := lw_g (lw_at lw_m3 33 rfl) rfl
theorem q1009 : (Jvm.Cond.fieldLinkNest "FirstdanceAgency$Fillings" (49 : Nat) "FirstdanceAgency$Wedding" "band" "I" "FirstdanceAgency") ∈ lw_tbl := lw_at lw_m4 190 rfl
theorem q1020 : (Jvm.Cond.fieldLinkNest "FirstdanceAgency$Fillings" (90 : Nat) "FirstdanceAgency$Wedding" "songs" "I" "FirstdanceAgency") ∈ lw_tbl := lw_at lw_m4 201 rfl
theorem q2103 : (Jvm.Cond.castable "FirstdanceAgency$Fillings" "java/lang/Object") ∈ lw_tbl := lw_at lw_m9 84 rfl
theorem in_X12 : ∀ w ∈ wsX120, w ∈ lw_all := lw_in wsX120 [586, 588, 590, 592, 594, 596, 598, 600, 602] (by decide +kernel) (by decide +kernel)

/-! FirstdanceAgency$SongRow -/
set_option maxRecDepth 100000
def RX13 : String := "FirstdanceAgency$SongRow"
def TX13 : u_T := fun k => match k with
  | 0 => ("FirstdanceAgency$SongRow", "first", "I", true)
  | 1 => ("FirstdanceAgency$SongRow", "rest", "Ljava/util/Optional;", true)
  | _ => ("FirstdanceAgency$SongRow", "minutes", "I", true)
def tyX13 : Nat → FieldType := fun k => match k with
  | 0 => .int
  | 1 => .object "java/util/Optional"
  | _ => .int
abbrev wsX130 : List Cond := u_ws RX13 TX13 3
theorem nmX13 : ∀ a, a < 3 → ∀ b, b < 3 → a ≠ b → (TX13 a).2.1 ≠ (TX13 b).2.1 := by decide +kernel
theorem tyX13_ok : ∀ k, k < 3 → parseFieldDescriptor (TX13 k).2.2.1 = some (tyX13 k) := by decide +kernel
abbrev cX13_isAhead : ByteArray := prog_7_method_3_code
def yX13_isAhead : MethodName := ⟨RX13, "isAhead", "(LFirstdanceAgency$SongRow;)Z"⟩
def dkwX13_isAhead_5 : List UInt8 := [182, 0, 26, 192, 0, 8, 182, 0, 34, 172]
abbrev dktX13_isAhead_5 : List UInt8 := dkwX13_isAhead_5 ++ []
def dkwX13_isAhead_4 : List UInt8 := [153, 0, 7, 4, 167, 0, 4, 3, 172, 42, 180, 0, 13, 182, 0, 26, 192, 0, 8, 43, 180, 0, 13]
abbrev dktX13_isAhead_4 : List UInt8 := dkwX13_isAhead_4 ++ dktX13_isAhead_5
def dkwX13_isAhead_3 : List UInt8 := [182, 0, 20, 154, 0, 29, 42, 180, 0, 13, 182, 0, 20, 154, 0, 17, 43, 180, 0, 13, 182, 0, 20]
abbrev dktX13_isAhead_3 : List UInt8 := dkwX13_isAhead_3 ++ dktX13_isAhead_4
def dkwX13_isAhead_2 : List UInt8 := [162, 0, 7, 4, 167, 0, 4, 3, 172, 42, 180, 0, 13, 182, 0, 20, 153, 0, 13, 43, 180, 0, 13]
abbrev dktX13_isAhead_2 : List UInt8 := dkwX13_isAhead_2 ++ dktX13_isAhead_3
def dkwX13_isAhead_1 : List UInt8 := [167, 0, 4, 3, 172, 42, 180, 0, 7, 43, 180, 0, 7, 159, 0, 20, 42, 180, 0, 7, 43, 180, 0, 7]
abbrev dktX13_isAhead_1 : List UInt8 := dkwX13_isAhead_1 ++ dktX13_isAhead_2
def dkwX13_isAhead_0 : List UInt8 := [42, 180, 0, 17, 43, 180, 0, 17, 159, 0, 20, 42, 180, 0, 17, 43, 180, 0, 17, 164, 0, 7, 4]
abbrev dktX13_isAhead_0 : List UInt8 := dkwX13_isAhead_0 ++ dktX13_isAhead_1
theorem dksX13_isAhead_0 : cX13_isAhead.data.toList.drop 0 = dktX13_isAhead_0 := by decide +kernel
theorem dksX13_isAhead_1 : cX13_isAhead.data.toList.drop 23 = dktX13_isAhead_1 := dk_seg dksX13_isAhead_0 23 rfl rfl
theorem dksX13_isAhead_2 : cX13_isAhead.data.toList.drop 47 = dktX13_isAhead_2 := dk_seg dksX13_isAhead_1 24 rfl rfl
theorem dksX13_isAhead_3 : cX13_isAhead.data.toList.drop 70 = dktX13_isAhead_3 := dk_seg dksX13_isAhead_2 23 rfl rfl
theorem dksX13_isAhead_4 : cX13_isAhead.data.toList.drop 93 = dktX13_isAhead_4 := dk_seg dksX13_isAhead_3 23 rfl rfl
theorem dksX13_isAhead_5 : cX13_isAhead.data.toList.drop 116 = dktX13_isAhead_5 := dk_seg dksX13_isAhead_4 23 rfl rfl
theorem dX13_isAhead_0 : decode cX13_isAhead 0 = .ok (.aload_n 0, 1) := dk_42 (dk_at dksX13_isAhead_0 0 rfl rfl)
theorem dX13_isAhead_1 : decode cX13_isAhead 1 = .ok (.getfield 17, 3) := dk_180 0 17 (dk_at dksX13_isAhead_0 1 rfl rfl)
theorem dX13_isAhead_4 : decode cX13_isAhead 4 = .ok (.aload_n 1, 1) := dk_43 (dk_at dksX13_isAhead_0 4 rfl rfl)
theorem dX13_isAhead_5 : decode cX13_isAhead 5 = .ok (.getfield 17, 3) := dk_180 0 17 (dk_at dksX13_isAhead_0 5 rfl rfl)
theorem dX13_isAhead_8 : decode cX13_isAhead 8 = .ok (.if_icmp .eq 20, 3) := dk_159 0 20 (dk_at dksX13_isAhead_0 8 rfl rfl)
theorem dX13_isAhead_11 : decode cX13_isAhead 11 = .ok (.aload_n 0, 1) := dk_42 (dk_at dksX13_isAhead_0 11 rfl rfl)
theorem dX13_isAhead_12 : decode cX13_isAhead 12 = .ok (.getfield 17, 3) := dk_180 0 17 (dk_at dksX13_isAhead_0 12 rfl rfl)
theorem dX13_isAhead_15 : decode cX13_isAhead 15 = .ok (.aload_n 1, 1) := dk_43 (dk_at dksX13_isAhead_0 15 rfl rfl)
theorem dX13_isAhead_16 : decode cX13_isAhead 16 = .ok (.getfield 17, 3) := dk_180 0 17 (dk_at dksX13_isAhead_0 16 rfl rfl)
theorem dX13_isAhead_19 : decode cX13_isAhead 19 = .ok (.if_icmp .le 7, 3) := dk_164 0 7 (dk_at dksX13_isAhead_0 19 rfl rfl)
theorem dX13_isAhead_22 : decode cX13_isAhead 22 = .ok (.iconst 1, 1) := dk_4 (dk_at dksX13_isAhead_0 22 rfl rfl)
theorem dX13_isAhead_23 : decode cX13_isAhead 23 = .ok (.goto 4, 3) := dk_167 0 4 (dk_at dksX13_isAhead_1 0 rfl rfl)
theorem dX13_isAhead_26 : decode cX13_isAhead 26 = .ok (.iconst 0, 1) := dk_3 (dk_at dksX13_isAhead_1 3 rfl rfl)
theorem dX13_isAhead_27 : decode cX13_isAhead 27 = .ok (.ireturn, 1) := dk_172 (dk_at dksX13_isAhead_1 4 rfl rfl)
theorem dX13_isAhead_28 : decode cX13_isAhead 28 = .ok (.aload_n 0, 1) := dk_42 (dk_at dksX13_isAhead_1 5 rfl rfl)
theorem dX13_isAhead_29 : decode cX13_isAhead 29 = .ok (.getfield 7, 3) := dk_180 0 7 (dk_at dksX13_isAhead_1 6 rfl rfl)
theorem dX13_isAhead_32 : decode cX13_isAhead 32 = .ok (.aload_n 1, 1) := dk_43 (dk_at dksX13_isAhead_1 9 rfl rfl)
theorem dX13_isAhead_33 : decode cX13_isAhead 33 = .ok (.getfield 7, 3) := dk_180 0 7 (dk_at dksX13_isAhead_1 10 rfl rfl)
theorem dX13_isAhead_36 : decode cX13_isAhead 36 = .ok (.if_icmp .eq 20, 3) := dk_159 0 20 (dk_at dksX13_isAhead_1 13 rfl rfl)
theorem dX13_isAhead_39 : decode cX13_isAhead 39 = .ok (.aload_n 0, 1) := dk_42 (dk_at dksX13_isAhead_1 16 rfl rfl)
theorem dX13_isAhead_40 : decode cX13_isAhead 40 = .ok (.getfield 7, 3) := dk_180 0 7 (dk_at dksX13_isAhead_1 17 rfl rfl)
theorem dX13_isAhead_43 : decode cX13_isAhead 43 = .ok (.aload_n 1, 1) := dk_43 (dk_at dksX13_isAhead_1 20 rfl rfl)
theorem dX13_isAhead_44 : decode cX13_isAhead 44 = .ok (.getfield 7, 3) := dk_180 0 7 (dk_at dksX13_isAhead_1 21 rfl rfl)
theorem dX13_isAhead_47 : decode cX13_isAhead 47 = .ok (.if_icmp .ge 7, 3) := dk_162 0 7 (dk_at dksX13_isAhead_2 0 rfl rfl)
theorem dX13_isAhead_50 : decode cX13_isAhead 50 = .ok (.iconst 1, 1) := dk_4 (dk_at dksX13_isAhead_2 3 rfl rfl)
theorem dX13_isAhead_51 : decode cX13_isAhead 51 = .ok (.goto 4, 3) := dk_167 0 4 (dk_at dksX13_isAhead_2 4 rfl rfl)
theorem dX13_isAhead_54 : decode cX13_isAhead 54 = .ok (.iconst 0, 1) := dk_3 (dk_at dksX13_isAhead_2 7 rfl rfl)
theorem dX13_isAhead_55 : decode cX13_isAhead 55 = .ok (.ireturn, 1) := dk_172 (dk_at dksX13_isAhead_2 8 rfl rfl)
theorem dX13_isAhead_56 : decode cX13_isAhead 56 = .ok (.aload_n 0, 1) := dk_42 (dk_at dksX13_isAhead_2 9 rfl rfl)
theorem dX13_isAhead_57 : decode cX13_isAhead 57 = .ok (.getfield 13, 3) := dk_180 0 13 (dk_at dksX13_isAhead_2 10 rfl rfl)
theorem dX13_isAhead_60 : decode cX13_isAhead 60 = .ok (.invokevirtual 20, 3) := dk_182 0 20 (dk_at dksX13_isAhead_2 13 rfl rfl)
theorem dX13_isAhead_63 : decode cX13_isAhead 63 = .ok (.ifCond .eq 13, 3) := dk_153 0 13 (dk_at dksX13_isAhead_2 16 rfl rfl)
theorem dX13_isAhead_66 : decode cX13_isAhead 66 = .ok (.aload_n 1, 1) := dk_43 (dk_at dksX13_isAhead_2 19 rfl rfl)
theorem dX13_isAhead_67 : decode cX13_isAhead 67 = .ok (.getfield 13, 3) := dk_180 0 13 (dk_at dksX13_isAhead_2 20 rfl rfl)
theorem dX13_isAhead_70 : decode cX13_isAhead 70 = .ok (.invokevirtual 20, 3) := dk_182 0 20 (dk_at dksX13_isAhead_3 0 rfl rfl)
theorem dX13_isAhead_73 : decode cX13_isAhead 73 = .ok (.ifCond .ne 29, 3) := dk_154 0 29 (dk_at dksX13_isAhead_3 3 rfl rfl)
theorem dX13_isAhead_76 : decode cX13_isAhead 76 = .ok (.aload_n 0, 1) := dk_42 (dk_at dksX13_isAhead_3 6 rfl rfl)
theorem dX13_isAhead_77 : decode cX13_isAhead 77 = .ok (.getfield 13, 3) := dk_180 0 13 (dk_at dksX13_isAhead_3 7 rfl rfl)
theorem dX13_isAhead_80 : decode cX13_isAhead 80 = .ok (.invokevirtual 20, 3) := dk_182 0 20 (dk_at dksX13_isAhead_3 10 rfl rfl)
theorem dX13_isAhead_83 : decode cX13_isAhead 83 = .ok (.ifCond .ne 17, 3) := dk_154 0 17 (dk_at dksX13_isAhead_3 13 rfl rfl)
theorem dX13_isAhead_86 : decode cX13_isAhead 86 = .ok (.aload_n 1, 1) := dk_43 (dk_at dksX13_isAhead_3 16 rfl rfl)
theorem dX13_isAhead_87 : decode cX13_isAhead 87 = .ok (.getfield 13, 3) := dk_180 0 13 (dk_at dksX13_isAhead_3 17 rfl rfl)
theorem dX13_isAhead_90 : decode cX13_isAhead 90 = .ok (.invokevirtual 20, 3) := dk_182 0 20 (dk_at dksX13_isAhead_3 20 rfl rfl)
theorem dX13_isAhead_93 : decode cX13_isAhead 93 = .ok (.ifCond .eq 7, 3) := dk_153 0 7 (dk_at dksX13_isAhead_4 0 rfl rfl)
theorem dX13_isAhead_96 : decode cX13_isAhead 96 = .ok (.iconst 1, 1) := dk_4 (dk_at dksX13_isAhead_4 3 rfl rfl)
theorem dX13_isAhead_97 : decode cX13_isAhead 97 = .ok (.goto 4, 3) := dk_167 0 4 (dk_at dksX13_isAhead_4 4 rfl rfl)
theorem dX13_isAhead_100 : decode cX13_isAhead 100 = .ok (.iconst 0, 1) := dk_3 (dk_at dksX13_isAhead_4 7 rfl rfl)
theorem dX13_isAhead_101 : decode cX13_isAhead 101 = .ok (.ireturn, 1) := dk_172 (dk_at dksX13_isAhead_4 8 rfl rfl)
theorem dX13_isAhead_102 : decode cX13_isAhead 102 = .ok (.aload_n 0, 1) := dk_42 (dk_at dksX13_isAhead_4 9 rfl rfl)
theorem dX13_isAhead_103 : decode cX13_isAhead 103 = .ok (.getfield 13, 3) := dk_180 0 13 (dk_at dksX13_isAhead_4 10 rfl rfl)
theorem dX13_isAhead_106 : decode cX13_isAhead 106 = .ok (.invokevirtual 26, 3) := dk_182 0 26 (dk_at dksX13_isAhead_4 13 rfl rfl)
theorem dX13_isAhead_109 : decode cX13_isAhead 109 = .ok (.checkcast 8, 3) := dk_192 0 8 (dk_at dksX13_isAhead_4 16 rfl rfl)
theorem dX13_isAhead_112 : decode cX13_isAhead 112 = .ok (.aload_n 1, 1) := dk_43 (dk_at dksX13_isAhead_4 19 rfl rfl)
theorem dX13_isAhead_113 : decode cX13_isAhead 113 = .ok (.getfield 13, 3) := dk_180 0 13 (dk_at dksX13_isAhead_4 20 rfl rfl)
theorem dX13_isAhead_116 : decode cX13_isAhead 116 = .ok (.invokevirtual 26, 3) := dk_182 0 26 (dk_at dksX13_isAhead_5 0 rfl rfl)
theorem dX13_isAhead_119 : decode cX13_isAhead 119 = .ok (.checkcast 8, 3) := dk_192 0 8 (dk_at dksX13_isAhead_5 3 rfl rfl)
theorem dX13_isAhead_122 : decode cX13_isAhead 122 = .ok (.invokevirtual 34, 3) := dk_182 0 34 (dk_at dksX13_isAhead_5 6 rfl rfl)
theorem dX13_isAhead_125 : decode cX13_isAhead 125 = .ok (.ireturn, 1) := dk_172 (dk_at dksX13_isAhead_5 9 rfl rfl)
abbrev cX13_init : ByteArray := prog_7_method_1_code
def yX13_init : MethodName := ⟨RX13, "<init>", "(ILjava/util/Optional;I)V"⟩
def dkwX13_init_0 : List UInt8 := [42, 183, 0, 1, 42, 27, 181, 0, 7, 42, 44, 181, 0, 13, 42, 29, 181, 0, 17, 177]
abbrev dktX13_init_0 : List UInt8 := dkwX13_init_0 ++ []
theorem dksX13_init_0 : cX13_init.data.toList.drop 0 = dktX13_init_0 := by decide +kernel
theorem dX13_init_0 : decode cX13_init 0 = .ok (.aload_n 0, 1) := dk_42 (dk_at dksX13_init_0 0 rfl rfl)
theorem dX13_init_1 : decode cX13_init 1 = .ok (.invokespecial 1, 3) := dk_183 0 1 (dk_at dksX13_init_0 1 rfl rfl)
theorem dX13_init_4 : decode cX13_init 4 = .ok (.aload_n 0, 1) := dk_42 (dk_at dksX13_init_0 4 rfl rfl)
theorem dX13_init_5 : decode cX13_init 5 = .ok (.iload_n 1, 1) := dk_27 (dk_at dksX13_init_0 5 rfl rfl)
theorem dX13_init_6 : decode cX13_init 6 = .ok (.putfield 7, 3) := dk_181 0 7 (dk_at dksX13_init_0 6 rfl rfl)
theorem dX13_init_9 : decode cX13_init 9 = .ok (.aload_n 0, 1) := dk_42 (dk_at dksX13_init_0 9 rfl rfl)
theorem dX13_init_10 : decode cX13_init 10 = .ok (.aload_n 2, 1) := dk_44 (dk_at dksX13_init_0 10 rfl rfl)
theorem dX13_init_11 : decode cX13_init 11 = .ok (.putfield 13, 3) := dk_181 0 13 (dk_at dksX13_init_0 11 rfl rfl)
theorem dX13_init_14 : decode cX13_init 14 = .ok (.aload_n 0, 1) := dk_42 (dk_at dksX13_init_0 14 rfl rfl)
theorem dX13_init_15 : decode cX13_init 15 = .ok (.iload_n 3, 1) := dk_29 (dk_at dksX13_init_0 15 rfl rfl)
theorem dX13_init_16 : decode cX13_init 16 = .ok (.putfield 17, 3) := dk_181 0 17 (dk_at dksX13_init_0 16 rfl rfl)
theorem dX13_init_19 : decode cX13_init 19 = .ok (.return_, 1) := dk_177 (dk_at dksX13_init_0 19 rfl rfl)
abbrev cX13_many : ByteArray := prog_7_method_2_code
def yX13_many : MethodName := ⟨RX13, "many", "()I"⟩
def dkwX13_many_1 : List UInt8 := [167, 0, 4, 3, 96, 172]
abbrev dktX13_many_1 : List UInt8 := dkwX13_many_1 ++ []
def dkwX13_many_0 : List UInt8 := [4, 42, 180, 0, 13, 182, 0, 20, 153, 0, 19, 42, 180, 0, 13, 182, 0, 26, 192, 0, 8, 182, 0, 30]
abbrev dktX13_many_0 : List UInt8 := dkwX13_many_0 ++ dktX13_many_1
theorem dksX13_many_0 : cX13_many.data.toList.drop 0 = dktX13_many_0 := by decide +kernel
theorem dksX13_many_1 : cX13_many.data.toList.drop 24 = dktX13_many_1 := dk_seg dksX13_many_0 24 rfl rfl
theorem dX13_many_0 : decode cX13_many 0 = .ok (.iconst 1, 1) := dk_4 (dk_at dksX13_many_0 0 rfl rfl)
theorem dX13_many_1 : decode cX13_many 1 = .ok (.aload_n 0, 1) := dk_42 (dk_at dksX13_many_0 1 rfl rfl)
theorem dX13_many_2 : decode cX13_many 2 = .ok (.getfield 13, 3) := dk_180 0 13 (dk_at dksX13_many_0 2 rfl rfl)
theorem dX13_many_5 : decode cX13_many 5 = .ok (.invokevirtual 20, 3) := dk_182 0 20 (dk_at dksX13_many_0 5 rfl rfl)
theorem dX13_many_8 : decode cX13_many 8 = .ok (.ifCond .eq 19, 3) := dk_153 0 19 (dk_at dksX13_many_0 8 rfl rfl)
theorem dX13_many_11 : decode cX13_many 11 = .ok (.aload_n 0, 1) := dk_42 (dk_at dksX13_many_0 11 rfl rfl)
theorem dX13_many_12 : decode cX13_many 12 = .ok (.getfield 13, 3) := dk_180 0 13 (dk_at dksX13_many_0 12 rfl rfl)
theorem dX13_many_15 : decode cX13_many 15 = .ok (.invokevirtual 26, 3) := dk_182 0 26 (dk_at dksX13_many_0 15 rfl rfl)
theorem dX13_many_18 : decode cX13_many 18 = .ok (.checkcast 8, 3) := dk_192 0 8 (dk_at dksX13_many_0 18 rfl rfl)
theorem dX13_many_21 : decode cX13_many 21 = .ok (.invokevirtual 30, 3) := dk_182 0 30 (dk_at dksX13_many_0 21 rfl rfl)
theorem dX13_many_24 : decode cX13_many 24 = .ok (.goto 4, 3) := dk_167 0 4 (dk_at dksX13_many_1 0 rfl rfl)
theorem dX13_many_27 : decode cX13_many 27 = .ok (.iconst 0, 1) := dk_3 (dk_at dksX13_many_1 3 rfl rfl)
theorem dX13_many_28 : decode cX13_many 28 = .ok (.iadd, 1) := dk_96 (dk_at dksX13_many_1 4 rfl rfl)
theorem dX13_many_29 : decode cX13_many 29 = .ok (.ireturn, 1) := dk_172 (dk_at dksX13_many_1 5 rfl rfl)
abbrev cX13_tell : ByteArray := prog_7_method_4_code
def yX13_tell : MethodName := ⟨RX13, "tell", "(Ljava/lang/StringBuilder;)V"⟩
def dkwX13_tell_1 : List UInt8 := [182, 0, 44, 87, 42, 180, 0, 13, 182, 0, 26, 192, 0, 8, 43, 182, 0, 47, 177]
abbrev dktX13_tell_1 : List UInt8 := dkwX13_tell_1 ++ []
def dkwX13_tell_0 : List UInt8 := [43, 42, 180, 0, 7, 182, 0, 38, 87, 42, 180, 0, 13, 182, 0, 20, 153, 0, 24, 43, 16, 32]
abbrev dktX13_tell_0 : List UInt8 := dkwX13_tell_0 ++ dktX13_tell_1
theorem dksX13_tell_0 : cX13_tell.data.toList.drop 0 = dktX13_tell_0 := by decide +kernel
theorem dksX13_tell_1 : cX13_tell.data.toList.drop 22 = dktX13_tell_1 := dk_seg dksX13_tell_0 22 rfl rfl
theorem dX13_tell_0 : decode cX13_tell 0 = .ok (.aload_n 1, 1) := dk_43 (dk_at dksX13_tell_0 0 rfl rfl)
theorem dX13_tell_1 : decode cX13_tell 1 = .ok (.aload_n 0, 1) := dk_42 (dk_at dksX13_tell_0 1 rfl rfl)
theorem dX13_tell_2 : decode cX13_tell 2 = .ok (.getfield 7, 3) := dk_180 0 7 (dk_at dksX13_tell_0 2 rfl rfl)
theorem dX13_tell_5 : decode cX13_tell 5 = .ok (.invokevirtual 38, 3) := dk_182 0 38 (dk_at dksX13_tell_0 5 rfl rfl)
theorem dX13_tell_8 : decode cX13_tell 8 = .ok (.pop, 1) := dk_87 (dk_at dksX13_tell_0 8 rfl rfl)
theorem dX13_tell_9 : decode cX13_tell 9 = .ok (.aload_n 0, 1) := dk_42 (dk_at dksX13_tell_0 9 rfl rfl)
theorem dX13_tell_10 : decode cX13_tell 10 = .ok (.getfield 13, 3) := dk_180 0 13 (dk_at dksX13_tell_0 10 rfl rfl)
theorem dX13_tell_13 : decode cX13_tell 13 = .ok (.invokevirtual 20, 3) := dk_182 0 20 (dk_at dksX13_tell_0 13 rfl rfl)
theorem dX13_tell_16 : decode cX13_tell 16 = .ok (.ifCond .eq 24, 3) := dk_153 0 24 (dk_at dksX13_tell_0 16 rfl rfl)
theorem dX13_tell_19 : decode cX13_tell 19 = .ok (.aload_n 1, 1) := dk_43 (dk_at dksX13_tell_0 19 rfl rfl)
theorem dX13_tell_20 : decode cX13_tell 20 = .ok (.bipush 32, 2) := dk_16 32 (dk_at dksX13_tell_0 20 rfl rfl)
theorem dX13_tell_22 : decode cX13_tell 22 = .ok (.invokevirtual 44, 3) := dk_182 0 44 (dk_at dksX13_tell_1 0 rfl rfl)
theorem dX13_tell_25 : decode cX13_tell 25 = .ok (.pop, 1) := dk_87 (dk_at dksX13_tell_1 3 rfl rfl)
theorem dX13_tell_26 : decode cX13_tell 26 = .ok (.aload_n 0, 1) := dk_42 (dk_at dksX13_tell_1 4 rfl rfl)
theorem dX13_tell_27 : decode cX13_tell 27 = .ok (.getfield 13, 3) := dk_180 0 13 (dk_at dksX13_tell_1 5 rfl rfl)
theorem dX13_tell_30 : decode cX13_tell 30 = .ok (.invokevirtual 26, 3) := dk_182 0 26 (dk_at dksX13_tell_1 8 rfl rfl)
theorem dX13_tell_33 : decode cX13_tell 33 = .ok (.checkcast 8, 3) := dk_192 0 8 (dk_at dksX13_tell_1 11 rfl rfl)
theorem dX13_tell_36 : decode cX13_tell 36 = .ok (.aload_n 1, 1) := dk_43 (dk_at dksX13_tell_1 14 rfl rfl)
theorem dX13_tell_37 : decode cX13_tell 37 = .ok (.invokevirtual 47, 3) := dk_182 0 47 (dk_at dksX13_tell_1 15 rfl rfl)
theorem dX13_tell_40 : decode cX13_tell 40 = .ok (.return_, 1) := dk_177 (dk_at dksX13_tell_1 18 rfl rfl)
theorem q135 : (Jvm.Cond.initialized "FirstdanceAgency$SongRow") ∈ lw_all := lw_g (lw_at lw_m1 36 rfl) rfl
theorem q267 : (Jvm.Cond.selects "FirstdanceAgency$SongRow" ({ cls := "java/lang/Object", name := "getClass", desc := "()Ljava/lang/Class;" } : Jvm.MethodName) ({ cls := "java/lang/Object", name := "getClass", desc := "()Ljava/lang/Class;" } : Jvm.MethodName)) ∈ lw_all := lw_g (lw_at lw_m1 168 rfl) rfl
theorem q682 : (Jvm.Cond.instanceMethod ({ cls := "FirstdanceAgency$SongRow", name := "isAhead", desc := "(LFirstdanceAgency$SongRow;)Z" } : Jvm.MethodName)) ∈ lw_all := lw_g (lw_at lw_m3 103 rfl) rfl
theorem q683 : (Jvm.Cond.selects "FirstdanceAgency$SongRow" ({ cls := "FirstdanceAgency$SongRow", name := "isAhead", desc := "(LFirstdanceAgency$SongRow;)Z" } : Jvm.MethodName) ({ cls := "FirstdanceAgency$SongRow", name := "isAhead", desc := "(LFirstdanceAgency$SongRow;)Z" } : Jvm.MethodName)) ∈ lw_all := lw_g (lw_at lw_m3 104 rfl) rfl
theorem q684 : (Jvm.Cond.code ({ cls := "FirstdanceAgency$SongRow", name := "isAhead", desc := "(LFirstdanceAgency$SongRow;)Z" } : Jvm.MethodName) prog_7_method_3_code (2 : Nat) (Option.some Jvm.ClassFile.FieldType.boolean)) ∈ lw_all := lw_g (lw_at lw_m3 105 rfl) rfl
theorem q685 : (Jvm.Cond.methodLink "FirstdanceAgency$SongRow" (20 : Nat) ({ cls := "java/util/Optional", name := "isPresent", desc := "()Z" } : Jvm.MethodName)) ∈ lw_all := lw_g (lw_at lw_m3 106 rfl) rfl
theorem q686 : (Jvm.Cond.methodLink "FirstdanceAgency$SongRow" (26 : Nat) ({ cls := "java/util/Optional", name := "get", desc := "()Ljava/lang/Object;" } : Jvm.MethodName)) ∈ lw_all := lw_g (lw_at lw_m3 107 rfl) rfl
theorem q687 : (Jvm.Cond.classLink "FirstdanceAgency$SongRow" (8 : Nat) "FirstdanceAgency$SongRow") ∈ lw_all := lw_g (lw_at lw_m3 108 rfl) rfl
theorem q688 : (Jvm.Cond.methodLink "FirstdanceAgency$SongRow" (34 : Nat) ({ cls := "FirstdanceAgency$SongRow", name := "isAhead", desc := "(LFirstdanceAgency$SongRow;)Z" } : Jvm.MethodName)) ∈ lw_all := lw_g (lw_at lw_m3 109 rfl) rfl
theorem q689 : (Jvm.Cond.instantiable "FirstdanceAgency$SongRow" (3 : Nat)) ∈ lw_all := lw_g (lw_at lw_m3 110 rfl) rfl
theorem q691 : (Jvm.Cond.instanceMethod ({ cls := "FirstdanceAgency$SongRow", name := "<init>", desc := "(ILjava/util/Optional;I)V" } : Jvm.MethodName)) ∈ lw_all := lw_g (lw_at lw_m3 112 rfl) rfl
theorem q692 : (Jvm.Cond.code ({ cls := "FirstdanceAgency$SongRow", name := "<init>", desc := "(ILjava/util/Optional;I)V" } : Jvm.MethodName) prog_7_method_1_code (4 : Nat) (Option.none : Option Jvm.ClassFile.FieldType)) ∈ lw_all := lw_g (lw_at lw_m3 113 rfl) rfl
theorem q693 : (Jvm.Cond.methodLink "FirstdanceAgency$SongRow" (1 : Nat) ({ cls := "java/lang/Object", name := "<init>", desc := "()V" } : Jvm.MethodName)) ∈ lw_all := lw_g (lw_at lw_m3 114 rfl) rfl
theorem q694 : (Jvm.Cond.fieldLink "FirstdanceAgency$SongRow" (7 : Nat) "FirstdanceAgency$SongRow" "first" "I") ∈ lw_all := lw_g (lw_at lw_m3 115 rfl) rfl
theorem q696 : (Jvm.Cond.fieldLink "FirstdanceAgency$SongRow" (13 : Nat) "FirstdanceAgency$SongRow" "rest" "Ljava/util/Optional;") ∈ lw_all := lw_g (lw_at lw_m3 117 rfl) rfl
theorem q698 : (Jvm.Cond.fieldLink "FirstdanceAgency$SongRow" (17 : Nat) "FirstdanceAgency$SongRow" "minutes" "I") ∈ lw_all := lw_g (lw_at lw_m3 119 rfl) rfl
theorem q700 : (Jvm.Cond.laysFinal "FirstdanceAgency$SongRow" "FirstdanceAgency$SongRow" "first" "I") ∈ lw_all := lw_g (lw_at lw_m3 121 rfl) rfl
theorem q701 : (Jvm.Cond.soleField "FirstdanceAgency$SongRow" "first") ∈ lw_all := lw_g (lw_at lw_m3 122 rfl) rfl
theorem q702 : (Jvm.Cond.laysFinal "FirstdanceAgency$SongRow" "FirstdanceAgency$SongRow" "rest" "Ljava/util/Optional;") ∈ lw_all := lw_g (lw_at lw_m3 123 rfl) rfl
theorem q703 : (Jvm.Cond.soleField "FirstdanceAgency$SongRow" "rest") ∈ lw_all := lw_g (lw_at lw_m3 124 rfl) rfl
theorem q704 : (Jvm.Cond.laysFinal "FirstdanceAgency$SongRow" "FirstdanceAgency$SongRow" "minutes" "I") ∈ lw_all := lw_g (lw_at lw_m3 125 rfl) rfl
theorem q705 : (Jvm.Cond.soleField "FirstdanceAgency$SongRow" "minutes") ∈ lw_all := lw_g (lw_at lw_m3 126 rfl) rfl
theorem q706 : (Jvm.Cond.superclass "FirstdanceAgency$SongRow" "java/lang/Object") ∈ lw_all := lw_g (lw_at lw_m3 127 rfl) rfl
theorem q733 : (Jvm.Cond.instanceMethod ({ cls := "FirstdanceAgency$SongRow", name := "many", desc := "()I" } : Jvm.MethodName)) ∈ lw_all := lw_g (lw_at lw_m3 154 rfl) rfl
theorem q734 : (Jvm.Cond.selects "FirstdanceAgency$SongRow" ({ cls := "FirstdanceAgency$SongRow", name := "many", desc := "()I" } : Jvm.MethodName) ({ cls := "FirstdanceAgency$SongRow", name := "many", desc := "()I" } : Jvm.MethodName)) ∈ lw_all := lw_g (lw_at lw_m3 155 rfl) rfl
theorem q735 : (Jvm.Cond.code ({ cls := "FirstdanceAgency$SongRow", name := "many", desc := "()I" } : Jvm.MethodName) prog_7_method_2_code (1 : Nat) (Option.some Jvm.ClassFile.FieldType.int)) ∈ lw_all := lw_g (lw_at lw_m3 156 rfl) rfl
theorem q736 : (Jvm.Cond.methodLink "FirstdanceAgency$SongRow" (30 : Nat) ({ cls := "FirstdanceAgency$SongRow", name := "many", desc := "()I" } : Jvm.MethodName)) ∈ lw_all := lw_g (lw_at lw_m3 157 rfl) rfl
theorem q1229 : (Jvm.Cond.instanceMethod ({ cls := "FirstdanceAgency$SongRow", name := "tell", desc := "(Ljava/lang/StringBuilder;)V" } : Jvm.MethodName)) ∈ lw_all := lw_g (lw_at lw_m5 170 rfl) rfl
theorem q1230 : (Jvm.Cond.selects "FirstdanceAgency$SongRow" ({ cls := "FirstdanceAgency$SongRow", name := "tell", desc := "(Ljava/lang/StringBuilder;)V" } : Jvm.MethodName) ({ cls := "FirstdanceAgency$SongRow", name := "tell", desc := "(Ljava/lang/StringBuilder;)V" } : Jvm.MethodName)) ∈ lw_all := lw_g (lw_at lw_m5 171 rfl) rfl
theorem q1231 : (Jvm.Cond.code ({ cls := "FirstdanceAgency$SongRow", name := "tell", desc := "(Ljava/lang/StringBuilder;)V" } : Jvm.MethodName) prog_7_method_4_code (2 : Nat) (Option.none : Option Jvm.ClassFile.FieldType)) ∈ lw_all := lw_g (lw_at lw_m5 172 rfl) rfl
theorem q1232 : (Jvm.Cond.methodLink "FirstdanceAgency$SongRow" (38 : Nat) ({ cls := "java/lang/StringBuilder", name := "append", desc := "(I)Ljava/lang/StringBuilder;" } : Jvm.MethodName)) ∈ lw_all := lw_g (lw_at lw_m5 173 rfl) rfl
theorem q1305 : (Jvm.Cond.methodLink "FirstdanceAgency$SongRow" (44 : Nat) ({ cls := "java/lang/StringBuilder", name := "append", desc := "(C)Ljava/lang/StringBuilder;" } : Jvm.MethodName)) ∈ lw_all := lw_g (lw_at lw_m6 6 rfl) rfl
theorem q1344 : (Jvm.Cond.methodLink "FirstdanceAgency$SongRow" (47 : Nat) ({ cls := "FirstdanceAgency$SongRow", name := "tell", desc := "(Ljava/lang/StringBuilder;)V" } : Jvm.MethodName)) ∈ lw_all := lw_g (lw_at lw_m6 45 rfl) rfl
theorem q2106 : (Jvm.Cond.castable "FirstdanceAgency$SongRow" "java/lang/Object") ∈ lw_tbl := lw_at lw_m9 87 rfl
theorem in_X13 : ∀ w ∈ wsX130, w ∈ lw_all := lw_in wsX130 [700, 702, 704] (by decide +kernel) (by decide +kernel)

/-! FirstdanceAgency$Sum -/
set_option maxRecDepth 100000
def RX14 : String := "FirstdanceAgency$Sum"
def TX14 : u_T := fun k => match k with
  | _ => ("FirstdanceAgency$Sum", "total", "J", false)
def tyX14 : Nat → FieldType := fun k => match k with
  | _ => .long
abbrev wsX140 : List Cond := u_ws RX14 TX14 1
theorem nmX14 : ∀ a, a < 1 → ∀ b, b < 1 → a ≠ b → (TX14 a).2.1 ≠ (TX14 b).2.1 := by decide +kernel
theorem tyX14_ok : ∀ k, k < 1 → parseFieldDescriptor (TX14 k).2.2.1 = some (tyX14 k) := by decide +kernel
abbrev cX14_init : ByteArray := prog_9_method_1_code
def yX14_init : MethodName := ⟨RX14, "<init>", "()V"⟩
def dkwX14_init_0 : List UInt8 := [42, 183, 0, 1, 42, 20, 0, 7, 181, 0, 9, 177]
abbrev dktX14_init_0 : List UInt8 := dkwX14_init_0 ++ []
theorem dksX14_init_0 : cX14_init.data.toList.drop 0 = dktX14_init_0 := by decide +kernel
theorem dX14_init_0 : decode cX14_init 0 = .ok (.aload_n 0, 1) := dk_42 (dk_at dksX14_init_0 0 rfl rfl)
theorem dX14_init_1 : decode cX14_init 1 = .ok (.invokespecial 1, 3) := dk_183 0 1 (dk_at dksX14_init_0 1 rfl rfl)
theorem dX14_init_4 : decode cX14_init 4 = .ok (.aload_n 0, 1) := dk_42 (dk_at dksX14_init_0 4 rfl rfl)
theorem dX14_init_5 : decode cX14_init 5 = .ok (.ldc2_w 7, 3) := dk_20 0 7 (dk_at dksX14_init_0 5 rfl rfl)
theorem dX14_init_8 : decode cX14_init 8 = .ok (.putfield 9, 3) := dk_181 0 9 (dk_at dksX14_init_0 8 rfl rfl)
theorem dX14_init_11 : decode cX14_init 11 = .ok (.return_, 1) := dk_177 (dk_at dksX14_init_0 11 rfl rfl)
abbrev cX14_add : ByteArray := prog_9_method_2_code
def yX14_add : MethodName := ⟨RX14, "add", "(J)V"⟩
def dkwX14_add_0 : List UInt8 := [42, 42, 180, 0, 9, 20, 0, 15, 105, 31, 97, 181, 0, 9, 177]
abbrev dktX14_add_0 : List UInt8 := dkwX14_add_0 ++ []
theorem dksX14_add_0 : cX14_add.data.toList.drop 0 = dktX14_add_0 := by decide +kernel
theorem dX14_add_0 : decode cX14_add 0 = .ok (.aload_n 0, 1) := dk_42 (dk_at dksX14_add_0 0 rfl rfl)
theorem dX14_add_1 : decode cX14_add 1 = .ok (.aload_n 0, 1) := dk_42 (dk_at dksX14_add_0 1 rfl rfl)
theorem dX14_add_2 : decode cX14_add 2 = .ok (.getfield 9, 3) := dk_180 0 9 (dk_at dksX14_add_0 2 rfl rfl)
theorem dX14_add_5 : decode cX14_add 5 = .ok (.ldc2_w 15, 3) := dk_20 0 15 (dk_at dksX14_add_0 5 rfl rfl)
theorem dX14_add_8 : decode cX14_add 8 = .ok (.lmul, 1) := dk_105 (dk_at dksX14_add_0 8 rfl rfl)
theorem dX14_add_9 : decode cX14_add 9 = .ok (.lload_n 1, 1) := dk_31 (dk_at dksX14_add_0 9 rfl rfl)
theorem dX14_add_10 : decode cX14_add 10 = .ok (.ladd, 1) := dk_97 (dk_at dksX14_add_0 10 rfl rfl)
theorem dX14_add_11 : decode cX14_add 11 = .ok (.putfield 9, 3) := dk_181 0 9 (dk_at dksX14_add_0 11 rfl rfl)
theorem dX14_add_14 : decode cX14_add 14 = .ok (.return_, 1) := dk_177 (dk_at dksX14_add_0 14 rfl rfl)
theorem q140 : (Jvm.Cond.initialized "FirstdanceAgency$Sum") ∈ lw_all := lw_g (lw_at lw_m1 41 rfl) rfl
theorem q269 : (Jvm.Cond.selects "FirstdanceAgency$Sum" ({ cls := "java/lang/Object", name := "getClass", desc := "()Ljava/lang/Class;" } : Jvm.MethodName) ({ cls := "java/lang/Object", name := "getClass", desc := "()Ljava/lang/Class;" } : Jvm.MethodName)) ∈ lw_all := lw_g (lw_at lw_m1 170 rfl) rfl
theorem q430 : (Jvm.Cond.instantiable "FirstdanceAgency$Sum" (1 : Nat)) ∈ lw_all := lw_g (lw_at lw_m2 91 rfl) rfl
theorem q432 : (Jvm.Cond.instanceMethod ({ cls := "FirstdanceAgency$Sum", name := "<init>", desc := "()V" } : Jvm.MethodName)) ∈ lw_all := lw_g (lw_at lw_m2 93 rfl) rfl
theorem q433 : (Jvm.Cond.code ({ cls := "FirstdanceAgency$Sum", name := "<init>", desc := "()V" } : Jvm.MethodName) prog_9_method_1_code (1 : Nat) (Option.none : Option Jvm.ClassFile.FieldType)) ∈ lw_all := lw_g (lw_at lw_m2 94 rfl) rfl
theorem q434 : (Jvm.Cond.methodLink "FirstdanceAgency$Sum" (1 : Nat) ({ cls := "java/lang/Object", name := "<init>", desc := "()V" } : Jvm.MethodName)) ∈ lw_all := lw_g (lw_at lw_m2 95 rfl) rfl
theorem q435 : (Jvm.Cond.constantLong "FirstdanceAgency$Sum" (7 : Nat) (58278 : Int64)) ∈ lw_all := lw_g (lw_at lw_m2 96 rfl) rfl
theorem q436 : (Jvm.Cond.fieldLink "FirstdanceAgency$Sum" (9 : Nat) "FirstdanceAgency$Sum" "total" "J") ∈ lw_all := lw_g (lw_at lw_m2 97 rfl) rfl
theorem q438 : (Jvm.Cond.lays "FirstdanceAgency$Sum" "FirstdanceAgency$Sum" "total" "J") ∈ lw_all := lw_g (lw_at lw_m2 99 rfl) rfl
theorem q439 : (Jvm.Cond.soleField "FirstdanceAgency$Sum" "total") ∈ lw_all := lw_g (lw_at lw_m2 100 rfl) rfl
theorem q440 : (Jvm.Cond.superclass "FirstdanceAgency$Sum" "java/lang/Object") ∈ lw_all := lw_g (lw_at lw_m2 101 rfl) rfl
theorem q442 : (Jvm.Cond.instanceMethod ({ cls := "FirstdanceAgency$Sum", name := "add", desc := "(J)V" } : Jvm.MethodName)) ∈ lw_all := lw_g (lw_at lw_m2 103 rfl) rfl
theorem q443 : (Jvm.Cond.selects "FirstdanceAgency$Sum" ({ cls := "FirstdanceAgency$Sum", name := "add", desc := "(J)V" } : Jvm.MethodName) ({ cls := "FirstdanceAgency$Sum", name := "add", desc := "(J)V" } : Jvm.MethodName)) ∈ lw_all := lw_g (lw_at lw_m2 104 rfl) rfl
theorem q444 : (Jvm.Cond.code ({ cls := "FirstdanceAgency$Sum", name := "add", desc := "(J)V" } : Jvm.MethodName) prog_9_method_2_code (3 : Nat) (Option.none : Option Jvm.ClassFile.FieldType)) ∈ lw_all := lw_g (lw_at lw_m2 105 rfl) rfl
theorem q445 : (Jvm.Cond.constantLong "FirstdanceAgency$Sum" (15 : Nat) (31 : Int64)) ∈ lw_all := lw_g (lw_at lw_m2 106 rfl) rfl
theorem q2109 : (Jvm.Cond.castable "FirstdanceAgency$Sum" "java/lang/Object") ∈ lw_tbl := lw_at lw_m9 90 rfl
theorem in_X14 : ∀ w ∈ wsX140, w ∈ lw_all := lw_in wsX140 [438] (by decide +kernel) (by decide +kernel)

/-! FirstdanceAgency$Roads -/
set_option maxRecDepth 100000
def RX2 : String := "FirstdanceAgency$Roads"
def TX2 : u_T := fun k => match k with
  | 0 => ("FirstdanceAgency$Roads", "hours", "[I", true)
  | _ => ("FirstdanceAgency$Roads", "drives", "[I", true)
def tyX2 : Nat → FieldType := fun k => match k with
  | 0 => .array .int
  | _ => .array .int
abbrev wsX20 : List Cond := u_ws RX2 TX2 2
theorem nmX2 : ∀ a, a < 2 → ∀ b, b < 2 → a ≠ b → (TX2 a).2.1 ≠ (TX2 b).2.1 := by decide +kernel
theorem tyX2_ok : ∀ k, k < 2 → parseFieldDescriptor (TX2 k).2.2.1 = some (tyX2 k) := by decide +kernel
abbrev cX2_init : ByteArray := prog_4_method_1_code
def yX2_init : MethodName := ⟨RX2, "<init>", "()V"⟩
def dkwX2_init_1 : List UInt8 := [177]
abbrev dktX2_init_1 : List UInt8 := dkwX2_init_1 ++ []
def dkwX2_init_0 : List UInt8 := [42, 183, 0, 3, 42, 16, 36, 188, 10, 181, 0, 9, 42, 16, 36, 188, 10, 181, 0, 15, 42, 182, 0, 18]
abbrev dktX2_init_0 : List UInt8 := dkwX2_init_0 ++ dktX2_init_1
theorem dksX2_init_0 : cX2_init.data.toList.drop 0 = dktX2_init_0 := by decide +kernel
theorem dksX2_init_1 : cX2_init.data.toList.drop 24 = dktX2_init_1 := dk_seg dksX2_init_0 24 rfl rfl
theorem dX2_init_0 : decode cX2_init 0 = .ok (.aload_n 0, 1) := dk_42 (dk_at dksX2_init_0 0 rfl rfl)
theorem dX2_init_1 : decode cX2_init 1 = .ok (.invokespecial 3, 3) := dk_183 0 3 (dk_at dksX2_init_0 1 rfl rfl)
theorem dX2_init_4 : decode cX2_init 4 = .ok (.aload_n 0, 1) := dk_42 (dk_at dksX2_init_0 4 rfl rfl)
theorem dX2_init_5 : decode cX2_init 5 = .ok (.bipush 36, 2) := dk_16 36 (dk_at dksX2_init_0 5 rfl rfl)
theorem dX2_init_7 : decode cX2_init 7 = .ok (.newarray .int, 2) := dk_188_10 (dk_at dksX2_init_0 7 rfl rfl)
theorem dX2_init_9 : decode cX2_init 9 = .ok (.putfield 9, 3) := dk_181 0 9 (dk_at dksX2_init_0 9 rfl rfl)
theorem dX2_init_12 : decode cX2_init 12 = .ok (.aload_n 0, 1) := dk_42 (dk_at dksX2_init_0 12 rfl rfl)
theorem dX2_init_13 : decode cX2_init 13 = .ok (.bipush 36, 2) := dk_16 36 (dk_at dksX2_init_0 13 rfl rfl)
theorem dX2_init_15 : decode cX2_init 15 = .ok (.newarray .int, 2) := dk_188_10 (dk_at dksX2_init_0 15 rfl rfl)
theorem dX2_init_17 : decode cX2_init 17 = .ok (.putfield 15, 3) := dk_181 0 15 (dk_at dksX2_init_0 17 rfl rfl)
theorem dX2_init_20 : decode cX2_init 20 = .ok (.aload_n 0, 1) := dk_42 (dk_at dksX2_init_0 20 rfl rfl)
theorem dX2_init_21 : decode cX2_init 21 = .ok (.invokevirtual 18, 3) := dk_182 0 18 (dk_at dksX2_init_0 21 rfl rfl)
theorem dX2_init_24 : decode cX2_init 24 = .ok (.return_, 1) := dk_177 (dk_at dksX2_init_1 0 rfl rfl)
abbrev cX2_find : ByteArray := prog_4_method_3_code
def yX2_find : MethodName := ⟨RX2, "find", "()V"⟩
def dkwX2_find_7 : List UInt8 := [96, 167, 0, 9, 42, 180, 0, 15, 28, 46, 79, 132, 2, 1, 167, 255, 146, 132, 1, 1, 167, 255, 132, 177]
abbrev dktX2_find_7 : List UInt8 := dkwX2_find_7 ++ []
def dkwX2_find_6 : List UInt8 := [46, 162, 0, 7, 4, 167, 0, 4, 3, 54, 6, 42, 180, 0, 15, 28, 21, 6, 153, 0, 10, 29, 21, 4]
abbrev dktX2_find_6 : List UInt8 := dkwX2_find_6 ++ dktX2_find_7
def dkwX2_find_5 : List UInt8 := [21, 5, 153, 0, 30, 42, 180, 0, 15, 28, 46, 2, 159, 0, 16, 29, 21, 4, 96, 42, 180, 0, 15, 28]
abbrev dktX2_find_5 : List UInt8 := dkwX2_find_5 ++ dktX2_find_6
def dkwX2_find_4 : List UInt8 := [182, 0, 21, 54, 4, 29, 2, 159, 0, 13, 21, 4, 2, 159, 0, 7, 4, 167, 0, 4, 3, 54, 5]
abbrev dktX2_find_4 : List UInt8 := dkwX2_find_4 ++ dktX2_find_5
def dkwX2_find_3 : List UInt8 := [180, 0, 15, 190, 162, 0, 107, 42, 28, 16, 6, 108, 27, 182, 0, 21, 62, 42, 27, 28, 16, 6, 112]
abbrev dktX2_find_3 : List UInt8 := dkwX2_find_3 ++ dktX2_find_4
def dkwX2_find_2 : List UInt8 := [167, 0, 4, 2, 79, 132, 1, 1, 167, 255, 204, 3, 60, 27, 16, 6, 162, 0, 124, 3, 61, 28, 42]
abbrev dktX2_find_2 : List UInt8 := dkwX2_find_2 ++ dktX2_find_3
def dkwX2_find_1 : List UInt8 := [160, 0, 7, 3, 167, 0, 22, 42, 180, 0, 9, 27, 46, 158, 0, 12, 42, 180, 0, 9, 27, 46]
abbrev dktX2_find_1 : List UInt8 := dkwX2_find_1 ++ dktX2_find_2
def dkwX2_find_0 : List UInt8 := [3, 60, 27, 42, 180, 0, 15, 190, 162, 0, 49, 42, 180, 0, 15, 27, 27, 16, 6, 108, 27, 16, 6, 112]
abbrev dktX2_find_0 : List UInt8 := dkwX2_find_0 ++ dktX2_find_1
theorem dksX2_find_0 : cX2_find.data.toList.drop 0 = dktX2_find_0 := by decide +kernel
theorem dksX2_find_1 : cX2_find.data.toList.drop 24 = dktX2_find_1 := dk_seg dksX2_find_0 24 rfl rfl
theorem dksX2_find_2 : cX2_find.data.toList.drop 46 = dktX2_find_2 := dk_seg dksX2_find_1 22 rfl rfl
theorem dksX2_find_3 : cX2_find.data.toList.drop 69 = dktX2_find_3 := dk_seg dksX2_find_2 23 rfl rfl
theorem dksX2_find_4 : cX2_find.data.toList.drop 92 = dktX2_find_4 := dk_seg dksX2_find_3 23 rfl rfl
theorem dksX2_find_5 : cX2_find.data.toList.drop 115 = dktX2_find_5 := dk_seg dksX2_find_4 23 rfl rfl
theorem dksX2_find_6 : cX2_find.data.toList.drop 139 = dktX2_find_6 := dk_seg dksX2_find_5 24 rfl rfl
theorem dksX2_find_7 : cX2_find.data.toList.drop 163 = dktX2_find_7 := dk_seg dksX2_find_6 24 rfl rfl
theorem dX2_find_0 : decode cX2_find 0 = .ok (.iconst 0, 1) := dk_3 (dk_at dksX2_find_0 0 rfl rfl)
theorem dX2_find_1 : decode cX2_find 1 = .ok (.istore_n 1, 1) := dk_60 (dk_at dksX2_find_0 1 rfl rfl)
theorem dX2_find_2 : decode cX2_find 2 = .ok (.iload_n 1, 1) := dk_27 (dk_at dksX2_find_0 2 rfl rfl)
theorem dX2_find_3 : decode cX2_find 3 = .ok (.aload_n 0, 1) := dk_42 (dk_at dksX2_find_0 3 rfl rfl)
theorem dX2_find_4 : decode cX2_find 4 = .ok (.getfield 15, 3) := dk_180 0 15 (dk_at dksX2_find_0 4 rfl rfl)
theorem dX2_find_7 : decode cX2_find 7 = .ok (.arraylength, 1) := dk_190 (dk_at dksX2_find_0 7 rfl rfl)
theorem dX2_find_8 : decode cX2_find 8 = .ok (.if_icmp .ge 49, 3) := dk_162 0 49 (dk_at dksX2_find_0 8 rfl rfl)
theorem dX2_find_11 : decode cX2_find 11 = .ok (.aload_n 0, 1) := dk_42 (dk_at dksX2_find_0 11 rfl rfl)
theorem dX2_find_12 : decode cX2_find 12 = .ok (.getfield 15, 3) := dk_180 0 15 (dk_at dksX2_find_0 12 rfl rfl)
theorem dX2_find_15 : decode cX2_find 15 = .ok (.iload_n 1, 1) := dk_27 (dk_at dksX2_find_0 15 rfl rfl)
theorem dX2_find_16 : decode cX2_find 16 = .ok (.iload_n 1, 1) := dk_27 (dk_at dksX2_find_0 16 rfl rfl)
theorem dX2_find_17 : decode cX2_find 17 = .ok (.bipush 6, 2) := dk_16 6 (dk_at dksX2_find_0 17 rfl rfl)
theorem dX2_find_19 : decode cX2_find 19 = .ok (.idiv, 1) := dk_108 (dk_at dksX2_find_0 19 rfl rfl)
theorem dX2_find_20 : decode cX2_find 20 = .ok (.iload_n 1, 1) := dk_27 (dk_at dksX2_find_0 20 rfl rfl)
theorem dX2_find_21 : decode cX2_find 21 = .ok (.bipush 6, 2) := dk_16 6 (dk_at dksX2_find_0 21 rfl rfl)
theorem dX2_find_23 : decode cX2_find 23 = .ok (.irem, 1) := dk_112 (dk_at dksX2_find_0 23 rfl rfl)
theorem dX2_find_24 : decode cX2_find 24 = .ok (.if_icmp .ne 7, 3) := dk_160 0 7 (dk_at dksX2_find_1 0 rfl rfl)
theorem dX2_find_27 : decode cX2_find 27 = .ok (.iconst 0, 1) := dk_3 (dk_at dksX2_find_1 3 rfl rfl)
theorem dX2_find_28 : decode cX2_find 28 = .ok (.goto 22, 3) := dk_167 0 22 (dk_at dksX2_find_1 4 rfl rfl)
theorem dX2_find_31 : decode cX2_find 31 = .ok (.aload_n 0, 1) := dk_42 (dk_at dksX2_find_1 7 rfl rfl)
theorem dX2_find_32 : decode cX2_find 32 = .ok (.getfield 9, 3) := dk_180 0 9 (dk_at dksX2_find_1 8 rfl rfl)
theorem dX2_find_35 : decode cX2_find 35 = .ok (.iload_n 1, 1) := dk_27 (dk_at dksX2_find_1 11 rfl rfl)
theorem dX2_find_36 : decode cX2_find 36 = .ok (.iaload, 1) := dk_46 (dk_at dksX2_find_1 12 rfl rfl)
theorem dX2_find_37 : decode cX2_find 37 = .ok (.ifCond .le 12, 3) := dk_158 0 12 (dk_at dksX2_find_1 13 rfl rfl)
theorem dX2_find_40 : decode cX2_find 40 = .ok (.aload_n 0, 1) := dk_42 (dk_at dksX2_find_1 16 rfl rfl)
theorem dX2_find_41 : decode cX2_find 41 = .ok (.getfield 9, 3) := dk_180 0 9 (dk_at dksX2_find_1 17 rfl rfl)
theorem dX2_find_44 : decode cX2_find 44 = .ok (.iload_n 1, 1) := dk_27 (dk_at dksX2_find_1 20 rfl rfl)
theorem dX2_find_45 : decode cX2_find 45 = .ok (.iaload, 1) := dk_46 (dk_at dksX2_find_1 21 rfl rfl)
theorem dX2_find_46 : decode cX2_find 46 = .ok (.goto 4, 3) := dk_167 0 4 (dk_at dksX2_find_2 0 rfl rfl)
theorem dX2_find_49 : decode cX2_find 49 = .ok (.iconst (-1), 1) := dk_2 (dk_at dksX2_find_2 3 rfl rfl)
theorem dX2_find_50 : decode cX2_find 50 = .ok (.iastore, 1) := dk_79 (dk_at dksX2_find_2 4 rfl rfl)
theorem dX2_find_51 : decode cX2_find 51 = .ok (.iinc 1 1, 3) := dk_132 1 1 (dk_at dksX2_find_2 5 rfl rfl)
theorem dX2_find_54 : decode cX2_find 54 = .ok (.goto (-52), 3) := dk_167 255 204 (dk_at dksX2_find_2 8 rfl rfl)
theorem dX2_find_57 : decode cX2_find 57 = .ok (.iconst 0, 1) := dk_3 (dk_at dksX2_find_2 11 rfl rfl)
theorem dX2_find_58 : decode cX2_find 58 = .ok (.istore_n 1, 1) := dk_60 (dk_at dksX2_find_2 12 rfl rfl)
theorem dX2_find_59 : decode cX2_find 59 = .ok (.iload_n 1, 1) := dk_27 (dk_at dksX2_find_2 13 rfl rfl)
theorem dX2_find_60 : decode cX2_find 60 = .ok (.bipush 6, 2) := dk_16 6 (dk_at dksX2_find_2 14 rfl rfl)
theorem dX2_find_62 : decode cX2_find 62 = .ok (.if_icmp .ge 124, 3) := dk_162 0 124 (dk_at dksX2_find_2 16 rfl rfl)
theorem dX2_find_65 : decode cX2_find 65 = .ok (.iconst 0, 1) := dk_3 (dk_at dksX2_find_2 19 rfl rfl)
theorem dX2_find_66 : decode cX2_find 66 = .ok (.istore_n 2, 1) := dk_61 (dk_at dksX2_find_2 20 rfl rfl)
theorem dX2_find_67 : decode cX2_find 67 = .ok (.iload_n 2, 1) := dk_28 (dk_at dksX2_find_2 21 rfl rfl)
theorem dX2_find_68 : decode cX2_find 68 = .ok (.aload_n 0, 1) := dk_42 (dk_at dksX2_find_2 22 rfl rfl)
theorem dX2_find_69 : decode cX2_find 69 = .ok (.getfield 15, 3) := dk_180 0 15 (dk_at dksX2_find_3 0 rfl rfl)
theorem dX2_find_72 : decode cX2_find 72 = .ok (.arraylength, 1) := dk_190 (dk_at dksX2_find_3 3 rfl rfl)
theorem dX2_find_73 : decode cX2_find 73 = .ok (.if_icmp .ge 107, 3) := dk_162 0 107 (dk_at dksX2_find_3 4 rfl rfl)
theorem dX2_find_76 : decode cX2_find 76 = .ok (.aload_n 0, 1) := dk_42 (dk_at dksX2_find_3 7 rfl rfl)
theorem dX2_find_77 : decode cX2_find 77 = .ok (.iload_n 2, 1) := dk_28 (dk_at dksX2_find_3 8 rfl rfl)
theorem dX2_find_78 : decode cX2_find 78 = .ok (.bipush 6, 2) := dk_16 6 (dk_at dksX2_find_3 9 rfl rfl)
theorem dX2_find_80 : decode cX2_find 80 = .ok (.idiv, 1) := dk_108 (dk_at dksX2_find_3 11 rfl rfl)
theorem dX2_find_81 : decode cX2_find 81 = .ok (.iload_n 1, 1) := dk_27 (dk_at dksX2_find_3 12 rfl rfl)
theorem dX2_find_82 : decode cX2_find 82 = .ok (.invokevirtual 21, 3) := dk_182 0 21 (dk_at dksX2_find_3 13 rfl rfl)
theorem dX2_find_85 : decode cX2_find 85 = .ok (.istore_n 3, 1) := dk_62 (dk_at dksX2_find_3 16 rfl rfl)
theorem dX2_find_86 : decode cX2_find 86 = .ok (.aload_n 0, 1) := dk_42 (dk_at dksX2_find_3 17 rfl rfl)
theorem dX2_find_87 : decode cX2_find 87 = .ok (.iload_n 1, 1) := dk_27 (dk_at dksX2_find_3 18 rfl rfl)
theorem dX2_find_88 : decode cX2_find 88 = .ok (.iload_n 2, 1) := dk_28 (dk_at dksX2_find_3 19 rfl rfl)
theorem dX2_find_89 : decode cX2_find 89 = .ok (.bipush 6, 2) := dk_16 6 (dk_at dksX2_find_3 20 rfl rfl)
theorem dX2_find_91 : decode cX2_find 91 = .ok (.irem, 1) := dk_112 (dk_at dksX2_find_3 22 rfl rfl)
theorem dX2_find_92 : decode cX2_find 92 = .ok (.invokevirtual 21, 3) := dk_182 0 21 (dk_at dksX2_find_4 0 rfl rfl)
theorem dX2_find_95 : decode cX2_find 95 = .ok (.istore 4, 2) := dk_54 4 (dk_at dksX2_find_4 3 rfl rfl)
theorem dX2_find_97 : decode cX2_find 97 = .ok (.iload_n 3, 1) := dk_29 (dk_at dksX2_find_4 5 rfl rfl)
theorem dX2_find_98 : decode cX2_find 98 = .ok (.iconst (-1), 1) := dk_2 (dk_at dksX2_find_4 6 rfl rfl)
theorem dX2_find_99 : decode cX2_find 99 = .ok (.if_icmp .eq 13, 3) := dk_159 0 13 (dk_at dksX2_find_4 7 rfl rfl)
theorem dX2_find_102 : decode cX2_find 102 = .ok (.iload 4, 2) := dk_21 4 (dk_at dksX2_find_4 10 rfl rfl)
theorem dX2_find_104 : decode cX2_find 104 = .ok (.iconst (-1), 1) := dk_2 (dk_at dksX2_find_4 12 rfl rfl)
theorem dX2_find_105 : decode cX2_find 105 = .ok (.if_icmp .eq 7, 3) := dk_159 0 7 (dk_at dksX2_find_4 13 rfl rfl)
theorem dX2_find_108 : decode cX2_find 108 = .ok (.iconst 1, 1) := dk_4 (dk_at dksX2_find_4 16 rfl rfl)
theorem dX2_find_109 : decode cX2_find 109 = .ok (.goto 4, 3) := dk_167 0 4 (dk_at dksX2_find_4 17 rfl rfl)
theorem dX2_find_112 : decode cX2_find 112 = .ok (.iconst 0, 1) := dk_3 (dk_at dksX2_find_4 20 rfl rfl)
theorem dX2_find_113 : decode cX2_find 113 = .ok (.istore 5, 2) := dk_54 5 (dk_at dksX2_find_4 21 rfl rfl)
theorem dX2_find_115 : decode cX2_find 115 = .ok (.iload 5, 2) := dk_21 5 (dk_at dksX2_find_5 0 rfl rfl)
theorem dX2_find_117 : decode cX2_find 117 = .ok (.ifCond .eq 30, 3) := dk_153 0 30 (dk_at dksX2_find_5 2 rfl rfl)
theorem dX2_find_120 : decode cX2_find 120 = .ok (.aload_n 0, 1) := dk_42 (dk_at dksX2_find_5 5 rfl rfl)
theorem dX2_find_121 : decode cX2_find 121 = .ok (.getfield 15, 3) := dk_180 0 15 (dk_at dksX2_find_5 6 rfl rfl)
theorem dX2_find_124 : decode cX2_find 124 = .ok (.iload_n 2, 1) := dk_28 (dk_at dksX2_find_5 9 rfl rfl)
theorem dX2_find_125 : decode cX2_find 125 = .ok (.iaload, 1) := dk_46 (dk_at dksX2_find_5 10 rfl rfl)
theorem dX2_find_126 : decode cX2_find 126 = .ok (.iconst (-1), 1) := dk_2 (dk_at dksX2_find_5 11 rfl rfl)
theorem dX2_find_127 : decode cX2_find 127 = .ok (.if_icmp .eq 16, 3) := dk_159 0 16 (dk_at dksX2_find_5 12 rfl rfl)
theorem dX2_find_130 : decode cX2_find 130 = .ok (.iload_n 3, 1) := dk_29 (dk_at dksX2_find_5 15 rfl rfl)
theorem dX2_find_131 : decode cX2_find 131 = .ok (.iload 4, 2) := dk_21 4 (dk_at dksX2_find_5 16 rfl rfl)
theorem dX2_find_133 : decode cX2_find 133 = .ok (.iadd, 1) := dk_96 (dk_at dksX2_find_5 18 rfl rfl)
theorem dX2_find_134 : decode cX2_find 134 = .ok (.aload_n 0, 1) := dk_42 (dk_at dksX2_find_5 19 rfl rfl)
theorem dX2_find_135 : decode cX2_find 135 = .ok (.getfield 15, 3) := dk_180 0 15 (dk_at dksX2_find_5 20 rfl rfl)
theorem dX2_find_138 : decode cX2_find 138 = .ok (.iload_n 2, 1) := dk_28 (dk_at dksX2_find_5 23 rfl rfl)
theorem dX2_find_139 : decode cX2_find 139 = .ok (.iaload, 1) := dk_46 (dk_at dksX2_find_6 0 rfl rfl)
theorem dX2_find_140 : decode cX2_find 140 = .ok (.if_icmp .ge 7, 3) := dk_162 0 7 (dk_at dksX2_find_6 1 rfl rfl)
theorem dX2_find_143 : decode cX2_find 143 = .ok (.iconst 1, 1) := dk_4 (dk_at dksX2_find_6 4 rfl rfl)
theorem dX2_find_144 : decode cX2_find 144 = .ok (.goto 4, 3) := dk_167 0 4 (dk_at dksX2_find_6 5 rfl rfl)
theorem dX2_find_147 : decode cX2_find 147 = .ok (.iconst 0, 1) := dk_3 (dk_at dksX2_find_6 8 rfl rfl)
theorem dX2_find_148 : decode cX2_find 148 = .ok (.istore 6, 2) := dk_54 6 (dk_at dksX2_find_6 9 rfl rfl)
theorem dX2_find_150 : decode cX2_find 150 = .ok (.aload_n 0, 1) := dk_42 (dk_at dksX2_find_6 11 rfl rfl)
theorem dX2_find_151 : decode cX2_find 151 = .ok (.getfield 15, 3) := dk_180 0 15 (dk_at dksX2_find_6 12 rfl rfl)
theorem dX2_find_154 : decode cX2_find 154 = .ok (.iload_n 2, 1) := dk_28 (dk_at dksX2_find_6 15 rfl rfl)
theorem dX2_find_155 : decode cX2_find 155 = .ok (.iload 6, 2) := dk_21 6 (dk_at dksX2_find_6 16 rfl rfl)
theorem dX2_find_157 : decode cX2_find 157 = .ok (.ifCond .eq 10, 3) := dk_153 0 10 (dk_at dksX2_find_6 18 rfl rfl)
theorem dX2_find_160 : decode cX2_find 160 = .ok (.iload_n 3, 1) := dk_29 (dk_at dksX2_find_6 21 rfl rfl)
theorem dX2_find_161 : decode cX2_find 161 = .ok (.iload 4, 2) := dk_21 4 (dk_at dksX2_find_6 22 rfl rfl)
theorem dX2_find_163 : decode cX2_find 163 = .ok (.iadd, 1) := dk_96 (dk_at dksX2_find_7 0 rfl rfl)
theorem dX2_find_164 : decode cX2_find 164 = .ok (.goto 9, 3) := dk_167 0 9 (dk_at dksX2_find_7 1 rfl rfl)
theorem dX2_find_167 : decode cX2_find 167 = .ok (.aload_n 0, 1) := dk_42 (dk_at dksX2_find_7 4 rfl rfl)
theorem dX2_find_168 : decode cX2_find 168 = .ok (.getfield 15, 3) := dk_180 0 15 (dk_at dksX2_find_7 5 rfl rfl)
theorem dX2_find_171 : decode cX2_find 171 = .ok (.iload_n 2, 1) := dk_28 (dk_at dksX2_find_7 8 rfl rfl)
theorem dX2_find_172 : decode cX2_find 172 = .ok (.iaload, 1) := dk_46 (dk_at dksX2_find_7 9 rfl rfl)
theorem dX2_find_173 : decode cX2_find 173 = .ok (.iastore, 1) := dk_79 (dk_at dksX2_find_7 10 rfl rfl)
theorem dX2_find_174 : decode cX2_find 174 = .ok (.iinc 2 1, 3) := dk_132 2 1 (dk_at dksX2_find_7 11 rfl rfl)
theorem dX2_find_177 : decode cX2_find 177 = .ok (.goto (-110), 3) := dk_167 255 146 (dk_at dksX2_find_7 14 rfl rfl)
theorem dX2_find_180 : decode cX2_find 180 = .ok (.iinc 1 1, 3) := dk_132 1 1 (dk_at dksX2_find_7 17 rfl rfl)
theorem dX2_find_183 : decode cX2_find 183 = .ok (.goto (-124), 3) := dk_167 255 132 (dk_at dksX2_find_7 20 rfl rfl)
theorem dX2_find_186 : decode cX2_find 186 = .ok (.return_, 1) := dk_177 (dk_at dksX2_find_7 23 rfl rfl)
abbrev cX2_drive : ByteArray := prog_4_method_4_code
def yX2_drive : MethodName := ⟨RX2, "drive", "(II)I"⟩
def dkwX2_drive_0 : List UInt8 := [42, 180, 0, 15, 27, 16, 6, 104, 28, 96, 46, 172]
abbrev dktX2_drive_0 : List UInt8 := dkwX2_drive_0 ++ []
theorem dksX2_drive_0 : cX2_drive.data.toList.drop 0 = dktX2_drive_0 := by decide +kernel
theorem dX2_drive_0 : decode cX2_drive 0 = .ok (.aload_n 0, 1) := dk_42 (dk_at dksX2_drive_0 0 rfl rfl)
theorem dX2_drive_1 : decode cX2_drive 1 = .ok (.getfield 15, 3) := dk_180 0 15 (dk_at dksX2_drive_0 1 rfl rfl)
theorem dX2_drive_4 : decode cX2_drive 4 = .ok (.iload_n 1, 1) := dk_27 (dk_at dksX2_drive_0 4 rfl rfl)
theorem dX2_drive_5 : decode cX2_drive 5 = .ok (.bipush 6, 2) := dk_16 6 (dk_at dksX2_drive_0 5 rfl rfl)
theorem dX2_drive_7 : decode cX2_drive 7 = .ok (.imul, 1) := dk_104 (dk_at dksX2_drive_0 7 rfl rfl)
theorem dX2_drive_8 : decode cX2_drive 8 = .ok (.iload_n 2, 1) := dk_28 (dk_at dksX2_drive_0 8 rfl rfl)
theorem dX2_drive_9 : decode cX2_drive 9 = .ok (.iadd, 1) := dk_96 (dk_at dksX2_drive_0 9 rfl rfl)
theorem dX2_drive_10 : decode cX2_drive 10 = .ok (.iaload, 1) := dk_46 (dk_at dksX2_drive_0 10 rfl rfl)
theorem dX2_drive_11 : decode cX2_drive 11 = .ok (.ireturn, 1) := dk_172 (dk_at dksX2_drive_0 11 rfl rfl)
abbrev cX2_set : ByteArray := prog_4_method_2_code
def yX2_set : MethodName := ⟨RX2, "set", "(III)V"⟩
def dkwX2_set_1 : List UInt8 := [42, 182, 0, 18, 177]
abbrev dktX2_set_1 : List UInt8 := dkwX2_set_1 ++ []
def dkwX2_set_0 : List UInt8 := [42, 180, 0, 9, 27, 16, 6, 104, 28, 96, 29, 79, 42, 180, 0, 9, 28, 16, 6, 104, 27, 96, 29, 79]
abbrev dktX2_set_0 : List UInt8 := dkwX2_set_0 ++ dktX2_set_1
theorem dksX2_set_0 : cX2_set.data.toList.drop 0 = dktX2_set_0 := by decide +kernel
theorem dksX2_set_1 : cX2_set.data.toList.drop 24 = dktX2_set_1 := dk_seg dksX2_set_0 24 rfl rfl
theorem dX2_set_0 : decode cX2_set 0 = .ok (.aload_n 0, 1) := dk_42 (dk_at dksX2_set_0 0 rfl rfl)
theorem dX2_set_1 : decode cX2_set 1 = .ok (.getfield 9, 3) := dk_180 0 9 (dk_at dksX2_set_0 1 rfl rfl)
theorem dX2_set_4 : decode cX2_set 4 = .ok (.iload_n 1, 1) := dk_27 (dk_at dksX2_set_0 4 rfl rfl)
theorem dX2_set_5 : decode cX2_set 5 = .ok (.bipush 6, 2) := dk_16 6 (dk_at dksX2_set_0 5 rfl rfl)
theorem dX2_set_7 : decode cX2_set 7 = .ok (.imul, 1) := dk_104 (dk_at dksX2_set_0 7 rfl rfl)
theorem dX2_set_8 : decode cX2_set 8 = .ok (.iload_n 2, 1) := dk_28 (dk_at dksX2_set_0 8 rfl rfl)
theorem dX2_set_9 : decode cX2_set 9 = .ok (.iadd, 1) := dk_96 (dk_at dksX2_set_0 9 rfl rfl)
theorem dX2_set_10 : decode cX2_set 10 = .ok (.iload_n 3, 1) := dk_29 (dk_at dksX2_set_0 10 rfl rfl)
theorem dX2_set_11 : decode cX2_set 11 = .ok (.iastore, 1) := dk_79 (dk_at dksX2_set_0 11 rfl rfl)
theorem dX2_set_12 : decode cX2_set 12 = .ok (.aload_n 0, 1) := dk_42 (dk_at dksX2_set_0 12 rfl rfl)
theorem dX2_set_13 : decode cX2_set 13 = .ok (.getfield 9, 3) := dk_180 0 9 (dk_at dksX2_set_0 13 rfl rfl)
theorem dX2_set_16 : decode cX2_set 16 = .ok (.iload_n 2, 1) := dk_28 (dk_at dksX2_set_0 16 rfl rfl)
theorem dX2_set_17 : decode cX2_set 17 = .ok (.bipush 6, 2) := dk_16 6 (dk_at dksX2_set_0 17 rfl rfl)
theorem dX2_set_19 : decode cX2_set 19 = .ok (.imul, 1) := dk_104 (dk_at dksX2_set_0 19 rfl rfl)
theorem dX2_set_20 : decode cX2_set 20 = .ok (.iload_n 1, 1) := dk_27 (dk_at dksX2_set_0 20 rfl rfl)
theorem dX2_set_21 : decode cX2_set 21 = .ok (.iadd, 1) := dk_96 (dk_at dksX2_set_0 21 rfl rfl)
theorem dX2_set_22 : decode cX2_set 22 = .ok (.iload_n 3, 1) := dk_29 (dk_at dksX2_set_0 22 rfl rfl)
theorem dX2_set_23 : decode cX2_set 23 = .ok (.iastore, 1) := dk_79 (dk_at dksX2_set_0 23 rfl rfl)
theorem dX2_set_24 : decode cX2_set 24 = .ok (.aload_n 0, 1) := dk_42 (dk_at dksX2_set_1 0 rfl rfl)
theorem dX2_set_25 : decode cX2_set 25 = .ok (.invokevirtual 18, 3) := dk_182 0 18 (dk_at dksX2_set_1 1 rfl rfl)
theorem dX2_set_28 : decode cX2_set 28 = .ok (.return_, 1) := dk_177 (dk_at dksX2_set_1 4 rfl rfl)
theorem q104 : (Jvm.Cond.initialized "FirstdanceAgency$Roads") ∈ lw_all := lw_g (lw_at lw_m1 5 rfl) rfl
theorem q179 : (Jvm.Cond.instantiable "FirstdanceAgency$Roads" (2 : Nat)) ∈ lw_all := lw_g (lw_at lw_m1 80 rfl) rfl
theorem q181 : (Jvm.Cond.instanceMethod ({ cls := "FirstdanceAgency$Roads", name := "<init>", desc := "()V" } : Jvm.MethodName)) ∈ lw_all := lw_g (lw_at lw_m1 82 rfl) rfl
theorem q182 : (Jvm.Cond.code ({ cls := "FirstdanceAgency$Roads", name := "<init>", desc := "()V" } : Jvm.MethodName) prog_4_method_1_code (1 : Nat) (Option.none : Option Jvm.ClassFile.FieldType)) ∈ lw_all := lw_g (lw_at lw_m1 83 rfl) rfl
theorem q183 : (Jvm.Cond.methodLink "FirstdanceAgency$Roads" (3 : Nat) ({ cls := "java/lang/Object", name := "<init>", desc := "()V" } : Jvm.MethodName)) ∈ lw_all := lw_g (lw_at lw_m1 84 rfl) rfl
theorem q184 : (Jvm.Cond.methodLink "FirstdanceAgency$Roads" (18 : Nat) ({ cls := "FirstdanceAgency$Roads", name := "find", desc := "()V" } : Jvm.MethodName)) ∈ lw_all := lw_g (lw_at lw_m1 85 rfl) rfl
theorem q185 : (Jvm.Cond.privateMethod ({ cls := "FirstdanceAgency$Roads", name := "find", desc := "()V" } : Jvm.MethodName)) ∈ lw_tbl := lw_at lw_m1 86 rfl
theorem q186 : (Jvm.Cond.instanceMethod ({ cls := "FirstdanceAgency$Roads", name := "find", desc := "()V" } : Jvm.MethodName)) ∈ lw_all := lw_g (lw_at lw_m1 87 rfl) rfl
theorem q187 : (Jvm.Cond.code ({ cls := "FirstdanceAgency$Roads", name := "find", desc := "()V" } : Jvm.MethodName) prog_4_method_3_code (7 : Nat) (Option.none : Option Jvm.ClassFile.FieldType)) ∈ lw_all := lw_g (lw_at lw_m1 88 rfl) rfl
theorem q188 : (Jvm.Cond.methodLink "FirstdanceAgency$Roads" (21 : Nat) ({ cls := "FirstdanceAgency$Roads", name := "drive", desc := "(II)I" } : Jvm.MethodName)) ∈ lw_all := lw_g (lw_at lw_m1 89 rfl) rfl
theorem q189 : (Jvm.Cond.instanceMethod ({ cls := "FirstdanceAgency$Roads", name := "drive", desc := "(II)I" } : Jvm.MethodName)) ∈ lw_all := lw_g (lw_at lw_m1 90 rfl) rfl
theorem q190 : (Jvm.Cond.selects "FirstdanceAgency$Roads" ({ cls := "FirstdanceAgency$Roads", name := "drive", desc := "(II)I" } : Jvm.MethodName) ({ cls := "FirstdanceAgency$Roads", name := "drive", desc := "(II)I" } : Jvm.MethodName)) ∈ lw_all := lw_g (lw_at lw_m1 91 rfl) rfl
theorem q191 : (Jvm.Cond.code ({ cls := "FirstdanceAgency$Roads", name := "drive", desc := "(II)I" } : Jvm.MethodName) prog_4_method_4_code (3 : Nat) (Option.some Jvm.ClassFile.FieldType.int)) ∈ lw_all := lw_g (lw_at lw_m1 92 rfl) rfl
theorem q192 : (Jvm.Cond.fieldLink "FirstdanceAgency$Roads" (9 : Nat) "FirstdanceAgency$Roads" "hours" "[I") ∈ lw_all := lw_g (lw_at lw_m1 93 rfl) rfl
theorem q193 : (Jvm.Cond.fieldLink "FirstdanceAgency$Roads" (15 : Nat) "FirstdanceAgency$Roads" "drives" "[I") ∈ lw_all := lw_g (lw_at lw_m1 94 rfl) rfl
theorem q194 : (Jvm.Cond.laysFinal "FirstdanceAgency$Roads" "FirstdanceAgency$Roads" "hours" "[I") ∈ lw_all := lw_g (lw_at lw_m1 95 rfl) rfl
theorem q195 : (Jvm.Cond.soleField "FirstdanceAgency$Roads" "hours") ∈ lw_all := lw_g (lw_at lw_m1 96 rfl) rfl
theorem q196 : (Jvm.Cond.laysFinal "FirstdanceAgency$Roads" "FirstdanceAgency$Roads" "drives" "[I") ∈ lw_all := lw_g (lw_at lw_m1 97 rfl) rfl
theorem q197 : (Jvm.Cond.soleField "FirstdanceAgency$Roads" "drives") ∈ lw_all := lw_g (lw_at lw_m1 98 rfl) rfl
theorem q198 : (Jvm.Cond.superclass "FirstdanceAgency$Roads" "java/lang/Object") ∈ lw_all := lw_g (lw_at lw_m1 99 rfl) rfl
theorem q264 : (Jvm.Cond.selects "FirstdanceAgency$Roads" ({ cls := "java/lang/Object", name := "getClass", desc := "()Ljava/lang/Class;" } : Jvm.MethodName) ({ cls := "java/lang/Object", name := "getClass", desc := "()Ljava/lang/Class;" } : Jvm.MethodName)) ∈ lw_all := lw_g (lw_at lw_m1 165 rfl) rfl
theorem q970 : (Jvm.Cond.instanceMethod ({ cls := "FirstdanceAgency$Roads", name := "set", desc := "(III)V" } : Jvm.MethodName)) ∈ lw_all := lw_g (lw_at lw_m4 151 rfl) rfl
theorem q971 : (Jvm.Cond.selects "FirstdanceAgency$Roads" ({ cls := "FirstdanceAgency$Roads", name := "set", desc := "(III)V" } : Jvm.MethodName) ({ cls := "FirstdanceAgency$Roads", name := "set", desc := "(III)V" } : Jvm.MethodName)) ∈ lw_all := lw_g (lw_at lw_m4 152 rfl) rfl
theorem q972 : (Jvm.Cond.code ({ cls := "FirstdanceAgency$Roads", name := "set", desc := "(III)V" } : Jvm.MethodName) prog_4_method_2_code (4 : Nat) (Option.none : Option Jvm.ClassFile.FieldType)) ∈ lw_all := lw_g (lw_at lw_m4 153 rfl) rfl
theorem q2088 : (Jvm.Cond.castable "FirstdanceAgency$Roads" "java/lang/Object") ∈ lw_tbl := lw_at lw_m9 69 rfl
theorem in_X2 : ∀ w ∈ wsX20, w ∈ lw_all := lw_in wsX20 [194, 196] (by decide +kernel) (by decide +kernel)

/-! FirstdanceAgency$Song -/
set_option maxRecDepth 100000
def RX3 : String := "FirstdanceAgency$Song"
def TX3 : u_T := fun k => match k with
  | 0 => ("FirstdanceAgency$Song", "key", "I", true)
  | 1 => ("FirstdanceAgency$Song", "energy", "I", true)
  | 2 => ("FirstdanceAgency$Song", "minutes", "I", true)
  | _ => ("FirstdanceAgency$Song", "played", "I", true)
def tyX3 : Nat → FieldType := fun k => match k with
  | 0 => .int
  | 1 => .int
  | 2 => .int
  | _ => .int
abbrev wsX30 : List Cond := u_ws RX3 TX3 4
theorem nmX3 : ∀ a, a < 4 → ∀ b, b < 4 → a ≠ b → (TX3 a).2.1 ≠ (TX3 b).2.1 := by decide +kernel
theorem tyX3_ok : ∀ k, k < 4 → parseFieldDescriptor (TX3 k).2.2.1 = some (tyX3 k) := by decide +kernel
abbrev cX3_init : ByteArray := prog_6_method_1_code
def yX3_init : MethodName := ⟨RX3, "<init>", "(IIII)V"⟩
def dkwX3_init_1 : List UInt8 := [181, 0, 21, 177]
abbrev dktX3_init_1 : List UInt8 := dkwX3_init_1 ++ []
def dkwX3_init_0 : List UInt8 := [42, 183, 0, 3, 42, 27, 181, 0, 9, 42, 28, 181, 0, 15, 42, 29, 181, 0, 18, 42, 21, 4]
abbrev dktX3_init_0 : List UInt8 := dkwX3_init_0 ++ dktX3_init_1
theorem dksX3_init_0 : cX3_init.data.toList.drop 0 = dktX3_init_0 := by decide +kernel
theorem dksX3_init_1 : cX3_init.data.toList.drop 22 = dktX3_init_1 := dk_seg dksX3_init_0 22 rfl rfl
theorem dX3_init_0 : decode cX3_init 0 = .ok (.aload_n 0, 1) := dk_42 (dk_at dksX3_init_0 0 rfl rfl)
theorem dX3_init_1 : decode cX3_init 1 = .ok (.invokespecial 3, 3) := dk_183 0 3 (dk_at dksX3_init_0 1 rfl rfl)
theorem dX3_init_4 : decode cX3_init 4 = .ok (.aload_n 0, 1) := dk_42 (dk_at dksX3_init_0 4 rfl rfl)
theorem dX3_init_5 : decode cX3_init 5 = .ok (.iload_n 1, 1) := dk_27 (dk_at dksX3_init_0 5 rfl rfl)
theorem dX3_init_6 : decode cX3_init 6 = .ok (.putfield 9, 3) := dk_181 0 9 (dk_at dksX3_init_0 6 rfl rfl)
theorem dX3_init_9 : decode cX3_init 9 = .ok (.aload_n 0, 1) := dk_42 (dk_at dksX3_init_0 9 rfl rfl)
theorem dX3_init_10 : decode cX3_init 10 = .ok (.iload_n 2, 1) := dk_28 (dk_at dksX3_init_0 10 rfl rfl)
theorem dX3_init_11 : decode cX3_init 11 = .ok (.putfield 15, 3) := dk_181 0 15 (dk_at dksX3_init_0 11 rfl rfl)
theorem dX3_init_14 : decode cX3_init 14 = .ok (.aload_n 0, 1) := dk_42 (dk_at dksX3_init_0 14 rfl rfl)
theorem dX3_init_15 : decode cX3_init 15 = .ok (.iload_n 3, 1) := dk_29 (dk_at dksX3_init_0 15 rfl rfl)
theorem dX3_init_16 : decode cX3_init 16 = .ok (.putfield 18, 3) := dk_181 0 18 (dk_at dksX3_init_0 16 rfl rfl)
theorem dX3_init_19 : decode cX3_init 19 = .ok (.aload_n 0, 1) := dk_42 (dk_at dksX3_init_0 19 rfl rfl)
theorem dX3_init_20 : decode cX3_init 20 = .ok (.iload 4, 2) := dk_21 4 (dk_at dksX3_init_0 20 rfl rfl)
theorem dX3_init_22 : decode cX3_init 22 = .ok (.putfield 21, 3) := dk_181 0 21 (dk_at dksX3_init_1 0 rfl rfl)
theorem dX3_init_25 : decode cX3_init 25 = .ok (.return_, 1) := dk_177 (dk_at dksX3_init_1 3 rfl rfl)
abbrev cX3_fits : ByteArray := prog_6_method_3_code
def yX3_fits : MethodName := ⟨RX3, "fits", "(LFirstdanceAgency$Song;)Z"⟩
def dkwX3_fits_1 : List UInt8 := [163, 0, 7, 4, 167, 0, 4, 3, 172]
abbrev dktX3_fits_1 : List UInt8 := dkwX3_fits_1 ++ []
def dkwX3_fits_0 : List UInt8 := [42, 180, 0, 9, 43, 180, 0, 9, 100, 184, 0, 27, 61, 28, 16, 12, 28, 100, 184, 0, 33, 5]
abbrev dktX3_fits_0 : List UInt8 := dkwX3_fits_0 ++ dktX3_fits_1
theorem dksX3_fits_0 : cX3_fits.data.toList.drop 0 = dktX3_fits_0 := by decide +kernel
theorem dksX3_fits_1 : cX3_fits.data.toList.drop 22 = dktX3_fits_1 := dk_seg dksX3_fits_0 22 rfl rfl
theorem dX3_fits_0 : decode cX3_fits 0 = .ok (.aload_n 0, 1) := dk_42 (dk_at dksX3_fits_0 0 rfl rfl)
theorem dX3_fits_1 : decode cX3_fits 1 = .ok (.getfield 9, 3) := dk_180 0 9 (dk_at dksX3_fits_0 1 rfl rfl)
theorem dX3_fits_4 : decode cX3_fits 4 = .ok (.aload_n 1, 1) := dk_43 (dk_at dksX3_fits_0 4 rfl rfl)
theorem dX3_fits_5 : decode cX3_fits 5 = .ok (.getfield 9, 3) := dk_180 0 9 (dk_at dksX3_fits_0 5 rfl rfl)
theorem dX3_fits_8 : decode cX3_fits 8 = .ok (.isub, 1) := dk_100 (dk_at dksX3_fits_0 8 rfl rfl)
theorem dX3_fits_9 : decode cX3_fits 9 = .ok (.invokestatic 27, 3) := dk_184 0 27 (dk_at dksX3_fits_0 9 rfl rfl)
theorem dX3_fits_12 : decode cX3_fits 12 = .ok (.istore_n 2, 1) := dk_61 (dk_at dksX3_fits_0 12 rfl rfl)
theorem dX3_fits_13 : decode cX3_fits 13 = .ok (.iload_n 2, 1) := dk_28 (dk_at dksX3_fits_0 13 rfl rfl)
theorem dX3_fits_14 : decode cX3_fits 14 = .ok (.bipush 12, 2) := dk_16 12 (dk_at dksX3_fits_0 14 rfl rfl)
theorem dX3_fits_16 : decode cX3_fits 16 = .ok (.iload_n 2, 1) := dk_28 (dk_at dksX3_fits_0 16 rfl rfl)
theorem dX3_fits_17 : decode cX3_fits 17 = .ok (.isub, 1) := dk_100 (dk_at dksX3_fits_0 17 rfl rfl)
theorem dX3_fits_18 : decode cX3_fits 18 = .ok (.invokestatic 33, 3) := dk_184 0 33 (dk_at dksX3_fits_0 18 rfl rfl)
theorem dX3_fits_21 : decode cX3_fits 21 = .ok (.iconst 2, 1) := dk_5 (dk_at dksX3_fits_0 21 rfl rfl)
theorem dX3_fits_22 : decode cX3_fits 22 = .ok (.if_icmp .gt 7, 3) := dk_163 0 7 (dk_at dksX3_fits_1 0 rfl rfl)
theorem dX3_fits_25 : decode cX3_fits 25 = .ok (.iconst 1, 1) := dk_4 (dk_at dksX3_fits_1 3 rfl rfl)
theorem dX3_fits_26 : decode cX3_fits 26 = .ok (.goto 4, 3) := dk_167 0 4 (dk_at dksX3_fits_1 4 rfl rfl)
theorem dX3_fits_29 : decode cX3_fits 29 = .ok (.iconst 0, 1) := dk_3 (dk_at dksX3_fits_1 7 rfl rfl)
theorem dX3_fits_30 : decode cX3_fits 30 = .ok (.ireturn, 1) := dk_172 (dk_at dksX3_fits_1 8 rfl rfl)
abbrev cX3_again : ByteArray := prog_6_method_2_code
def yX3_again : MethodName := ⟨RX3, "again", "()LFirstdanceAgency$Song;"⟩
def dkwX3_again_1 : List UInt8 := [183, 0, 24, 176]
abbrev dktX3_again_1 : List UInt8 := dkwX3_again_1 ++ []
def dkwX3_again_0 : List UInt8 := [187, 0, 10, 89, 42, 180, 0, 9, 42, 180, 0, 15, 42, 180, 0, 18, 42, 180, 0, 21, 4, 96]
abbrev dktX3_again_0 : List UInt8 := dkwX3_again_0 ++ dktX3_again_1
theorem dksX3_again_0 : cX3_again.data.toList.drop 0 = dktX3_again_0 := by decide +kernel
theorem dksX3_again_1 : cX3_again.data.toList.drop 22 = dktX3_again_1 := dk_seg dksX3_again_0 22 rfl rfl
theorem dX3_again_0 : decode cX3_again 0 = .ok (.new 10, 3) := dk_187 0 10 (dk_at dksX3_again_0 0 rfl rfl)
theorem dX3_again_3 : decode cX3_again 3 = .ok (.dup, 1) := dk_89 (dk_at dksX3_again_0 3 rfl rfl)
theorem dX3_again_4 : decode cX3_again 4 = .ok (.aload_n 0, 1) := dk_42 (dk_at dksX3_again_0 4 rfl rfl)
theorem dX3_again_5 : decode cX3_again 5 = .ok (.getfield 9, 3) := dk_180 0 9 (dk_at dksX3_again_0 5 rfl rfl)
theorem dX3_again_8 : decode cX3_again 8 = .ok (.aload_n 0, 1) := dk_42 (dk_at dksX3_again_0 8 rfl rfl)
theorem dX3_again_9 : decode cX3_again 9 = .ok (.getfield 15, 3) := dk_180 0 15 (dk_at dksX3_again_0 9 rfl rfl)
theorem dX3_again_12 : decode cX3_again 12 = .ok (.aload_n 0, 1) := dk_42 (dk_at dksX3_again_0 12 rfl rfl)
theorem dX3_again_13 : decode cX3_again 13 = .ok (.getfield 18, 3) := dk_180 0 18 (dk_at dksX3_again_0 13 rfl rfl)
theorem dX3_again_16 : decode cX3_again 16 = .ok (.aload_n 0, 1) := dk_42 (dk_at dksX3_again_0 16 rfl rfl)
theorem dX3_again_17 : decode cX3_again 17 = .ok (.getfield 21, 3) := dk_180 0 21 (dk_at dksX3_again_0 17 rfl rfl)
theorem dX3_again_20 : decode cX3_again 20 = .ok (.iconst 1, 1) := dk_4 (dk_at dksX3_again_0 20 rfl rfl)
theorem dX3_again_21 : decode cX3_again 21 = .ok (.iadd, 1) := dk_96 (dk_at dksX3_again_0 21 rfl rfl)
theorem dX3_again_22 : decode cX3_again 22 = .ok (.invokespecial 24, 3) := dk_183 0 24 (dk_at dksX3_again_1 0 rfl rfl)
theorem dX3_again_25 : decode cX3_again 25 = .ok (.areturn, 1) := dk_176 (dk_at dksX3_again_1 3 rfl rfl)
theorem q105 : (Jvm.Cond.initialized "FirstdanceAgency$Song") ∈ lw_all := lw_g (lw_at lw_m1 6 rfl) rfl
theorem q201 : (Jvm.Cond.instantiable "FirstdanceAgency$Song" (4 : Nat)) ∈ lw_all := lw_g (lw_at lw_m1 102 rfl) rfl
theorem q203 : (Jvm.Cond.instanceMethod ({ cls := "FirstdanceAgency$Song", name := "<init>", desc := "(IIII)V" } : Jvm.MethodName)) ∈ lw_all := lw_g (lw_at lw_m1 104 rfl) rfl
theorem q204 : (Jvm.Cond.code ({ cls := "FirstdanceAgency$Song", name := "<init>", desc := "(IIII)V" } : Jvm.MethodName) prog_6_method_1_code (5 : Nat) (Option.none : Option Jvm.ClassFile.FieldType)) ∈ lw_all := lw_g (lw_at lw_m1 105 rfl) rfl
theorem q205 : (Jvm.Cond.methodLink "FirstdanceAgency$Song" (3 : Nat) ({ cls := "java/lang/Object", name := "<init>", desc := "()V" } : Jvm.MethodName)) ∈ lw_all := lw_g (lw_at lw_m1 106 rfl) rfl
theorem q206 : (Jvm.Cond.fieldLink "FirstdanceAgency$Song" (9 : Nat) "FirstdanceAgency$Song" "key" "I") ∈ lw_all := lw_g (lw_at lw_m1 107 rfl) rfl
theorem q208 : (Jvm.Cond.fieldLink "FirstdanceAgency$Song" (15 : Nat) "FirstdanceAgency$Song" "energy" "I") ∈ lw_all := lw_g (lw_at lw_m1 109 rfl) rfl
theorem q210 : (Jvm.Cond.fieldLink "FirstdanceAgency$Song" (18 : Nat) "FirstdanceAgency$Song" "minutes" "I") ∈ lw_all := lw_g (lw_at lw_m1 111 rfl) rfl
theorem q212 : (Jvm.Cond.fieldLink "FirstdanceAgency$Song" (21 : Nat) "FirstdanceAgency$Song" "played" "I") ∈ lw_all := lw_g (lw_at lw_m1 113 rfl) rfl
theorem q214 : (Jvm.Cond.laysFinal "FirstdanceAgency$Song" "FirstdanceAgency$Song" "key" "I") ∈ lw_all := lw_g (lw_at lw_m1 115 rfl) rfl
theorem q215 : (Jvm.Cond.soleField "FirstdanceAgency$Song" "key") ∈ lw_all := lw_g (lw_at lw_m1 116 rfl) rfl
theorem q216 : (Jvm.Cond.laysFinal "FirstdanceAgency$Song" "FirstdanceAgency$Song" "energy" "I") ∈ lw_all := lw_g (lw_at lw_m1 117 rfl) rfl
theorem q217 : (Jvm.Cond.soleField "FirstdanceAgency$Song" "energy") ∈ lw_all := lw_g (lw_at lw_m1 118 rfl) rfl
theorem q218 : (Jvm.Cond.laysFinal "FirstdanceAgency$Song" "FirstdanceAgency$Song" "minutes" "I") ∈ lw_all := lw_g (lw_at lw_m1 119 rfl) rfl
theorem q219 : (Jvm.Cond.soleField "FirstdanceAgency$Song" "minutes") ∈ lw_all := lw_g (lw_at lw_m1 120 rfl) rfl
theorem q220 : (Jvm.Cond.laysFinal "FirstdanceAgency$Song" "FirstdanceAgency$Song" "played" "I") ∈ lw_all := lw_g (lw_at lw_m1 121 rfl) rfl
theorem q221 : (Jvm.Cond.soleField "FirstdanceAgency$Song" "played") ∈ lw_all := lw_g (lw_at lw_m1 122 rfl) rfl
theorem q222 : (Jvm.Cond.superclass "FirstdanceAgency$Song" "java/lang/Object") ∈ lw_all := lw_g (lw_at lw_m1 123 rfl) rfl
theorem q266 : (Jvm.Cond.selects "FirstdanceAgency$Song" ({ cls := "java/lang/Object", name := "getClass", desc := "()Ljava/lang/Class;" } : Jvm.MethodName) ({ cls := "java/lang/Object", name := "getClass", desc := "()Ljava/lang/Class;" } : Jvm.MethodName)) ∈ lw_all := lw_g (lw_at lw_m1 167 rfl) rfl
theorem q661 : (Jvm.Cond.instanceMethod ({ cls := "FirstdanceAgency$Song", name := "fits", desc := "(LFirstdanceAgency$Song;)Z" } : Jvm.MethodName)) ∈ lw_all := lw_g (lw_at lw_m3 82 rfl) rfl
theorem q662 : (Jvm.Cond.selects "FirstdanceAgency$Song" ({ cls := "FirstdanceAgency$Song", name := "fits", desc := "(LFirstdanceAgency$Song;)Z" } : Jvm.MethodName) ({ cls := "FirstdanceAgency$Song", name := "fits", desc := "(LFirstdanceAgency$Song;)Z" } : Jvm.MethodName)) ∈ lw_all := lw_g (lw_at lw_m3 83 rfl) rfl
theorem q663 : (Jvm.Cond.code ({ cls := "FirstdanceAgency$Song", name := "fits", desc := "(LFirstdanceAgency$Song;)Z" } : Jvm.MethodName) prog_6_method_3_code (3 : Nat) (Option.some Jvm.ClassFile.FieldType.boolean)) ∈ lw_all := lw_g (lw_at lw_m3 84 rfl) rfl
theorem q664 : (Jvm.Cond.methodLink "FirstdanceAgency$Song" (27 : Nat) ({ cls := "java/lang/Math", name := "abs", desc := "(I)I" } : Jvm.MethodName)) ∈ lw_all := lw_g (lw_at lw_m3 85 rfl) rfl
theorem q667 : (Jvm.Cond.methodLink "FirstdanceAgency$Song" (33 : Nat) ({ cls := "java/lang/Math", name := "min", desc := "(II)I" } : Jvm.MethodName)) ∈ lw_all := lw_g (lw_at lw_m3 88 rfl) rfl
theorem q1128 : (Jvm.Cond.instanceMethod ({ cls := "FirstdanceAgency$Song", name := "again", desc := "()LFirstdanceAgency$Song;" } : Jvm.MethodName)) ∈ lw_all := lw_g (lw_at lw_m5 69 rfl) rfl
theorem q1129 : (Jvm.Cond.selects "FirstdanceAgency$Song" ({ cls := "FirstdanceAgency$Song", name := "again", desc := "()LFirstdanceAgency$Song;" } : Jvm.MethodName) ({ cls := "FirstdanceAgency$Song", name := "again", desc := "()LFirstdanceAgency$Song;" } : Jvm.MethodName)) ∈ lw_all := lw_g (lw_at lw_m5 70 rfl) rfl
theorem q1130 : (Jvm.Cond.code ({ cls := "FirstdanceAgency$Song", name := "again", desc := "()LFirstdanceAgency$Song;" } : Jvm.MethodName) prog_6_method_2_code (1 : Nat) (Option.some (Jvm.ClassFile.FieldType.object "FirstdanceAgency$Song"))) ∈ lw_all := lw_g (lw_at lw_m5 71 rfl) rfl
theorem q1131 : (Jvm.Cond.classLink "FirstdanceAgency$Song" (10 : Nat) "FirstdanceAgency$Song") ∈ lw_all := lw_g (lw_at lw_m5 72 rfl) rfl
theorem q1132 : (Jvm.Cond.methodLink "FirstdanceAgency$Song" (24 : Nat) ({ cls := "FirstdanceAgency$Song", name := "<init>", desc := "(IIII)V" } : Jvm.MethodName)) ∈ lw_all := lw_g (lw_at lw_m5 73 rfl) rfl
theorem q2089 : (Jvm.Cond.castable "FirstdanceAgency$Song" "java/lang/Object") ∈ lw_tbl := lw_at lw_m9 70 rfl
theorem in_X3 : ∀ w ∈ wsX30, w ∈ lw_all := lw_in wsX30 [214, 216, 218, 220] (by decide +kernel) (by decide +kernel)

/-! FirstdanceAgencyLaw$Out -/
set_option maxRecDepth 100000
def RX5 : String := "FirstdanceAgencyLaw$Out"
def TX5 : u_T := fun k => match k with
  | 0 => ("FirstdanceAgencyLaw$Out", "n", "J", false)
  | _ => ("FirstdanceAgencyLaw$Out", "s", "Ljava/lang/String;", false)
def tyX5 : Nat → FieldType := fun k => match k with
  | 0 => .long
  | _ => .object "java/lang/String"
abbrev wsX50 : List Cond := u_ws RX5 TX5 2
theorem nmX5 : ∀ a, a < 2 → ∀ b, b < 2 → a ≠ b → (TX5 a).2.1 ≠ (TX5 b).2.1 := by decide +kernel
theorem tyX5_ok : ∀ k, k < 2 → parseFieldDescriptor (TX5 k).2.2.1 = some (tyX5 k) := by decide +kernel
abbrev cX5_init : ByteArray := prog_12_method_1_code
def yX5_init : MethodName := ⟨RX5, "<init>", "()V"⟩
theorem dX5_init_0 : decode cX5_init 0 = .ok (.aload_n 0, 1) := by decide +kernel
theorem dX5_init_1 : decode cX5_init 1 = .ok (.invokespecial 1, 3) := by decide +kernel
theorem dX5_init_4 : decode cX5_init 4 = .ok (.return_, 1) := by decide +kernel
theorem q111 : (Jvm.Cond.initialized "FirstdanceAgencyLaw$Out") ∈ lw_all := lw_g (lw_at lw_m1 12 rfl) rfl
theorem q271 : (Jvm.Cond.selects "FirstdanceAgencyLaw$Out" ({ cls := "java/lang/Object", name := "getClass", desc := "()Ljava/lang/Class;" } : Jvm.MethodName) ({ cls := "java/lang/Object", name := "getClass", desc := "()Ljava/lang/Class;" } : Jvm.MethodName)) ∈ lw_all := lw_g (lw_at lw_m1 172 rfl) rfl
theorem q738 : (Jvm.Cond.instantiable "FirstdanceAgencyLaw$Out" (2 : Nat)) ∈ lw_all := lw_g (lw_at lw_m3 159 rfl) rfl
theorem q740 : (Jvm.Cond.instanceMethod ({ cls := "FirstdanceAgencyLaw$Out", name := "<init>", desc := "()V" } : Jvm.MethodName)) ∈ lw_all := lw_g (lw_at lw_m3 161 rfl) rfl
theorem q741 : (Jvm.Cond.code ({ cls := "FirstdanceAgencyLaw$Out", name := "<init>", desc := "()V" } : Jvm.MethodName) prog_12_method_1_code (1 : Nat) (Option.none : Option Jvm.ClassFile.FieldType)) ∈ lw_all := lw_g (lw_at lw_m3 162 rfl) rfl
theorem q742 : (Jvm.Cond.methodLink "FirstdanceAgencyLaw$Out" (1 : Nat) ({ cls := "java/lang/Object", name := "<init>", desc := "()V" } : Jvm.MethodName)) ∈ lw_all := lw_g (lw_at lw_m3 163 rfl) rfl
theorem q745 : (Jvm.Cond.lays "FirstdanceAgencyLaw$Out" "FirstdanceAgencyLaw$Out" "n" "J") ∈ lw_all := lw_g (lw_at lw_m3 166 rfl) rfl
theorem q746 : (Jvm.Cond.soleField "FirstdanceAgencyLaw$Out" "n") ∈ lw_all := lw_g (lw_at lw_m3 167 rfl) rfl
theorem q747 : (Jvm.Cond.lays "FirstdanceAgencyLaw$Out" "FirstdanceAgencyLaw$Out" "s" "Ljava/lang/String;") ∈ lw_all := lw_g (lw_at lw_m3 168 rfl) rfl
theorem q748 : (Jvm.Cond.soleField "FirstdanceAgencyLaw$Out" "s") ∈ lw_all := lw_g (lw_at lw_m3 169 rfl) rfl
theorem q749 : (Jvm.Cond.superclass "FirstdanceAgencyLaw$Out" "java/lang/Object") ∈ lw_all := lw_g (lw_at lw_m3 170 rfl) rfl
theorem q2091 : (Jvm.Cond.castable "FirstdanceAgencyLaw$Out" "java/lang/Object") ∈ lw_tbl := lw_at lw_m9 72 rfl
theorem in_X5 : ∀ w ∈ wsX50, w ∈ lw_all := lw_in wsX50 [745, 747] (by decide +kernel) (by decide +kernel)

/-! FirstdanceAgency$Player -/
set_option maxRecDepth 100000
def RX6 : String := "FirstdanceAgency$Player"
def TX6 : u_T := fun k => match k with
  | 0 => ("FirstdanceAgency$Player", "instruments", "I", true)
  | 1 => ("FirstdanceAgency$Player", "home", "I", true)
  | 2 => ("FirstdanceAgency$Player", "fee", "I", true)
  | 3 => ("FirstdanceAgency$Player", "songs", "I", false)
  | 4 => ("FirstdanceAgency$Player", "feuds", "I", false)
  | 5 => ("FirstdanceAgency$Player", "earned", "I", false)
  | _ => ("FirstdanceAgency$Player", "off", "[Z", false)
def tyX6 : Nat → FieldType := fun k => match k with
  | 0 => .int
  | 1 => .int
  | 2 => .int
  | 3 => .int
  | 4 => .int
  | 5 => .int
  | _ => .array .boolean
abbrev wsX60 : List Cond := u_ws RX6 TX6 7
theorem nmX6 : ∀ a, a < 7 → ∀ b, b < 7 → a ≠ b → (TX6 a).2.1 ≠ (TX6 b).2.1 := by decide +kernel
theorem tyX6_ok : ∀ k, k < 7 → parseFieldDescriptor (TX6 k).2.2.1 = some (tyX6 k) := by decide +kernel
abbrev cX6_daysOff : ByteArray := prog_3_method_2_code
def yX6_daysOff : MethodName := ⟨RX6, "daysOff", "()I"⟩
def dkwX6_daysOff_1 : List UInt8 := [54, 5, 27, 21, 5, 153, 0, 7, 4, 167, 0, 4, 3, 96, 60, 132, 4, 1, 167, 255, 228, 27, 172]
abbrev dktX6_daysOff_1 : List UInt8 := dkwX6_daysOff_1 ++ []
def dkwX6_daysOff_0 : List UInt8 := [3, 60, 42, 180, 0, 9, 77, 44, 190, 62, 3, 54, 4, 21, 4, 29, 162, 0, 28, 44, 21, 4, 51]
abbrev dktX6_daysOff_0 : List UInt8 := dkwX6_daysOff_0 ++ dktX6_daysOff_1
theorem dksX6_daysOff_0 : cX6_daysOff.data.toList.drop 0 = dktX6_daysOff_0 := by decide +kernel
theorem dksX6_daysOff_1 : cX6_daysOff.data.toList.drop 23 = dktX6_daysOff_1 := dk_seg dksX6_daysOff_0 23 rfl rfl
theorem dX6_daysOff_0 : decode cX6_daysOff 0 = .ok (.iconst 0, 1) := dk_3 (dk_at dksX6_daysOff_0 0 rfl rfl)
theorem dX6_daysOff_1 : decode cX6_daysOff 1 = .ok (.istore_n 1, 1) := dk_60 (dk_at dksX6_daysOff_0 1 rfl rfl)
theorem dX6_daysOff_2 : decode cX6_daysOff 2 = .ok (.aload_n 0, 1) := dk_42 (dk_at dksX6_daysOff_0 2 rfl rfl)
theorem dX6_daysOff_3 : decode cX6_daysOff 3 = .ok (.getfield 9, 3) := dk_180 0 9 (dk_at dksX6_daysOff_0 3 rfl rfl)
theorem dX6_daysOff_6 : decode cX6_daysOff 6 = .ok (.astore_n 2, 1) := dk_77 (dk_at dksX6_daysOff_0 6 rfl rfl)
theorem dX6_daysOff_7 : decode cX6_daysOff 7 = .ok (.aload_n 2, 1) := dk_44 (dk_at dksX6_daysOff_0 7 rfl rfl)
theorem dX6_daysOff_8 : decode cX6_daysOff 8 = .ok (.arraylength, 1) := dk_190 (dk_at dksX6_daysOff_0 8 rfl rfl)
theorem dX6_daysOff_9 : decode cX6_daysOff 9 = .ok (.istore_n 3, 1) := dk_62 (dk_at dksX6_daysOff_0 9 rfl rfl)
theorem dX6_daysOff_10 : decode cX6_daysOff 10 = .ok (.iconst 0, 1) := dk_3 (dk_at dksX6_daysOff_0 10 rfl rfl)
theorem dX6_daysOff_11 : decode cX6_daysOff 11 = .ok (.istore 4, 2) := dk_54 4 (dk_at dksX6_daysOff_0 11 rfl rfl)
theorem dX6_daysOff_13 : decode cX6_daysOff 13 = .ok (.iload 4, 2) := dk_21 4 (dk_at dksX6_daysOff_0 13 rfl rfl)
theorem dX6_daysOff_15 : decode cX6_daysOff 15 = .ok (.iload_n 3, 1) := dk_29 (dk_at dksX6_daysOff_0 15 rfl rfl)
theorem dX6_daysOff_16 : decode cX6_daysOff 16 = .ok (.if_icmp .ge 28, 3) := dk_162 0 28 (dk_at dksX6_daysOff_0 16 rfl rfl)
theorem dX6_daysOff_19 : decode cX6_daysOff 19 = .ok (.aload_n 2, 1) := dk_44 (dk_at dksX6_daysOff_0 19 rfl rfl)
theorem dX6_daysOff_20 : decode cX6_daysOff 20 = .ok (.iload 4, 2) := dk_21 4 (dk_at dksX6_daysOff_0 20 rfl rfl)
theorem dX6_daysOff_22 : decode cX6_daysOff 22 = .ok (.baload, 1) := dk_51 (dk_at dksX6_daysOff_0 22 rfl rfl)
theorem dX6_daysOff_23 : decode cX6_daysOff 23 = .ok (.istore 5, 2) := dk_54 5 (dk_at dksX6_daysOff_1 0 rfl rfl)
theorem dX6_daysOff_25 : decode cX6_daysOff 25 = .ok (.iload_n 1, 1) := dk_27 (dk_at dksX6_daysOff_1 2 rfl rfl)
theorem dX6_daysOff_26 : decode cX6_daysOff 26 = .ok (.iload 5, 2) := dk_21 5 (dk_at dksX6_daysOff_1 3 rfl rfl)
theorem dX6_daysOff_28 : decode cX6_daysOff 28 = .ok (.ifCond .eq 7, 3) := dk_153 0 7 (dk_at dksX6_daysOff_1 5 rfl rfl)
theorem dX6_daysOff_31 : decode cX6_daysOff 31 = .ok (.iconst 1, 1) := dk_4 (dk_at dksX6_daysOff_1 8 rfl rfl)
theorem dX6_daysOff_32 : decode cX6_daysOff 32 = .ok (.goto 4, 3) := dk_167 0 4 (dk_at dksX6_daysOff_1 9 rfl rfl)
theorem dX6_daysOff_35 : decode cX6_daysOff 35 = .ok (.iconst 0, 1) := dk_3 (dk_at dksX6_daysOff_1 12 rfl rfl)
theorem dX6_daysOff_36 : decode cX6_daysOff 36 = .ok (.iadd, 1) := dk_96 (dk_at dksX6_daysOff_1 13 rfl rfl)
theorem dX6_daysOff_37 : decode cX6_daysOff 37 = .ok (.istore_n 1, 1) := dk_60 (dk_at dksX6_daysOff_1 14 rfl rfl)
theorem dX6_daysOff_38 : decode cX6_daysOff 38 = .ok (.iinc 4 1, 3) := dk_132 4 1 (dk_at dksX6_daysOff_1 15 rfl rfl)
theorem dX6_daysOff_41 : decode cX6_daysOff 41 = .ok (.goto (-28), 3) := dk_167 255 228 (dk_at dksX6_daysOff_1 18 rfl rfl)
theorem dX6_daysOff_44 : decode cX6_daysOff 44 = .ok (.iload_n 1, 1) := dk_27 (dk_at dksX6_daysOff_1 21 rfl rfl)
theorem dX6_daysOff_45 : decode cX6_daysOff 45 = .ok (.ireturn, 1) := dk_172 (dk_at dksX6_daysOff_1 22 rfl rfl)
abbrev cX6_init : ByteArray := prog_3_method_1_code
def yX6_init : MethodName := ⟨RX6, "<init>", "(IIII)V"⟩
def dkwX6_init_1 : List UInt8 := [29, 181, 0, 22, 42, 21, 4, 181, 0, 25, 177]
abbrev dktX6_init_1 : List UInt8 := dkwX6_init_1 ++ []
def dkwX6_init_0 : List UInt8 := [42, 183, 0, 3, 42, 17, 1, 110, 188, 4, 181, 0, 9, 42, 27, 181, 0, 15, 42, 28, 181, 0, 19, 42]
abbrev dktX6_init_0 : List UInt8 := dkwX6_init_0 ++ dktX6_init_1
theorem dksX6_init_0 : cX6_init.data.toList.drop 0 = dktX6_init_0 := by decide +kernel
theorem dksX6_init_1 : cX6_init.data.toList.drop 24 = dktX6_init_1 := dk_seg dksX6_init_0 24 rfl rfl
theorem dX6_init_0 : decode cX6_init 0 = .ok (.aload_n 0, 1) := dk_42 (dk_at dksX6_init_0 0 rfl rfl)
theorem dX6_init_1 : decode cX6_init 1 = .ok (.invokespecial 3, 3) := dk_183 0 3 (dk_at dksX6_init_0 1 rfl rfl)
theorem dX6_init_4 : decode cX6_init 4 = .ok (.aload_n 0, 1) := dk_42 (dk_at dksX6_init_0 4 rfl rfl)
theorem dX6_init_5 : decode cX6_init 5 = .ok (.sipush 366, 3) := dk_17 1 110 (dk_at dksX6_init_0 5 rfl rfl)
theorem dX6_init_8 : decode cX6_init 8 = .ok (.newarray .boolean, 2) := dk_188_4 (dk_at dksX6_init_0 8 rfl rfl)
theorem dX6_init_10 : decode cX6_init 10 = .ok (.putfield 9, 3) := dk_181 0 9 (dk_at dksX6_init_0 10 rfl rfl)
theorem dX6_init_13 : decode cX6_init 13 = .ok (.aload_n 0, 1) := dk_42 (dk_at dksX6_init_0 13 rfl rfl)
theorem dX6_init_14 : decode cX6_init 14 = .ok (.iload_n 1, 1) := dk_27 (dk_at dksX6_init_0 14 rfl rfl)
theorem dX6_init_15 : decode cX6_init 15 = .ok (.putfield 15, 3) := dk_181 0 15 (dk_at dksX6_init_0 15 rfl rfl)
theorem dX6_init_18 : decode cX6_init 18 = .ok (.aload_n 0, 1) := dk_42 (dk_at dksX6_init_0 18 rfl rfl)
theorem dX6_init_19 : decode cX6_init 19 = .ok (.iload_n 2, 1) := dk_28 (dk_at dksX6_init_0 19 rfl rfl)
theorem dX6_init_20 : decode cX6_init 20 = .ok (.putfield 19, 3) := dk_181 0 19 (dk_at dksX6_init_0 20 rfl rfl)
theorem dX6_init_23 : decode cX6_init 23 = .ok (.aload_n 0, 1) := dk_42 (dk_at dksX6_init_0 23 rfl rfl)
theorem dX6_init_24 : decode cX6_init 24 = .ok (.iload_n 3, 1) := dk_29 (dk_at dksX6_init_1 0 rfl rfl)
theorem dX6_init_25 : decode cX6_init 25 = .ok (.putfield 22, 3) := dk_181 0 22 (dk_at dksX6_init_1 1 rfl rfl)
theorem dX6_init_28 : decode cX6_init 28 = .ok (.aload_n 0, 1) := dk_42 (dk_at dksX6_init_1 4 rfl rfl)
theorem dX6_init_29 : decode cX6_init 29 = .ok (.iload 4, 2) := dk_21 4 (dk_at dksX6_init_1 5 rfl rfl)
theorem dX6_init_31 : decode cX6_init 31 = .ok (.putfield 25, 3) := dk_181 0 25 (dk_at dksX6_init_1 7 rfl rfl)
theorem dX6_init_34 : decode cX6_init 34 = .ok (.return_, 1) := dk_177 (dk_at dksX6_init_1 10 rfl rfl)
theorem q120 : (Jvm.Cond.initialized "FirstdanceAgency$Player") ∈ lw_all := lw_g (lw_at lw_m1 21 rfl) rfl
theorem q263 : (Jvm.Cond.selects "FirstdanceAgency$Player" ({ cls := "java/lang/Object", name := "getClass", desc := "()Ljava/lang/Class;" } : Jvm.MethodName) ({ cls := "java/lang/Object", name := "getClass", desc := "()Ljava/lang/Class;" } : Jvm.MethodName)) ∈ lw_all := lw_g (lw_at lw_m1 164 rfl) rfl
theorem q416 : (Jvm.Cond.instanceMethod ({ cls := "FirstdanceAgency$Player", name := "daysOff", desc := "()I" } : Jvm.MethodName)) ∈ lw_all := lw_g (lw_at lw_m2 77 rfl) rfl
theorem q417 : (Jvm.Cond.selects "FirstdanceAgency$Player" ({ cls := "FirstdanceAgency$Player", name := "daysOff", desc := "()I" } : Jvm.MethodName) ({ cls := "FirstdanceAgency$Player", name := "daysOff", desc := "()I" } : Jvm.MethodName)) ∈ lw_all := lw_g (lw_at lw_m2 78 rfl) rfl
theorem q418 : (Jvm.Cond.code ({ cls := "FirstdanceAgency$Player", name := "daysOff", desc := "()I" } : Jvm.MethodName) prog_3_method_2_code (6 : Nat) (Option.some Jvm.ClassFile.FieldType.int)) ∈ lw_all := lw_g (lw_at lw_m2 79 rfl) rfl
theorem q903 : (Jvm.Cond.instantiable "FirstdanceAgency$Player" (7 : Nat)) ∈ lw_all := lw_g (lw_at lw_m4 84 rfl) rfl
theorem q905 : (Jvm.Cond.instanceMethod ({ cls := "FirstdanceAgency$Player", name := "<init>", desc := "(IIII)V" } : Jvm.MethodName)) ∈ lw_all := lw_g (lw_at lw_m4 86 rfl) rfl
theorem q906 : (Jvm.Cond.code ({ cls := "FirstdanceAgency$Player", name := "<init>", desc := "(IIII)V" } : Jvm.MethodName) prog_3_method_1_code (5 : Nat) (Option.none : Option Jvm.ClassFile.FieldType)) ∈ lw_all := lw_g (lw_at lw_m4 87 rfl) rfl
theorem q907 : (Jvm.Cond.methodLink "FirstdanceAgency$Player" (3 : Nat) ({ cls := "java/lang/Object", name := "<init>", desc := "()V" } : Jvm.MethodName)) ∈ lw_all := lw_g (lw_at lw_m4 88 rfl) rfl
theorem q908 : (Jvm.Cond.fieldLink "FirstdanceAgency$Player" (15 : Nat) "FirstdanceAgency$Player" "instruments" "I") ∈ lw_all := lw_g (lw_at lw_m4 89 rfl) rfl
theorem q911 : (Jvm.Cond.fieldLink "FirstdanceAgency$Player" (22 : Nat) "FirstdanceAgency$Player" "home" "I") ∈ lw_all := lw_g (lw_at lw_m4 92 rfl) rfl
theorem q913 : (Jvm.Cond.fieldLink "FirstdanceAgency$Player" (25 : Nat) "FirstdanceAgency$Player" "fee" "I") ∈ lw_all := lw_g (lw_at lw_m4 94 rfl) rfl
theorem q915 : (Jvm.Cond.fieldLink "FirstdanceAgency$Player" (19 : Nat) "FirstdanceAgency$Player" "songs" "I") ∈ lw_all := lw_g (lw_at lw_m4 96 rfl) rfl
theorem q919 : (Jvm.Cond.fieldLink "FirstdanceAgency$Player" (9 : Nat) "FirstdanceAgency$Player" "off" "[Z") ∈ lw_all := lw_g (lw_at lw_m4 100 rfl) rfl
theorem q921 : (Jvm.Cond.laysFinal "FirstdanceAgency$Player" "FirstdanceAgency$Player" "instruments" "I") ∈ lw_all := lw_g (lw_at lw_m4 102 rfl) rfl
theorem q922 : (Jvm.Cond.soleField "FirstdanceAgency$Player" "instruments") ∈ lw_all := lw_g (lw_at lw_m4 103 rfl) rfl
theorem q923 : (Jvm.Cond.laysFinal "FirstdanceAgency$Player" "FirstdanceAgency$Player" "home" "I") ∈ lw_all := lw_g (lw_at lw_m4 104 rfl) rfl
theorem q924 : (Jvm.Cond.soleField "FirstdanceAgency$Player" "home") ∈ lw_all := lw_g (lw_at lw_m4 105 rfl) rfl
theorem q925 : (Jvm.Cond.laysFinal "FirstdanceAgency$Player" "FirstdanceAgency$Player" "fee" "I") ∈ lw_all := lw_g (lw_at lw_m4 106 rfl) rfl
theorem q926 : (Jvm.Cond.soleField "FirstdanceAgency$Player" "fee") ∈ lw_all := lw_g (lw_at lw_m4 107 rfl) rfl
theorem q927 : (Jvm.Cond.lays "FirstdanceAgency$Player" "FirstdanceAgency$Player" "songs" "I") ∈ lw_all := lw_g (lw_at lw_m4 108 rfl) rfl
theorem q928 : (Jvm.Cond.soleField "FirstdanceAgency$Player" "songs") ∈ lw_all := lw_g (lw_at lw_m4 109 rfl) rfl
theorem q929 : (Jvm.Cond.lays "FirstdanceAgency$Player" "FirstdanceAgency$Player" "feuds" "I") ∈ lw_all := lw_g (lw_at lw_m4 110 rfl) rfl
theorem q930 : (Jvm.Cond.soleField "FirstdanceAgency$Player" "feuds") ∈ lw_all := lw_g (lw_at lw_m4 111 rfl) rfl
theorem q931 : (Jvm.Cond.lays "FirstdanceAgency$Player" "FirstdanceAgency$Player" "earned" "I") ∈ lw_all := lw_g (lw_at lw_m4 112 rfl) rfl
theorem q932 : (Jvm.Cond.soleField "FirstdanceAgency$Player" "earned") ∈ lw_all := lw_g (lw_at lw_m4 113 rfl) rfl
theorem q933 : (Jvm.Cond.lays "FirstdanceAgency$Player" "FirstdanceAgency$Player" "off" "[Z") ∈ lw_all := lw_g (lw_at lw_m4 114 rfl) rfl
theorem q934 : (Jvm.Cond.soleField "FirstdanceAgency$Player" "off") ∈ lw_all := lw_g (lw_at lw_m4 115 rfl) rfl
theorem q935 : (Jvm.Cond.superclass "FirstdanceAgency$Player" "java/lang/Object") ∈ lw_all := lw_g (lw_at lw_m4 116 rfl) rfl
theorem q2096 : (Jvm.Cond.castable "FirstdanceAgency$Player" "java/lang/Object") ∈ lw_tbl := lw_at lw_m9 77 rfl
theorem in_X6 : ∀ w ∈ wsX60, w ∈ lw_all := lw_in wsX60 [921, 923, 925, 927, 929, 931, 933] (by decide +kernel) (by decide +kernel)

/-! FirstdanceAgency$Shape -/
set_option maxRecDepth 100000
def RX8 : String := "FirstdanceAgency$Shape"
def TX8 : u_T := fun k => match k with
  | 0 => ("FirstdanceAgency$Shape", "needs", "[I", true)
  | _ => ("FirstdanceAgency$Shape", "given", "[I", true)
def tyX8 : Nat → FieldType := fun k => match k with
  | 0 => .array .int
  | _ => .array .int
abbrev wsX80 : List Cond := u_ws RX8 TX8 2
theorem nmX8 : ∀ a, a < 2 → ∀ b, b < 2 → a ≠ b → (TX8 a).2.1 ≠ (TX8 b).2.1 := by decide +kernel
theorem tyX8_ok : ∀ k, k < 2 → parseFieldDescriptor (TX8 k).2.2.1 = some (tyX8 k) := by decide +kernel
abbrev cX8_many : ByteArray := prog_5_method_2_code
def yX8_many : MethodName := ⟨RX8, "many", "()I"⟩
def dkwX8_many_1 : List UInt8 := [54, 5, 27, 21, 5, 96, 60, 132, 4, 1, 167, 255, 236, 27, 172]
abbrev dktX8_many_1 : List UInt8 := dkwX8_many_1 ++ []
def dkwX8_many_0 : List UInt8 := [3, 60, 42, 180, 0, 9, 77, 44, 190, 62, 3, 54, 4, 21, 4, 29, 162, 0, 20, 44, 21, 4, 46]
abbrev dktX8_many_0 : List UInt8 := dkwX8_many_0 ++ dktX8_many_1
theorem dksX8_many_0 : cX8_many.data.toList.drop 0 = dktX8_many_0 := by decide +kernel
theorem dksX8_many_1 : cX8_many.data.toList.drop 23 = dktX8_many_1 := dk_seg dksX8_many_0 23 rfl rfl
theorem dX8_many_0 : decode cX8_many 0 = .ok (.iconst 0, 1) := dk_3 (dk_at dksX8_many_0 0 rfl rfl)
theorem dX8_many_1 : decode cX8_many 1 = .ok (.istore_n 1, 1) := dk_60 (dk_at dksX8_many_0 1 rfl rfl)
theorem dX8_many_2 : decode cX8_many 2 = .ok (.aload_n 0, 1) := dk_42 (dk_at dksX8_many_0 2 rfl rfl)
theorem dX8_many_3 : decode cX8_many 3 = .ok (.getfield 9, 3) := dk_180 0 9 (dk_at dksX8_many_0 3 rfl rfl)
theorem dX8_many_6 : decode cX8_many 6 = .ok (.astore_n 2, 1) := dk_77 (dk_at dksX8_many_0 6 rfl rfl)
theorem dX8_many_7 : decode cX8_many 7 = .ok (.aload_n 2, 1) := dk_44 (dk_at dksX8_many_0 7 rfl rfl)
theorem dX8_many_8 : decode cX8_many 8 = .ok (.arraylength, 1) := dk_190 (dk_at dksX8_many_0 8 rfl rfl)
theorem dX8_many_9 : decode cX8_many 9 = .ok (.istore_n 3, 1) := dk_62 (dk_at dksX8_many_0 9 rfl rfl)
theorem dX8_many_10 : decode cX8_many 10 = .ok (.iconst 0, 1) := dk_3 (dk_at dksX8_many_0 10 rfl rfl)
theorem dX8_many_11 : decode cX8_many 11 = .ok (.istore 4, 2) := dk_54 4 (dk_at dksX8_many_0 11 rfl rfl)
theorem dX8_many_13 : decode cX8_many 13 = .ok (.iload 4, 2) := dk_21 4 (dk_at dksX8_many_0 13 rfl rfl)
theorem dX8_many_15 : decode cX8_many 15 = .ok (.iload_n 3, 1) := dk_29 (dk_at dksX8_many_0 15 rfl rfl)
theorem dX8_many_16 : decode cX8_many 16 = .ok (.if_icmp .ge 20, 3) := dk_162 0 20 (dk_at dksX8_many_0 16 rfl rfl)
theorem dX8_many_19 : decode cX8_many 19 = .ok (.aload_n 2, 1) := dk_44 (dk_at dksX8_many_0 19 rfl rfl)
theorem dX8_many_20 : decode cX8_many 20 = .ok (.iload 4, 2) := dk_21 4 (dk_at dksX8_many_0 20 rfl rfl)
theorem dX8_many_22 : decode cX8_many 22 = .ok (.iaload, 1) := dk_46 (dk_at dksX8_many_0 22 rfl rfl)
theorem dX8_many_23 : decode cX8_many 23 = .ok (.istore 5, 2) := dk_54 5 (dk_at dksX8_many_1 0 rfl rfl)
theorem dX8_many_25 : decode cX8_many 25 = .ok (.iload_n 1, 1) := dk_27 (dk_at dksX8_many_1 2 rfl rfl)
theorem dX8_many_26 : decode cX8_many 26 = .ok (.iload 5, 2) := dk_21 5 (dk_at dksX8_many_1 3 rfl rfl)
theorem dX8_many_28 : decode cX8_many 28 = .ok (.iadd, 1) := dk_96 (dk_at dksX8_many_1 5 rfl rfl)
theorem dX8_many_29 : decode cX8_many 29 = .ok (.istore_n 1, 1) := dk_60 (dk_at dksX8_many_1 6 rfl rfl)
theorem dX8_many_30 : decode cX8_many 30 = .ok (.iinc 4 1, 3) := dk_132 4 1 (dk_at dksX8_many_1 7 rfl rfl)
theorem dX8_many_33 : decode cX8_many 33 = .ok (.goto (-20), 3) := dk_167 255 236 (dk_at dksX8_many_1 10 rfl rfl)
theorem dX8_many_36 : decode cX8_many 36 = .ok (.iload_n 1, 1) := dk_27 (dk_at dksX8_many_1 13 rfl rfl)
theorem dX8_many_37 : decode cX8_many 37 = .ok (.ireturn, 1) := dk_172 (dk_at dksX8_many_1 14 rfl rfl)
abbrev cX8_canBe : ByteArray := prog_5_method_3_code
def yX8_canBe : MethodName := ⟨RX8, "canBe", "(Ljava/util/List;I)Z"⟩
def dkwX8_canBe_0 : List UInt8 := [42, 43, 28, 182, 0, 18, 172]
abbrev dktX8_canBe_0 : List UInt8 := dkwX8_canBe_0 ++ []
theorem dksX8_canBe_0 : cX8_canBe.data.toList.drop 0 = dktX8_canBe_0 := by decide +kernel
theorem dX8_canBe_0 : decode cX8_canBe 0 = .ok (.aload_n 0, 1) := dk_42 (dk_at dksX8_canBe_0 0 rfl rfl)
theorem dX8_canBe_1 : decode cX8_canBe 1 = .ok (.aload_n 1, 1) := dk_43 (dk_at dksX8_canBe_0 1 rfl rfl)
theorem dX8_canBe_2 : decode cX8_canBe 2 = .ok (.iload_n 2, 1) := dk_28 (dk_at dksX8_canBe_0 2 rfl rfl)
theorem dX8_canBe_3 : decode cX8_canBe 3 = .ok (.invokevirtual 18, 3) := dk_182 0 18 (dk_at dksX8_canBe_0 3 rfl rfl)
theorem dX8_canBe_6 : decode cX8_canBe 6 = .ok (.ireturn, 1) := dk_172 (dk_at dksX8_canBe_0 6 rfl rfl)
abbrev cX8_gives : ByteArray := prog_5_method_4_code
def yX8_gives : MethodName := ⟨RX8, "gives", "(Ljava/util/List;I)Z"⟩
def dkwX8_gives_5 : List UInt8 := [172]
abbrev dktX8_gives_5 : List UInt8 := dkwX8_gives_5 ++ []
def dkwX8_gives_4 : List UInt8 := [180, 0, 15, 21, 4, 92, 46, 4, 100, 79, 21, 5, 153, 0, 5, 4, 172, 132, 4, 1, 167, 255, 167, 3]
abbrev dktX8_gives_4 : List UInt8 := dkwX8_gives_4 ++ dktX8_gives_5
def dkwX8_gives_3 : List UInt8 := [180, 0, 15, 21, 4, 92, 46, 4, 96, 79, 42, 43, 28, 28, 4, 100, 126, 182, 0, 18, 54, 5, 42]
abbrev dktX8_gives_3 : List UInt8 := dkwX8_gives_3 ++ dktX8_gives_4
def dkwX8_gives_2 : List UInt8 := [184, 0, 22, 153, 0, 61, 42, 180, 0, 15, 21, 4, 46, 42, 180, 0, 9, 21, 4, 46, 162, 0, 44, 42]
abbrev dktX8_gives_2 : List UInt8 := dkwX8_gives_2 ++ dktX8_gives_3
def dkwX8_gives_1 : List UInt8 := [54, 4, 21, 4, 16, 6, 162, 0, 88, 43, 29, 185, 0, 26, 2, 0, 192, 0, 32, 180, 0, 34, 21, 4]
abbrev dktX8_gives_1 : List UInt8 := dkwX8_gives_1 ++ dktX8_gives_2
def dkwX8_gives_0 : List UInt8 := [28, 154, 0, 5, 4, 172, 3, 62, 28, 29, 184, 0, 22, 154, 0, 9, 132, 3, 1, 167, 255, 245, 3]
abbrev dktX8_gives_0 : List UInt8 := dkwX8_gives_0 ++ dktX8_gives_1
theorem dksX8_gives_0 : cX8_gives.data.toList.drop 0 = dktX8_gives_0 := by decide +kernel
theorem dksX8_gives_1 : cX8_gives.data.toList.drop 23 = dktX8_gives_1 := dk_seg dksX8_gives_0 23 rfl rfl
theorem dksX8_gives_2 : cX8_gives.data.toList.drop 47 = dktX8_gives_2 := dk_seg dksX8_gives_1 24 rfl rfl
theorem dksX8_gives_3 : cX8_gives.data.toList.drop 71 = dktX8_gives_3 := dk_seg dksX8_gives_2 24 rfl rfl
theorem dksX8_gives_4 : cX8_gives.data.toList.drop 94 = dktX8_gives_4 := dk_seg dksX8_gives_3 23 rfl rfl
theorem dksX8_gives_5 : cX8_gives.data.toList.drop 118 = dktX8_gives_5 := dk_seg dksX8_gives_4 24 rfl rfl
theorem dX8_gives_0 : decode cX8_gives 0 = .ok (.iload_n 2, 1) := dk_28 (dk_at dksX8_gives_0 0 rfl rfl)
theorem dX8_gives_1 : decode cX8_gives 1 = .ok (.ifCond .ne 5, 3) := dk_154 0 5 (dk_at dksX8_gives_0 1 rfl rfl)
theorem dX8_gives_4 : decode cX8_gives 4 = .ok (.iconst 1, 1) := dk_4 (dk_at dksX8_gives_0 4 rfl rfl)
theorem dX8_gives_5 : decode cX8_gives 5 = .ok (.ireturn, 1) := dk_172 (dk_at dksX8_gives_0 5 rfl rfl)
theorem dX8_gives_6 : decode cX8_gives 6 = .ok (.iconst 0, 1) := dk_3 (dk_at dksX8_gives_0 6 rfl rfl)
theorem dX8_gives_7 : decode cX8_gives 7 = .ok (.istore_n 3, 1) := dk_62 (dk_at dksX8_gives_0 7 rfl rfl)
theorem dX8_gives_8 : decode cX8_gives 8 = .ok (.iload_n 2, 1) := dk_28 (dk_at dksX8_gives_0 8 rfl rfl)
theorem dX8_gives_9 : decode cX8_gives 9 = .ok (.iload_n 3, 1) := dk_29 (dk_at dksX8_gives_0 9 rfl rfl)
theorem dX8_gives_10 : decode cX8_gives 10 = .ok (.invokestatic 22, 3) := dk_184 0 22 (dk_at dksX8_gives_0 10 rfl rfl)
theorem dX8_gives_13 : decode cX8_gives 13 = .ok (.ifCond .ne 9, 3) := dk_154 0 9 (dk_at dksX8_gives_0 13 rfl rfl)
theorem dX8_gives_16 : decode cX8_gives 16 = .ok (.iinc 3 1, 3) := dk_132 3 1 (dk_at dksX8_gives_0 16 rfl rfl)
theorem dX8_gives_19 : decode cX8_gives 19 = .ok (.goto (-11), 3) := dk_167 255 245 (dk_at dksX8_gives_0 19 rfl rfl)
theorem dX8_gives_22 : decode cX8_gives 22 = .ok (.iconst 0, 1) := dk_3 (dk_at dksX8_gives_0 22 rfl rfl)
theorem dX8_gives_23 : decode cX8_gives 23 = .ok (.istore 4, 2) := dk_54 4 (dk_at dksX8_gives_1 0 rfl rfl)
theorem dX8_gives_25 : decode cX8_gives 25 = .ok (.iload 4, 2) := dk_21 4 (dk_at dksX8_gives_1 2 rfl rfl)
theorem dX8_gives_27 : decode cX8_gives 27 = .ok (.bipush 6, 2) := dk_16 6 (dk_at dksX8_gives_1 4 rfl rfl)
theorem dX8_gives_29 : decode cX8_gives 29 = .ok (.if_icmp .ge 88, 3) := dk_162 0 88 (dk_at dksX8_gives_1 6 rfl rfl)
theorem dX8_gives_32 : decode cX8_gives 32 = .ok (.aload_n 1, 1) := dk_43 (dk_at dksX8_gives_1 9 rfl rfl)
theorem dX8_gives_33 : decode cX8_gives 33 = .ok (.iload_n 3, 1) := dk_29 (dk_at dksX8_gives_1 10 rfl rfl)
theorem dX8_gives_34 : decode cX8_gives 34 = .ok (.invokeinterface 26 2, 5) := by decide +kernel
theorem dX8_gives_39 : decode cX8_gives 39 = .ok (.checkcast 32, 3) := dk_192 0 32 (dk_at dksX8_gives_1 16 rfl rfl)
theorem dX8_gives_42 : decode cX8_gives 42 = .ok (.getfield 34, 3) := dk_180 0 34 (dk_at dksX8_gives_1 19 rfl rfl)
theorem dX8_gives_45 : decode cX8_gives 45 = .ok (.iload 4, 2) := dk_21 4 (dk_at dksX8_gives_1 22 rfl rfl)
theorem dX8_gives_47 : decode cX8_gives 47 = .ok (.invokestatic 22, 3) := dk_184 0 22 (dk_at dksX8_gives_2 0 rfl rfl)
theorem dX8_gives_50 : decode cX8_gives 50 = .ok (.ifCond .eq 61, 3) := dk_153 0 61 (dk_at dksX8_gives_2 3 rfl rfl)
theorem dX8_gives_53 : decode cX8_gives 53 = .ok (.aload_n 0, 1) := dk_42 (dk_at dksX8_gives_2 6 rfl rfl)
theorem dX8_gives_54 : decode cX8_gives 54 = .ok (.getfield 15, 3) := dk_180 0 15 (dk_at dksX8_gives_2 7 rfl rfl)
theorem dX8_gives_57 : decode cX8_gives 57 = .ok (.iload 4, 2) := dk_21 4 (dk_at dksX8_gives_2 10 rfl rfl)
theorem dX8_gives_59 : decode cX8_gives 59 = .ok (.iaload, 1) := dk_46 (dk_at dksX8_gives_2 12 rfl rfl)
theorem dX8_gives_60 : decode cX8_gives 60 = .ok (.aload_n 0, 1) := dk_42 (dk_at dksX8_gives_2 13 rfl rfl)
theorem dX8_gives_61 : decode cX8_gives 61 = .ok (.getfield 9, 3) := dk_180 0 9 (dk_at dksX8_gives_2 14 rfl rfl)
theorem dX8_gives_64 : decode cX8_gives 64 = .ok (.iload 4, 2) := dk_21 4 (dk_at dksX8_gives_2 17 rfl rfl)
theorem dX8_gives_66 : decode cX8_gives 66 = .ok (.iaload, 1) := dk_46 (dk_at dksX8_gives_2 19 rfl rfl)
theorem dX8_gives_67 : decode cX8_gives 67 = .ok (.if_icmp .ge 44, 3) := dk_162 0 44 (dk_at dksX8_gives_2 20 rfl rfl)
theorem dX8_gives_70 : decode cX8_gives 70 = .ok (.aload_n 0, 1) := dk_42 (dk_at dksX8_gives_2 23 rfl rfl)
theorem dX8_gives_71 : decode cX8_gives 71 = .ok (.getfield 15, 3) := dk_180 0 15 (dk_at dksX8_gives_3 0 rfl rfl)
theorem dX8_gives_74 : decode cX8_gives 74 = .ok (.iload 4, 2) := dk_21 4 (dk_at dksX8_gives_3 3 rfl rfl)
theorem dX8_gives_76 : decode cX8_gives 76 = .ok (.dup2, 1) := dk_92 (dk_at dksX8_gives_3 5 rfl rfl)
theorem dX8_gives_77 : decode cX8_gives 77 = .ok (.iaload, 1) := dk_46 (dk_at dksX8_gives_3 6 rfl rfl)
theorem dX8_gives_78 : decode cX8_gives 78 = .ok (.iconst 1, 1) := dk_4 (dk_at dksX8_gives_3 7 rfl rfl)
theorem dX8_gives_79 : decode cX8_gives 79 = .ok (.iadd, 1) := dk_96 (dk_at dksX8_gives_3 8 rfl rfl)
theorem dX8_gives_80 : decode cX8_gives 80 = .ok (.iastore, 1) := dk_79 (dk_at dksX8_gives_3 9 rfl rfl)
theorem dX8_gives_81 : decode cX8_gives 81 = .ok (.aload_n 0, 1) := dk_42 (dk_at dksX8_gives_3 10 rfl rfl)
theorem dX8_gives_82 : decode cX8_gives 82 = .ok (.aload_n 1, 1) := dk_43 (dk_at dksX8_gives_3 11 rfl rfl)
theorem dX8_gives_83 : decode cX8_gives 83 = .ok (.iload_n 2, 1) := dk_28 (dk_at dksX8_gives_3 12 rfl rfl)
theorem dX8_gives_84 : decode cX8_gives 84 = .ok (.iload_n 2, 1) := dk_28 (dk_at dksX8_gives_3 13 rfl rfl)
theorem dX8_gives_85 : decode cX8_gives 85 = .ok (.iconst 1, 1) := dk_4 (dk_at dksX8_gives_3 14 rfl rfl)
theorem dX8_gives_86 : decode cX8_gives 86 = .ok (.isub, 1) := dk_100 (dk_at dksX8_gives_3 15 rfl rfl)
theorem dX8_gives_87 : decode cX8_gives 87 = .ok (.iand, 1) := dk_126 (dk_at dksX8_gives_3 16 rfl rfl)
theorem dX8_gives_88 : decode cX8_gives 88 = .ok (.invokevirtual 18, 3) := dk_182 0 18 (dk_at dksX8_gives_3 17 rfl rfl)
theorem dX8_gives_91 : decode cX8_gives 91 = .ok (.istore 5, 2) := dk_54 5 (dk_at dksX8_gives_3 20 rfl rfl)
theorem dX8_gives_93 : decode cX8_gives 93 = .ok (.aload_n 0, 1) := dk_42 (dk_at dksX8_gives_3 22 rfl rfl)
theorem dX8_gives_94 : decode cX8_gives 94 = .ok (.getfield 15, 3) := dk_180 0 15 (dk_at dksX8_gives_4 0 rfl rfl)
theorem dX8_gives_97 : decode cX8_gives 97 = .ok (.iload 4, 2) := dk_21 4 (dk_at dksX8_gives_4 3 rfl rfl)
theorem dX8_gives_99 : decode cX8_gives 99 = .ok (.dup2, 1) := dk_92 (dk_at dksX8_gives_4 5 rfl rfl)
theorem dX8_gives_100 : decode cX8_gives 100 = .ok (.iaload, 1) := dk_46 (dk_at dksX8_gives_4 6 rfl rfl)
theorem dX8_gives_101 : decode cX8_gives 101 = .ok (.iconst 1, 1) := dk_4 (dk_at dksX8_gives_4 7 rfl rfl)
theorem dX8_gives_102 : decode cX8_gives 102 = .ok (.isub, 1) := dk_100 (dk_at dksX8_gives_4 8 rfl rfl)
theorem dX8_gives_103 : decode cX8_gives 103 = .ok (.iastore, 1) := dk_79 (dk_at dksX8_gives_4 9 rfl rfl)
theorem dX8_gives_104 : decode cX8_gives 104 = .ok (.iload 5, 2) := dk_21 5 (dk_at dksX8_gives_4 10 rfl rfl)
theorem dX8_gives_106 : decode cX8_gives 106 = .ok (.ifCond .eq 5, 3) := dk_153 0 5 (dk_at dksX8_gives_4 12 rfl rfl)
theorem dX8_gives_109 : decode cX8_gives 109 = .ok (.iconst 1, 1) := dk_4 (dk_at dksX8_gives_4 15 rfl rfl)
theorem dX8_gives_110 : decode cX8_gives 110 = .ok (.ireturn, 1) := dk_172 (dk_at dksX8_gives_4 16 rfl rfl)
theorem dX8_gives_111 : decode cX8_gives 111 = .ok (.iinc 4 1, 3) := dk_132 4 1 (dk_at dksX8_gives_4 17 rfl rfl)
theorem dX8_gives_114 : decode cX8_gives 114 = .ok (.goto (-89), 3) := dk_167 255 167 (dk_at dksX8_gives_4 20 rfl rfl)
theorem dX8_gives_117 : decode cX8_gives 117 = .ok (.iconst 0, 1) := dk_3 (dk_at dksX8_gives_4 23 rfl rfl)
theorem dX8_gives_118 : decode cX8_gives 118 = .ok (.ireturn, 1) := dk_172 (dk_at dksX8_gives_5 0 rfl rfl)
abbrev cX8_init : ByteArray := prog_5_method_1_code
def yX8_init : MethodName := ⟨RX8, "<init>", "(I)V"⟩
def dkwX8_init_2 : List UInt8 := [167, 255, 234, 177]
abbrev dktX8_init_2 : List UInt8 := dkwX8_init_2 ++ []
def dkwX8_init_1 : List UInt8 := [29, 16, 6, 162, 0, 22, 42, 180, 0, 9, 29, 28, 6, 112, 79, 28, 6, 108, 61, 132, 3, 1]
abbrev dktX8_init_1 : List UInt8 := dkwX8_init_1 ++ dktX8_init_2
def dkwX8_init_0 : List UInt8 := [42, 183, 0, 3, 42, 16, 6, 188, 10, 181, 0, 9, 42, 16, 6, 188, 10, 181, 0, 15, 27, 61, 3, 62]
abbrev dktX8_init_0 : List UInt8 := dkwX8_init_0 ++ dktX8_init_1
theorem dksX8_init_0 : cX8_init.data.toList.drop 0 = dktX8_init_0 := by decide +kernel
theorem dksX8_init_1 : cX8_init.data.toList.drop 24 = dktX8_init_1 := dk_seg dksX8_init_0 24 rfl rfl
theorem dksX8_init_2 : cX8_init.data.toList.drop 46 = dktX8_init_2 := dk_seg dksX8_init_1 22 rfl rfl
theorem dX8_init_0 : decode cX8_init 0 = .ok (.aload_n 0, 1) := dk_42 (dk_at dksX8_init_0 0 rfl rfl)
theorem dX8_init_1 : decode cX8_init 1 = .ok (.invokespecial 3, 3) := dk_183 0 3 (dk_at dksX8_init_0 1 rfl rfl)
theorem dX8_init_4 : decode cX8_init 4 = .ok (.aload_n 0, 1) := dk_42 (dk_at dksX8_init_0 4 rfl rfl)
theorem dX8_init_5 : decode cX8_init 5 = .ok (.bipush 6, 2) := dk_16 6 (dk_at dksX8_init_0 5 rfl rfl)
theorem dX8_init_7 : decode cX8_init 7 = .ok (.newarray .int, 2) := dk_188_10 (dk_at dksX8_init_0 7 rfl rfl)
theorem dX8_init_9 : decode cX8_init 9 = .ok (.putfield 9, 3) := dk_181 0 9 (dk_at dksX8_init_0 9 rfl rfl)
theorem dX8_init_12 : decode cX8_init 12 = .ok (.aload_n 0, 1) := dk_42 (dk_at dksX8_init_0 12 rfl rfl)
theorem dX8_init_13 : decode cX8_init 13 = .ok (.bipush 6, 2) := dk_16 6 (dk_at dksX8_init_0 13 rfl rfl)
theorem dX8_init_15 : decode cX8_init 15 = .ok (.newarray .int, 2) := dk_188_10 (dk_at dksX8_init_0 15 rfl rfl)
theorem dX8_init_17 : decode cX8_init 17 = .ok (.putfield 15, 3) := dk_181 0 15 (dk_at dksX8_init_0 17 rfl rfl)
theorem dX8_init_20 : decode cX8_init 20 = .ok (.iload_n 1, 1) := dk_27 (dk_at dksX8_init_0 20 rfl rfl)
theorem dX8_init_21 : decode cX8_init 21 = .ok (.istore_n 2, 1) := dk_61 (dk_at dksX8_init_0 21 rfl rfl)
theorem dX8_init_22 : decode cX8_init 22 = .ok (.iconst 0, 1) := dk_3 (dk_at dksX8_init_0 22 rfl rfl)
theorem dX8_init_23 : decode cX8_init 23 = .ok (.istore_n 3, 1) := dk_62 (dk_at dksX8_init_0 23 rfl rfl)
theorem dX8_init_24 : decode cX8_init 24 = .ok (.iload_n 3, 1) := dk_29 (dk_at dksX8_init_1 0 rfl rfl)
theorem dX8_init_25 : decode cX8_init 25 = .ok (.bipush 6, 2) := dk_16 6 (dk_at dksX8_init_1 1 rfl rfl)
theorem dX8_init_27 : decode cX8_init 27 = .ok (.if_icmp .ge 22, 3) := dk_162 0 22 (dk_at dksX8_init_1 3 rfl rfl)
theorem dX8_init_30 : decode cX8_init 30 = .ok (.aload_n 0, 1) := dk_42 (dk_at dksX8_init_1 6 rfl rfl)
theorem dX8_init_31 : decode cX8_init 31 = .ok (.getfield 9, 3) := dk_180 0 9 (dk_at dksX8_init_1 7 rfl rfl)
theorem dX8_init_34 : decode cX8_init 34 = .ok (.iload_n 3, 1) := dk_29 (dk_at dksX8_init_1 10 rfl rfl)
theorem dX8_init_35 : decode cX8_init 35 = .ok (.iload_n 2, 1) := dk_28 (dk_at dksX8_init_1 11 rfl rfl)
theorem dX8_init_36 : decode cX8_init 36 = .ok (.iconst 3, 1) := dk_6 (dk_at dksX8_init_1 12 rfl rfl)
theorem dX8_init_37 : decode cX8_init 37 = .ok (.irem, 1) := dk_112 (dk_at dksX8_init_1 13 rfl rfl)
theorem dX8_init_38 : decode cX8_init 38 = .ok (.iastore, 1) := dk_79 (dk_at dksX8_init_1 14 rfl rfl)
theorem dX8_init_39 : decode cX8_init 39 = .ok (.iload_n 2, 1) := dk_28 (dk_at dksX8_init_1 15 rfl rfl)
theorem dX8_init_40 : decode cX8_init 40 = .ok (.iconst 3, 1) := dk_6 (dk_at dksX8_init_1 16 rfl rfl)
theorem dX8_init_41 : decode cX8_init 41 = .ok (.idiv, 1) := dk_108 (dk_at dksX8_init_1 17 rfl rfl)
theorem dX8_init_42 : decode cX8_init 42 = .ok (.istore_n 2, 1) := dk_61 (dk_at dksX8_init_1 18 rfl rfl)
theorem dX8_init_43 : decode cX8_init 43 = .ok (.iinc 3 1, 3) := dk_132 3 1 (dk_at dksX8_init_1 19 rfl rfl)
theorem dX8_init_46 : decode cX8_init 46 = .ok (.goto (-22), 3) := dk_167 255 234 (dk_at dksX8_init_2 0 rfl rfl)
theorem dX8_init_49 : decode cX8_init 49 = .ok (.return_, 1) := dk_177 (dk_at dksX8_init_2 3 rfl rfl)
theorem q126 : (Jvm.Cond.initialized "FirstdanceAgency$Shape") ∈ lw_all := lw_g (lw_at lw_m1 27 rfl) rfl
theorem q265 : (Jvm.Cond.selects "FirstdanceAgency$Shape" ({ cls := "java/lang/Object", name := "getClass", desc := "()Ljava/lang/Class;" } : Jvm.MethodName) ({ cls := "java/lang/Object", name := "getClass", desc := "()Ljava/lang/Class;" } : Jvm.MethodName)) ∈ lw_all := lw_g (lw_at lw_m1 166 rfl) rfl
theorem q392 : (Jvm.Cond.instanceMethod ({ cls := "FirstdanceAgency$Shape", name := "many", desc := "()I" } : Jvm.MethodName)) ∈ lw_all := lw_g (lw_at lw_m2 53 rfl) rfl
theorem q393 : (Jvm.Cond.selects "FirstdanceAgency$Shape" ({ cls := "FirstdanceAgency$Shape", name := "many", desc := "()I" } : Jvm.MethodName) ({ cls := "FirstdanceAgency$Shape", name := "many", desc := "()I" } : Jvm.MethodName)) ∈ lw_all := lw_g (lw_at lw_m2 54 rfl) rfl
theorem q394 : (Jvm.Cond.code ({ cls := "FirstdanceAgency$Shape", name := "many", desc := "()I" } : Jvm.MethodName) prog_5_method_2_code (6 : Nat) (Option.some Jvm.ClassFile.FieldType.int)) ∈ lw_all := lw_g (lw_at lw_m2 55 rfl) rfl
theorem q543 : (Jvm.Cond.instanceMethod ({ cls := "FirstdanceAgency$Shape", name := "canBe", desc := "(Ljava/util/List;I)Z" } : Jvm.MethodName)) ∈ lw_all := lw_g (lw_at lw_m2 204 rfl) rfl
theorem q544 : (Jvm.Cond.selects "FirstdanceAgency$Shape" ({ cls := "FirstdanceAgency$Shape", name := "canBe", desc := "(Ljava/util/List;I)Z" } : Jvm.MethodName) ({ cls := "FirstdanceAgency$Shape", name := "canBe", desc := "(Ljava/util/List;I)Z" } : Jvm.MethodName)) ∈ lw_all := lw_g (lw_at lw_m2 205 rfl) rfl
theorem q545 : (Jvm.Cond.code ({ cls := "FirstdanceAgency$Shape", name := "canBe", desc := "(Ljava/util/List;I)Z" } : Jvm.MethodName) prog_5_method_3_code (3 : Nat) (Option.some Jvm.ClassFile.FieldType.boolean)) ∈ lw_all := lw_g (lw_at lw_m2 206 rfl) rfl
theorem q546 : (Jvm.Cond.methodLink "FirstdanceAgency$Shape" (18 : Nat) ({ cls := "FirstdanceAgency$Shape", name := "gives", desc := "(Ljava/util/List;I)Z" } : Jvm.MethodName)) ∈ lw_all := lw_g (lw_at lw_m2 207 rfl) rfl
theorem q547 : (Jvm.Cond.privateMethod ({ cls := "FirstdanceAgency$Shape", name := "gives", desc := "(Ljava/util/List;I)Z" } : Jvm.MethodName)) ∈ lw_tbl := lw_at lw_m2 208 rfl
theorem q548 : (Jvm.Cond.instanceMethod ({ cls := "FirstdanceAgency$Shape", name := "gives", desc := "(Ljava/util/List;I)Z" } : Jvm.MethodName)) ∈ lw_all := lw_g (lw_at lw_m2 209 rfl) rfl
theorem q549 : (Jvm.Cond.instantiable "FirstdanceAgency$Shape" (2 : Nat)) ∈ lw_all := lw_g (lw_at lw_m2 210 rfl) rfl
theorem q550 : (Jvm.Cond.code ({ cls := "FirstdanceAgency$Shape", name := "gives", desc := "(Ljava/util/List;I)Z" } : Jvm.MethodName) prog_5_method_4_code (6 : Nat) (Option.some Jvm.ClassFile.FieldType.boolean)) ∈ lw_all := lw_g (lw_at lw_m2 211 rfl) rfl
theorem q551 : (Jvm.Cond.methodLinkNest "FirstdanceAgency$Shape" (22 : Nat) ({ cls := "FirstdanceAgency", name := "has", desc := "(II)Z" } : Jvm.MethodName) "FirstdanceAgency") ∈ lw_tbl := lw_at lw_m2 212 rfl
theorem q552 : (Jvm.Cond.interfaceEntry "FirstdanceAgency$Shape" (26 : Nat)) ∈ lw_tbl := lw_at lw_m2 213 rfl
theorem q553 : (Jvm.Cond.methodLink "FirstdanceAgency$Shape" (26 : Nat) ({ cls := "java/util/List", name := "get", desc := "(I)Ljava/lang/Object;" } : Jvm.MethodName)) ∈ lw_all := lw_g (lw_at lw_m2 214 rfl) rfl
theorem q554 : (Jvm.Cond.classLink "FirstdanceAgency$Shape" (32 : Nat) "FirstdanceAgency$Player") ∈ lw_all := lw_g (lw_at lw_m2 215 rfl) rfl
theorem q909 : (Jvm.Cond.fieldLinkNest "FirstdanceAgency$Shape" (34 : Nat) "FirstdanceAgency$Player" "instruments" "I" "FirstdanceAgency") ∈ lw_tbl := lw_at lw_m4 90 rfl
theorem q981 : (Jvm.Cond.instanceMethod ({ cls := "FirstdanceAgency$Shape", name := "<init>", desc := "(I)V" } : Jvm.MethodName)) ∈ lw_all := lw_g (lw_at lw_m4 162 rfl) rfl
theorem q982 : (Jvm.Cond.code ({ cls := "FirstdanceAgency$Shape", name := "<init>", desc := "(I)V" } : Jvm.MethodName) prog_5_method_1_code (4 : Nat) (Option.none : Option Jvm.ClassFile.FieldType)) ∈ lw_all := lw_g (lw_at lw_m4 163 rfl) rfl
theorem q983 : (Jvm.Cond.methodLink "FirstdanceAgency$Shape" (3 : Nat) ({ cls := "java/lang/Object", name := "<init>", desc := "()V" } : Jvm.MethodName)) ∈ lw_all := lw_g (lw_at lw_m4 164 rfl) rfl
theorem q984 : (Jvm.Cond.fieldLink "FirstdanceAgency$Shape" (9 : Nat) "FirstdanceAgency$Shape" "needs" "[I") ∈ lw_all := lw_g (lw_at lw_m4 165 rfl) rfl
theorem q986 : (Jvm.Cond.fieldLink "FirstdanceAgency$Shape" (15 : Nat) "FirstdanceAgency$Shape" "given" "[I") ∈ lw_all := lw_g (lw_at lw_m4 167 rfl) rfl
theorem q987 : (Jvm.Cond.laysFinal "FirstdanceAgency$Shape" "FirstdanceAgency$Shape" "needs" "[I") ∈ lw_all := lw_g (lw_at lw_m4 168 rfl) rfl
theorem q988 : (Jvm.Cond.soleField "FirstdanceAgency$Shape" "needs") ∈ lw_all := lw_g (lw_at lw_m4 169 rfl) rfl
theorem q989 : (Jvm.Cond.laysFinal "FirstdanceAgency$Shape" "FirstdanceAgency$Shape" "given" "[I") ∈ lw_all := lw_g (lw_at lw_m4 170 rfl) rfl
theorem q990 : (Jvm.Cond.soleField "FirstdanceAgency$Shape" "given") ∈ lw_all := lw_g (lw_at lw_m4 171 rfl) rfl
theorem q991 : (Jvm.Cond.superclass "FirstdanceAgency$Shape" "java/lang/Object") ∈ lw_all := lw_g (lw_at lw_m4 172 rfl) rfl
theorem q2098 : (Jvm.Cond.castable "FirstdanceAgency$Shape" "java/lang/Object") ∈ lw_tbl := lw_at lw_m9 79 rfl
theorem in_X8 : ∀ w ∈ wsX80, w ∈ lw_all := lw_in wsX80 [987, 989] (by decide +kernel) (by decide +kernel)

/-! FirstdanceAgency$State -/
set_option maxRecDepth 100000
def RX9 : String := "FirstdanceAgency$State"
abbrev cX9_word : ByteArray := prog_8_method_4_code
def yX9_word : MethodName := ⟨RX9, "word", "()Ljava/lang/String;"⟩
def dkwX9_word_2 : List UInt8 := [18, 39, 176, 18, 41, 176, 18, 43, 176, 18, 45, 176]
abbrev dktX9_word_2 : List UInt8 := dkwX9_word_2 ++ []
def dkwX9_word_1 : List UInt8 := [170, 0, 0, 0, 0, 0, 0, 37, 0, 0, 0, 0, 0, 0, 0, 2, 0, 0, 0, 28, 0, 0, 0, 31, 0, 0, 0, 34]
abbrev dktX9_word_1 : List UInt8 := dkwX9_word_1 ++ dktX9_word_2
def dkwX9_word_0 : List UInt8 := [42, 182, 0, 35]
abbrev dktX9_word_0 : List UInt8 := dkwX9_word_0 ++ dktX9_word_1
theorem dksX9_word_0 : cX9_word.data.toList.drop 0 = dktX9_word_0 := by decide +kernel
theorem dksX9_word_1 : cX9_word.data.toList.drop 4 = dktX9_word_1 := dk_seg dksX9_word_0 4 rfl rfl
theorem dksX9_word_2 : cX9_word.data.toList.drop 32 = dktX9_word_2 := dk_seg dksX9_word_1 28 rfl rfl
theorem dX9_word_0 : decode cX9_word 0 = .ok (.aload_n 0, 1) := dk_42 (dk_at dksX9_word_0 0 rfl rfl)
theorem dX9_word_1 : decode cX9_word 1 = .ok (.invokevirtual 35, 3) := dk_182 0 35 (dk_at dksX9_word_0 1 rfl rfl)
theorem dX9_word_4 : decode cX9_word 4 = .ok (.tableswitch 37 0 2 #[28, 31, 34], 28) := by decide +kernel
theorem dX9_word_32 : decode cX9_word 32 = .ok (.ldc 39, 2) := dk_18 39 (dk_at dksX9_word_2 0 rfl rfl)
theorem dX9_word_34 : decode cX9_word 34 = .ok (.areturn, 1) := dk_176 (dk_at dksX9_word_2 2 rfl rfl)
theorem dX9_word_35 : decode cX9_word 35 = .ok (.ldc 41, 2) := dk_18 41 (dk_at dksX9_word_2 3 rfl rfl)
theorem dX9_word_37 : decode cX9_word 37 = .ok (.areturn, 1) := dk_176 (dk_at dksX9_word_2 5 rfl rfl)
theorem dX9_word_38 : decode cX9_word 38 = .ok (.ldc 43, 2) := dk_18 43 (dk_at dksX9_word_2 6 rfl rfl)
theorem dX9_word_40 : decode cX9_word 40 = .ok (.areturn, 1) := dk_176 (dk_at dksX9_word_2 8 rfl rfl)
theorem dX9_word_41 : decode cX9_word 41 = .ok (.ldc 45, 2) := dk_18 45 (dk_at dksX9_word_2 9 rfl rfl)
theorem dX9_word_43 : decode cX9_word 43 = .ok (.areturn, 1) := dk_176 (dk_at dksX9_word_2 11 rfl rfl)
theorem q129 : (Jvm.Cond.initialized "FirstdanceAgency$State") ∈ lw_all := lw_g (lw_at lw_m1 30 rfl) rfl
theorem q268 : (Jvm.Cond.selects "FirstdanceAgency$State" ({ cls := "java/lang/Object", name := "getClass", desc := "()Ljava/lang/Class;" } : Jvm.MethodName) ({ cls := "java/lang/Object", name := "getClass", desc := "()Ljava/lang/Class;" } : Jvm.MethodName)) ∈ lw_all := lw_g (lw_at lw_m1 169 rfl) rfl
theorem q364 : (Jvm.Cond.laysStatic "FirstdanceAgency$State" "FIXED" "LFirstdanceAgency$State;") ∈ lw_tbl := lw_at lw_m2 25 rfl
theorem q378 : (Jvm.Cond.laysStatic "FirstdanceAgency$State" "PLAYED" "LFirstdanceAgency$State;") ∈ lw_tbl := lw_at lw_m2 39 rfl
theorem q400 : (Jvm.Cond.laysStatic "FirstdanceAgency$State" "ASKED" "LFirstdanceAgency$State;") ∈ lw_tbl := lw_at lw_m2 61 rfl
theorem q406 : (Jvm.Cond.laysStatic "FirstdanceAgency$State" "LOST" "LFirstdanceAgency$State;") ∈ lw_tbl := lw_at lw_m2 67 rfl
theorem q475 : (Jvm.Cond.sameMethod "FirstdanceAgency$State" "java/lang/Enum" "ordinal" "()I") ∈ lw_all := lw_g (lw_at lw_m2 136 rfl) rfl
theorem q477 : (Jvm.Cond.selects "FirstdanceAgency$State" ({ cls := "FirstdanceAgency$State", name := "ordinal", desc := "()I" } : Jvm.MethodName) ({ cls := "java/lang/Enum", name := "ordinal", desc := "()I" } : Jvm.MethodName)) ∈ lw_all := lw_g (lw_at lw_m2 138 rfl) rfl
theorem q1468 : (Jvm.Cond.instanceMethod ({ cls := "FirstdanceAgency$State", name := "word", desc := "()Ljava/lang/String;" } : Jvm.MethodName)) ∈ lw_all := lw_g (lw_at lw_m6 169 rfl) rfl
theorem q1469 : (Jvm.Cond.selects "FirstdanceAgency$State" ({ cls := "FirstdanceAgency$State", name := "word", desc := "()Ljava/lang/String;" } : Jvm.MethodName) ({ cls := "FirstdanceAgency$State", name := "word", desc := "()Ljava/lang/String;" } : Jvm.MethodName)) ∈ lw_all := lw_g (lw_at lw_m6 170 rfl) rfl
theorem q1470 : (Jvm.Cond.code ({ cls := "FirstdanceAgency$State", name := "word", desc := "()Ljava/lang/String;" } : Jvm.MethodName) prog_8_method_4_code (1 : Nat) (Option.some (Jvm.ClassFile.FieldType.object "java/lang/String"))) ∈ lw_all := lw_g (lw_at lw_m6 171 rfl) rfl
theorem q1471 : (Jvm.Cond.methodLink "FirstdanceAgency$State" (35 : Nat) ({ cls := "FirstdanceAgency$State", name := "ordinal", desc := "()I" } : Jvm.MethodName)) ∈ lw_all := lw_g (lw_at lw_m6 172 rfl) rfl
theorem q1472 : (Jvm.Cond.stringRef "FirstdanceAgency$State" (39 : Nat) "asked") ∈ lw_tbl := lw_at lw_m6 173 rfl
theorem q1473 : (Jvm.Cond.stringRef "FirstdanceAgency$State" (41 : Nat) "fixed") ∈ lw_tbl := lw_at lw_m6 174 rfl
theorem q1474 : (Jvm.Cond.stringRef "FirstdanceAgency$State" (43 : Nat) "played") ∈ lw_tbl := lw_at lw_m6 175 rfl
theorem q1475 : (Jvm.Cond.stringRef "FirstdanceAgency$State" (45 : Nat) "lost") ∈ lw_tbl := lw_at lw_m6 176 rfl
theorem q2100 : (Jvm.Cond.castable "FirstdanceAgency$State" "java/lang/Object") ∈ lw_tbl := lw_at lw_m9 81 rfl

